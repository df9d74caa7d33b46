set_option maxRecDepth 100000
def lbz (v : Int32) : Int32 := if v = 0 then 0 else 1
theorem law_bool {p : Program} {l : Launch} {e : Env} {R : Room} {s : State} {m : MethodId} {args : Array Value} {below : List Frame} {meth : Method} {c : Code} {H : Heap} {locs : List Loc} {cells slots : Nat} {Q : State → Prop} {cc : ByteArray} {pc : Nat} {ls : Array Slot} {rest : List Value} (hx : p.tables.exec = Jvm.exec) (hb : c.code = cc) {v : Int32} (d0 : decode cc pc = .ok (.ifCond .eq 7, 3)) (d3 : decode cc (pc + 3) = .ok (.iconst 1, 1)) (d4 : decode cc (pc + 4) = .ok (.goto 4, 3)) (d7 : decode cc (pc + 7) = .ok (.iconst 0, 1))
    (k : W p l e R s m args below meth c H locs cells slots Q (F0 m (pc + 8) ls (.int (lbz v) :: rest))) : W p l e R s m args below meth c H locs cells slots Q (F0 m pc ls (.int v :: rest)) := by
  refine lv_if_eq (tgt := pc + 7) hx hb d0 (by omega) (fun h => ?_) (fun h => ?_)
  · refine lv_iconst (v := (0 : Int32)) hx hb d7 (by decide) ?_
    rw [show lbz v = 0 by unfold lbz; rw [if_pos h]] at k
    exact k
  · refine lv_iconst (v := (1 : Int32)) hx hb d3 (by decide) ?_
    refine lv_goto (tgt := pc + 8) hx hb d4 (by omega) ?_
    rw [show lbz v = 1 by unfold lbz; rw [if_neg h]] at k
    exact k
theorem law_S {s : State} {H : Heap} {A : Nat → Prop} (h : va_S (lA s) s.heap H []) : va_S A s.heap H [] := ⟨h.1, fun q h1 h2 => h.2.1 q h1 (fun h3 => absurd h3 (Nat.not_le.mpr h1)), fun q hq => nomatch hq⟩
/-- what the law's loop stands on: x's world and m's, apart, over one heap -/
def lawX (E : xx_E) (G : mm_G) (p : Program) (s : State) (m : MethodId) (args : Array Value) (meth : Method) (c : Code) (b L : Nat) (xs : Nat → Int32) : Prop :=
  xx_X "StruckCountsLaw" cL_law 4 (some .boolean) E p s m args meth c ∧ mm_K G s ∧ mm_Z G s s.heap ∧ va_X b L xs s s.heap ∧ b < s.heap.size ∧ xx_b E = s.heap.size ∧ (∀ q, mm_A G q → xx_fo E q ∧ s.heap.size ≤ q) ∧ mm_a G 42 < s.heap.size
theorem law_mrecv {G : mm_G} {s : State} {H : Heap} {τ : MS} (hK : mm_K G s) (hM : mm_R G τ H) : ∃ cellB : Cell, H[mm_o G]? = some cellB ∧ cellB.vm.isStatics = false ∧ s.vm.findClass RX3 = some cellB.cls := by
  obtain ⟨cell, q1, q2, q3, q4⟩ := hM.1
  exact ⟨cell, q1, by rw [q3]; rfl, by rw [q2]; exact hK.1.2.1⟩
/-- sign -/
def lawS_0 (th : Nat) (a1 a2 a3 a4 : Int32) (σ : XS) (τ : MS) (K : Nat → Nat → XS → MS → Prop) : Prop :=
  wX0_sign th a1 σ (fun r s1 => w3_sign a1 τ (fun r9 t1 => r = r9 ∧ ∀ n9, xn s1 ≤ n9 → K 0 0 (xsk s1 n9) t1))
/-- end -/
def lawS_1 (th : Nat) (a1 a2 a3 a4 : Int32) (σ : XS) (τ : MS) (K : Nat → Nat → XS → MS → Prop) : Prop :=
  wX0_end th a1 σ (fun r s1 => w3_end a1 τ (fun r9 t1 => r = r9 ∧ ∀ n9, xn s1 ≤ n9 → K 0 0 (xsk s1 n9) t1))
/-- suit -/
def lawS_2 (th : Nat) (a1 a2 a3 a4 : Int32) (σ : XS) (τ : MS) (K : Nat → Nat → XS → MS → Prop) : Prop :=
  ∃ d : Nat, 19 + 4 * d ≤ 2500 ∧ ∃ k n : Nat, k ≤ 49000 ∧ n ≤ 227000 ∧ wX0_suit d th  k n σ (fun r s1 => ∃ d : Nat, 19 + 4 * d ≤ 2500 ∧ w3_suit d  τ (fun r9 t1 => r = r9 ∧ ∀ n9, xn s1 ≤ n9 → K k n (xsk s1 n9) t1))
/-- fault -/
def lawS_3 (th : Nat) (a1 a2 a3 a4 : Int32) (σ : XS) (τ : MS) (K : Nat → Nat → XS → MS → Prop) : Prop :=
  wX0_fault th a1 σ (fun r s1 => w3_fault a1 τ (fun r9 t1 => r = r9 ∧ ∀ n9, xn s1 ≤ n9 → K 0 0 (xsk s1 n9) t1))
/-- fact -/
def lawS_4 (th : Nat) (a1 a2 a3 a4 : Int32) (σ : XS) (τ : MS) (K : Nat → Nat → XS → MS → Prop) : Prop :=
  wX0_fact th a1 a2 σ (fun r s1 => w3_fact a1 a2 τ (fun r9 t1 => r = r9 ∧ ∀ n9, xn s1 ≤ n9 → K 0 0 (xsk s1 n9) t1))
/-- of -/
def lawS_5 (th : Nat) (a1 a2 a3 a4 : Int32) (σ : XS) (τ : MS) (K : Nat → Nat → XS → MS → Prop) : Prop :=
  ∃ d : Nat, 14 + 1 * d ≤ 2500 ∧ ∃ k n : Nat, k ≤ 49000 ∧ n ≤ 227000 ∧ wX0_of d th a1 a2 k n σ (fun r s1 => w3_of a1 a2 τ (fun r9 t1 => r = r9 ∧ ∀ n9, xn s1 ≤ n9 → K k n (xsk s1 n9) t1))
/-- element -/
def lawS_6 (th : Nat) (a1 a2 a3 a4 : Int32) (σ : XS) (τ : MS) (K : Nat → Nat → XS → MS → Prop) : Prop :=
  ∃ d : Nat, 8 + 4 * d ≤ 2500 ∧ wX0_element d th a1 a2 a3 σ (fun r s1 => w3_element a1 a2 a3 τ (fun r9 t1 => r = r9 ∧ ∀ n9, xn s1 ≤ n9 → K 0 0 (xsk s1 n9) t1))
/-- bar -/
def lawS_7 (th : Nat) (a1 a2 a3 a4 : Int32) (σ : XS) (τ : MS) (K : Nat → Nat → XS → MS → Prop) : Prop :=
  ∃ d : Nat, 8 + 4 * d ≤ 2500 ∧ wX0_bar d th a1 a2 a3 σ (fun r s1 => w3_bar a1 a2 a3 τ (fun r9 t1 => r = r9 ∧ ∀ n9, xn s1 ≤ n9 → K 0 0 (xsk s1 n9) t1))
/-- answer -/
def lawS_8 (th : Nat) (a1 a2 a3 a4 : Int32) (σ : XS) (τ : MS) (K : Nat → Nat → XS → MS → Prop) : Prop :=
  wX0_answer th a1 a2 σ (fun r s1 => w3_answer a1 a2 τ (fun r9 t1 => r = r9 ∧ ∀ n9, xn s1 ≤ n9 → K 0 0 (xsk s1 n9) t1))
/-- withdraw -/
def lawS_9 (th : Nat) (a1 a2 a3 a4 : Int32) (σ : XS) (τ : MS) (K : Nat → Nat → XS → MS → Prop) : Prop :=
  wX0_withdraw th a1 σ (fun r s1 => w3_withdraw a1 τ (fun r9 t1 => r = r9 ∧ ∀ n9, xn s1 ≤ n9 → K 0 0 (xsk s1 n9) t1))
/-- close -/
def lawS_10 (th : Nat) (a1 a2 a3 a4 : Int32) (σ : XS) (τ : MS) (K : Nat → Nat → XS → MS → Prop) : Prop :=
  wX0_close th  σ (fun r s1 => w3_close  τ (fun r9 t1 => r = r9 ∧ ∀ n9, xn s1 ≤ n9 → K 0 0 (xsk s1 n9) t1))
/-- find -/
def lawS_11 (th : Nat) (a1 a2 a3 a4 : Int32) (σ : XS) (τ : MS) (K : Nat → Nat → XS → MS → Prop) : Prop :=
  wX0_find th a1 (lbz a2) σ (fun r s1 => w3_find a1 (lbz a2) τ (fun r9 t1 => r = r9 ∧ ∀ n9, xn s1 ≤ n9 → K 0 0 (xsk s1 n9) t1))
/-- say -/
def lawS_12 (th : Nat) (a1 a2 a3 a4 : Int32) (σ : XS) (τ : MS) (K : Nat → Nat → XS → MS → Prop) : Prop :=
  wX0_say th a1 a2 a3 σ (fun r s1 => w3_say a1 a2 a3 τ (fun r9 t1 => r = r9 ∧ ∀ n9, xn s1 ≤ n9 → K 0 0 (xsk s1 n9) t1))
/-- add -/
def lawS_13 (th : Nat) (a1 a2 a3 a4 : Int32) (σ : XS) (τ : MS) (K : Nat → Nat → XS → MS → Prop) : Prop :=
  wX0_add th a1 a2 a3 σ (fun r s1 => w3_add a1 a2 a3 τ (fun r9 t1 => r = r9 ∧ ∀ n9, xn s1 ≤ n9 → K 0 0 (xsk s1 n9) t1))
/-- strike -/
def lawS_14 (th : Nat) (a1 a2 a3 a4 : Int32) (σ : XS) (τ : MS) (K : Nat → Nat → XS → MS → Prop) : Prop :=
  wX0_strike th a1 σ (fun r s1 => w3_strike a1 τ (fun r9 t1 => r = r9 ∧ ∀ n9, xn s1 ≤ n9 → K 0 0 (xsk s1 n9) t1))
/-- days -/
def lawS_15 (th : Nat) (a1 a2 a3 a4 : Int32) (σ : XS) (τ : MS) (K : Nat → Nat → XS → MS → Prop) : Prop :=
  wX0_days th a1 σ (fun r s1 => w3_days a1 τ (fun r9 t1 => r = r9 ∧ ∀ n9, xn s1 ≤ n9 → K 0 0 (xsk s1 n9) t1))
/-- undo -/
def lawS_16 (th : Nat) (a1 a2 a3 a4 : Int32) (σ : XS) (τ : MS) (K : Nat → Nat → XS → MS → Prop) : Prop :=
  wX0_undo th  σ (fun r s1 => w3_undo  τ (fun r9 t1 => r = r9 ∧ ∀ n9, xn s1 ≤ n9 → K 0 0 (xsk s1 n9) t1))
/-- keep -/
def lawS_17 (th : Nat) (a1 a2 a3 a4 : Int32) (σ : XS) (τ : MS) (K : Nat → Nat → XS → MS → Prop) : Prop :=
  wX0_keep th a1 σ (fun r s1 => w3_keep a1 τ (fun r9 t1 => r = r9 ∧ ∀ n9, xn s1 ≤ n9 → K 0 0 (xsk s1 n9) t1))
/-- again -/
def lawS_18 (th : Nat) (a1 a2 a3 a4 : Int32) (σ : XS) (τ : MS) (K : Nat → Nat → XS → MS → Prop) : Prop :=
  wX0_again th a1 σ (fun r s1 => w3_again a1 τ (fun r9 t1 => r = r9 ∧ ∀ n9, xn s1 ≤ n9 → K 0 0 (xsk s1 n9) t1))
/-- worlds -/
def lawS_19 (th : Nat) (a1 a2 a3 a4 : Int32) (σ : XS) (τ : MS) (K : Nat → Nat → XS → MS → Prop) : Prop :=
  wX0_worlds th a1 σ (fun r s1 => w3_worlds a1 τ (fun r9 t1 => r = r9 ∧ ∀ n9, xn s1 ≤ n9 → K 0 0 (xsk s1 n9) t1))
/-- clash -/
def lawS_20 (th : Nat) (a1 a2 a3 a4 : Int32) (σ : XS) (τ : MS) (K : Nat → Nat → XS → MS → Prop) : Prop :=
  wX0_clash th a1 a2 σ (fun r s1 => w3_clash a1 a2 τ (fun r9 t1 => r = r9 ∧ ∀ n9, xn s1 ≤ n9 → K 0 0 (xsk s1 n9) t1))
/-- implied -/
def lawS_21 (th : Nat) (a1 a2 a3 a4 : Int32) (σ : XS) (τ : MS) (K : Nat → Nat → XS → MS → Prop) : Prop :=
  wX0_implied th a1 a2 σ (fun r s1 => w3_implied a1 a2 τ (fun r9 t1 => r = r9 ∧ ∀ n9, xn s1 ≤ n9 → K 0 0 (xsk s1 n9) t1))
/-- lacks -/
def lawS_22 (th : Nat) (a1 a2 a3 a4 : Int32) (σ : XS) (τ : MS) (K : Nat → Nat → XS → MS → Prop) : Prop :=
  ∃ d : Nat, 7 + 1 * d ≤ 2500 ∧ wX0_lacks d th a1 a2 σ (fun r s1 => w3_lacks a1 a2 τ (fun r9 t1 => r = r9 ∧ ∀ n9, xn s1 ≤ n9 → K 0 0 (xsk s1 n9) t1))
/-- grown -/
def lawS_23 (th : Nat) (a1 a2 a3 a4 : Int32) (σ : XS) (τ : MS) (K : Nat → Nat → XS → MS → Prop) : Prop :=
  ∃ k n : Nat, k ≤ 49000 ∧ n ≤ 227000 ∧ wX0_grown th a1 a2 k n σ (fun r s1 => w3_grown a1 a2 τ (fun r9 t1 => r = r9 ∧ ∀ n9, xn s1 ≤ n9 → K k n (xsk s1 n9) t1))
/-- issues -/
def lawS_24 (th : Nat) (a1 a2 a3 a4 : Int32) (σ : XS) (τ : MS) (K : Nat → Nat → XS → MS → Prop) : Prop :=
  wX0_issues th a1 σ (fun r s1 => w3_issues a1 τ (fun r9 t1 => r = r9 ∧ ∀ n9, xn s1 ≤ n9 → K 0 0 (xsk s1 n9) t1))
/-- judged -/
def lawS_25 (th : Nat) (a1 a2 a3 a4 : Int32) (σ : XS) (τ : MS) (K : Nat → Nat → XS → MS → Prop) : Prop :=
  wX0_judged th a1 σ (fun r s1 => w3_judged a1 τ (fun r9 t1 => r = r9 ∧ ∀ n9, xn s1 ≤ n9 → K 0 0 (xsk s1 n9) t1))
/-- tries -/
def lawS_26 (th : Nat) (a1 a2 a3 a4 : Int32) (σ : XS) (τ : MS) (K : Nat → Nat → XS → MS → Prop) : Prop :=
  ∃ d : Nat, 6 + 2 * d ≤ 2500 ∧ wX0_tries d th a1 a2 σ (fun r s1 => w3_tries a1 a2 τ (fun r9 t1 => r = r9 ∧ ∀ n9, xn s1 ≤ n9 → K 0 0 (xsk s1 n9) t1))
/-- chance -/
def lawS_27 (th : Nat) (a1 a2 a3 a4 : Int32) (σ : XS) (τ : MS) (K : Nat → Nat → XS → MS → Prop) : Prop :=
  ∃ d : Nat, 6 + 1 * d ≤ 2500 ∧ wX0_chance d th a1 a2 σ (fun r s1 => w3_chance a1 a2 τ (fun r9 t1 => r = r9 ∧ ∀ n9, xn s1 ≤ n9 → K 0 0 (xsk s1 n9) t1))
/-- award -/
def lawS_28 (th : Nat) (a1 a2 a3 a4 : Int32) (σ : XS) (τ : MS) (K : Nat → Nat → XS → MS → Prop) : Prop :=
  ∃ d : Nat, 14 + 1 * d ≤ 2500 ∧ ∃ k n : Nat, k ≤ 49000 ∧ n ≤ 227000 ∧ wX0_award d th a1 k n σ (fun r s1 => w3_award a1 τ (fun r9 t1 => r = r9 ∧ ∀ n9, xn s1 ≤ n9 → K k n (xsk s1 n9) t1))
/-- meant -/
def lawS_29 (th : Nat) (a1 a2 a3 a4 : Int32) (σ : XS) (τ : MS) (K : Nat → Nat → XS → MS → Prop) : Prop :=
  ∃ d : Nat, 14 + 1 * d ≤ 2500 ∧ ∃ k n : Nat, k ≤ 49000 ∧ n ≤ 227000 ∧ wX0_meant d th a1 k n σ (fun r s1 => w3_meant a1 τ (fun r9 t1 => r = r9 ∧ ∀ n9, xn s1 ≤ n9 → K k n (xsk s1 n9) t1))
/-- outcomes -/
def lawS_30 (th : Nat) (a1 a2 a3 a4 : Int32) (σ : XS) (τ : MS) (K : Nat → Nat → XS → MS → Prop) : Prop :=
  ∃ d : Nat, 12 + 1 * d ≤ 2500 ∧ ∃ k n : Nat, k ≤ 49000 ∧ n ≤ 227000 ∧ wX0_outcomes d th  k n σ (fun r s1 => w3_outcomes  τ (fun r9 t1 => r = r9 ∧ ∀ n9, xn s1 ≤ n9 → K k n (xsk s1 n9) t1))
/-- outcome -/
def lawS_31 (th : Nat) (a1 a2 a3 a4 : Int32) (σ : XS) (τ : MS) (K : Nat → Nat → XS → MS → Prop) : Prop :=
  ∃ d : Nat, 12 + 1 * d ≤ 2500 ∧ ∃ k n : Nat, k ≤ 49000 ∧ n ≤ 227000 ∧ wX0_outcome d th a1 a2 k n σ (fun r s1 => w3_outcome a1 a2 τ (fun r9 t1 => r = r9 ∧ ∀ n9, xn s1 ≤ n9 → K k n (xsk s1 n9) t1))
/-- proofs -/
def lawS_32 (th : Nat) (a1 a2 a3 a4 : Int32) (σ : XS) (τ : MS) (K : Nat → Nat → XS → MS → Prop) : Prop :=
  wX0_proofs th a1 (lbz a2) σ (fun r s1 => w3_proofs a1 (lbz a2) τ (fun r9 t1 => r = r9 ∧ ∀ n9, xn s1 ≤ n9 → K 0 0 (xsk s1 n9) t1))
/-- proof -/
def lawS_33 (th : Nat) (a1 a2 a3 a4 : Int32) (σ : XS) (τ : MS) (K : Nat → Nat → XS → MS → Prop) : Prop :=
  wX0_proof th a1 (lbz a2) a3 a4 σ (fun r s1 => w3_proof a1 (lbz a2) a3 a4 τ (fun r9 t1 => r = r9 ∧ ∀ n9, xn s1 ≤ n9 → K 0 0 (xsk s1 n9) t1))
/-- duel -/
def lawS_34 (th : Nat) (a1 a2 a3 a4 : Int32) (σ : XS) (τ : MS) (K : Nat → Nat → XS → MS → Prop) : Prop :=
  ∃ d : Nat, 6 + 1 * d ≤ 2500 ∧ wX0_duel d th a1 a2 σ (fun r s1 => w3_duel a1 a2 τ (fun r9 t1 => r = r9 ∧ ∀ n9, xn s1 ≤ n9 → K 0 0 (xsk s1 n9) t1))
/-- turn -/
def lawS_35 (th : Nat) (a1 a2 a3 a4 : Int32) (σ : XS) (τ : MS) (K : Nat → Nat → XS → MS → Prop) : Prop :=
  ∃ d : Nat, 6 + 1 * d ≤ 2500 ∧ wX0_turn d th a1 a2 a3 σ (fun r s1 => w3_turn a1 a2 a3 τ (fun r9 t1 => r = r9 ∧ ∀ n9, xn s1 ≤ n9 → K 0 0 (xsk s1 n9) t1))
/-- together -/
def lawS_36 (th : Nat) (a1 a2 a3 a4 : Int32) (σ : XS) (τ : MS) (K : Nat → Nat → XS → MS → Prop) : Prop :=
  wX0_together th a1 σ (fun r s1 => w3_together a1 τ (fun r9 t1 => r = r9 ∧ ∀ n9, xn s1 ≤ n9 → K 0 0 (xsk s1 n9) t1))
/-- elect -/
def lawS_37 (th : Nat) (a1 a2 a3 a4 : Int32) (σ : XS) (τ : MS) (K : Nat → Nat → XS → MS → Prop) : Prop :=
  ∃ d : Nat, 7 + 1 * d ≤ 2500 ∧ wX0_elect d th a1 σ (fun r s1 => w3_elect a1 τ (fun r9 t1 => r = r9 ∧ ∀ n9, xn s1 ≤ n9 → K 0 0 (xsk s1 n9) t1))
/-- ask -/
def lawS_38 (th : Nat) (a1 a2 a3 a4 : Int32) (σ : XS) (τ : MS) (K : Nat → Nat → XS → MS → Prop) : Prop :=
  ∃ d : Nat, 17 + 4 * d ≤ 2500 ∧ ∃ k n : Nat, k ≤ 49000 ∧ n ≤ 227000 ∧ wX0_ask d th  k n σ (fun r s1 => ∃ d : Nat, 17 + 4 * d ≤ 2500 ∧ w3_ask d  τ (fun r9 t1 => r = r9 ∧ ∀ n9, xn s1 ≤ n9 → K k n (xsk s1 n9) t1))
/-- asked -/
def lawS_39 (th : Nat) (a1 a2 a3 a4 : Int32) (σ : XS) (τ : MS) (K : Nat → Nat → XS → MS → Prop) : Prop :=
  wX0_asked th a1 σ (fun r s1 => w3_asked a1 τ (fun r9 t1 => r = r9 ∧ ∀ n9, xn s1 ≤ n9 → K 0 0 (xsk s1 n9) t1))
/-- count -/
def lawS_40 (th : Nat) (a1 a2 a3 a4 : Int32) (σ : XS) (τ : MS) (K : Nat → Nat → XS → MS → Prop) : Prop :=
  ∃ d : Nat, 7 + 1 * d ≤ 2500 ∧ wX0_count d th a1 σ (fun r s1 => w3_count a1 τ (fun r9 t1 => r = r9 ∧ ∀ n9, xn s1 ≤ n9 → K 0 0 (xsk s1 n9) t1))
