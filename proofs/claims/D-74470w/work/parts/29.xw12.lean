set_option maxRecDepth 100000
-- X0_outcomes
theorem CX0_laysOutcomes_X0_429 {l : Launch} {p : Program} {e : Env} {R : Room} {s : State} {m : MethodId} {args : Array Value} {below : List Frame} {meth : Method} {c : Code} {H : Heap} {locs : List Loc} {cells slots : Nat} {Qz : State → Prop} {cc : ByteArray} {nL : Nat} {ret : Option FieldType} {E : xx_E} {σ : XS} {pc : Nat} {ls : Array Slot} {rest : List Value} (d : Nat) {th : Nat} {k n : Nat} (cx : xx_X "StruckCounts" cc nL ret E p s m args meth c) (hR0 : xR E σ H) (hS0 : va_S (xA E) s.heap H locs) {r0 : Option Nat} (hr : r0 = some th) (hk : kd σ th = 1) {Qf : XS → Prop} (hw : wX0_laysOutcomes d th k n σ Qf) (hR : (({ frames := (11 + 1 * d), cells := k, slots := n, locals := 40 * (11 + 1 * d) } : Room)).frames + 1 ≤ R.frames ∧ 8 + (5 + 11) + (({ frames := (11 + 1 * d), cells := k, slots := n, locals := 40 * (11 + 1 * d) } : Room)).locals ≤ R.locals) (hrest : rest.length ≤ 4) (hsize : ls.size = nL) (hf : cells + k ≤ R.cells ∧ slots + n ≤ R.slots) (hdg : decode cc pc = .ok (.invokevirtual 429, 3))
    (kk : ∀ (σ1 : XS) (H1 : Heap) (locs1 : List Loc), Qf σ1 → xR E σ1 H1 → va_S (xA E) s.heap H1 locs1 → W p l e R s m args below meth c H1 locs1 (cells + k) (slots + n) Qz (F0 m (pc + 3) ls rest)) : W p l e R s m args below meth c H locs cells slots Qz (F0 m pc ls (xv E r0 :: rest)) := by
  subst hr
  obtain ⟨hx, hb, hml, hown, hts, hrt, hlk, hK, hZ⟩ := id cx
  exact x_gov (va_runV (As := []) (rest := rest) (x_fix cx) (MX0_laysOutcomes l E d th k n σ Qf hw) (cwV 0 hts (lw_V q2266 q2268 qs67 q156 q2269) rfl rfl rfl (by decide +kernel) hR) (x_preV cx hR0 hS0 hk (by decide) (q := (RX0, TX0, 24)) rfl rfl []) rfl rfl hsize rfl (lv_room (xroom hrest)) hdg hf) hS0 kk
def wX0_outcomes (d : Nat) (th : Nat) (bc : Nat) (bs : Nat) (σ : XS) (Q : Int32 → XS → Prop) : Prop :=
  kd σ th = 1 ∧ (∃ k3 n3 : Nat, k3 ≤ bc ∧ n3 ≤ bs ∧ (wX0_laysOutcomes d th k3 n3 σ (fun s1 => kd s1 th = 1 ∧ (oc s1 (fr s1 th 19) 18 (fun a6 => wJ1_sizeL a6 s1 (fun r5 s5 => Q r5 s5))))))
set_option maxHeartbeats 4000000 in
theorem MX0_outcomes (l : Launch) (E : xx_E) (d : Nat) (th : Nat) (bc : Nat) (bs : Nat) (σ : XS) (Q : Int32 → XS → Prop) (hw : wX0_outcomes d th bc bs σ Q) : xx_Mi l yX0_outcomes (ws_ yX0_outcomes cX0_outcomes 1 (some .int)) ({ frames := (12 + 1 * d), cells := bc, slots := bs, locals := 40 * (12 + 1 * d) } : Room) E [xv E (some th)] σ Q bc bs := by
  refine x_of (own := "StruckCounts") (by decide +kernel) rfl ?_
  intro p e s m args below meth c cx hR ha hnm
  refine x_entry [xv E (some th)] 1 [(0, xv E (some th))] ha (by simp [lg_sl, xv_cat, vc_i, vc_j, vc_f]) (by simp [lv_args, xv_cat, vc_i, vc_j, vc_f]) (fun ls hl => ?_)
  have hS : va_S (xA E) s.heap s.heap [] := va_S.rf
  have hcb : 0 + bc ≤ bc := Nat.le_of_eq (Nat.zero_add _)
  have hsb : 0 + bs ≤ bs := Nat.le_of_eq (Nat.zero_add _)
  unfold wX0_outcomes at hw
  obtain ⟨hx, hb, hml, hown, hts, hrt, hlk, hMK, hZ⟩ := id cx
  refine x_aload_n cx dX0_outcomes_0 rfl (lv_at hl 0 rfl) ?_
  obtain ⟨hk2, hw⟩ := hw
  obtain ⟨k3, n3, hb1, hb2, hw⟩ := hw
  refine CX0_laysOutcomes_X0_429 d cx hR hS rfl hk2 hw (by constructor <;> dsimp only <;> omega) (Nat.le_of_ble_eq_true rfl) hl.1 ⟨by dsimp only; omega, by dsimp only; omega⟩ dX0_outcomes_1 (fun s1 H locs hw hR hS => ?_)
  have hcb := xadd hb1 hcb
  have hsb := xadd hb2 hsb
  refine x_aload_n cx dX0_outcomes_4 rfl (lv_at hl 0 rfl) ?_
  obtain ⟨hk4, hw⟩ := hw
  refine xg_X0_77_1 cx hR rfl hk4 dX0_outcomes_5 ?_
  obtain ⟨a6, hr6, hk6, hw⟩ := hw
  refine CJ1_sizeL_X0_421 cx hR hS hr6 hk6 hw (by constructor <;> dsimp only <;> omega) (Nat.le_of_ble_eq_true rfl) hl.1 ⟨by dsimp only; omega, by dsimp only; omega⟩ dX0_outcomes_8 (fun r5 s5 H locs hw hR hS => ?_)
  exact x_iret cx hR hS (xle hcb) (xle hsb) hw dX0_outcomes_11
-- X0_outcome
theorem sw_r_0_2 : ∀ z : Int, 0 ≤ z → z ≤ 2 → ∃ c ∈ ([(0 : Int32), (1 : Int32), (2 : Int32)] : List Int32), c.toInt = z := by
  intro z h1 h2
  have h : z = 0 ∨ z = 1 ∨ z = 2 := by omega
  rcases h with rfl | rfl | rfl
  · exact ⟨0, by decide, by decide⟩
  · exact ⟨1, by decide, by decide⟩
  · exact ⟨2, by decide, by decide⟩
theorem xg_X0_432_15 {l : Launch} {p : Program} {e : Env} {R : Room} {s : State} {m : MethodId} {args : Array Value} {below : List Frame} {meth : Method} {c : Code} {H : Heap} {locs : List Loc} {cells slots : Nat} {Qz : State → Prop} {cc : ByteArray} {nL : Nat} {ret : Option FieldType} {E : xx_E} {σ : XS} {pc : Nat} {ls : Array Slot} {rest : List Value} (cx : xx_X "StruckCounts" cc nL ret E p s m args meth c) (hR : xR E σ H) {a : Nat} {r : Option Nat} (hr : r = some a) (hk : kd σ a = 15) (hdg : decode cc pc = .ok (.getfield 432, 3)) (kk : W p l e R s m args below meth c H locs cells slots Qz (F0 m (pc + 3) ls (.int (fi σ a 0) :: rest))) : W p l e R s m args below meth c H locs cells slots Qz (F0 m pc ls (xv E r :: rest)) :=
  x_getN (ci := 14) cx hR hr hk (by decide) rfl in_X16 0 (by decide) (xx_nf_mem (i := 27) rfl) (fun _ h => h) (v := .int (fi σ a 0)) rfl hdg kk
theorem xg_X0_435_15 {l : Launch} {p : Program} {e : Env} {R : Room} {s : State} {m : MethodId} {args : Array Value} {below : List Frame} {meth : Method} {c : Code} {H : Heap} {locs : List Loc} {cells slots : Nat} {Qz : State → Prop} {cc : ByteArray} {nL : Nat} {ret : Option FieldType} {E : xx_E} {σ : XS} {pc : Nat} {ls : Array Slot} {rest : List Value} (cx : xx_X "StruckCounts" cc nL ret E p s m args meth c) (hR : xR E σ H) {a : Nat} {r : Option Nat} (hr : r = some a) (hk : kd σ a = 15) (hdg : decode cc pc = .ok (.getfield 435, 3)) (kk : W p l e R s m args below meth c H locs cells slots Qz (F0 m (pc + 3) ls (.int (fi σ a 1) :: rest))) : W p l e R s m args below meth c H locs cells slots Qz (F0 m pc ls (xv E r :: rest)) :=
  x_getN (ci := 14) cx hR hr hk (by decide) rfl in_X16 1 (by decide) (xx_nf_mem (i := 28) rfl) (fun _ h => h) (v := .int (fi σ a 1)) rfl hdg kk
def wX0_outcome (d : Nat) (th : Nat) (x1 : Int32) (x2 : Int32) (bc : Nat) (bs : Nat) (σ : XS) (Q : Int32 → XS → Prop) : Prop :=
  kd σ th = 1 ∧ (∃ k3 n3 : Nat, k3 ≤ bc ∧ n3 ≤ bs ∧ (wX0_laysOutcomes d th k3 n3 σ (fun s1 => kd s1 th = 1 ∧ (oc s1 (fr s1 th 19) 18 (fun a6 => wJ1_sizeL a6 s1 (fun r5 s5 => wX0_in x1 (0 : Int32) (r5 - (1 : Int32)) s5 (fun r7 s7 => if r7 = 0 then (Q (-1 : Int32) s7) else (kd s7 th = 1 ∧ (oc s7 (fr s7 th 20) 105 (fun a9 => vp_in x1 (ln s7 a9) ∧ (if x2 = 0 then (oc s7 (ar s7 a9 x1.toNatClampNeg) 15 (fun a10 => Q (fi s7 a10 0) s7)) else (if x2 = 1 then (oc s7 (ar s7 a9 x1.toNatClampNeg) 15 (fun a11 => Q (fi s7 a11 2) s7)) else (if x2 = 2 then (oc s7 (ar s7 a9 x1.toNatClampNeg) 15 (fun a12 => Q (fi s7 a12 1) s7)) else (Q (-1 : Int32) s7))))))))))))))
set_option maxHeartbeats 4000000 in
theorem MX0_outcome (l : Launch) (E : xx_E) (d : Nat) (th : Nat) (x1 : Int32) (x2 : Int32) (bc : Nat) (bs : Nat) (σ : XS) (Q : Int32 → XS → Prop) (hw : wX0_outcome d th x1 x2 bc bs σ Q) : xx_Mi l yX0_outcome (ws_ yX0_outcome cX0_outcome 4 (some .int)) ({ frames := (12 + 1 * d), cells := bc, slots := bs, locals := 40 * (12 + 1 * d) } : Room) E [xv E (some th), .int x1, .int x2] σ Q bc bs := by
  refine x_of (own := "StruckCounts") (by decide +kernel) rfl ?_
  intro p e s m args below meth c cx hR ha hnm
  refine x_entry [xv E (some th), .int x1, .int x2] 4 [(0, xv E (some th)), (1, .int x1), (2, .int x2)] ha (by simp [lg_sl, xv_cat, vc_i, vc_j, vc_f]) (by simp [lv_args, xv_cat, vc_i, vc_j, vc_f]) (fun ls hl => ?_)
  have hS : va_S (xA E) s.heap s.heap [] := va_S.rf
  have hcb : 0 + bc ≤ bc := Nat.le_of_eq (Nat.zero_add _)
  have hsb : 0 + bs ≤ bs := Nat.le_of_eq (Nat.zero_add _)
  unfold wX0_outcome at hw
  obtain ⟨hx, hb, hml, hown, hts, hrt, hlk, hMK, hZ⟩ := id cx
  refine x_aload_n cx dX0_outcome_0 rfl (lv_at hl 0 rfl) ?_
  obtain ⟨hk2, hw⟩ := hw
  obtain ⟨k3, n3, hb1, hb2, hw⟩ := hw
  refine CX0_laysOutcomes_X0_429 d cx hR hS rfl hk2 hw (by constructor <;> dsimp only <;> omega) (Nat.le_of_ble_eq_true rfl) hl.1 ⟨by dsimp only; omega, by dsimp only; omega⟩ dX0_outcome_1 (fun s1 H locs hw hR hS => ?_)
  have hcb := xadd hb1 hcb
  have hsb := xadd hb2 hsb
  refine lv_iload_n hx hb dX0_outcome_4 rfl (lv_at hl 1 rfl) ?_
  refine lv_iconst (v := (0 : Int32)) hx hb dX0_outcome_5 (by decide) ?_
  refine x_aload_n cx dX0_outcome_6 rfl (lv_at hl 0 rfl) ?_
  obtain ⟨hk4, hw⟩ := hw
  refine xg_X0_77_1 cx hR rfl hk4 dX0_outcome_7 ?_
  obtain ⟨a6, hr6, hk6, hw⟩ := hw
  refine CJ1_sizeL_X0_421 cx hR hS hr6 hk6 hw (by constructor <;> dsimp only <;> omega) (Nat.le_of_ble_eq_true rfl) hl.1 ⟨by dsimp only; omega, by dsimp only; omega⟩ dX0_outcome_10 (fun r5 s5 H locs hw hR hS => ?_)
  refine lv_iconst (v := (1 : Int32)) hx hb dX0_outcome_13 (by decide) ?_
  refine lv_isub hx hb dX0_outcome_14 ?_
  refine CX0_in_X0_96 cx hR hS  hw (by constructor <;> dsimp only <;> omega) (Nat.le_of_ble_eq_true rfl) hl.1 ⟨by dsimp only; omega, by dsimp only; omega⟩ dX0_outcome_15 (fun r7 s7 H locs hw hR hS => ?_)
  refine lv_if_ne (tgt := 23) hx hb dX0_outcome_18 (by decide) (fun hc => ?_) (fun hc => ?_)
  · have hw := mm_in hc hw
    refine x_aload_n cx dX0_outcome_23 rfl (lv_at hl 0 rfl) ?_
    obtain ⟨hk8, hw⟩ := hw
    refine xg_X0_83_1 cx hR rfl hk8 dX0_outcome_24 ?_
    refine lv_iload_n hx hb dX0_outcome_27 rfl (lv_at hl 1 rfl) ?_
    obtain ⟨a9, hr9, hk9, hw⟩ := hw
    obtain ⟨hi, hw⟩ := hw
    refine x_aald cx hR hr9 5 hk9 (by decide) (by decide) (j := x1.toNatClampNeg) rfl hi dX0_outcome_28 ?_
    refine x_astore_n (i := 3) (r := (ar s7 a9 x1.toNatClampNeg)) (lv' := [(3, xv E (ar s7 a9 x1.toNatClampNeg)), (0, xv E (some th)), (1, .int x1), (2, .int x2)]) cx dX0_outcome_29 rfl hl (by decide) rfl (fun ls hl => ?_)
    refine lv_iload_n hx hb dX0_outcome_30 rfl (lv_at hl 3 rfl) ?_
    by_cases hc0 : x2 = 0
    · have hw := mm_ip hc0 hw
      refine lv_tableIn (off := 25) (tgt := 56) hx hb dX0_outcome_31 (by rw [hc0]; decide) (by rw [hc0]; decide) (by rw [hc0]; decide) (by decide) ?_
      refine x_aload_n cx dX0_outcome_56 rfl (lv_at hl 0 rfl) ?_
      obtain ⟨a10, hr10, hk10, hw⟩ := hw
      refine xg_X0_432_15 cx hR hr10 hk10 dX0_outcome_57 ?_
      exact x_iret cx hR hS (xle hcb) (xle hsb) hw dX0_outcome_60
    have hw := mm_in hc0 hw
    by_cases hc1 : x2 = 1
    · have hw := mm_ip hc1 hw
      refine lv_tableIn (off := 30) (tgt := 61) hx hb dX0_outcome_31 (by rw [hc1]; decide) (by rw [hc1]; decide) (by rw [hc1]; decide) (by decide) ?_
      refine x_aload_n cx dX0_outcome_61 rfl (lv_at hl 0 rfl) ?_
      obtain ⟨a11, hr11, hk11, hw⟩ := hw
      refine xg_X0_426_15 cx hR hr11 hk11 dX0_outcome_62 ?_
      exact x_iret cx hR hS (xle hcb) (xle hsb) hw dX0_outcome_65
    have hw := mm_in hc1 hw
    by_cases hc2 : x2 = 2
    · have hw := mm_ip hc2 hw
      refine lv_tableIn (off := 35) (tgt := 66) hx hb dX0_outcome_31 (by rw [hc2]; decide) (by rw [hc2]; decide) (by rw [hc2]; decide) (by decide) ?_
      refine x_aload_n cx dX0_outcome_66 rfl (lv_at hl 0 rfl) ?_
      obtain ⟨a12, hr12, hk12, hw⟩ := hw
      refine xg_X0_435_15 cx hR hr12 hk12 dX0_outcome_67 ?_
      exact x_iret cx hR hS (xle hcb) (xle hsb) hw dX0_outcome_70
    have hw := mm_in hc2 hw
    refine lv_tableOut (tgt := 71) hx hb dX0_outcome_31 (sw_out 0 2 [(0 : Int32), (1 : Int32), (2 : Int32)] (by simp only [List.all_cons, List.all_nil, Bool.and_true, Bool.and_eq_true, decide_eq_true_eq]; exact ⟨hc0, hc1, hc2⟩) (by intro z h1 h2; exact sw_r_0_2 z h1 h2)) (by decide) ?_
    refine lv_iconst (v := (-1 : Int32)) hx hb dX0_outcome_71 (by decide) ?_
    exact x_iret cx hR hS (xle hcb) (xle hsb) hw dX0_outcome_72
  · have hw := mm_ip hc hw
    refine lv_iconst (v := (-1 : Int32)) hx hb dX0_outcome_21 (by decide) ?_
    exact x_iret cx hR hS (xle hcb) (xle hsb) hw dX0_outcome_22
-- X0_isProof
def wX0_isProof_94 (Q : Int32 → XS → Prop) (K31 : Nat → Int32 → Int32 → Int32 → Int32 → XS → Prop) (th : Nat) (x1 : Int32) (x2 : Int32) (x3 : Int32) (x4 : Int32) (σ : XS) : Prop :=
  ∀ v1 : Int32, v1 = x4 + (1 : Int32) → K31 th x1 x2 x3 v1 σ
set_option maxHeartbeats 4000000 in
theorem BX0_isProof_94 {l : Launch} {p : Program} {e : Env} {s : State} {m : MethodId} {args : Array Value} {below : List Frame} {meth : Method} {c : Code} {E : xx_E} {Q : Int32 → XS → Prop} {K31 : Nat → Int32 → Int32 → Int32 → Int32 → XS → Prop} (cx : xx_X "StruckCounts" cX0_isProof 6 (some .boolean) E p s m args meth c) (hK31 : ∀ (th : Nat) (x1 : Int32) (x2 : Int32) (x3 : Int32) (x4 : Int32) (σ : XS), K31 th x1 x2 x3 x4 σ → x_T p l e ({ frames := 3, cells := 0, slots := 0, locals := 120 } : Room) s m args below meth c E (va_Qi Q (fun σ' t => xW E σ' t) (xA E)) 0 0 6 31 0 0 σ [(0, xv E (some th)), (1, .int x1), (2, .int x2), (3, .int x3), (4, .int x4)] []) : ∀ (th : Nat) (x1 : Int32) (x2 : Int32) (x3 : Int32) (x4 : Int32) (σ : XS), wX0_isProof_94 Q K31 th x1 x2 x3 x4 σ → x_T p l e ({ frames := 3, cells := 0, slots := 0, locals := 120 } : Room) s m args below meth c E (va_Qi Q (fun σ' t => xW E σ' t) (xA E)) 0 0 6 94 0 0 σ [(0, xv E (some th)), (1, .int x1), (2, .int x2), (3, .int x3), (4, .int x4)] [] := by
  intro th x1 x2 x3 x4 σ hw H locs ls cells slots hR hS hl hcb hsb
  unfold wX0_isProof_94 at hw
  obtain ⟨hx, hb, hml, hown, hts, hrt, hlk, hMK, hZ⟩ := id cx
  obtain ⟨v1, hv1⟩ : ∃ v : Int32, v = x4 + (1 : Int32) := ⟨_, rfl⟩
  have hw := hw v1 hv1
  refine lv_iinc (v := v1) (lv' := [(4, .int v1), (0, xv E (some th)), (1, .int x1), (2, .int x2), (3, .int x3)]) hx hb dX0_isProof_94 hl (k := 4) rfl (by rw [hv1]; rfl) (by decide) rfl (fun ls hl => ?_)
  refine lv_goto (tgt := 31) hx hb dX0_isProof_97 (by decide) ?_
  exact hK31 _ _ _ _ _ _ hw _ _ _ _ _ hR hS (lv_sub hl [1, 2, 3, 4, 0] rfl) hcb hsb
def wX0_isProof_31 (Q : Int32 → XS → Prop) (K31 : Nat → Int32 → Int32 → Int32 → Int32 → XS → Prop) (th : Nat) (x1 : Int32) (x2 : Int32) (x3 : Int32) (x4 : Int32) (σ : XS) : Prop :=
  kd σ th = 1 ∧ (oc σ (fr σ th 5) 2 (fun a3 => if (fi σ a3 5) ≤ x4 then (Q (1 : Int32) σ) else (∀ v4 : Int32, v4 = (((1 : Int32) <<< (x4 &&& 31)) ^^^ (-1 : Int32)) → wX0_has x1 x4 σ (fun r5 s5 => if r5 = 0 then (wX0_isProof_94 Q K31 th x1 x2 x3 x4 s5) else (kd s5 th = 1 ∧ (oc s5 (fr s5 th 6) 3 (fun a7 => wX0_judgedBy th ((fi s5 a7 7) ||| (x1 &&& v4)) ((fi s5 a7 8) ||| (x2 &&& v4)) s5 (fun r8 s8 => if r8 = x3 then (Q (0 : Int32) s8) else (wX0_isProof_94 Q K31 th x1 x2 x3 x4 s8)))))))))
set_option maxHeartbeats 4000000 in
theorem BX0_isProof_31 {l : Launch} {p : Program} {e : Env} {s : State} {m : MethodId} {args : Array Value} {below : List Frame} {meth : Method} {c : Code} {E : xx_E} {Q : Int32 → XS → Prop} {K31 : Nat → Int32 → Int32 → Int32 → Int32 → XS → Prop} (cx : xx_X "StruckCounts" cX0_isProof 6 (some .boolean) E p s m args meth c) (hK31 : ∀ (th : Nat) (x1 : Int32) (x2 : Int32) (x3 : Int32) (x4 : Int32) (σ : XS), K31 th x1 x2 x3 x4 σ → x_T p l e ({ frames := 3, cells := 0, slots := 0, locals := 120 } : Room) s m args below meth c E (va_Qi Q (fun σ' t => xW E σ' t) (xA E)) 0 0 6 31 0 0 σ [(0, xv E (some th)), (1, .int x1), (2, .int x2), (3, .int x3), (4, .int x4)] []) : ∀ (th : Nat) (x1 : Int32) (x2 : Int32) (x3 : Int32) (x4 : Int32) (σ : XS), wX0_isProof_31 Q K31 th x1 x2 x3 x4 σ → x_T p l e ({ frames := 3, cells := 0, slots := 0, locals := 120 } : Room) s m args below meth c E (va_Qi Q (fun σ' t => xW E σ' t) (xA E)) 0 0 6 31 0 0 σ [(0, xv E (some th)), (1, .int x1), (2, .int x2), (3, .int x3), (4, .int x4)] [] := by
  intro th x1 x2 x3 x4 σ hw H locs ls cells slots hR hS hl hcb hsb
  unfold wX0_isProof_31 at hw
  obtain ⟨hx, hb, hml, hown, hts, hrt, hlk, hMK, hZ⟩ := id cx
  refine lv_iload hx hb dX0_isProof_31 (lv_at hl 4 rfl) ?_
  refine x_aload_n cx dX0_isProof_33 rfl (lv_at hl 0 rfl) ?_
  obtain ⟨hk2, hw⟩ := hw
  refine xg_X0_24_1 cx hR rfl hk2 dX0_isProof_34 ?_
  obtain ⟨a3, hr3, hk3, hw⟩ := hw
  refine xg_X0_133_2 cx hR hr3 hk3 dX0_isProof_37 ?_
  refine lv_icmp_ge (tgt := 100) hx hb dX0_isProof_40 (by decide) (fun hc => ?_) (fun hc => ?_)
  · have hw := mm_ip hc hw
    refine lv_iconst (v := (1 : Int32)) hx hb dX0_isProof_100 (by decide) ?_
    exact x_nret cx hR hS (xle hcb) (xle hsb) (zb_nar (Or.inr rfl)) hw dX0_isProof_101
  · have hw := mm_in hc hw
    refine lv_iconst (v := (1 : Int32)) hx hb dX0_isProof_43 (by decide) ?_
    refine lv_iload hx hb dX0_isProof_44 (lv_at hl 4 rfl) ?_
    refine lv_ishl hx hb dX0_isProof_46 ?_
    refine lv_iconst (v := (-1 : Int32)) hx hb dX0_isProof_47 (by decide) ?_
    refine lv_ixor hx hb dX0_isProof_48 ?_
    refine lv_topi (fun v4 hv4 => ?_)
    have hw := hw v4 hv4
    refine lv_istore (i := 5) (lv' := [(5, .int v4), (0, xv E (some th)), (1, .int x1), (2, .int x2), (3, .int x3), (4, .int x4)]) hx hb dX0_isProof_49 hl (by decide) rfl (fun ls hl => ?_)
    refine lv_iload_n hx hb dX0_isProof_51 rfl (lv_at hl 2 rfl) ?_
    refine lv_iload hx hb dX0_isProof_52 (lv_at hl 5 rfl) ?_
    refine CX0_has_X0_223 cx hR hS  hw ⟨Nat.le_of_ble_eq_true rfl, Nat.le_of_ble_eq_true rfl⟩ (Nat.le_of_ble_eq_true rfl) hl.1 ⟨by dsimp only; omega, by dsimp only; omega⟩ dX0_isProof_54 (fun r5 s5 H locs hw hR hS => ?_)
    refine lv_if_eq (tgt := 94) hx hb dX0_isProof_57 (by decide) (fun hc => ?_) (fun hc => ?_)
    · have hw := mm_ip hc hw
      exact BX0_isProof_94 cx hK31 _ _ _ _ _ _ hw _ _ _ _ _ hR hS (lv_sub hl [1, 2, 3, 4, 5] rfl) hcb hsb
    · have hw := mm_in hc hw
      refine x_aload_n cx dX0_isProof_60 rfl (lv_at hl 1 rfl) ?_
      refine x_aload_n cx dX0_isProof_61 rfl (lv_at hl 1 rfl) ?_
      obtain ⟨hk6, hw⟩ := hw
      refine xg_X0_31_1 cx hR rfl hk6 dX0_isProof_62 ?_
      obtain ⟨a7, hr7, hk7, hw⟩ := hw
      refine xg_X0_149_3 cx hR hr7 hk7 dX0_isProof_65 ?_
      refine lv_iload_n hx hb dX0_isProof_68 rfl (lv_at hl 2 rfl) ?_
      refine lv_iload hx hb dX0_isProof_69 (lv_at hl 0 rfl) ?_
      refine lv_iand hx hb dX0_isProof_71 ?_
      refine lv_ior hx hb dX0_isProof_72 ?_
      refine x_aload_n cx dX0_isProof_73 rfl (lv_at hl 1 rfl) ?_
      refine xg_X0_31_1 cx hR rfl hk6 dX0_isProof_74 ?_
      refine xg_X0_152_3 cx hR hr7 hk7 dX0_isProof_77 ?_
      refine lv_iload_n hx hb dX0_isProof_80 rfl (lv_at hl 3 rfl) ?_
      refine lv_iload hx hb dX0_isProof_81 (lv_at hl 0 rfl) ?_
      refine lv_iand hx hb dX0_isProof_83 ?_
      refine lv_ior hx hb dX0_isProof_84 ?_
      refine CX0_judgedBy_X0_376 cx hR hS rfl hk6 hw ⟨Nat.le_of_ble_eq_true rfl, Nat.le_of_ble_eq_true rfl⟩ (Nat.le_of_ble_eq_true rfl) hl.1 ⟨by dsimp only; omega, by dsimp only; omega⟩ dX0_isProof_85 (fun r8 s8 H locs hw hR hS => ?_)
      refine lv_iload_n hx hb dX0_isProof_88 rfl (lv_at hl 4 rfl) ?_
      refine lv_icmp_ne (tgt := 94) hx hb dX0_isProof_89 (by decide) (fun hc => ?_) (fun hc => ?_)
      · have hw := mm_in hc hw
        exact BX0_isProof_94 cx hK31 _ _ _ _ _ _ hw _ _ _ _ _ hR hS (lv_sub hl [1, 2, 3, 4, 5] rfl) hcb hsb
      · have hw := mm_ip hc hw
        refine lv_iconst (v := (0 : Int32)) hx hb dX0_isProof_92 (by decide) ?_
        exact x_nret cx hR hS (xle hcb) (xle hsb) (zb_nar (Or.inl rfl)) hw dX0_isProof_93
theorem LX0_isProof_31 {l : Launch} {p : Program} {e : Env} {s : State} {m : MethodId} {args : Array Value} {below : List Frame} {meth : Method} {c : Code} {E : xx_E} {Q : Int32 → XS → Prop} (cx : xx_X "StruckCounts" cX0_isProof 6 (some .boolean) E p s m args meth c) : ∀ (th : Nat) (x1 : Int32) (x2 : Int32) (x3 : Int32) (x4 : Int32) (σ : XS), lp6F (wX0_isProof_31 Q) th x1 x2 x3 x4 σ → x_T p l e ({ frames := 3, cells := 0, slots := 0, locals := 120 } : Room) s m args below meth c E (va_Qi Q (fun σ' t => xW E σ' t) (xA E)) 0 0 6 31 0 0 σ [(0, xv E (some th)), (1, .int x1), (2, .int x2), (3, .int x3), (4, .int x4)] [] :=
  lp6F_of (fun K hK => BX0_isProof_31 cx hK)
def wX0_isProof (th : Nat) (x1 : Int32) (x2 : Int32) (x3 : Int32) (σ : XS) (Q : Int32 → XS → Prop) : Prop :=
  kd σ th = 1 ∧ (oc σ (fr σ th 6) 3 (fun a10 => wX0_judgedBy th ((fi σ a10 7) ||| x1) ((fi σ a10 8) ||| x2) σ (fun r11 s11 => if r11 = x3 then (lp6F (wX0_isProof_31 Q) th x1 x2 x3 (0 : Int32) s11) else (Q (0 : Int32) s11))))
set_option maxHeartbeats 4000000 in
theorem MX0_isProof (l : Launch) (E : xx_E) (th : Nat) (x1 : Int32) (x2 : Int32) (x3 : Int32) (σ : XS) (Q : Int32 → XS → Prop) (hw : wX0_isProof th x1 x2 x3 σ Q) : xx_Mi l yX0_isProof (ws_ yX0_isProof cX0_isProof 6 (some .boolean)) ({ frames := 3, cells := 0, slots := 0, locals := 120 } : Room) E [xv E (some th), .int x1, .int x2, .int x3] σ Q 0 0 := by
  refine x_of (own := "StruckCounts") (by decide +kernel) rfl ?_
  intro p e s m args below meth c cx hR ha hnm
  refine x_entry [xv E (some th), .int x1, .int x2, .int x3] 6 [(0, xv E (some th)), (1, .int x1), (2, .int x2), (3, .int x3)] ha (by simp [lg_sl, xv_cat, vc_i, vc_j, vc_f]) (by simp [lv_args, xv_cat, vc_i, vc_j, vc_f]) (fun ls hl => ?_)
  have hS : va_S (xA E) s.heap s.heap [] := va_S.rf
  have hcb : 0 + 0 ≤ 0 := Nat.le_of_eq (Nat.zero_add _)
  have hsb : 0 + 0 ≤ 0 := Nat.le_of_eq (Nat.zero_add _)
  unfold wX0_isProof at hw
  obtain ⟨hx, hb, hml, hown, hts, hrt, hlk, hMK, hZ⟩ := id cx
  refine x_aload_n cx dX0_isProof_0 rfl (lv_at hl 0 rfl) ?_
  refine x_aload_n cx dX0_isProof_1 rfl (lv_at hl 0 rfl) ?_
  obtain ⟨hk9, hw⟩ := hw
  refine xg_X0_31_1 cx hR rfl hk9 dX0_isProof_2 ?_
  obtain ⟨a10, hr10, hk10, hw⟩ := hw
  refine xg_X0_149_3 cx hR hr10 hk10 dX0_isProof_5 ?_
  refine lv_iload_n hx hb dX0_isProof_8 rfl (lv_at hl 1 rfl) ?_
  refine lv_ior hx hb dX0_isProof_9 ?_
  refine x_aload_n cx dX0_isProof_10 rfl (lv_at hl 0 rfl) ?_
  refine xg_X0_31_1 cx hR rfl hk9 dX0_isProof_11 ?_
  refine xg_X0_152_3 cx hR hr10 hk10 dX0_isProof_14 ?_
  refine lv_iload_n hx hb dX0_isProof_17 rfl (lv_at hl 2 rfl) ?_
  refine lv_ior hx hb dX0_isProof_18 ?_
  refine CX0_judgedBy_X0_376 cx hR hS rfl hk9 hw ⟨Nat.le_of_ble_eq_true rfl, Nat.le_of_ble_eq_true rfl⟩ (Nat.le_of_ble_eq_true rfl) hl.1 ⟨by dsimp only; omega, by dsimp only; omega⟩ dX0_isProof_19 (fun r11 s11 H locs hw hR hS => ?_)
  refine lv_iload_n hx hb dX0_isProof_22 rfl (lv_at hl 3 rfl) ?_
  refine lv_icmp_eq (tgt := 28) hx hb dX0_isProof_23 (by decide) (fun hc => ?_) (fun hc => ?_)
  · have hw := mm_ip hc hw
    refine lv_iconst (v := (0 : Int32)) hx hb dX0_isProof_28 (by decide) ?_
    refine lv_istore (i := 4) (lv' := [(4, .int (0 : Int32)), (0, xv E (some th)), (1, .int x1), (2, .int x2), (3, .int x3)]) hx hb dX0_isProof_29 hl (by decide) rfl (fun ls hl => ?_)
    exact LX0_isProof_31 cx _ _ _ _ _ _ hw _ _ _ _ _ hR hS (lv_sub hl [1, 2, 3, 4, 0] rfl) hcb hsb
  · have hw := mm_in hc hw
    refine lv_iconst (v := (0 : Int32)) hx hb dX0_isProof_26 (by decide) ?_
    exact x_nret cx hR hS (xle hcb) (xle hsb) (zb_nar (Or.inl rfl)) hw dX0_isProof_27
-- X0_laysProofsOf
theorem xg_X0_87_1 {l : Launch} {p : Program} {e : Env} {R : Room} {s : State} {m : MethodId} {args : Array Value} {below : List Frame} {meth : Method} {c : Code} {H : Heap} {locs : List Loc} {cells slots : Nat} {Qz : State → Prop} {cc : ByteArray} {nL : Nat} {ret : Option FieldType} {E : xx_E} {σ : XS} {pc : Nat} {ls : Array Slot} {rest : List Value} (cx : xx_X "StruckCounts" cc nL ret E p s m args meth c) (hR : xR E σ H) {a : Nat} {r : Option Nat} (hr : r = some a) (hk : kd σ a = 1) (hdg : decode cc pc = .ok (.getfield 87, 3)) (kk : W p l e R s m args below meth c H locs cells slots Qz (F0 m (pc + 3) ls (xv E (fr σ a 21) :: rest))) : W p l e R s m args below meth c H locs cells slots Qz (F0 m pc ls (xv E r :: rest)) :=
  x_get (ci := 0) cx hR hr hk (by decide) rfl in_X0 21 (by decide) q592 (fun _ h => h) (v := xv E (fr σ a 21)) rfl hdg kk
theorem xg_X0_438_1 {l : Launch} {p : Program} {e : Env} {R : Room} {s : State} {m : MethodId} {args : Array Value} {below : List Frame} {meth : Method} {c : Code} {H : Heap} {locs : List Loc} {cells slots : Nat} {Qz : State → Prop} {cc : ByteArray} {nL : Nat} {ret : Option FieldType} {E : xx_E} {σ : XS} {pc : Nat} {ls : Array Slot} {rest : List Value} (cx : xx_X "StruckCounts" cc nL ret E p s m args meth c) (hR : xR E σ H) {a : Nat} {r : Option Nat} (hr : r = some a) (hk : kd σ a = 1) (hdg : decode cc pc = .ok (.getfield 438, 3)) (kk : W p l e R s m args below meth c H locs cells slots Qz (F0 m (pc + 3) ls (.int (fi σ a 23) :: rest))) : W p l e R s m args below meth c H locs cells slots Qz (F0 m pc ls (xv E r :: rest)) :=
  x_get (ci := 0) cx hR hr hk (by decide) rfl in_X0 23 (by decide) q594 (fun _ h => h) (v := .int (fi σ a 23)) rfl hdg kk
theorem xg_X0_90_1 {l : Launch} {p : Program} {e : Env} {R : Room} {s : State} {m : MethodId} {args : Array Value} {below : List Frame} {meth : Method} {c : Code} {H : Heap} {locs : List Loc} {cells slots : Nat} {Qz : State → Prop} {cc : ByteArray} {nL : Nat} {ret : Option FieldType} {E : xx_E} {σ : XS} {pc : Nat} {ls : Array Slot} {rest : List Value} (cx : xx_X "StruckCounts" cc nL ret E p s m args meth c) (hR : xR E σ H) {a : Nat} {r : Option Nat} (hr : r = some a) (hk : kd σ a = 1) (hdg : decode cc pc = .ok (.getfield 90, 3)) (kk : W p l e R s m args below meth c H locs cells slots Qz (F0 m (pc + 3) ls (xv E (fr σ a 22) :: rest))) : W p l e R s m args below meth c H locs cells slots Qz (F0 m pc ls (xv E r :: rest)) :=
  x_get (ci := 0) cx hR hr hk (by decide) rfl in_X0 22 (by decide) q593 (fun _ h => h) (v := xv E (fr σ a 22)) rfl hdg kk
theorem xp_X0_438_1 {l : Launch} {p : Program} {e : Env} {R : Room} {s : State} {m : MethodId} {args : Array Value} {below : List Frame} {meth : Method} {c : Code} {H : Heap} {locs : List Loc} {cells slots : Nat} {Qz : State → Prop} {cc : ByteArray} {nL : Nat} {ret : Option FieldType} {E : xx_E} {σ : XS} {pc : Nat} {ls : Array Slot} {rest : List Value} (cx : xx_X "StruckCounts" cc nL ret E p s m args meth c) (hR : xR E σ H) (hS0 : va_S (xA E) s.heap H locs) {a : Nat} {r : Option Nat} {v : Int32} (hr : r = some a) (ha : xK ≤ a) (hk : kd σ a = 1) (hdg : decode cc pc = .ok (.putfield 438, 3)) (kk : ∀ (H1 : Heap) (locs1 : List Loc), xR E (pfi σ a 23 v) H1 → va_S (xA E) s.heap H1 locs1 → W p l e R s m args below meth c H1 locs1 cells slots Qz (F0 m (pc + 3) ls rest)) : W p l e R s m args below meth c H locs cells slots Qz (F0 m pc ls (.int v :: xv E r :: rest)) :=
  x_put (ci := 0) cx hR hS0 hr ha hk (by decide) rfl in_X0 tyX0 tyX0_ok nmX0 23 (by decide) (Or.inl ⟨q594, rfl⟩) (fun _ h => h) rfl rfl (xput_i rfl) hdg kk
theorem CX0_isProof_X0_444 {l : Launch} {p : Program} {e : Env} {R : Room} {s : State} {m : MethodId} {args : Array Value} {below : List Frame} {meth : Method} {c : Code} {H : Heap} {locs : List Loc} {cells slots : Nat} {Qz : State → Prop} {cc : ByteArray} {nL : Nat} {ret : Option FieldType} {E : xx_E} {σ : XS} {pc : Nat} {ls : Array Slot} {rest : List Value} {th : Nat} {x1 : Int32} {x2 : Int32} {x3 : Int32} (cx : xx_X "StruckCounts" cc nL ret E p s m args meth c) (hR0 : xR E σ H) (hS0 : va_S (xA E) s.heap H locs) {r0 : Option Nat} (hr : r0 = some th) (hk : kd σ th = 1) {Qf : Int32 → XS → Prop} (hw : wX0_isProof th x1 x2 x3 σ Qf) (hR : (({ frames := 3, cells := 0, slots := 0, locals := 120 } : Room)).frames + 1 ≤ R.frames ∧ 8 + (6 + 11) + (({ frames := 3, cells := 0, slots := 0, locals := 120 } : Room)).locals ≤ R.locals) (hrest : rest.length ≤ 4) (hsize : ls.size = nL) (hf : cells + 0 ≤ R.cells ∧ slots + 0 ≤ R.slots) (hdg : decode cc pc = .ok (.invokevirtual 444, 3))
    (kk : ∀ (r : Int32) (σ1 : XS) (H1 : Heap) (locs1 : List Loc), Qf r σ1 → xR E σ1 H1 → va_S (xA E) s.heap H1 locs1 → W p l e R s m args below meth c H1 locs1 (cells + 0) (slots + 0) Qz (F0 m (pc + 3) ls (.int r :: rest))) : W p l e R s m args below meth c H locs cells slots Qz (F0 m pc ls (.int x3 :: .int x2 :: .int x1 :: xv E r0 :: rest)) := by
  subst hr
  obtain ⟨hx, hb, hml, hown, hts, hrt, hlk, hK, hZ⟩ := id cx
  exact x_goi (va_runV (As := [.int x1, .int x2, .int x3]) (rest := rest) (x_fix cx) (MX0_isProof l E th x1 x2 x3 σ Qf hw) (cwV 3 hts (lw_V q2318 q2320 qs70 q156 q2321) rfl rfl rfl (by decide +kernel) hR) (x_preV cx hR0 hS0 hk (by decide) (q := (RX0, TX0, 24)) rfl rfl [.int x1, .int x2, .int x3]) rfl rfl hsize rfl (lv_room (xroom hrest)) hdg hf) hS0 kk
def wX0_laysProofsOf_58 (Q : XS → Prop) (K2 : Nat → Int32 → Int32 → Int32 → XS → Prop) (th : Nat) (x1 : Int32) (x2 : Int32) (x3 : Int32) (σ : XS) : Prop :=
  ∀ v1 : Int32, v1 = x3 + (1 : Int32) → K2 th x1 x2 v1 σ
set_option maxHeartbeats 4000000 in
theorem BX0_laysProofsOf_58 {l : Launch} {p : Program} {e : Env} {s : State} {m : MethodId} {args : Array Value} {below : List Frame} {meth : Method} {c : Code} {E : xx_E} {Q : XS → Prop} {K2 : Nat → Int32 → Int32 → Int32 → XS → Prop} (cx : xx_X "StruckCounts" cX0_laysProofsOf 4 none E p s m args meth c) (hK2 : ∀ (th : Nat) (x1 : Int32) (x2 : Int32) (x3 : Int32) (σ : XS), K2 th x1 x2 x3 σ → x_T p l e ({ frames := 4, cells := 0, slots := 0, locals := 160 } : Room) s m args below meth c E (va_Qv Q (fun σ' t => xW E σ' t) (xA E)) 0 0 4 2 0 0 σ [(0, xv E (some th)), (1, .int x1), (2, .int x2), (3, .int x3)] []) : ∀ (th : Nat) (x1 : Int32) (x2 : Int32) (x3 : Int32) (σ : XS), wX0_laysProofsOf_58 Q K2 th x1 x2 x3 σ → x_T p l e ({ frames := 4, cells := 0, slots := 0, locals := 160 } : Room) s m args below meth c E (va_Qv Q (fun σ' t => xW E σ' t) (xA E)) 0 0 4 58 0 0 σ [(0, xv E (some th)), (1, .int x1), (2, .int x2), (3, .int x3)] [] := by
  intro th x1 x2 x3 σ hw H locs ls cells slots hR hS hl hcb hsb
  unfold wX0_laysProofsOf_58 at hw
  obtain ⟨hx, hb, hml, hown, hts, hrt, hlk, hMK, hZ⟩ := id cx
  obtain ⟨v1, hv1⟩ : ∃ v : Int32, v = x3 + (1 : Int32) := ⟨_, rfl⟩
  have hw := hw v1 hv1
  refine lv_iinc (v := v1) (lv' := [(3, .int v1), (0, xv E (some th)), (1, .int x1), (2, .int x2)]) hx hb dX0_laysProofsOf_58 hl (k := 3) rfl (by rw [hv1]; rfl) (by decide) rfl (fun ls hl => ?_)
  refine lv_goto (tgt := 2) hx hb dX0_laysProofsOf_61 (by decide) ?_
  exact hK2 _ _ _ _ _ hw _ _ _ _ _ hR hS (lv_sub hl [1, 2, 3, 0] rfl) hcb hsb
def wX0_laysProofsOf_2 (Q : XS → Prop) (K2 : Nat → Int32 → Int32 → Int32 → XS → Prop) (th : Nat) (x1 : Int32) (x2 : Int32) (x3 : Int32) (σ : XS) : Prop :=
  if x1 < x3 then (Q σ) else (if (x3 &&& (x1 ^^^ (-1 : Int32))) = 0 then (kd σ th = 1 ∧ (wX0_isProof th x1 x3 x2 σ (fun r2 s2 => if r2 = 0 then (wX0_laysProofsOf_58 Q K2 th x1 x2 x3 s2) else (kd s2 th = 1 ∧ (oc s2 (fr s2 th 21) 100 (fun a5 => xK ≤ a5 ∧ (vp_in (fi s2 th 23) (ln s2 a5) ∧ (oc (pai s2 a5 ((fi s2 th 23).toNatClampNeg) x1) (fr (pai s2 a5 ((fi s2 th 23).toNatClampNeg) x1) th 22) 100 (fun a6 => xK ≤ a6 ∧ (vp_in (fi (pai s2 a5 ((fi s2 th 23).toNatClampNeg) x1) th 23) (ln (pai s2 a5 ((fi s2 th 23).toNatClampNeg) x1) a6) ∧ (xK ≤ th ∧ (wX0_laysProofsOf_58 Q K2 th x1 x2 x3 (pfi (pai (pai s2 a5 ((fi s2 th 23).toNatClampNeg) x1) a6 ((fi (pai s2 a5 ((fi s2 th 23).toNatClampNeg) x1) th 23).toNatClampNeg) x3) th 23 ((fi (pai (pai s2 a5 ((fi s2 th 23).toNatClampNeg) x1) a6 ((fi (pai s2 a5 ((fi s2 th 23).toNatClampNeg) x1) th 23).toNatClampNeg) x3) th 23) + (1 : Int32))))))))))))))) else (wX0_laysProofsOf_58 Q K2 th x1 x2 x3 σ))
set_option maxHeartbeats 4000000 in
theorem BX0_laysProofsOf_2 {l : Launch} {p : Program} {e : Env} {s : State} {m : MethodId} {args : Array Value} {below : List Frame} {meth : Method} {c : Code} {E : xx_E} {Q : XS → Prop} {K2 : Nat → Int32 → Int32 → Int32 → XS → Prop} (cx : xx_X "StruckCounts" cX0_laysProofsOf 4 none E p s m args meth c) (hK2 : ∀ (th : Nat) (x1 : Int32) (x2 : Int32) (x3 : Int32) (σ : XS), K2 th x1 x2 x3 σ → x_T p l e ({ frames := 4, cells := 0, slots := 0, locals := 160 } : Room) s m args below meth c E (va_Qv Q (fun σ' t => xW E σ' t) (xA E)) 0 0 4 2 0 0 σ [(0, xv E (some th)), (1, .int x1), (2, .int x2), (3, .int x3)] []) : ∀ (th : Nat) (x1 : Int32) (x2 : Int32) (x3 : Int32) (σ : XS), wX0_laysProofsOf_2 Q K2 th x1 x2 x3 σ → x_T p l e ({ frames := 4, cells := 0, slots := 0, locals := 160 } : Room) s m args below meth c E (va_Qv Q (fun σ' t => xW E σ' t) (xA E)) 0 0 4 2 0 0 σ [(0, xv E (some th)), (1, .int x1), (2, .int x2), (3, .int x3)] [] := by
  intro th x1 x2 x3 σ hw H locs ls cells slots hR hS hl hcb hsb
  unfold wX0_laysProofsOf_2 at hw
  obtain ⟨hx, hb, hml, hown, hts, hrt, hlk, hMK, hZ⟩ := id cx
  refine lv_iload_n hx hb dX0_laysProofsOf_2 rfl (lv_at hl 3 rfl) ?_
  refine lv_iload_n hx hb dX0_laysProofsOf_3 rfl (lv_at hl 1 rfl) ?_
  refine lv_icmp_gt (tgt := 64) hx hb dX0_laysProofsOf_4 (by decide) (fun hc => ?_) (fun hc => ?_)
  · have hw := mm_ip hc hw
    exact x_vret cx hR hS (xle hcb) (xle hsb) hw dX0_laysProofsOf_64
  · have hw := mm_in hc hw
    refine lv_iload_n hx hb dX0_laysProofsOf_7 rfl (lv_at hl 3 rfl) ?_
    refine lv_iload_n hx hb dX0_laysProofsOf_8 rfl (lv_at hl 1 rfl) ?_
    refine lv_iconst (v := (-1 : Int32)) hx hb dX0_laysProofsOf_9 (by decide) ?_
    refine lv_ixor hx hb dX0_laysProofsOf_10 ?_
    refine lv_iand hx hb dX0_laysProofsOf_11 ?_
    refine lv_if_ne (tgt := 58) hx hb dX0_laysProofsOf_12 (by decide) (fun hc => ?_) (fun hc => ?_)
    · have hw := mm_in hc hw
      exact BX0_laysProofsOf_58 cx hK2 _ _ _ _ _ hw _ _ _ _ _ hR hS (lv_sub hl [0, 1, 2, 3] rfl) hcb hsb
    · have hw := mm_ip hc hw
      refine x_aload_n cx dX0_laysProofsOf_15 rfl (lv_at hl 0 rfl) ?_
      refine lv_iload_n hx hb dX0_laysProofsOf_16 rfl (lv_at hl 1 rfl) ?_
      refine lv_iload_n hx hb dX0_laysProofsOf_17 rfl (lv_at hl 3 rfl) ?_
      refine lv_iload_n hx hb dX0_laysProofsOf_18 rfl (lv_at hl 2 rfl) ?_
      obtain ⟨hk3, hw⟩ := hw
      refine CX0_isProof_X0_444 cx hR hS rfl hk3 hw ⟨Nat.le_of_ble_eq_true rfl, Nat.le_of_ble_eq_true rfl⟩ (Nat.le_of_ble_eq_true rfl) hl.1 ⟨by dsimp only; omega, by dsimp only; omega⟩ dX0_laysProofsOf_19 (fun r2 s2 H locs hw hR hS => ?_)
      refine lv_if_ne (tgt := 28) hx hb dX0_laysProofsOf_22 (by decide) (fun hc => ?_) (fun hc => ?_)
      · have hw := mm_in hc hw
        refine x_aload_n cx dX0_laysProofsOf_28 rfl (lv_at hl 0 rfl) ?_
        obtain ⟨hk4, hw⟩ := hw
        refine xg_X0_87_1 cx hR rfl hk4 dX0_laysProofsOf_29 ?_
        refine x_aload_n cx dX0_laysProofsOf_32 rfl (lv_at hl 0 rfl) ?_
        refine xg_X0_438_1 cx hR rfl hk4 dX0_laysProofsOf_33 ?_
        refine lv_iload_n hx hb dX0_laysProofsOf_36 rfl (lv_at hl 1 rfl) ?_
        obtain ⟨a5, hr5, hk5, hw⟩ := hw
        obtain ⟨hge_a5, hw⟩ := hw
        obtain ⟨hi, hw⟩ := hw
        refine x_iast cx hR hS hr5 hge_a5 hk5 (j := (fi s2 th 23).toNatClampNeg) rfl hi dX0_laysProofsOf_37 (fun H locs hR hS => ?_)
        refine x_aload_n cx dX0_laysProofsOf_38 rfl (lv_at hl 0 rfl) ?_
        refine xg_X0_90_1 cx hR rfl hk4 dX0_laysProofsOf_39 ?_
        refine x_aload_n cx dX0_laysProofsOf_42 rfl (lv_at hl 0 rfl) ?_
        refine xg_X0_438_1 cx hR rfl hk4 dX0_laysProofsOf_43 ?_
        refine lv_iload_n hx hb dX0_laysProofsOf_46 rfl (lv_at hl 3 rfl) ?_
        obtain ⟨a6, hr6, hk6, hw⟩ := hw
        obtain ⟨hge_a6, hw⟩ := hw
        obtain ⟨hi, hw⟩ := hw
        refine x_iast cx hR hS hr6 hge_a6 hk6 (j := (fi (pai s2 a5 ((fi s2 th 23).toNatClampNeg) x1) th 23).toNatClampNeg) rfl hi dX0_laysProofsOf_47 (fun H locs hR hS => ?_)
        refine x_aload_n cx dX0_laysProofsOf_48 rfl (lv_at hl 0 rfl) ?_
        refine lv_dup hx hb dX0_laysProofsOf_49 (xv_cat _ _) ?_
        refine xg_X0_438_1 cx hR rfl hk4 dX0_laysProofsOf_50 ?_
        refine lv_iconst (v := (1 : Int32)) hx hb dX0_laysProofsOf_53 (by decide) ?_
        refine lv_iadd hx hb dX0_laysProofsOf_54 ?_
        obtain ⟨hge_th, hw⟩ := hw
        refine xp_X0_438_1 (v := ((fi (pai (pai s2 a5 ((fi s2 th 23).toNatClampNeg) x1) a6 ((fi (pai s2 a5 ((fi s2 th 23).toNatClampNeg) x1) th 23).toNatClampNeg) x3) th 23) + (1 : Int32))) cx hR hS rfl hge_th hk4 dX0_laysProofsOf_55 (fun H locs hR hS => ?_)
        exact BX0_laysProofsOf_58 cx hK2 _ _ _ _ _ hw _ _ _ _ _ hR hS (lv_sub hl [0, 1, 2, 3] rfl) hcb hsb
      · have hw := mm_ip hc hw
        refine lv_goto (tgt := 58) hx hb dX0_laysProofsOf_25 (by decide) ?_
        exact BX0_laysProofsOf_58 cx hK2 _ _ _ _ _ hw _ _ _ _ _ hR hS (lv_sub hl [0, 1, 2, 3] rfl) hcb hsb
theorem LX0_laysProofsOf_2 {l : Launch} {p : Program} {e : Env} {s : State} {m : MethodId} {args : Array Value} {below : List Frame} {meth : Method} {c : Code} {E : xx_E} {Q : XS → Prop} (cx : xx_X "StruckCounts" cX0_laysProofsOf 4 none E p s m args meth c) : ∀ (th : Nat) (x1 : Int32) (x2 : Int32) (x3 : Int32) (σ : XS), lp5F (wX0_laysProofsOf_2 Q) th x1 x2 x3 σ → x_T p l e ({ frames := 4, cells := 0, slots := 0, locals := 160 } : Room) s m args below meth c E (va_Qv Q (fun σ' t => xW E σ' t) (xA E)) 0 0 4 2 0 0 σ [(0, xv E (some th)), (1, .int x1), (2, .int x2), (3, .int x3)] [] :=
  lp5F_of (fun K hK => BX0_laysProofsOf_2 cx hK)
def wX0_laysProofsOf (th : Nat) (x1 : Int32) (x2 : Int32) (σ : XS) (Q : XS → Prop) : Prop :=
  lp5F (wX0_laysProofsOf_2 Q) th x1 x2 (0 : Int32) σ
set_option maxHeartbeats 4000000 in
theorem MX0_laysProofsOf (l : Launch) (E : xx_E) (th : Nat) (x1 : Int32) (x2 : Int32) (σ : XS) (Q : XS → Prop) (hw : wX0_laysProofsOf th x1 x2 σ Q) : xx_Mv l yX0_laysProofsOf (ws_ yX0_laysProofsOf cX0_laysProofsOf 4 none) ({ frames := 4, cells := 0, slots := 0, locals := 160 } : Room) E [xv E (some th), .int x1, .int x2] σ Q 0 0 := by
  refine x_of (own := "StruckCounts") (by decide +kernel) rfl ?_
  intro p e s m args below meth c cx hR ha hnm
  refine x_entry [xv E (some th), .int x1, .int x2] 4 [(0, xv E (some th)), (1, .int x1), (2, .int x2)] ha (by simp [lg_sl, xv_cat, vc_i, vc_j, vc_f]) (by simp [lv_args, xv_cat, vc_i, vc_j, vc_f]) (fun ls hl => ?_)
  have hS : va_S (xA E) s.heap s.heap [] := va_S.rf
  have hcb : 0 + 0 ≤ 0 := Nat.le_of_eq (Nat.zero_add _)
  have hsb : 0 + 0 ≤ 0 := Nat.le_of_eq (Nat.zero_add _)
  unfold wX0_laysProofsOf at hw
  obtain ⟨hx, hb, hml, hown, hts, hrt, hlk, hMK, hZ⟩ := id cx
  refine lv_iconst (v := (0 : Int32)) hx hb dX0_laysProofsOf_0 (by decide) ?_
  refine lv_istore_n (i := 3) (lv' := [(3, .int (0 : Int32)), (0, xv E (some th)), (1, .int x1), (2, .int x2)]) hx hb dX0_laysProofsOf_1 rfl hl (by decide) rfl (fun ls hl => ?_)
  exact LX0_laysProofsOf_2 cx _ _ _ _ _ hw _ _ _ _ _ hR hS (lv_sub hl [1, 2, 3, 0] rfl) hcb hsb
-- X0_laysProofs
theorem CX0_laysProofsOf_X0_441 {l : Launch} {p : Program} {e : Env} {R : Room} {s : State} {m : MethodId} {args : Array Value} {below : List Frame} {meth : Method} {c : Code} {H : Heap} {locs : List Loc} {cells slots : Nat} {Qz : State → Prop} {cc : ByteArray} {nL : Nat} {ret : Option FieldType} {E : xx_E} {σ : XS} {pc : Nat} {ls : Array Slot} {rest : List Value} {th : Nat} {x1 : Int32} {x2 : Int32} (cx : xx_X "StruckCounts" cc nL ret E p s m args meth c) (hR0 : xR E σ H) (hS0 : va_S (xA E) s.heap H locs) {r0 : Option Nat} (hr : r0 = some th) (hk : kd σ th = 1) {Qf : XS → Prop} (hw : wX0_laysProofsOf th x1 x2 σ Qf) (hR : (({ frames := 4, cells := 0, slots := 0, locals := 160 } : Room)).frames + 1 ≤ R.frames ∧ 8 + (4 + 11) + (({ frames := 4, cells := 0, slots := 0, locals := 160 } : Room)).locals ≤ R.locals) (hrest : rest.length ≤ 4) (hsize : ls.size = nL) (hf : cells + 0 ≤ R.cells ∧ slots + 0 ≤ R.slots) (hdg : decode cc pc = .ok (.invokevirtual 441, 3))
    (kk : ∀ (σ1 : XS) (H1 : Heap) (locs1 : List Loc), Qf σ1 → xR E σ1 H1 → va_S (xA E) s.heap H1 locs1 → W p l e R s m args below meth c H1 locs1 (cells + 0) (slots + 0) Qz (F0 m (pc + 3) ls rest)) : W p l e R s m args below meth c H locs cells slots Qz (F0 m pc ls (.int x2 :: .int x1 :: xv E r0 :: rest)) := by
  subst hr
  obtain ⟨hx, hb, hml, hown, hts, hrt, hlk, hK, hZ⟩ := id cx
  exact x_gov (va_runV (As := [.int x1, .int x2]) (rest := rest) (x_fix cx) (MX0_laysProofsOf l E th x1 x2 σ Qf hw) (cwV 2 hts (lw_V q2314 q2316 qs69 q156 q2317) rfl rfl rfl (by decide +kernel) hR) (x_preV cx hR0 hS0 hk (by decide) (q := (RX0, TX0, 24)) rfl rfl [.int x1, .int x2]) rfl rfl hsize rfl (lv_room (xroom hrest)) hdg hf) hS0 kk
def wX0_laysProofs_75 (Q : XS → Prop) (K12 : Nat → Int32 → Int32 → XS → Prop) (K26 : Nat → Int32 → Int32 → Int32 → XS → Prop) (th : Nat) (x2 : Int32) (x3 : Int32) (x4 : Int32) (σ : XS) : Prop :=
  ∀ v1 : Int32, v1 = x4 + (1 : Int32) → K26 th x2 x3 v1 σ
set_option maxHeartbeats 4000000 in
theorem BX0_laysProofs_75 {l : Launch} {p : Program} {e : Env} {s : State} {m : MethodId} {args : Array Value} {below : List Frame} {meth : Method} {c : Code} {E : xx_E} {Q : XS → Prop} {K12 : Nat → Int32 → Int32 → XS → Prop} {K26 : Nat → Int32 → Int32 → Int32 → XS → Prop} (cx : xx_X "StruckCounts" cX0_laysProofs 5 none E p s m args meth c) (hK12 : ∀ (th : Nat) (x2 : Int32) (x3 : Int32) (σ : XS), K12 th x2 x3 σ → x_T p l e ({ frames := 6, cells := 0, slots := 0, locals := 240 } : Room) s m args below meth c E (va_Qv Q (fun σ' t => xW E σ' t) (xA E)) 0 0 5 12 0 0 σ [(0, xv E (some th)), (2, .int x2), (3, .int x3)] []) (hK26 : ∀ (th : Nat) (x2 : Int32) (x3 : Int32) (x4 : Int32) (σ : XS), K26 th x2 x3 x4 σ → x_T p l e ({ frames := 6, cells := 0, slots := 0, locals := 240 } : Room) s m args below meth c E (va_Qv Q (fun σ' t => xW E σ' t) (xA E)) 0 0 5 26 0 0 σ [(0, xv E (some th)), (2, .int x2), (3, .int x3), (4, .int x4)] []) : ∀ (th : Nat) (x2 : Int32) (x3 : Int32) (x4 : Int32) (σ : XS), wX0_laysProofs_75 Q K12 K26 th x2 x3 x4 σ → x_T p l e ({ frames := 6, cells := 0, slots := 0, locals := 240 } : Room) s m args below meth c E (va_Qv Q (fun σ' t => xW E σ' t) (xA E)) 0 0 5 75 0 0 σ [(0, xv E (some th)), (2, .int x2), (3, .int x3), (4, .int x4)] [] := by
  intro th x2 x3 x4 σ hw H locs ls cells slots hR hS hl hcb hsb
  unfold wX0_laysProofs_75 at hw
  obtain ⟨hx, hb, hml, hown, hts, hrt, hlk, hMK, hZ⟩ := id cx
  obtain ⟨v1, hv1⟩ : ∃ v : Int32, v = x4 + (1 : Int32) := ⟨_, rfl⟩
  have hw := hw v1 hv1
  refine lv_iinc (v := v1) (lv' := [(4, .int v1), (0, xv E (some th)), (2, .int x2), (3, .int x3)]) hx hb dX0_laysProofs_75 hl (k := 3) rfl (by rw [hv1]; rfl) (by decide) rfl (fun ls hl => ?_)
  refine lv_goto (tgt := 26) hx hb dX0_laysProofs_78 (by decide) ?_
  exact hK26 _ _ _ _ _ hw _ _ _ _ _ hR hS (lv_sub hl [1, 2, 3, 0] rfl) hcb hsb
def wX0_laysProofs_72 (Q : XS → Prop) (K12 : Nat → Int32 → Int32 → XS → Prop) (K26 : Nat → Int32 → Int32 → Int32 → XS → Prop) (th : Nat) (x2 : Int32) (x3 : Int32) (x4 : Int32) (t0 : Option Nat) (t1 : Int32) (t2 : Int32) (σ : XS) : Prop :=
  oc σ t0 1 (fun a3 => wX0_laysProofsOf a3 t1 t2 σ (fun s2 => wX0_laysProofs_75 Q K12 K26 th x2 x3 x4 s2))
set_option maxHeartbeats 4000000 in
theorem BX0_laysProofs_72 {l : Launch} {p : Program} {e : Env} {s : State} {m : MethodId} {args : Array Value} {below : List Frame} {meth : Method} {c : Code} {E : xx_E} {Q : XS → Prop} {K12 : Nat → Int32 → Int32 → XS → Prop} {K26 : Nat → Int32 → Int32 → Int32 → XS → Prop} (cx : xx_X "StruckCounts" cX0_laysProofs 5 none E p s m args meth c) (hK12 : ∀ (th : Nat) (x2 : Int32) (x3 : Int32) (σ : XS), K12 th x2 x3 σ → x_T p l e ({ frames := 6, cells := 0, slots := 0, locals := 240 } : Room) s m args below meth c E (va_Qv Q (fun σ' t => xW E σ' t) (xA E)) 0 0 5 12 0 0 σ [(0, xv E (some th)), (2, .int x2), (3, .int x3)] []) (hK26 : ∀ (th : Nat) (x2 : Int32) (x3 : Int32) (x4 : Int32) (σ : XS), K26 th x2 x3 x4 σ → x_T p l e ({ frames := 6, cells := 0, slots := 0, locals := 240 } : Room) s m args below meth c E (va_Qv Q (fun σ' t => xW E σ' t) (xA E)) 0 0 5 26 0 0 σ [(0, xv E (some th)), (2, .int x2), (3, .int x3), (4, .int x4)] []) : ∀ (th : Nat) (x2 : Int32) (x3 : Int32) (x4 : Int32) (t0 : Option Nat) (t1 : Int32) (t2 : Int32) (σ : XS), wX0_laysProofs_72 Q K12 K26 th x2 x3 x4 t0 t1 t2 σ → x_T p l e ({ frames := 6, cells := 0, slots := 0, locals := 240 } : Room) s m args below meth c E (va_Qv Q (fun σ' t => xW E σ' t) (xA E)) 0 0 5 72 0 0 σ [(0, xv E (some th)), (2, .int x2), (3, .int x3), (4, .int x4)] [.int t2, .int t1, xv E t0] := by
  intro th x2 x3 x4 t0 t1 t2 σ hw H locs ls cells slots hR hS hl hcb hsb
  unfold wX0_laysProofs_72 at hw
  obtain ⟨hx, hb, hml, hown, hts, hrt, hlk, hMK, hZ⟩ := id cx
  obtain ⟨a3, hr3, hk3, hw⟩ := hw
  refine CX0_laysProofsOf_X0_441 cx hR hS hr3 hk3 hw ⟨Nat.le_of_ble_eq_true rfl, Nat.le_of_ble_eq_true rfl⟩ (Nat.le_of_ble_eq_true rfl) hl.1 ⟨by dsimp only; omega, by dsimp only; omega⟩ dX0_laysProofs_72 (fun s2 H locs hw hR hS => ?_)
  exact BX0_laysProofs_75 cx hK12 hK26 _ _ _ _ _ hw _ _ _ _ _ hR hS (lv_sub hl [0, 1, 2, 3] rfl) hcb hsb
def wX0_laysProofs_26 (Q : XS → Prop) (K12 : Nat → Int32 → Int32 → XS → Prop) (K26 : Nat → Int32 → Int32 → Int32 → XS → Prop) (th : Nat) (x2 : Int32) (x3 : Int32) (x4 : Int32) (σ : XS) : Prop :=
  kd σ th = 1 ∧ (oc σ (fr σ th 5) 2 (fun a6 => wX1_sets a6 σ (fun r5 s5 => if r5 ≤ x4 then (∀ v7 : Int32, v7 = x3 + (1 : Int32) → K12 th x2 v7 s5) else (kd s5 th = 1 ∧ (oc s5 (fr s5 th 6) 3 (fun a9 => if (x4 &&& (fi s5 a9 7)) = 0 then (wJ11_bitCount x4 s5 (fun r10 s10 => if r10 = x3 then (if x2 = 0 then (wX0_laysProofs_72 Q K12 K26 th x2 x3 x4 (some th) x4 (0 : Int32) s10) else (wX0_laysProofs_72 Q K12 K26 th x2 x3 x4 (some th) x4 (1 : Int32) s10)) else (wX0_laysProofs_75 Q K12 K26 th x2 x3 x4 s10))) else (wX0_laysProofs_75 Q K12 K26 th x2 x3 x4 s5)))))))
set_option maxHeartbeats 4000000 in
theorem BX0_laysProofs_26 {l : Launch} {p : Program} {e : Env} {s : State} {m : MethodId} {args : Array Value} {below : List Frame} {meth : Method} {c : Code} {E : xx_E} {Q : XS → Prop} {K12 : Nat → Int32 → Int32 → XS → Prop} {K26 : Nat → Int32 → Int32 → Int32 → XS → Prop} (cx : xx_X "StruckCounts" cX0_laysProofs 5 none E p s m args meth c) (hK12 : ∀ (th : Nat) (x2 : Int32) (x3 : Int32) (σ : XS), K12 th x2 x3 σ → x_T p l e ({ frames := 6, cells := 0, slots := 0, locals := 240 } : Room) s m args below meth c E (va_Qv Q (fun σ' t => xW E σ' t) (xA E)) 0 0 5 12 0 0 σ [(0, xv E (some th)), (2, .int x2), (3, .int x3)] []) (hK26 : ∀ (th : Nat) (x2 : Int32) (x3 : Int32) (x4 : Int32) (σ : XS), K26 th x2 x3 x4 σ → x_T p l e ({ frames := 6, cells := 0, slots := 0, locals := 240 } : Room) s m args below meth c E (va_Qv Q (fun σ' t => xW E σ' t) (xA E)) 0 0 5 26 0 0 σ [(0, xv E (some th)), (2, .int x2), (3, .int x3), (4, .int x4)] []) : ∀ (th : Nat) (x2 : Int32) (x3 : Int32) (x4 : Int32) (σ : XS), wX0_laysProofs_26 Q K12 K26 th x2 x3 x4 σ → x_T p l e ({ frames := 6, cells := 0, slots := 0, locals := 240 } : Room) s m args below meth c E (va_Qv Q (fun σ' t => xW E σ' t) (xA E)) 0 0 5 26 0 0 σ [(0, xv E (some th)), (2, .int x2), (3, .int x3), (4, .int x4)] [] := by
  intro th x2 x3 x4 σ hw H locs ls cells slots hR hS hl hcb hsb
  unfold wX0_laysProofs_26 at hw
  obtain ⟨hx, hb, hml, hown, hts, hrt, hlk, hMK, hZ⟩ := id cx
  refine lv_iload hx hb dX0_laysProofs_26 (lv_at hl 3 rfl) ?_
  refine x_aload_n cx dX0_laysProofs_28 rfl (lv_at hl 0 rfl) ?_
  obtain ⟨hk4, hw⟩ := hw
  refine xg_X0_24_1 cx hR rfl hk4 dX0_laysProofs_29 ?_
  obtain ⟨a6, hr6, hk6, hw⟩ := hw
  refine CX1_sets_X0_142 cx hR hS hr6 hk6 hw ⟨Nat.le_of_ble_eq_true rfl, Nat.le_of_ble_eq_true rfl⟩ (Nat.le_of_ble_eq_true rfl) hl.1 ⟨by dsimp only; omega, by dsimp only; omega⟩ dX0_laysProofs_32 (fun r5 s5 H locs hw hR hS => ?_)
  refine lv_icmp_ge (tgt := 81) hx hb dX0_laysProofs_35 (by decide) (fun hc => ?_) (fun hc => ?_)
  · have hw := mm_ip hc hw
    obtain ⟨v7, hv7⟩ : ∃ v : Int32, v = x3 + (1 : Int32) := ⟨_, rfl⟩
    have hw := hw v7 hv7
    refine lv_iinc (v := v7) (lv' := [(3, .int v7), (0, xv E (some th)), (2, .int x2), (4, .int x4)]) hx hb dX0_laysProofs_81 hl (k := 2) rfl (by rw [hv7]; rfl) (by decide) rfl (fun ls hl => ?_)
    refine lv_goto (tgt := 12) hx hb dX0_laysProofs_84 (by decide) ?_
    exact hK12 _ _ _ _ hw _ _ _ _ _ hR hS (lv_sub hl [1, 2, 0] rfl) hcb hsb
  · have hw := mm_in hc hw
    refine lv_iload hx hb dX0_laysProofs_38 (lv_at hl 3 rfl) ?_
    refine x_aload_n cx dX0_laysProofs_40 rfl (lv_at hl 0 rfl) ?_
    obtain ⟨hk8, hw⟩ := hw
    refine xg_X0_31_1 cx hR rfl hk8 dX0_laysProofs_41 ?_
    obtain ⟨a9, hr9, hk9, hw⟩ := hw
    refine xg_X0_149_3 cx hR hr9 hk9 dX0_laysProofs_44 ?_
    refine lv_iand hx hb dX0_laysProofs_47 ?_
    refine lv_if_ne (tgt := 75) hx hb dX0_laysProofs_48 (by decide) (fun hc => ?_) (fun hc => ?_)
    · have hw := mm_in hc hw
      exact BX0_laysProofs_75 cx hK12 hK26 _ _ _ _ _ hw _ _ _ _ _ hR hS (lv_sub hl [0, 1, 2, 3] rfl) hcb hsb
    · have hw := mm_ip hc hw
      refine lv_iload hx hb dX0_laysProofs_51 (lv_at hl 3 rfl) ?_
      refine CJ11_bitCount_X0_198 cx hR hS  hw ⟨Nat.le_of_ble_eq_true rfl, Nat.le_of_ble_eq_true rfl⟩ (Nat.le_of_ble_eq_true rfl) hl.1 ⟨by dsimp only; omega, by dsimp only; omega⟩ dX0_laysProofs_53 (fun r10 s10 H locs hw hR hS => ?_)
      refine lv_iload_n hx hb dX0_laysProofs_56 rfl (lv_at hl 2 rfl) ?_
      refine lv_icmp_ne (tgt := 75) hx hb dX0_laysProofs_57 (by decide) (fun hc => ?_) (fun hc => ?_)
      · have hw := mm_in hc hw
        exact BX0_laysProofs_75 cx hK12 hK26 _ _ _ _ _ hw _ _ _ _ _ hR hS (lv_sub hl [0, 1, 2, 3] rfl) hcb hsb
      · have hw := mm_ip hc hw
        refine x_aload_n cx dX0_laysProofs_60 rfl (lv_at hl 0 rfl) ?_
        refine lv_iload hx hb dX0_laysProofs_61 (lv_at hl 3 rfl) ?_
        refine lv_iload_n hx hb dX0_laysProofs_63 rfl (lv_at hl 1 rfl) ?_
        refine lv_if_eq (tgt := 71) hx hb dX0_laysProofs_64 (by decide) (fun hc => ?_) (fun hc => ?_)
        · have hw := mm_ip hc hw
          refine lv_iconst (v := (0 : Int32)) hx hb dX0_laysProofs_71 (by decide) ?_
          exact BX0_laysProofs_72 cx hK12 hK26 _ _ _ _ _ _ _ _ hw _ _ _ _ _ hR hS (lv_sub hl [0, 1, 2, 3] rfl) hcb hsb
        · have hw := mm_in hc hw
          refine lv_iconst (v := (1 : Int32)) hx hb dX0_laysProofs_67 (by decide) ?_
          refine lv_goto (tgt := 72) hx hb dX0_laysProofs_68 (by decide) ?_
          exact BX0_laysProofs_72 cx hK12 hK26 _ _ _ _ _ _ _ _ hw _ _ _ _ _ hR hS (lv_sub hl [0, 1, 2, 3] rfl) hcb hsb
theorem LX0_laysProofs_26 {l : Launch} {p : Program} {e : Env} {s : State} {m : MethodId} {args : Array Value} {below : List Frame} {meth : Method} {c : Code} {E : xx_E} {Q : XS → Prop} {K12 : Nat → Int32 → Int32 → XS → Prop} (cx : xx_X "StruckCounts" cX0_laysProofs 5 none E p s m args meth c) (hK12 : ∀ (th : Nat) (x2 : Int32) (x3 : Int32) (σ : XS), K12 th x2 x3 σ → x_T p l e ({ frames := 6, cells := 0, slots := 0, locals := 240 } : Room) s m args below meth c E (va_Qv Q (fun σ' t => xW E σ' t) (xA E)) 0 0 5 12 0 0 σ [(0, xv E (some th)), (2, .int x2), (3, .int x3)] []) : ∀ (th : Nat) (x2 : Int32) (x3 : Int32) (x4 : Int32) (σ : XS), lp5F (wX0_laysProofs_26 Q K12) th x2 x3 x4 σ → x_T p l e ({ frames := 6, cells := 0, slots := 0, locals := 240 } : Room) s m args below meth c E (va_Qv Q (fun σ' t => xW E σ' t) (xA E)) 0 0 5 26 0 0 σ [(0, xv E (some th)), (2, .int x2), (3, .int x3), (4, .int x4)] [] :=
  lp5F_of (fun K hK => BX0_laysProofs_26 cx hK12 hK)
def wX0_laysProofs_12 (Q : XS → Prop) (K12 : Nat → Int32 → Int32 → XS → Prop) (th : Nat) (x2 : Int32) (x3 : Int32) (σ : XS) : Prop :=
  kd σ th = 1 ∧ (oc σ (fr σ th 5) 2 (fun a12 => if (fi σ a12 5) < x3 then (Q σ) else (lp5F (wX0_laysProofs_26 Q K12) th x2 x3 (0 : Int32) σ)))
set_option maxHeartbeats 4000000 in
theorem BX0_laysProofs_12 {l : Launch} {p : Program} {e : Env} {s : State} {m : MethodId} {args : Array Value} {below : List Frame} {meth : Method} {c : Code} {E : xx_E} {Q : XS → Prop} {K12 : Nat → Int32 → Int32 → XS → Prop} (cx : xx_X "StruckCounts" cX0_laysProofs 5 none E p s m args meth c) (hK12 : ∀ (th : Nat) (x2 : Int32) (x3 : Int32) (σ : XS), K12 th x2 x3 σ → x_T p l e ({ frames := 6, cells := 0, slots := 0, locals := 240 } : Room) s m args below meth c E (va_Qv Q (fun σ' t => xW E σ' t) (xA E)) 0 0 5 12 0 0 σ [(0, xv E (some th)), (2, .int x2), (3, .int x3)] []) : ∀ (th : Nat) (x2 : Int32) (x3 : Int32) (σ : XS), wX0_laysProofs_12 Q K12 th x2 x3 σ → x_T p l e ({ frames := 6, cells := 0, slots := 0, locals := 240 } : Room) s m args below meth c E (va_Qv Q (fun σ' t => xW E σ' t) (xA E)) 0 0 5 12 0 0 σ [(0, xv E (some th)), (2, .int x2), (3, .int x3)] [] := by
  intro th x2 x3 σ hw H locs ls cells slots hR hS hl hcb hsb
  unfold wX0_laysProofs_12 at hw
  obtain ⟨hx, hb, hml, hown, hts, hrt, hlk, hMK, hZ⟩ := id cx
  refine lv_iload_n hx hb dX0_laysProofs_12 rfl (lv_at hl 2 rfl) ?_
  refine x_aload_n cx dX0_laysProofs_13 rfl (lv_at hl 0 rfl) ?_
  obtain ⟨hk11, hw⟩ := hw
  refine xg_X0_24_1 cx hR rfl hk11 dX0_laysProofs_14 ?_
  obtain ⟨a12, hr12, hk12, hw⟩ := hw
  refine xg_X0_133_2 cx hR hr12 hk12 dX0_laysProofs_17 ?_
  refine lv_icmp_gt (tgt := 87) hx hb dX0_laysProofs_20 (by decide) (fun hc => ?_) (fun hc => ?_)
  · have hw := mm_ip hc hw
    exact x_vret cx hR hS (xle hcb) (xle hsb) hw dX0_laysProofs_87
  · have hw := mm_in hc hw
    refine lv_iconst (v := (0 : Int32)) hx hb dX0_laysProofs_23 (by decide) ?_
    refine lv_istore (i := 4) (lv' := [(4, .int (0 : Int32)), (0, xv E (some th)), (2, .int x2), (3, .int x3)]) hx hb dX0_laysProofs_24 hl (by decide) rfl (fun ls hl => ?_)
    exact LX0_laysProofs_26 cx hK12 _ _ _ _ _ hw _ _ _ _ _ hR hS (lv_sub hl [1, 2, 3, 0] rfl) hcb hsb
theorem LX0_laysProofs_12 {l : Launch} {p : Program} {e : Env} {s : State} {m : MethodId} {args : Array Value} {below : List Frame} {meth : Method} {c : Code} {E : xx_E} {Q : XS → Prop} (cx : xx_X "StruckCounts" cX0_laysProofs 5 none E p s m args meth c) : ∀ (th : Nat) (x2 : Int32) (x3 : Int32) (σ : XS), lp4F (wX0_laysProofs_12 Q) th x2 x3 σ → x_T p l e ({ frames := 6, cells := 0, slots := 0, locals := 240 } : Room) s m args below meth c E (va_Qv Q (fun σ' t => xW E σ' t) (xA E)) 0 0 5 12 0 0 σ [(0, xv E (some th)), (2, .int x2), (3, .int x3)] [] :=
  lp4F_of (fun K hK => BX0_laysProofs_12 cx hK)
def wX0_laysProofs (th : Nat) (x1 : Int32) (x2 : Int32) (σ : XS) (Q : XS → Prop) : Prop :=
  kd σ th = 1 ∧ (wX0_laysWon th x1 σ (fun s13 => kd s13 th = 1 ∧ (xK ≤ th ∧ (lp4F (wX0_laysProofs_12 Q) th x2 (0 : Int32) (pfi s13 th 23 (0 : Int32))))))
set_option maxHeartbeats 4000000 in
theorem MX0_laysProofs (l : Launch) (E : xx_E) (th : Nat) (x1 : Int32) (x2 : Int32) (σ : XS) (Q : XS → Prop) (hw : wX0_laysProofs th x1 x2 σ Q) : xx_Mv l yX0_laysProofs (ws_ yX0_laysProofs cX0_laysProofs 5 none) ({ frames := 6, cells := 0, slots := 0, locals := 240 } : Room) E [xv E (some th), .int x1, .int x2] σ Q 0 0 := by
  refine x_of (own := "StruckCounts") (by decide +kernel) rfl ?_
  intro p e s m args below meth c cx hR ha hnm
  refine x_entry [xv E (some th), .int x1, .int x2] 5 [(0, xv E (some th)), (1, .int x1), (2, .int x2)] ha (by simp [lg_sl, xv_cat, vc_i, vc_j, vc_f]) (by simp [lv_args, xv_cat, vc_i, vc_j, vc_f]) (fun ls hl => ?_)
  have hS : va_S (xA E) s.heap s.heap [] := va_S.rf
  have hcb : 0 + 0 ≤ 0 := Nat.le_of_eq (Nat.zero_add _)
  have hsb : 0 + 0 ≤ 0 := Nat.le_of_eq (Nat.zero_add _)
  unfold wX0_laysProofs at hw
  obtain ⟨hx, hb, hml, hown, hts, hrt, hlk, hMK, hZ⟩ := id cx
  refine x_aload_n cx dX0_laysProofs_0 rfl (lv_at hl 0 rfl) ?_
  refine lv_iload_n hx hb dX0_laysProofs_1 rfl (lv_at hl 1 rfl) ?_
  obtain ⟨hk14, hw⟩ := hw
  refine CX0_laysWon_X0_373 cx hR hS rfl hk14 hw ⟨Nat.le_of_ble_eq_true rfl, Nat.le_of_ble_eq_true rfl⟩ (Nat.le_of_ble_eq_true rfl) hl.1 ⟨by dsimp only; omega, by dsimp only; omega⟩ dX0_laysProofs_2 (fun s13 H locs hw hR hS => ?_)
  refine x_aload_n cx dX0_laysProofs_5 rfl (lv_at hl 0 rfl) ?_
  refine lv_iconst (v := (0 : Int32)) hx hb dX0_laysProofs_6 (by decide) ?_
  obtain ⟨hk15, hw⟩ := hw
  obtain ⟨hge_th, hw⟩ := hw
  refine xp_X0_438_1 (v := (0 : Int32)) cx hR hS rfl hge_th hk15 dX0_laysProofs_7 (fun H locs hR hS => ?_)
  refine lv_iconst (v := (0 : Int32)) hx hb dX0_laysProofs_10 (by decide) ?_
  refine lv_istore_n (i := 3) (lv' := [(3, .int (0 : Int32)), (0, xv E (some th)), (1, .int x1), (2, .int x2)]) hx hb dX0_laysProofs_11 rfl hl (by decide) rfl (fun ls hl => ?_)
  exact LX0_laysProofs_12 cx _ _ _ _ hw _ _ _ _ _ hR hS (lv_sub hl [1, 3, 0] rfl) hcb hsb
-- X0_proofs
theorem CX0_laysProofs_X0_447 {l : Launch} {p : Program} {e : Env} {R : Room} {s : State} {m : MethodId} {args : Array Value} {below : List Frame} {meth : Method} {c : Code} {H : Heap} {locs : List Loc} {cells slots : Nat} {Qz : State → Prop} {cc : ByteArray} {nL : Nat} {ret : Option FieldType} {E : xx_E} {σ : XS} {pc : Nat} {ls : Array Slot} {rest : List Value} {th : Nat} {x1 : Int32} {x2 : Int32} (cx : xx_X "StruckCounts" cc nL ret E p s m args meth c) (hR0 : xR E σ H) (hS0 : va_S (xA E) s.heap H locs) {r0 : Option Nat} (hr : r0 = some th) (hk : kd σ th = 1) {Qf : XS → Prop} (hw : wX0_laysProofs th x1 x2 σ Qf) (hR : (({ frames := 6, cells := 0, slots := 0, locals := 240 } : Room)).frames + 1 ≤ R.frames ∧ 8 + (5 + 11) + (({ frames := 6, cells := 0, slots := 0, locals := 240 } : Room)).locals ≤ R.locals) (hrest : rest.length ≤ 4) (hsize : ls.size = nL) (hf : cells + 0 ≤ R.cells ∧ slots + 0 ≤ R.slots) (hdg : decode cc pc = .ok (.invokevirtual 447, 3))
    (kk : ∀ (σ1 : XS) (H1 : Heap) (locs1 : List Loc), Qf σ1 → xR E σ1 H1 → va_S (xA E) s.heap H1 locs1 → W p l e R s m args below meth c H1 locs1 (cells + 0) (slots + 0) Qz (F0 m (pc + 3) ls rest)) : W p l e R s m args below meth c H locs cells slots Qz (F0 m pc ls (.int x2 :: .int x1 :: xv E r0 :: rest)) := by
  subst hr
  obtain ⟨hx, hb, hml, hown, hts, hrt, hlk, hK, hZ⟩ := id cx
  exact x_gov (va_runV (As := [.int x1, .int x2]) (rest := rest) (x_fix cx) (MX0_laysProofs l E th x1 x2 σ Qf hw) (cwV 2 hts (lw_V q2310 q2312 qs68 q156 q2313) rfl rfl rfl (by decide +kernel) hR) (x_preV cx hR0 hS0 hk (by decide) (q := (RX0, TX0, 24)) rfl rfl [.int x1, .int x2]) rfl rfl hsize rfl (lv_room (xroom hrest)) hdg hf) hS0 kk
def wX0_proofs (th : Nat) (x1 : Int32) (x2 : Int32) (σ : XS) (Q : Int32 → XS → Prop) : Prop :=
  kd σ th = 1 ∧ (wX0_isCount th x1 σ (fun r1 s1 => if r1 = 0 then (Q (-1 : Int32) s1) else (kd s1 th = 1 ∧ (wX0_laysProofs th x1 x2 s1 (fun s3 => kd s3 th = 1 ∧ (Q (fi s3 th 23) s3))))))
set_option maxHeartbeats 4000000 in
theorem MX0_proofs (l : Launch) (E : xx_E) (th : Nat) (x1 : Int32) (x2 : Int32) (σ : XS) (Q : Int32 → XS → Prop) (hw : wX0_proofs th x1 x2 σ Q) : xx_Mi l yX0_proofs (ws_ yX0_proofs cX0_proofs 3 (some .int)) ({ frames := 7, cells := 0, slots := 0, locals := 280 } : Room) E [xv E (some th), .int x1, .int x2] σ Q 0 0 := by
  refine x_of (own := "StruckCounts") (by decide +kernel) rfl ?_
  intro p e s m args below meth c cx hR ha hnm
  refine x_entry [xv E (some th), .int x1, .int x2] 3 [(0, xv E (some th)), (1, .int x1), (2, .int x2)] ha (by simp [lg_sl, xv_cat, vc_i, vc_j, vc_f]) (by simp [lv_args, xv_cat, vc_i, vc_j, vc_f]) (fun ls hl => ?_)
  have hS : va_S (xA E) s.heap s.heap [] := va_S.rf
  have hcb : 0 + 0 ≤ 0 := Nat.le_of_eq (Nat.zero_add _)
  have hsb : 0 + 0 ≤ 0 := Nat.le_of_eq (Nat.zero_add _)
  unfold wX0_proofs at hw
  obtain ⟨hx, hb, hml, hown, hts, hrt, hlk, hMK, hZ⟩ := id cx
  refine x_aload_n cx dX0_proofs_0 rfl (lv_at hl 0 rfl) ?_
  refine lv_iload_n hx hb dX0_proofs_1 rfl (lv_at hl 1 rfl) ?_
  obtain ⟨hk2, hw⟩ := hw
  refine CX0_isCount_X0_290 cx hR hS rfl hk2 hw ⟨Nat.le_of_ble_eq_true rfl, Nat.le_of_ble_eq_true rfl⟩ (Nat.le_of_ble_eq_true rfl) hl.1 ⟨by dsimp only; omega, by dsimp only; omega⟩ dX0_proofs_2 (fun r1 s1 H locs hw hR hS => ?_)
  refine lv_if_ne (tgt := 10) hx hb dX0_proofs_5 (by decide) (fun hc => ?_) (fun hc => ?_)
  · have hw := mm_in hc hw
    refine x_aload_n cx dX0_proofs_10 rfl (lv_at hl 0 rfl) ?_
    refine lv_iload_n hx hb dX0_proofs_11 rfl (lv_at hl 1 rfl) ?_
    refine lv_iload_n hx hb dX0_proofs_12 rfl (lv_at hl 2 rfl) ?_
    obtain ⟨hk4, hw⟩ := hw
    refine CX0_laysProofs_X0_447 cx hR hS rfl hk4 hw ⟨Nat.le_of_ble_eq_true rfl, Nat.le_of_ble_eq_true rfl⟩ (Nat.le_of_ble_eq_true rfl) hl.1 ⟨by dsimp only; omega, by dsimp only; omega⟩ dX0_proofs_13 (fun s3 H locs hw hR hS => ?_)
    refine x_aload_n cx dX0_proofs_16 rfl (lv_at hl 0 rfl) ?_
    obtain ⟨hk5, hw⟩ := hw
    refine xg_X0_438_1 cx hR rfl hk5 dX0_proofs_17 ?_
    exact x_iret cx hR hS (xle hcb) (xle hsb) hw dX0_proofs_20
  · have hw := mm_ip hc hw
    refine lv_iconst (v := (-1 : Int32)) hx hb dX0_proofs_8 (by decide) ?_
    exact x_iret cx hR hS (xle hcb) (xle hsb) hw dX0_proofs_9
-- X0_proof
def wX0_proof (th : Nat) (x1 : Int32) (x2 : Int32) (x3 : Int32) (x4 : Int32) (σ : XS) (Q : Int32 → XS → Prop) : Prop :=
  kd σ th = 1 ∧ (wX0_isCount th x1 σ (fun r1 s1 => if r1 = 0 then (Q (-1 : Int32) s1) else (wX0_in x4 (0 : Int32) (1 : Int32) s1 (fun r3 s3 => if r3 = 0 then (Q (-1 : Int32) s3) else (kd s3 th = 1 ∧ (wX0_laysProofs th x1 x2 s3 (fun s4 => kd s4 th = 1 ∧ (wX0_in x3 (0 : Int32) ((fi s4 th 23) - (1 : Int32)) s4 (fun r7 s7 => if r7 = 0 then (Q (-1 : Int32) s7) else (if x4 = 0 then (kd s7 th = 1 ∧ (oc s7 (fr s7 th 21) 100 (fun a11 => vp_in x3 (ln s7 a11) ∧ (Q (ai s7 a11 x3.toNatClampNeg) s7)))) else (kd s7 th = 1 ∧ (oc s7 (fr s7 th 22) 100 (fun a9 => vp_in x3 (ln s7 a9) ∧ (Q (ai s7 a9 x3.toNatClampNeg) s7))))))))))))))
set_option maxHeartbeats 4000000 in
theorem MX0_proof (l : Launch) (E : xx_E) (th : Nat) (x1 : Int32) (x2 : Int32) (x3 : Int32) (x4 : Int32) (σ : XS) (Q : Int32 → XS → Prop) (hw : wX0_proof th x1 x2 x3 x4 σ Q) : xx_Mi l yX0_proof (ws_ yX0_proof cX0_proof 5 (some .int)) ({ frames := 7, cells := 0, slots := 0, locals := 280 } : Room) E [xv E (some th), .int x1, .int x2, .int x3, .int x4] σ Q 0 0 := by
  refine x_of (own := "StruckCounts") (by decide +kernel) rfl ?_
  intro p e s m args below meth c cx hR ha hnm
  refine x_entry [xv E (some th), .int x1, .int x2, .int x3, .int x4] 5 [(0, xv E (some th)), (1, .int x1), (2, .int x2), (3, .int x3), (4, .int x4)] ha (by simp [lg_sl, xv_cat, vc_i, vc_j, vc_f]) (by simp [lv_args, xv_cat, vc_i, vc_j, vc_f]) (fun ls hl => ?_)
  have hS : va_S (xA E) s.heap s.heap [] := va_S.rf
  have hcb : 0 + 0 ≤ 0 := Nat.le_of_eq (Nat.zero_add _)
  have hsb : 0 + 0 ≤ 0 := Nat.le_of_eq (Nat.zero_add _)
  unfold wX0_proof at hw
  obtain ⟨hx, hb, hml, hown, hts, hrt, hlk, hMK, hZ⟩ := id cx
  refine x_aload_n cx dX0_proof_0 rfl (lv_at hl 0 rfl) ?_
  refine lv_iload_n hx hb dX0_proof_1 rfl (lv_at hl 1 rfl) ?_
  obtain ⟨hk2, hw⟩ := hw
  refine CX0_isCount_X0_290 cx hR hS rfl hk2 hw ⟨Nat.le_of_ble_eq_true rfl, Nat.le_of_ble_eq_true rfl⟩ (Nat.le_of_ble_eq_true rfl) hl.1 ⟨by dsimp only; omega, by dsimp only; omega⟩ dX0_proof_2 (fun r1 s1 H locs hw hR hS => ?_)
  refine lv_if_eq (tgt := 18) hx hb dX0_proof_5 (by decide) (fun hc => ?_) (fun hc => ?_)
  · have hw := mm_ip hc hw
    refine lv_iconst (v := (-1 : Int32)) hx hb dX0_proof_18 (by decide) ?_
    exact x_iret cx hR hS (xle hcb) (xle hsb) hw dX0_proof_19
  · have hw := mm_in hc hw
    refine lv_iload hx hb dX0_proof_8 (lv_at hl 4 rfl) ?_
    refine lv_iconst (v := (0 : Int32)) hx hb dX0_proof_10 (by decide) ?_
    refine lv_iconst (v := (1 : Int32)) hx hb dX0_proof_11 (by decide) ?_
    refine CX0_in_X0_96 cx hR hS  hw ⟨Nat.le_of_ble_eq_true rfl, Nat.le_of_ble_eq_true rfl⟩ (Nat.le_of_ble_eq_true rfl) hl.1 ⟨by dsimp only; omega, by dsimp only; omega⟩ dX0_proof_12 (fun r3 s3 H locs hw hR hS => ?_)
    refine lv_if_ne (tgt := 20) hx hb dX0_proof_15 (by decide) (fun hc => ?_) (fun hc => ?_)
    · have hw := mm_in hc hw
      refine x_aload_n cx dX0_proof_20 rfl (lv_at hl 0 rfl) ?_
      refine lv_iload_n hx hb dX0_proof_21 rfl (lv_at hl 1 rfl) ?_
      refine lv_iload_n hx hb dX0_proof_22 rfl (lv_at hl 2 rfl) ?_
      obtain ⟨hk5, hw⟩ := hw
      refine CX0_laysProofs_X0_447 cx hR hS rfl hk5 hw ⟨Nat.le_of_ble_eq_true rfl, Nat.le_of_ble_eq_true rfl⟩ (Nat.le_of_ble_eq_true rfl) hl.1 ⟨by dsimp only; omega, by dsimp only; omega⟩ dX0_proof_23 (fun s4 H locs hw hR hS => ?_)
      refine lv_iload_n hx hb dX0_proof_26 rfl (lv_at hl 3 rfl) ?_
      refine lv_iconst (v := (0 : Int32)) hx hb dX0_proof_27 (by decide) ?_
      refine x_aload_n cx dX0_proof_28 rfl (lv_at hl 0 rfl) ?_
      obtain ⟨hk6, hw⟩ := hw
      refine xg_X0_438_1 cx hR rfl hk6 dX0_proof_29 ?_
      refine lv_iconst (v := (1 : Int32)) hx hb dX0_proof_32 (by decide) ?_
      refine lv_isub hx hb dX0_proof_33 ?_
      refine CX0_in_X0_96 cx hR hS  hw ⟨Nat.le_of_ble_eq_true rfl, Nat.le_of_ble_eq_true rfl⟩ (Nat.le_of_ble_eq_true rfl) hl.1 ⟨by dsimp only; omega, by dsimp only; omega⟩ dX0_proof_34 (fun r7 s7 H locs hw hR hS => ?_)
      refine lv_if_ne (tgt := 42) hx hb dX0_proof_37 (by decide) (fun hc => ?_) (fun hc => ?_)
      · have hw := mm_in hc hw
        refine lv_iload hx hb dX0_proof_42 (lv_at hl 4 rfl) ?_
        refine lv_if_ne (tgt := 56) hx hb dX0_proof_44 (by decide) (fun hc => ?_) (fun hc => ?_)
        · have hw := mm_in hc hw
          refine x_aload_n cx dX0_proof_56 rfl (lv_at hl 0 rfl) ?_
          obtain ⟨hk8, hw⟩ := hw
          refine xg_X0_90_1 cx hR rfl hk8 dX0_proof_57 ?_
          refine lv_iload_n hx hb dX0_proof_60 rfl (lv_at hl 3 rfl) ?_
          obtain ⟨a9, hr9, hk9, hw⟩ := hw
          obtain ⟨hi, hw⟩ := hw
          refine x_iald cx hR hr9 hk9 (j := x3.toNatClampNeg) rfl hi dX0_proof_61 ?_
          exact x_iret cx hR hS (xle hcb) (xle hsb) hw dX0_proof_62
        · have hw := mm_ip hc hw
          refine x_aload_n cx dX0_proof_47 rfl (lv_at hl 0 rfl) ?_
          obtain ⟨hk10, hw⟩ := hw
          refine xg_X0_87_1 cx hR rfl hk10 dX0_proof_48 ?_
          refine lv_iload_n hx hb dX0_proof_51 rfl (lv_at hl 3 rfl) ?_
          obtain ⟨a11, hr11, hk11, hw⟩ := hw
          obtain ⟨hi, hw⟩ := hw
          refine x_iald cx hR hr11 hk11 (j := x3.toNatClampNeg) rfl hi dX0_proof_52 ?_
          refine lv_goto (tgt := 62) hx hb dX0_proof_53 (by decide) ?_
          exact x_iret cx hR hS (xle hcb) (xle hsb) hw dX0_proof_62
      · have hw := mm_ip hc hw
        refine lv_iconst (v := (-1 : Int32)) hx hb dX0_proof_40 (by decide) ?_
        exact x_iret cx hR hS (xle hcb) (xle hsb) hw dX0_proof_41
    · have hw := mm_ip hc hw
      refine lv_iconst (v := (-1 : Int32)) hx hb dX0_proof_18 (by decide) ?_
      exact x_iret cx hR hS (xle hcb) (xle hsb) hw dX0_proof_19
-- X0_pleaderWins
theorem CX0_pleaderWins_X0_451F {l : Launch} {p : Program} {e : Env} {R : Room} {s : State} {m : MethodId} {args : Array Value} {below : List Frame} {meth : Method} {c : Code} {H : Heap} {locs : List Loc} {cells slots : Nat} {Qz : State → Prop} {cc : ByteArray} {nL : Nat} {ret : Option FieldType} {E : xx_E} {σ : XS} {pc : Nat} {ls : Array Slot} {rest : List Value} {F : Nat → Int32 → Int32 → Int32 → XS → (Int32 → XS → Prop) → Prop} (d : Nat) (hF : ∀ (th : Nat) (x1 : Int32) (x2 : Int32) (x3 : Int32) (σ : XS) (Q : Int32 → XS → Prop), F th x1 x2 x3 σ Q → xx_Mi l yX0_pleaderWins (ws_ yX0_pleaderWins cX0_pleaderWins 10 (some .boolean)) ({ frames := (3 + 1 * d), cells := 0, slots := 0, locals := 40 * (3 + 1 * d) } : Room) E [xv E (some th), .int x1, .int x2, .int x3] σ Q 0 0) {th : Nat} {x1 : Int32} {x2 : Int32} {x3 : Int32} (cx : xx_X "StruckCounts" cc nL ret E p s m args meth c) (hR0 : xR E σ H) (hS0 : va_S (xA E) s.heap H locs) {r0 : Option Nat} (hr : r0 = some th) (hk : kd σ th = 1) {Qf : Int32 → XS → Prop} (hw : F th x1 x2 x3 σ Qf) (hR : (({ frames := (3 + 1 * d), cells := 0, slots := 0, locals := 40 * (3 + 1 * d) } : Room)).frames + 1 ≤ R.frames ∧ 8 + (10 + 11) + (({ frames := (3 + 1 * d), cells := 0, slots := 0, locals := 40 * (3 + 1 * d) } : Room)).locals ≤ R.locals) (hrest : rest.length ≤ 4) (hsize : ls.size = nL) (hf : cells + 0 ≤ R.cells ∧ slots + 0 ≤ R.slots) (hdg : decode cc pc = .ok (.invokevirtual 451, 3))
    (kk : ∀ (r : Int32) (σ1 : XS) (H1 : Heap) (locs1 : List Loc), Qf r σ1 → xR E σ1 H1 → va_S (xA E) s.heap H1 locs1 → W p l e R s m args below meth c H1 locs1 (cells + 0) (slots + 0) Qz (F0 m (pc + 3) ls (.int r :: rest))) : W p l e R s m args below meth c H locs cells slots Qz (F0 m pc ls (.int x3 :: .int x2 :: .int x1 :: xv E r0 :: rest)) := by
  subst hr
  obtain ⟨hx, hb, hml, hown, hts, hrt, hlk, hK, hZ⟩ := id cx
  exact x_goi (va_runV (As := [.int x1, .int x2, .int x3]) (rest := rest) (x_fix cx) (hF th x1 x2 x3 σ Qf hw) (cwV 3 hts (lw_V q2330 q2332 qs71 q156 q2333) rfl rfl rfl (by decide +kernel) hR) (x_preV cx hR0 hS0 hk (by decide) (q := (RX0, TX0, 24)) rfl rfl [.int x1, .int x2, .int x3]) rfl rfl hsize rfl (lv_room (xroom hrest)) hdg hf) hS0 kk
def wX0_pleaderWins_230 (F : Nat → Int32 → Int32 → Int32 → XS → (Int32 → XS → Prop) → Prop) (Q : Int32 → XS → Prop) (th : Nat) (x7 : Int32) (t0 : Option Nat) (t1 : Int32) (t2 : Int32) (σ : XS) : Prop :=
  oc σ t0 100 (fun a1 => xK ≤ a1 ∧ (vp_in t1 (ln σ a1) ∧ (zb x7 ∧ Q x7 (pai σ a1 t1.toNatClampNeg t2))))
set_option maxHeartbeats 4000000 in
theorem BX0_pleaderWins_230 {l : Launch} {p : Program} {e : Env} {s : State} {m : MethodId} {args : Array Value} {below : List Frame} {meth : Method} {c : Code} {E : xx_E} {F : Nat → Int32 → Int32 → Int32 → XS → (Int32 → XS → Prop) → Prop} {Q : Int32 → XS → Prop} (d : Nat) (hF : ∀ (th : Nat) (x1 : Int32) (x2 : Int32) (x3 : Int32) (σ : XS) (Q : Int32 → XS → Prop), F th x1 x2 x3 σ Q → xx_Mi l yX0_pleaderWins (ws_ yX0_pleaderWins cX0_pleaderWins 10 (some .boolean)) ({ frames := (3 + 1 * d), cells := 0, slots := 0, locals := 40 * (3 + 1 * d) } : Room) E [xv E (some th), .int x1, .int x2, .int x3] σ Q 0 0) (cx : xx_X "StruckCounts" cX0_pleaderWins 10 (some .boolean) E p s m args meth c) : ∀ (th : Nat) (x7 : Int32) (t0 : Option Nat) (t1 : Int32) (t2 : Int32) (σ : XS), wX0_pleaderWins_230 F Q th x7 t0 t1 t2 σ → x_T p l e ({ frames := (3 + 1 * (d + 1)), cells := 0, slots := 0, locals := 40 * (3 + 1 * (d + 1)) } : Room) s m args below meth c E (va_Qi Q (fun σ' t => xW E σ' t) (xA E)) 0 0 10 230 0 0 σ [(0, xv E (some th)), (7, .int x7)] [.int t2, .int t1, xv E t0] := by
  intro th x7 t0 t1 t2 σ hw H locs ls cells slots hR hS hl hcb hsb
  unfold wX0_pleaderWins_230 at hw
  obtain ⟨hx, hb, hml, hown, hts, hrt, hlk, hMK, hZ⟩ := id cx
  obtain ⟨a1, hr1, hk1, hw⟩ := hw
  obtain ⟨hge_a1, hw⟩ := hw
  obtain ⟨hi, hw⟩ := hw
  refine x_iast cx hR hS hr1 hge_a1 hk1 (j := t1.toNatClampNeg) rfl hi dX0_pleaderWins_230 (fun H locs hR hS => ?_)
  refine lv_iload hx hb dX0_pleaderWins_231 (lv_at hl 1 rfl) ?_
  obtain ⟨hz, hw⟩ := hw
  exact x_nret cx hR hS (xle hcb) (xle hsb) (zb_nar hz) hw dX0_pleaderWins_233
def wX0_pleaderWins_214 (F : Nat → Int32 → Int32 → Int32 → XS → (Int32 → XS → Prop) → Prop) (Q : Int32 → XS → Prop) (th : Nat) (x5 : Int32) (x7 : Int32) (σ : XS) : Prop :=
  kd σ th = 1 ∧ (if x7 = 0 then (wX0_pleaderWins_230 F Q th x7 (fr σ th 16) x5 (0 : Int32) σ) else (wX0_pleaderWins_230 F Q th x7 (fr σ th 16) x5 (1 : Int32) σ))
set_option maxHeartbeats 4000000 in
theorem BX0_pleaderWins_214 {l : Launch} {p : Program} {e : Env} {s : State} {m : MethodId} {args : Array Value} {below : List Frame} {meth : Method} {c : Code} {E : xx_E} {F : Nat → Int32 → Int32 → Int32 → XS → (Int32 → XS → Prop) → Prop} {Q : Int32 → XS → Prop} (d : Nat) (hF : ∀ (th : Nat) (x1 : Int32) (x2 : Int32) (x3 : Int32) (σ : XS) (Q : Int32 → XS → Prop), F th x1 x2 x3 σ Q → xx_Mi l yX0_pleaderWins (ws_ yX0_pleaderWins cX0_pleaderWins 10 (some .boolean)) ({ frames := (3 + 1 * d), cells := 0, slots := 0, locals := 40 * (3 + 1 * d) } : Room) E [xv E (some th), .int x1, .int x2, .int x3] σ Q 0 0) (cx : xx_X "StruckCounts" cX0_pleaderWins 10 (some .boolean) E p s m args meth c) : ∀ (th : Nat) (x5 : Int32) (x7 : Int32) (σ : XS), wX0_pleaderWins_214 F Q th x5 x7 σ → x_T p l e ({ frames := (3 + 1 * (d + 1)), cells := 0, slots := 0, locals := 40 * (3 + 1 * (d + 1)) } : Room) s m args below meth c E (va_Qi Q (fun σ' t => xW E σ' t) (xA E)) 0 0 10 214 0 0 σ [(0, xv E (some th)), (5, .int x5), (7, .int x7)] [] := by
  intro th x5 x7 σ hw H locs ls cells slots hR hS hl hcb hsb
  unfold wX0_pleaderWins_214 at hw
  obtain ⟨hx, hb, hml, hown, hts, hrt, hlk, hMK, hZ⟩ := id cx
  refine x_aload_n cx dX0_pleaderWins_214 rfl (lv_at hl 0 rfl) ?_
  obtain ⟨hk2, hw⟩ := hw
  refine xg_X0_63_1 cx hR rfl hk2 dX0_pleaderWins_215 ?_
  refine lv_iload hx hb dX0_pleaderWins_218 (lv_at hl 1 rfl) ?_
  refine lv_iload hx hb dX0_pleaderWins_220 (lv_at hl 2 rfl) ?_
  refine lv_if_eq (tgt := 229) hx hb dX0_pleaderWins_222 (by decide) (fun hc => ?_) (fun hc => ?_)
  · have hw := mm_ip hc hw
    refine lv_iconst (v := (0 : Int32)) hx hb dX0_pleaderWins_229 (by decide) ?_
    exact BX0_pleaderWins_230 d hF cx _ _ _ _ _ _ hw _ _ _ _ _ hR hS (lv_sub hl [0, 2] rfl) hcb hsb
  · have hw := mm_in hc hw
    refine lv_iconst (v := (1 : Int32)) hx hb dX0_pleaderWins_225 (by decide) ?_
    refine lv_goto (tgt := 230) hx hb dX0_pleaderWins_226 (by decide) ?_
    exact BX0_pleaderWins_230 d hF cx _ _ _ _ _ _ hw _ _ _ _ _ hR hS (lv_sub hl [0, 2] rfl) hcb hsb
def wX0_pleaderWins_208 (F : Nat → Int32 → Int32 → Int32 → XS → (Int32 → XS → Prop) → Prop) (Q : Int32 → XS → Prop) (K114 : Nat → Int32 → Int32 → Int32 → Int32 → Int32 → Int32 → Int32 → Int32 → XS → Prop) (th : Nat) (x1 : Int32) (x2 : Int32) (x3 : Int32) (x4 : Int32) (x5 : Int32) (x6 : Int32) (x7 : Int32) (x8 : Int32) (σ : XS) : Prop :=
  ∀ v3 : Int32, v3 = x8 + (1 : Int32) → K114 th x1 x2 x3 x4 x5 x6 x7 v3 σ
set_option maxHeartbeats 4000000 in
theorem BX0_pleaderWins_208 {l : Launch} {p : Program} {e : Env} {s : State} {m : MethodId} {args : Array Value} {below : List Frame} {meth : Method} {c : Code} {E : xx_E} {F : Nat → Int32 → Int32 → Int32 → XS → (Int32 → XS → Prop) → Prop} {Q : Int32 → XS → Prop} {K114 : Nat → Int32 → Int32 → Int32 → Int32 → Int32 → Int32 → Int32 → Int32 → XS → Prop} (d : Nat) (hF : ∀ (th : Nat) (x1 : Int32) (x2 : Int32) (x3 : Int32) (σ : XS) (Q : Int32 → XS → Prop), F th x1 x2 x3 σ Q → xx_Mi l yX0_pleaderWins (ws_ yX0_pleaderWins cX0_pleaderWins 10 (some .boolean)) ({ frames := (3 + 1 * d), cells := 0, slots := 0, locals := 40 * (3 + 1 * d) } : Room) E [xv E (some th), .int x1, .int x2, .int x3] σ Q 0 0) (cx : xx_X "StruckCounts" cX0_pleaderWins 10 (some .boolean) E p s m args meth c) (hK114 : ∀ (th : Nat) (x1 : Int32) (x2 : Int32) (x3 : Int32) (x4 : Int32) (x5 : Int32) (x6 : Int32) (x7 : Int32) (x8 : Int32) (σ : XS), K114 th x1 x2 x3 x4 x5 x6 x7 x8 σ → x_T p l e ({ frames := (3 + 1 * (d + 1)), cells := 0, slots := 0, locals := 40 * (3 + 1 * (d + 1)) } : Room) s m args below meth c E (va_Qi Q (fun σ' t => xW E σ' t) (xA E)) 0 0 10 114 0 0 σ [(0, xv E (some th)), (1, .int x1), (2, .int x2), (3, .int x3), (4, .int x4), (5, .int x5), (6, .int x6), (7, .int x7), (8, .int x8)] []) : ∀ (th : Nat) (x1 : Int32) (x2 : Int32) (x3 : Int32) (x4 : Int32) (x5 : Int32) (x6 : Int32) (x7 : Int32) (x8 : Int32) (σ : XS), wX0_pleaderWins_208 F Q K114 th x1 x2 x3 x4 x5 x6 x7 x8 σ → x_T p l e ({ frames := (3 + 1 * (d + 1)), cells := 0, slots := 0, locals := 40 * (3 + 1 * (d + 1)) } : Room) s m args below meth c E (va_Qi Q (fun σ' t => xW E σ' t) (xA E)) 0 0 10 208 0 0 σ [(0, xv E (some th)), (1, .int x1), (2, .int x2), (3, .int x3), (4, .int x4), (5, .int x5), (6, .int x6), (7, .int x7), (8, .int x8)] [] := by
  intro th x1 x2 x3 x4 x5 x6 x7 x8 σ hw H locs ls cells slots hR hS hl hcb hsb
  unfold wX0_pleaderWins_208 at hw
  obtain ⟨hx, hb, hml, hown, hts, hrt, hlk, hMK, hZ⟩ := id cx
  obtain ⟨v3, hv3⟩ : ∃ v : Int32, v = x8 + (1 : Int32) := ⟨_, rfl⟩
  have hw := hw v3 hv3
  refine lv_iinc (v := v3) (lv' := [(8, .int v3), (0, xv E (some th)), (1, .int x1), (2, .int x2), (3, .int x3), (4, .int x4), (5, .int x5), (6, .int x6), (7, .int x7)]) hx hb dX0_pleaderWins_208 hl (k := 8) rfl (by rw [hv3]; rfl) (by decide) rfl (fun ls hl => ?_)
  refine lv_goto (tgt := 114) hx hb dX0_pleaderWins_211 (by decide) ?_
  exact hK114 _ _ _ _ _ _ _ _ _ _ hw _ _ _ _ _ hR hS (lv_sub hl [1, 2, 3, 4, 5, 6, 7, 8, 0] rfl) hcb hsb
def wX0_pleaderWins_202 (F : Nat → Int32 → Int32 → Int32 → XS → (Int32 → XS → Prop) → Prop) (Q : Int32 → XS → Prop) (K114 : Nat → Int32 → Int32 → Int32 → Int32 → Int32 → Int32 → Int32 → Int32 → XS → Prop) (K149 : Nat → Int32 → Int32 → Int32 → Int32 → Int32 → Int32 → Int32 → Int32 → Int32 → XS → Prop) (th : Nat) (x1 : Int32) (x2 : Int32) (x3 : Int32) (x4 : Int32) (x5 : Int32) (x6 : Int32) (x7 : Int32) (x8 : Int32) (x9 : Int32) (σ : XS) : Prop :=
  ∀ v4 : Int32, v4 = x9 + (1 : Int32) → K149 th x1 x2 x3 x4 x5 x6 x7 x8 v4 σ
set_option maxHeartbeats 4000000 in
theorem BX0_pleaderWins_202 {l : Launch} {p : Program} {e : Env} {s : State} {m : MethodId} {args : Array Value} {below : List Frame} {meth : Method} {c : Code} {E : xx_E} {F : Nat → Int32 → Int32 → Int32 → XS → (Int32 → XS → Prop) → Prop} {Q : Int32 → XS → Prop} {K114 : Nat → Int32 → Int32 → Int32 → Int32 → Int32 → Int32 → Int32 → Int32 → XS → Prop} {K149 : Nat → Int32 → Int32 → Int32 → Int32 → Int32 → Int32 → Int32 → Int32 → Int32 → XS → Prop} (d : Nat) (hF : ∀ (th : Nat) (x1 : Int32) (x2 : Int32) (x3 : Int32) (σ : XS) (Q : Int32 → XS → Prop), F th x1 x2 x3 σ Q → xx_Mi l yX0_pleaderWins (ws_ yX0_pleaderWins cX0_pleaderWins 10 (some .boolean)) ({ frames := (3 + 1 * d), cells := 0, slots := 0, locals := 40 * (3 + 1 * d) } : Room) E [xv E (some th), .int x1, .int x2, .int x3] σ Q 0 0) (cx : xx_X "StruckCounts" cX0_pleaderWins 10 (some .boolean) E p s m args meth c) (hK114 : ∀ (th : Nat) (x1 : Int32) (x2 : Int32) (x3 : Int32) (x4 : Int32) (x5 : Int32) (x6 : Int32) (x7 : Int32) (x8 : Int32) (σ : XS), K114 th x1 x2 x3 x4 x5 x6 x7 x8 σ → x_T p l e ({ frames := (3 + 1 * (d + 1)), cells := 0, slots := 0, locals := 40 * (3 + 1 * (d + 1)) } : Room) s m args below meth c E (va_Qi Q (fun σ' t => xW E σ' t) (xA E)) 0 0 10 114 0 0 σ [(0, xv E (some th)), (1, .int x1), (2, .int x2), (3, .int x3), (4, .int x4), (5, .int x5), (6, .int x6), (7, .int x7), (8, .int x8)] []) (hK149 : ∀ (th : Nat) (x1 : Int32) (x2 : Int32) (x3 : Int32) (x4 : Int32) (x5 : Int32) (x6 : Int32) (x7 : Int32) (x8 : Int32) (x9 : Int32) (σ : XS), K149 th x1 x2 x3 x4 x5 x6 x7 x8 x9 σ → x_T p l e ({ frames := (3 + 1 * (d + 1)), cells := 0, slots := 0, locals := 40 * (3 + 1 * (d + 1)) } : Room) s m args below meth c E (va_Qi Q (fun σ' t => xW E σ' t) (xA E)) 0 0 10 149 0 0 σ [(0, xv E (some th)), (1, .int x1), (2, .int x2), (3, .int x3), (4, .int x4), (5, .int x5), (6, .int x6), (7, .int x7), (8, .int x8), (9, .int x9)] []) : ∀ (th : Nat) (x1 : Int32) (x2 : Int32) (x3 : Int32) (x4 : Int32) (x5 : Int32) (x6 : Int32) (x7 : Int32) (x8 : Int32) (x9 : Int32) (σ : XS), wX0_pleaderWins_202 F Q K114 K149 th x1 x2 x3 x4 x5 x6 x7 x8 x9 σ → x_T p l e ({ frames := (3 + 1 * (d + 1)), cells := 0, slots := 0, locals := 40 * (3 + 1 * (d + 1)) } : Room) s m args below meth c E (va_Qi Q (fun σ' t => xW E σ' t) (xA E)) 0 0 10 202 0 0 σ [(0, xv E (some th)), (1, .int x1), (2, .int x2), (3, .int x3), (4, .int x4), (5, .int x5), (6, .int x6), (7, .int x7), (8, .int x8), (9, .int x9)] [] := by
  intro th x1 x2 x3 x4 x5 x6 x7 x8 x9 σ hw H locs ls cells slots hR hS hl hcb hsb
  unfold wX0_pleaderWins_202 at hw
  obtain ⟨hx, hb, hml, hown, hts, hrt, hlk, hMK, hZ⟩ := id cx
  obtain ⟨v4, hv4⟩ : ∃ v : Int32, v = x9 + (1 : Int32) := ⟨_, rfl⟩
  have hw := hw v4 hv4
  refine lv_iinc (v := v4) (lv' := [(9, .int v4), (0, xv E (some th)), (1, .int x1), (2, .int x2), (3, .int x3), (4, .int x4), (5, .int x5), (6, .int x6), (7, .int x7), (8, .int x8)]) hx hb dX0_pleaderWins_202 hl (k := 9) rfl (by rw [hv4]; rfl) (by decide) rfl (fun ls hl => ?_)
  refine lv_goto (tgt := 149) hx hb dX0_pleaderWins_205 (by decide) ?_
  exact hK149 _ _ _ _ _ _ _ _ _ _ _ hw _ _ _ _ _ hR hS (lv_sub hl [1, 2, 3, 4, 5, 6, 7, 8, 9, 0] rfl) hcb hsb
def wX0_pleaderWins_149 (F : Nat → Int32 → Int32 → Int32 → XS → (Int32 → XS → Prop) → Prop) (Q : Int32 → XS → Prop) (K114 : Nat → Int32 → Int32 → Int32 → Int32 → Int32 → Int32 → Int32 → Int32 → XS → Prop) (K149 : Nat → Int32 → Int32 → Int32 → Int32 → Int32 → Int32 → Int32 → Int32 → Int32 → XS → Prop) (th : Nat) (x1 : Int32) (x2 : Int32) (x3 : Int32) (x4 : Int32) (x5 : Int32) (x6 : Int32) (x7 : Int32) (x8 : Int32) (x9 : Int32) (σ : XS) : Prop :=
  if (2 : Int32) ≤ x9 then (wX0_pleaderWins_208 F Q K114 th x1 x2 x3 x4 x5 x6 x7 x8 σ) else (if x7 = x6 then (wX0_pleaderWins_208 F Q K114 th x1 x2 x3 x4 x5 x6 x7 x8 σ) else (kd σ th = 1 ∧ (wX0_isLeft th (x1 ||| ((1 : Int32) <<< (x8 &&& 31))) (x2 ||| (x9 <<< (x8 &&& 31))) σ (fun r5 s5 => if r5 = 0 then (wX0_pleaderWins_202 F Q K114 K149 th x1 x2 x3 x4 x5 x6 x7 x8 x9 s5) else (kd s5 th = 1 ∧ (F th (x1 ||| ((1 : Int32) <<< (x8 &&& 31))) (x2 ||| (x9 <<< (x8 &&& 31))) x3 s5 (fun r7 s7 => wX0_pleaderWins_202 F Q K114 K149 th x1 x2 x3 x4 x5 x6 r7 x8 x9 s7)))))))
set_option maxHeartbeats 4000000 in
theorem BX0_pleaderWins_149 {l : Launch} {p : Program} {e : Env} {s : State} {m : MethodId} {args : Array Value} {below : List Frame} {meth : Method} {c : Code} {E : xx_E} {F : Nat → Int32 → Int32 → Int32 → XS → (Int32 → XS → Prop) → Prop} {Q : Int32 → XS → Prop} {K114 : Nat → Int32 → Int32 → Int32 → Int32 → Int32 → Int32 → Int32 → Int32 → XS → Prop} {K149 : Nat → Int32 → Int32 → Int32 → Int32 → Int32 → Int32 → Int32 → Int32 → Int32 → XS → Prop} (d : Nat) (hF : ∀ (th : Nat) (x1 : Int32) (x2 : Int32) (x3 : Int32) (σ : XS) (Q : Int32 → XS → Prop), F th x1 x2 x3 σ Q → xx_Mi l yX0_pleaderWins (ws_ yX0_pleaderWins cX0_pleaderWins 10 (some .boolean)) ({ frames := (3 + 1 * d), cells := 0, slots := 0, locals := 40 * (3 + 1 * d) } : Room) E [xv E (some th), .int x1, .int x2, .int x3] σ Q 0 0) (cx : xx_X "StruckCounts" cX0_pleaderWins 10 (some .boolean) E p s m args meth c) (hK114 : ∀ (th : Nat) (x1 : Int32) (x2 : Int32) (x3 : Int32) (x4 : Int32) (x5 : Int32) (x6 : Int32) (x7 : Int32) (x8 : Int32) (σ : XS), K114 th x1 x2 x3 x4 x5 x6 x7 x8 σ → x_T p l e ({ frames := (3 + 1 * (d + 1)), cells := 0, slots := 0, locals := 40 * (3 + 1 * (d + 1)) } : Room) s m args below meth c E (va_Qi Q (fun σ' t => xW E σ' t) (xA E)) 0 0 10 114 0 0 σ [(0, xv E (some th)), (1, .int x1), (2, .int x2), (3, .int x3), (4, .int x4), (5, .int x5), (6, .int x6), (7, .int x7), (8, .int x8)] []) (hK149 : ∀ (th : Nat) (x1 : Int32) (x2 : Int32) (x3 : Int32) (x4 : Int32) (x5 : Int32) (x6 : Int32) (x7 : Int32) (x8 : Int32) (x9 : Int32) (σ : XS), K149 th x1 x2 x3 x4 x5 x6 x7 x8 x9 σ → x_T p l e ({ frames := (3 + 1 * (d + 1)), cells := 0, slots := 0, locals := 40 * (3 + 1 * (d + 1)) } : Room) s m args below meth c E (va_Qi Q (fun σ' t => xW E σ' t) (xA E)) 0 0 10 149 0 0 σ [(0, xv E (some th)), (1, .int x1), (2, .int x2), (3, .int x3), (4, .int x4), (5, .int x5), (6, .int x6), (7, .int x7), (8, .int x8), (9, .int x9)] []) : ∀ (th : Nat) (x1 : Int32) (x2 : Int32) (x3 : Int32) (x4 : Int32) (x5 : Int32) (x6 : Int32) (x7 : Int32) (x8 : Int32) (x9 : Int32) (σ : XS), wX0_pleaderWins_149 F Q K114 K149 th x1 x2 x3 x4 x5 x6 x7 x8 x9 σ → x_T p l e ({ frames := (3 + 1 * (d + 1)), cells := 0, slots := 0, locals := 40 * (3 + 1 * (d + 1)) } : Room) s m args below meth c E (va_Qi Q (fun σ' t => xW E σ' t) (xA E)) 0 0 10 149 0 0 σ [(0, xv E (some th)), (1, .int x1), (2, .int x2), (3, .int x3), (4, .int x4), (5, .int x5), (6, .int x6), (7, .int x7), (8, .int x8), (9, .int x9)] [] := by
  intro th x1 x2 x3 x4 x5 x6 x7 x8 x9 σ hw H locs ls cells slots hR hS hl hcb hsb
  unfold wX0_pleaderWins_149 at hw
  obtain ⟨hx, hb, hml, hown, hts, hrt, hlk, hMK, hZ⟩ := id cx
  refine lv_iload hx hb dX0_pleaderWins_149 (lv_at hl 9 rfl) ?_
  refine lv_iconst (v := (2 : Int32)) hx hb dX0_pleaderWins_151 (by decide) ?_
  refine lv_icmp_ge (tgt := 208) hx hb dX0_pleaderWins_152 (by decide) (fun hc => ?_) (fun hc => ?_)
  · have hw := mm_ip hc hw
    exact BX0_pleaderWins_208 d hF cx hK114 _ _ _ _ _ _ _ _ _ _ hw _ _ _ _ _ hR hS (lv_sub hl [0, 1, 2, 3, 4, 5, 6, 7, 8] rfl) hcb hsb
  · have hw := mm_in hc hw
    refine lv_iload hx hb dX0_pleaderWins_155 (lv_at hl 7 rfl) ?_
    refine lv_iload hx hb dX0_pleaderWins_157 (lv_at hl 6 rfl) ?_
    refine lv_icmp_eq (tgt := 208) hx hb dX0_pleaderWins_159 (by decide) (fun hc => ?_) (fun hc => ?_)
    · have hw := mm_ip hc hw
      exact BX0_pleaderWins_208 d hF cx hK114 _ _ _ _ _ _ _ _ _ _ hw _ _ _ _ _ hR hS (lv_sub hl [0, 1, 2, 3, 4, 5, 6, 7, 8] rfl) hcb hsb
    · have hw := mm_in hc hw
      refine x_aload_n cx dX0_pleaderWins_162 rfl (lv_at hl 0 rfl) ?_
      refine lv_iload_n hx hb dX0_pleaderWins_163 rfl (lv_at hl 1 rfl) ?_
      refine lv_iconst (v := (1 : Int32)) hx hb dX0_pleaderWins_164 (by decide) ?_
      refine lv_iload hx hb dX0_pleaderWins_165 (lv_at hl 8 rfl) ?_
      refine lv_ishl hx hb dX0_pleaderWins_167 ?_
      refine lv_ior hx hb dX0_pleaderWins_168 ?_
      refine lv_iload_n hx hb dX0_pleaderWins_169 rfl (lv_at hl 2 rfl) ?_
      refine lv_iload hx hb dX0_pleaderWins_170 (lv_at hl 9 rfl) ?_
      refine lv_iload hx hb dX0_pleaderWins_172 (lv_at hl 8 rfl) ?_
      refine lv_ishl hx hb dX0_pleaderWins_174 ?_
      refine lv_ior hx hb dX0_pleaderWins_175 ?_
      obtain ⟨hk6, hw⟩ := hw
      refine CX0_isLeft_X0_227 cx hR hS rfl hk6 hw (by constructor <;> dsimp only <;> omega) (Nat.le_of_ble_eq_true rfl) hl.1 ⟨by dsimp only; omega, by dsimp only; omega⟩ dX0_pleaderWins_176 (fun r5 s5 H locs hw hR hS => ?_)
      refine lv_if_eq (tgt := 202) hx hb dX0_pleaderWins_179 (by decide) (fun hc => ?_) (fun hc => ?_)
      · have hw := mm_ip hc hw
        exact BX0_pleaderWins_202 d hF cx hK114 hK149 _ _ _ _ _ _ _ _ _ _ _ hw _ _ _ _ _ hR hS (lv_sub hl [0, 1, 2, 3, 4, 5, 6, 7, 8, 9] rfl) hcb hsb
      · have hw := mm_in hc hw
        refine x_aload_n cx dX0_pleaderWins_182 rfl (lv_at hl 0 rfl) ?_
        refine lv_iload_n hx hb dX0_pleaderWins_183 rfl (lv_at hl 1 rfl) ?_
        refine lv_iconst (v := (1 : Int32)) hx hb dX0_pleaderWins_184 (by decide) ?_
        refine lv_iload hx hb dX0_pleaderWins_185 (lv_at hl 8 rfl) ?_
        refine lv_ishl hx hb dX0_pleaderWins_187 ?_
        refine lv_ior hx hb dX0_pleaderWins_188 ?_
        refine lv_iload_n hx hb dX0_pleaderWins_189 rfl (lv_at hl 2 rfl) ?_
        refine lv_iload hx hb dX0_pleaderWins_190 (lv_at hl 9 rfl) ?_
        refine lv_iload hx hb dX0_pleaderWins_192 (lv_at hl 8 rfl) ?_
        refine lv_ishl hx hb dX0_pleaderWins_194 ?_
        refine lv_ior hx hb dX0_pleaderWins_195 ?_
        refine lv_iload_n hx hb dX0_pleaderWins_196 rfl (lv_at hl 3 rfl) ?_
        obtain ⟨hk8, hw⟩ := hw
        refine CX0_pleaderWins_X0_451F d hF cx hR hS rfl hk8 hw (by constructor <;> dsimp only <;> omega) (Nat.le_of_ble_eq_true rfl) hl.1 ⟨by dsimp only; omega, by dsimp only; omega⟩ dX0_pleaderWins_197 (fun r7 s7 H locs hw hR hS => ?_)
        refine lv_istore (i := 7) (lv' := [(7, .int r7), (0, xv E (some th)), (1, .int x1), (2, .int x2), (3, .int x3), (4, .int x4), (5, .int x5), (6, .int x6), (8, .int x8), (9, .int x9)]) hx hb dX0_pleaderWins_200 hl (by decide) rfl (fun ls hl => ?_)
        exact BX0_pleaderWins_202 d hF cx hK114 hK149 _ _ _ _ _ _ _ _ _ _ _ hw _ _ _ _ _ hR hS (lv_sub hl [1, 2, 3, 4, 5, 6, 7, 0, 8, 9] rfl) hcb hsb
theorem LX0_pleaderWins_149 {l : Launch} {p : Program} {e : Env} {s : State} {m : MethodId} {args : Array Value} {below : List Frame} {meth : Method} {c : Code} {E : xx_E} {F : Nat → Int32 → Int32 → Int32 → XS → (Int32 → XS → Prop) → Prop} {Q : Int32 → XS → Prop} {K114 : Nat → Int32 → Int32 → Int32 → Int32 → Int32 → Int32 → Int32 → Int32 → XS → Prop} (d : Nat) (hF : ∀ (th : Nat) (x1 : Int32) (x2 : Int32) (x3 : Int32) (σ : XS) (Q : Int32 → XS → Prop), F th x1 x2 x3 σ Q → xx_Mi l yX0_pleaderWins (ws_ yX0_pleaderWins cX0_pleaderWins 10 (some .boolean)) ({ frames := (3 + 1 * d), cells := 0, slots := 0, locals := 40 * (3 + 1 * d) } : Room) E [xv E (some th), .int x1, .int x2, .int x3] σ Q 0 0) (cx : xx_X "StruckCounts" cX0_pleaderWins 10 (some .boolean) E p s m args meth c) (hK114 : ∀ (th : Nat) (x1 : Int32) (x2 : Int32) (x3 : Int32) (x4 : Int32) (x5 : Int32) (x6 : Int32) (x7 : Int32) (x8 : Int32) (σ : XS), K114 th x1 x2 x3 x4 x5 x6 x7 x8 σ → x_T p l e ({ frames := (3 + 1 * (d + 1)), cells := 0, slots := 0, locals := 40 * (3 + 1 * (d + 1)) } : Room) s m args below meth c E (va_Qi Q (fun σ' t => xW E σ' t) (xA E)) 0 0 10 114 0 0 σ [(0, xv E (some th)), (1, .int x1), (2, .int x2), (3, .int x3), (4, .int x4), (5, .int x5), (6, .int x6), (7, .int x7), (8, .int x8)] []) : ∀ (th : Nat) (x1 : Int32) (x2 : Int32) (x3 : Int32) (x4 : Int32) (x5 : Int32) (x6 : Int32) (x7 : Int32) (x8 : Int32) (x9 : Int32) (σ : XS), lp11F (wX0_pleaderWins_149 F Q K114) th x1 x2 x3 x4 x5 x6 x7 x8 x9 σ → x_T p l e ({ frames := (3 + 1 * (d + 1)), cells := 0, slots := 0, locals := 40 * (3 + 1 * (d + 1)) } : Room) s m args below meth c E (va_Qi Q (fun σ' t => xW E σ' t) (xA E)) 0 0 10 149 0 0 σ [(0, xv E (some th)), (1, .int x1), (2, .int x2), (3, .int x3), (4, .int x4), (5, .int x5), (6, .int x6), (7, .int x7), (8, .int x8), (9, .int x9)] [] :=
  lp11F_of (fun K hK => BX0_pleaderWins_149 d hF cx hK114 hK)
def wX0_pleaderWins_114 (F : Nat → Int32 → Int32 → Int32 → XS → (Int32 → XS → Prop) → Prop) (Q : Int32 → XS → Prop) (K114 : Nat → Int32 → Int32 → Int32 → Int32 → Int32 → Int32 → Int32 → Int32 → XS → Prop) (th : Nat) (x1 : Int32) (x2 : Int32) (x3 : Int32) (x4 : Int32) (x5 : Int32) (x6 : Int32) (x7 : Int32) (x8 : Int32) (σ : XS) : Prop :=
  kd σ th = 1 ∧ (oc σ (fr σ th 5) 2 (fun a10 => if (fi σ a10 5) ≤ x8 then (wX0_pleaderWins_214 F Q th x5 x7 σ) else (if x7 = x6 then (wX0_pleaderWins_214 F Q th x5 x7 σ) else (wX0_has x4 x8 σ (fun r11 s11 => if r11 = 0 then (wX0_pleaderWins_208 F Q K114 th x1 x2 x3 x4 x5 x6 x7 x8 s11) else (lp11F (wX0_pleaderWins_149 F Q K114) th x1 x2 x3 x4 x5 x6 x7 x8 (0 : Int32) s11))))))
set_option maxHeartbeats 4000000 in
theorem BX0_pleaderWins_114 {l : Launch} {p : Program} {e : Env} {s : State} {m : MethodId} {args : Array Value} {below : List Frame} {meth : Method} {c : Code} {E : xx_E} {F : Nat → Int32 → Int32 → Int32 → XS → (Int32 → XS → Prop) → Prop} {Q : Int32 → XS → Prop} {K114 : Nat → Int32 → Int32 → Int32 → Int32 → Int32 → Int32 → Int32 → Int32 → XS → Prop} (d : Nat) (hF : ∀ (th : Nat) (x1 : Int32) (x2 : Int32) (x3 : Int32) (σ : XS) (Q : Int32 → XS → Prop), F th x1 x2 x3 σ Q → xx_Mi l yX0_pleaderWins (ws_ yX0_pleaderWins cX0_pleaderWins 10 (some .boolean)) ({ frames := (3 + 1 * d), cells := 0, slots := 0, locals := 40 * (3 + 1 * d) } : Room) E [xv E (some th), .int x1, .int x2, .int x3] σ Q 0 0) (cx : xx_X "StruckCounts" cX0_pleaderWins 10 (some .boolean) E p s m args meth c) (hK114 : ∀ (th : Nat) (x1 : Int32) (x2 : Int32) (x3 : Int32) (x4 : Int32) (x5 : Int32) (x6 : Int32) (x7 : Int32) (x8 : Int32) (σ : XS), K114 th x1 x2 x3 x4 x5 x6 x7 x8 σ → x_T p l e ({ frames := (3 + 1 * (d + 1)), cells := 0, slots := 0, locals := 40 * (3 + 1 * (d + 1)) } : Room) s m args below meth c E (va_Qi Q (fun σ' t => xW E σ' t) (xA E)) 0 0 10 114 0 0 σ [(0, xv E (some th)), (1, .int x1), (2, .int x2), (3, .int x3), (4, .int x4), (5, .int x5), (6, .int x6), (7, .int x7), (8, .int x8)] []) : ∀ (th : Nat) (x1 : Int32) (x2 : Int32) (x3 : Int32) (x4 : Int32) (x5 : Int32) (x6 : Int32) (x7 : Int32) (x8 : Int32) (σ : XS), wX0_pleaderWins_114 F Q K114 th x1 x2 x3 x4 x5 x6 x7 x8 σ → x_T p l e ({ frames := (3 + 1 * (d + 1)), cells := 0, slots := 0, locals := 40 * (3 + 1 * (d + 1)) } : Room) s m args below meth c E (va_Qi Q (fun σ' t => xW E σ' t) (xA E)) 0 0 10 114 0 0 σ [(0, xv E (some th)), (1, .int x1), (2, .int x2), (3, .int x3), (4, .int x4), (5, .int x5), (6, .int x6), (7, .int x7), (8, .int x8)] [] := by
  intro th x1 x2 x3 x4 x5 x6 x7 x8 σ hw H locs ls cells slots hR hS hl hcb hsb
  unfold wX0_pleaderWins_114 at hw
  obtain ⟨hx, hb, hml, hown, hts, hrt, hlk, hMK, hZ⟩ := id cx
  refine lv_iload hx hb dX0_pleaderWins_114 (lv_at hl 8 rfl) ?_
  refine x_aload_n cx dX0_pleaderWins_116 rfl (lv_at hl 0 rfl) ?_
  obtain ⟨hk9, hw⟩ := hw
  refine xg_X0_24_1 cx hR rfl hk9 dX0_pleaderWins_117 ?_
  obtain ⟨a10, hr10, hk10, hw⟩ := hw
  refine xg_X0_133_2 cx hR hr10 hk10 dX0_pleaderWins_120 ?_
  refine lv_icmp_ge (tgt := 214) hx hb dX0_pleaderWins_123 (by decide) (fun hc => ?_) (fun hc => ?_)
  · have hw := mm_ip hc hw
    exact BX0_pleaderWins_214 d hF cx _ _ _ _ hw _ _ _ _ _ hR hS (lv_sub hl [0, 5, 7] rfl) hcb hsb
  · have hw := mm_in hc hw
    refine lv_iload hx hb dX0_pleaderWins_126 (lv_at hl 7 rfl) ?_
    refine lv_iload hx hb dX0_pleaderWins_128 (lv_at hl 6 rfl) ?_
    refine lv_icmp_eq (tgt := 214) hx hb dX0_pleaderWins_130 (by decide) (fun hc => ?_) (fun hc => ?_)
    · have hw := mm_ip hc hw
      exact BX0_pleaderWins_214 d hF cx _ _ _ _ hw _ _ _ _ _ hR hS (lv_sub hl [0, 5, 7] rfl) hcb hsb
    · have hw := mm_in hc hw
      refine lv_iload hx hb dX0_pleaderWins_133 (lv_at hl 4 rfl) ?_
      refine lv_iload hx hb dX0_pleaderWins_135 (lv_at hl 8 rfl) ?_
      refine CX0_has_X0_223 cx hR hS  hw (by constructor <;> dsimp only <;> omega) (Nat.le_of_ble_eq_true rfl) hl.1 ⟨by dsimp only; omega, by dsimp only; omega⟩ dX0_pleaderWins_137 (fun r11 s11 H locs hw hR hS => ?_)
      refine lv_if_ne (tgt := 146) hx hb dX0_pleaderWins_140 (by decide) (fun hc => ?_) (fun hc => ?_)
      · have hw := mm_in hc hw
        refine lv_iconst (v := (0 : Int32)) hx hb dX0_pleaderWins_146 (by decide) ?_
        refine lv_istore (i := 9) (lv' := [(9, .int (0 : Int32)), (0, xv E (some th)), (1, .int x1), (2, .int x2), (3, .int x3), (4, .int x4), (5, .int x5), (6, .int x6), (7, .int x7), (8, .int x8)]) hx hb dX0_pleaderWins_147 hl (by decide) rfl (fun ls hl => ?_)
        exact LX0_pleaderWins_149 d hF cx hK114 _ _ _ _ _ _ _ _ _ _ _ hw _ _ _ _ _ hR hS (lv_sub hl [1, 2, 3, 4, 5, 6, 7, 8, 9, 0] rfl) hcb hsb
      · have hw := mm_ip hc hw
        refine lv_goto (tgt := 208) hx hb dX0_pleaderWins_143 (by decide) ?_
        exact BX0_pleaderWins_208 d hF cx hK114 _ _ _ _ _ _ _ _ _ _ hw _ _ _ _ _ hR hS (lv_sub hl [0, 1, 2, 3, 4, 5, 6, 7, 8] rfl) hcb hsb
theorem LX0_pleaderWins_114 {l : Launch} {p : Program} {e : Env} {s : State} {m : MethodId} {args : Array Value} {below : List Frame} {meth : Method} {c : Code} {E : xx_E} {F : Nat → Int32 → Int32 → Int32 → XS → (Int32 → XS → Prop) → Prop} {Q : Int32 → XS → Prop} (d : Nat) (hF : ∀ (th : Nat) (x1 : Int32) (x2 : Int32) (x3 : Int32) (σ : XS) (Q : Int32 → XS → Prop), F th x1 x2 x3 σ Q → xx_Mi l yX0_pleaderWins (ws_ yX0_pleaderWins cX0_pleaderWins 10 (some .boolean)) ({ frames := (3 + 1 * d), cells := 0, slots := 0, locals := 40 * (3 + 1 * d) } : Room) E [xv E (some th), .int x1, .int x2, .int x3] σ Q 0 0) (cx : xx_X "StruckCounts" cX0_pleaderWins 10 (some .boolean) E p s m args meth c) : ∀ (th : Nat) (x1 : Int32) (x2 : Int32) (x3 : Int32) (x4 : Int32) (x5 : Int32) (x6 : Int32) (x7 : Int32) (x8 : Int32) (σ : XS), lp10F (wX0_pleaderWins_114 F Q) th x1 x2 x3 x4 x5 x6 x7 x8 σ → x_T p l e ({ frames := (3 + 1 * (d + 1)), cells := 0, slots := 0, locals := 40 * (3 + 1 * (d + 1)) } : Room) s m args below meth c E (va_Qi Q (fun σ' t => xW E σ' t) (xA E)) 0 0 10 114 0 0 σ [(0, xv E (some th)), (1, .int x1), (2, .int x2), (3, .int x3), (4, .int x4), (5, .int x5), (6, .int x6), (7, .int x7), (8, .int x8)] [] :=
  lp10F_of (fun K hK => BX0_pleaderWins_114 d hF cx hK)
def wX0_pleaderWins_109 (F : Nat → Int32 → Int32 → Int32 → XS → (Int32 → XS → Prop) → Prop) (Q : Int32 → XS → Prop) (th : Nat) (x1 : Int32) (x2 : Int32) (x3 : Int32) (x4 : Int32) (x5 : Int32) (x6 : Int32) (t0 : Int32) (σ : XS) : Prop :=
  lp10F (wX0_pleaderWins_114 F Q) th x1 x2 x3 x4 x5 x6 t0 (0 : Int32) σ
set_option maxHeartbeats 4000000 in
theorem BX0_pleaderWins_109 {l : Launch} {p : Program} {e : Env} {s : State} {m : MethodId} {args : Array Value} {below : List Frame} {meth : Method} {c : Code} {E : xx_E} {F : Nat → Int32 → Int32 → Int32 → XS → (Int32 → XS → Prop) → Prop} {Q : Int32 → XS → Prop} (d : Nat) (hF : ∀ (th : Nat) (x1 : Int32) (x2 : Int32) (x3 : Int32) (σ : XS) (Q : Int32 → XS → Prop), F th x1 x2 x3 σ Q → xx_Mi l yX0_pleaderWins (ws_ yX0_pleaderWins cX0_pleaderWins 10 (some .boolean)) ({ frames := (3 + 1 * d), cells := 0, slots := 0, locals := 40 * (3 + 1 * d) } : Room) E [xv E (some th), .int x1, .int x2, .int x3] σ Q 0 0) (cx : xx_X "StruckCounts" cX0_pleaderWins 10 (some .boolean) E p s m args meth c) : ∀ (th : Nat) (x1 : Int32) (x2 : Int32) (x3 : Int32) (x4 : Int32) (x5 : Int32) (x6 : Int32) (t0 : Int32) (σ : XS), wX0_pleaderWins_109 F Q th x1 x2 x3 x4 x5 x6 t0 σ → x_T p l e ({ frames := (3 + 1 * (d + 1)), cells := 0, slots := 0, locals := 40 * (3 + 1 * (d + 1)) } : Room) s m args below meth c E (va_Qi Q (fun σ' t => xW E σ' t) (xA E)) 0 0 10 109 0 0 σ [(0, xv E (some th)), (1, .int x1), (2, .int x2), (3, .int x3), (4, .int x4), (5, .int x5), (6, .int x6)] [.int t0] := by
  intro th x1 x2 x3 x4 x5 x6 t0 σ hw H locs ls cells slots hR hS hl hcb hsb
  unfold wX0_pleaderWins_109 at hw
  obtain ⟨hx, hb, hml, hown, hts, hrt, hlk, hMK, hZ⟩ := id cx
  refine lv_istore (i := 7) (lv' := [(7, .int t0), (0, xv E (some th)), (1, .int x1), (2, .int x2), (3, .int x3), (4, .int x4), (5, .int x5), (6, .int x6)]) hx hb dX0_pleaderWins_109 hl (by decide) rfl (fun ls hl => ?_)
  refine lv_iconst (v := (0 : Int32)) hx hb dX0_pleaderWins_111 (by decide) ?_
  refine lv_istore (i := 8) (lv' := [(8, .int (0 : Int32)), (7, .int t0), (0, xv E (some th)), (1, .int x1), (2, .int x2), (3, .int x3), (4, .int x4), (5, .int x5), (6, .int x6)]) hx hb dX0_pleaderWins_112 hl (by decide) rfl (fun ls hl => ?_)
  exact LX0_pleaderWins_114 d hF cx _ _ _ _ _ _ _ _ _ _ hw _ _ _ _ _ hR hS (lv_sub hl [2, 3, 4, 5, 6, 7, 8, 1, 0] rfl) hcb hsb
def wX0_pleaderWins_97 (F : Nat → Int32 → Int32 → Int32 → XS → (Int32 → XS → Prop) → Prop) (Q : Int32 → XS → Prop) (th : Nat) (x1 : Int32) (x2 : Int32) (x3 : Int32) (x4 : Int32) (x5 : Int32) (t0 : Int32) (σ : XS) : Prop :=
  if t0 = 0 then (wX0_pleaderWins_109 F Q th x1 x2 x3 x4 x5 t0 (1 : Int32) σ) else (wX0_pleaderWins_109 F Q th x1 x2 x3 x4 x5 t0 (0 : Int32) σ)
set_option maxHeartbeats 4000000 in
theorem BX0_pleaderWins_97 {l : Launch} {p : Program} {e : Env} {s : State} {m : MethodId} {args : Array Value} {below : List Frame} {meth : Method} {c : Code} {E : xx_E} {F : Nat → Int32 → Int32 → Int32 → XS → (Int32 → XS → Prop) → Prop} {Q : Int32 → XS → Prop} (d : Nat) (hF : ∀ (th : Nat) (x1 : Int32) (x2 : Int32) (x3 : Int32) (σ : XS) (Q : Int32 → XS → Prop), F th x1 x2 x3 σ Q → xx_Mi l yX0_pleaderWins (ws_ yX0_pleaderWins cX0_pleaderWins 10 (some .boolean)) ({ frames := (3 + 1 * d), cells := 0, slots := 0, locals := 40 * (3 + 1 * d) } : Room) E [xv E (some th), .int x1, .int x2, .int x3] σ Q 0 0) (cx : xx_X "StruckCounts" cX0_pleaderWins 10 (some .boolean) E p s m args meth c) : ∀ (th : Nat) (x1 : Int32) (x2 : Int32) (x3 : Int32) (x4 : Int32) (x5 : Int32) (t0 : Int32) (σ : XS), wX0_pleaderWins_97 F Q th x1 x2 x3 x4 x5 t0 σ → x_T p l e ({ frames := (3 + 1 * (d + 1)), cells := 0, slots := 0, locals := 40 * (3 + 1 * (d + 1)) } : Room) s m args below meth c E (va_Qi Q (fun σ' t => xW E σ' t) (xA E)) 0 0 10 97 0 0 σ [(0, xv E (some th)), (1, .int x1), (2, .int x2), (3, .int x3), (4, .int x4), (5, .int x5)] [.int t0] := by
  intro th x1 x2 x3 x4 x5 t0 σ hw H locs ls cells slots hR hS hl hcb hsb
  unfold wX0_pleaderWins_97 at hw
  obtain ⟨hx, hb, hml, hown, hts, hrt, hlk, hMK, hZ⟩ := id cx
  refine lv_istore (i := 6) (lv' := [(6, .int t0), (0, xv E (some th)), (1, .int x1), (2, .int x2), (3, .int x3), (4, .int x4), (5, .int x5)]) hx hb dX0_pleaderWins_97 hl (by decide) rfl (fun ls hl => ?_)
  refine lv_iload hx hb dX0_pleaderWins_99 (lv_at hl 0 rfl) ?_
  refine lv_if_ne (tgt := 108) hx hb dX0_pleaderWins_101 (by decide) (fun hc => ?_) (fun hc => ?_)
  · have hw := mm_in hc hw
    refine lv_iconst (v := (0 : Int32)) hx hb dX0_pleaderWins_108 (by decide) ?_
    exact BX0_pleaderWins_109 d hF cx _ _ _ _ _ _ _ _ _ hw _ _ _ _ _ hR hS (lv_sub hl [1, 2, 3, 4, 5, 6, 0] rfl) hcb hsb
  · have hw := mm_ip hc hw
    refine lv_iconst (v := (1 : Int32)) hx hb dX0_pleaderWins_104 (by decide) ?_
    refine lv_goto (tgt := 109) hx hb dX0_pleaderWins_105 (by decide) ?_
    exact BX0_pleaderWins_109 d hF cx _ _ _ _ _ _ _ _ _ hw _ _ _ _ _ hR hS (lv_sub hl [1, 2, 3, 4, 5, 6, 0] rfl) hcb hsb
def wX0_pleaderWins_body (F : Nat → Int32 → Int32 → Int32 → XS → (Int32 → XS → Prop) → Prop) (th : Nat) (x1 : Int32) (x2 : Int32) (x3 : Int32) (σ : XS) (Q : Int32 → XS → Prop) : Prop :=
  kd σ th = 1 ∧ (oc σ (fr σ th 5) 2 (fun a14 => wX1_sets a14 σ (fun r13 s13 => ∀ v15 : Int32, v15 = ((r13 - (1 : Int32)) &&& (x1 ^^^ (-1 : Int32))) → if v15 = 0 then (kd s13 th = 1 ∧ (wX0_judgedBy th x1 x2 s13 (fun r21 s21 => if r21 = (1 : Int32) then (Q (1 : Int32) s21) else (Q (0 : Int32) s21)))) else (wX0_code x1 x2 s13 (fun r16 s16 => kd s16 th = 1 ∧ (oc s16 (fr s16 th 16) 100 (fun a18 => vp_in r16 (ln s16 a18) ∧ (if (ai s16 a18 r16.toNatClampNeg) = (-1 : Int32) then (oc s16 (fr s16 th 6) 3 (fun a19 => wJ11_bitCount (x1 &&& ((fi s16 a19 7) ^^^ (-1 : Int32))) s16 (fun r20 s20 => if ((r20 + x3) - (r20 + x3) / (2 : Int32) * (2 : Int32)) = 0 then (wX0_pleaderWins_97 F Q th x1 x2 x3 v15 r16 (1 : Int32) s20) else (wX0_pleaderWins_97 F Q th x1 x2 x3 v15 r16 (0 : Int32) s20)))) else (vp_in r16 (ln s16 a18) ∧ (if (ai s16 a18 r16.toNatClampNeg) = (1 : Int32) then (Q (1 : Int32) s16) else (Q (0 : Int32) s16)))))))))))
set_option maxHeartbeats 4000000 in
theorem MX0_pleaderWins_body (l : Launch) (E : xx_E) {F : Nat → Int32 → Int32 → Int32 → XS → (Int32 → XS → Prop) → Prop} (d : Nat) (hF : ∀ (th : Nat) (x1 : Int32) (x2 : Int32) (x3 : Int32) (σ : XS) (Q : Int32 → XS → Prop), F th x1 x2 x3 σ Q → xx_Mi l yX0_pleaderWins (ws_ yX0_pleaderWins cX0_pleaderWins 10 (some .boolean)) ({ frames := (3 + 1 * d), cells := 0, slots := 0, locals := 40 * (3 + 1 * d) } : Room) E [xv E (some th), .int x1, .int x2, .int x3] σ Q 0 0) (th : Nat) (x1 : Int32) (x2 : Int32) (x3 : Int32) (σ : XS) (Q : Int32 → XS → Prop) (hw : wX0_pleaderWins_body F th x1 x2 x3 σ Q) : xx_Mi l yX0_pleaderWins (ws_ yX0_pleaderWins cX0_pleaderWins 10 (some .boolean)) ({ frames := (3 + 1 * (d + 1)), cells := 0, slots := 0, locals := 40 * (3 + 1 * (d + 1)) } : Room) E [xv E (some th), .int x1, .int x2, .int x3] σ Q 0 0 := by
  refine x_of (own := "StruckCounts") (by decide +kernel) rfl ?_
  intro p e s m args below meth c cx hR ha hnm
  refine x_entry [xv E (some th), .int x1, .int x2, .int x3] 10 [(0, xv E (some th)), (1, .int x1), (2, .int x2), (3, .int x3)] ha (by simp [lg_sl, xv_cat, vc_i, vc_j, vc_f]) (by simp [lv_args, xv_cat, vc_i, vc_j, vc_f]) (fun ls hl => ?_)
  have hS : va_S (xA E) s.heap s.heap [] := va_S.rf
  have hcb : 0 + 0 ≤ 0 := Nat.le_of_eq (Nat.zero_add _)
  have hsb : 0 + 0 ≤ 0 := Nat.le_of_eq (Nat.zero_add _)
  unfold wX0_pleaderWins_body at hw
  obtain ⟨hx, hb, hml, hown, hts, hrt, hlk, hMK, hZ⟩ := id cx
  refine x_aload_n cx dX0_pleaderWins_0 rfl (lv_at hl 0 rfl) ?_
  obtain ⟨hk12, hw⟩ := hw
  refine xg_X0_24_1 cx hR rfl hk12 dX0_pleaderWins_1 ?_
  obtain ⟨a14, hr14, hk14, hw⟩ := hw
  refine CX1_sets_X0_142 cx hR hS hr14 hk14 hw (by constructor <;> dsimp only <;> omega) (Nat.le_of_ble_eq_true rfl) hl.1 ⟨by dsimp only; omega, by dsimp only; omega⟩ dX0_pleaderWins_4 (fun r13 s13 H locs hw hR hS => ?_)
  refine lv_iconst (v := (1 : Int32)) hx hb dX0_pleaderWins_7 (by decide) ?_
  refine lv_isub hx hb dX0_pleaderWins_8 ?_
  refine lv_iload_n hx hb dX0_pleaderWins_9 rfl (lv_at hl 1 rfl) ?_
  refine lv_iconst (v := (-1 : Int32)) hx hb dX0_pleaderWins_10 (by decide) ?_
  refine lv_ixor hx hb dX0_pleaderWins_11 ?_
  refine lv_iand hx hb dX0_pleaderWins_12 ?_
  refine lv_topi (fun v15 hv15 => ?_)
  have hw := hw v15 hv15
  refine lv_istore (i := 4) (lv' := [(4, .int v15), (0, xv E (some th)), (1, .int x1), (2, .int x2), (3, .int x3)]) hx hb dX0_pleaderWins_13 hl (by decide) rfl (fun ls hl => ?_)
  refine lv_iload hx hb dX0_pleaderWins_15 (lv_at hl 0 rfl) ?_
  refine lv_if_ne (tgt := 36) hx hb dX0_pleaderWins_17 (by decide) (fun hc => ?_) (fun hc => ?_)
  · have hw := mm_in hc hw
    refine lv_iload_n hx hb dX0_pleaderWins_36 rfl (lv_at hl 2 rfl) ?_
    refine lv_iload_n hx hb dX0_pleaderWins_37 rfl (lv_at hl 3 rfl) ?_
    refine CX0_code_X0_370 cx hR hS  hw (by constructor <;> dsimp only <;> omega) (Nat.le_of_ble_eq_true rfl) hl.1 ⟨by dsimp only; omega, by dsimp only; omega⟩ dX0_pleaderWins_38 (fun r16 s16 H locs hw hR hS => ?_)
    refine lv_istore (i := 5) (lv' := [(5, .int r16), (4, .int v15), (0, xv E (some th)), (1, .int x1), (2, .int x2), (3, .int x3)]) hx hb dX0_pleaderWins_41 hl (by decide) rfl (fun ls hl => ?_)
    refine x_aload_n cx dX0_pleaderWins_43 rfl (lv_at hl 2 rfl) ?_
    obtain ⟨hk17, hw⟩ := hw
    refine xg_X0_63_1 cx hR rfl hk17 dX0_pleaderWins_44 ?_
    refine lv_iload hx hb dX0_pleaderWins_47 (lv_at hl 0 rfl) ?_
    obtain ⟨a18, hr18, hk18, hw⟩ := hw
    obtain ⟨hi, hw⟩ := hw
    refine x_iald cx hR hr18 hk18 (j := r16.toNatClampNeg) rfl hi dX0_pleaderWins_49 ?_
    refine lv_iconst (v := (-1 : Int32)) hx hb dX0_pleaderWins_50 (by decide) ?_
    refine lv_icmp_eq (tgt := 71) hx hb dX0_pleaderWins_51 (by decide) (fun hc => ?_) (fun hc => ?_)
    · have hw := mm_ip hc hw
      refine lv_iload_n hx hb dX0_pleaderWins_71 rfl (lv_at hl 3 rfl) ?_
      refine x_aload_n cx dX0_pleaderWins_72 rfl (lv_at hl 2 rfl) ?_
      refine xg_X0_31_1 cx hR rfl hk17 dX0_pleaderWins_73 ?_
      obtain ⟨a19, hr19, hk19, hw⟩ := hw
      refine xg_X0_149_3 cx hR hr19 hk19 dX0_pleaderWins_76 ?_
      refine lv_iconst (v := (-1 : Int32)) hx hb dX0_pleaderWins_79 (by decide) ?_
      refine lv_ixor hx hb dX0_pleaderWins_80 ?_
      refine lv_iand hx hb dX0_pleaderWins_81 ?_
      refine CJ11_bitCount_X0_198 cx hR hS  hw (by constructor <;> dsimp only <;> omega) (Nat.le_of_ble_eq_true rfl) hl.1 ⟨by dsimp only; omega, by dsimp only; omega⟩ dX0_pleaderWins_82 (fun r20 s20 H locs hw hR hS => ?_)
      refine lv_iload_n hx hb dX0_pleaderWins_85 rfl (lv_at hl 5 rfl) ?_
      refine lv_iadd hx hb dX0_pleaderWins_86 ?_
      refine lv_iconst (v := (2 : Int32)) hx hb dX0_pleaderWins_87 (by decide) ?_
      refine lv_irem hx hb dX0_pleaderWins_88 (by decide) ?_
      refine lv_if_ne (tgt := 96) hx hb dX0_pleaderWins_89 (by decide) (fun hc => ?_) (fun hc => ?_)
      · have hw := mm_in hc hw
        refine lv_iconst (v := (0 : Int32)) hx hb dX0_pleaderWins_96 (by decide) ?_
        exact BX0_pleaderWins_97 d hF cx _ _ _ _ _ _ _ _ hw _ _ _ _ _ hR hS (lv_sub hl [2, 3, 4, 5, 1, 0] rfl) hcb hsb
      · have hw := mm_ip hc hw
        refine lv_iconst (v := (1 : Int32)) hx hb dX0_pleaderWins_92 (by decide) ?_
        refine lv_goto (tgt := 97) hx hb dX0_pleaderWins_93 (by decide) ?_
        exact BX0_pleaderWins_97 d hF cx _ _ _ _ _ _ _ _ hw _ _ _ _ _ hR hS (lv_sub hl [2, 3, 4, 5, 1, 0] rfl) hcb hsb
    · have hw := mm_in hc hw
      refine x_aload_n cx dX0_pleaderWins_54 rfl (lv_at hl 2 rfl) ?_
      refine xg_X0_63_1 cx hR rfl hk17 dX0_pleaderWins_55 ?_
      refine lv_iload hx hb dX0_pleaderWins_58 (lv_at hl 0 rfl) ?_
      obtain ⟨hi, hw⟩ := hw
      refine x_iald cx hR hr18 hk18 (j := r16.toNatClampNeg) rfl hi dX0_pleaderWins_60 ?_
      refine lv_iconst (v := (1 : Int32)) hx hb dX0_pleaderWins_61 (by decide) ?_
      refine lv_icmp_ne (tgt := 69) hx hb dX0_pleaderWins_62 (by decide) (fun hc => ?_) (fun hc => ?_)
      · have hw := mm_in hc hw
        refine lv_iconst (v := (0 : Int32)) hx hb dX0_pleaderWins_69 (by decide) ?_
        exact x_nret cx hR hS (xle hcb) (xle hsb) (zb_nar (Or.inl rfl)) hw dX0_pleaderWins_70
      · have hw := mm_ip hc hw
        refine lv_iconst (v := (1 : Int32)) hx hb dX0_pleaderWins_65 (by decide) ?_
        refine lv_goto (tgt := 70) hx hb dX0_pleaderWins_66 (by decide) ?_
        exact x_nret cx hR hS (xle hcb) (xle hsb) (zb_nar (Or.inr rfl)) hw dX0_pleaderWins_70
  · have hw := mm_ip hc hw
    refine x_aload_n cx dX0_pleaderWins_20 rfl (lv_at hl 1 rfl) ?_
    refine lv_iload_n hx hb dX0_pleaderWins_21 rfl (lv_at hl 2 rfl) ?_
    refine lv_iload_n hx hb dX0_pleaderWins_22 rfl (lv_at hl 3 rfl) ?_
    obtain ⟨hk22, hw⟩ := hw
    refine CX0_judgedBy_X0_376 cx hR hS rfl hk22 hw (by constructor <;> dsimp only <;> omega) (Nat.le_of_ble_eq_true rfl) hl.1 ⟨by dsimp only; omega, by dsimp only; omega⟩ dX0_pleaderWins_23 (fun r21 s21 H locs hw hR hS => ?_)
    refine lv_iconst (v := (1 : Int32)) hx hb dX0_pleaderWins_26 (by decide) ?_
    refine lv_icmp_ne (tgt := 34) hx hb dX0_pleaderWins_27 (by decide) (fun hc => ?_) (fun hc => ?_)
    · have hw := mm_in hc hw
      refine lv_iconst (v := (0 : Int32)) hx hb dX0_pleaderWins_34 (by decide) ?_
      exact x_nret cx hR hS (xle hcb) (xle hsb) (zb_nar (Or.inl rfl)) hw dX0_pleaderWins_35
    · have hw := mm_ip hc hw
      refine lv_iconst (v := (1 : Int32)) hx hb dX0_pleaderWins_30 (by decide) ?_
      refine lv_goto (tgt := 35) hx hb dX0_pleaderWins_31 (by decide) ?_
      exact x_nret cx hR hS (xle hcb) (xle hsb) (zb_nar (Or.inr rfl)) hw dX0_pleaderWins_35
def wX0_pleaderWins (d : Nat) : Nat → Int32 → Int32 → Int32 → XS → (Int32 → XS → Prop) → Prop := Nat.rec (motive := fun _ => Nat → Int32 → Int32 → Int32 → XS → (Int32 → XS → Prop) → Prop) (fun _ _ _ _ _ _ => False) (fun _ ih => wX0_pleaderWins_body ih) d
theorem MX0_pleaderWins (l : Launch) (E : xx_E) : ∀ (d : Nat), ∀ (th : Nat) (x1 : Int32) (x2 : Int32) (x3 : Int32) (σ : XS) (Q : Int32 → XS → Prop), wX0_pleaderWins d th x1 x2 x3 σ Q → xx_Mi l yX0_pleaderWins (ws_ yX0_pleaderWins cX0_pleaderWins 10 (some .boolean)) ({ frames := (3 + 1 * d), cells := 0, slots := 0, locals := 40 * (3 + 1 * d) } : Room) E [xv E (some th), .int x1, .int x2, .int x3] σ Q 0 0 := by
  intro d
  induction d with
  | zero => exact fun th x1 x2 x3 σ Q h => h.elim
  | succ d ih => exact fun th x1 x2 x3 σ Q h => MX0_pleaderWins_body l E d ih th x1 x2 x3 σ Q h
-- X0_duel
theorem CX0_pleaderWins_X0_451 {l : Launch} {p : Program} {e : Env} {R : Room} {s : State} {m : MethodId} {args : Array Value} {below : List Frame} {meth : Method} {c : Code} {H : Heap} {locs : List Loc} {cells slots : Nat} {Qz : State → Prop} {cc : ByteArray} {nL : Nat} {ret : Option FieldType} {E : xx_E} {σ : XS} {pc : Nat} {ls : Array Slot} {rest : List Value} (d : Nat) {th : Nat} {x1 : Int32} {x2 : Int32} {x3 : Int32} (cx : xx_X "StruckCounts" cc nL ret E p s m args meth c) (hR0 : xR E σ H) (hS0 : va_S (xA E) s.heap H locs) {r0 : Option Nat} (hr : r0 = some th) (hk : kd σ th = 1) {Qf : Int32 → XS → Prop} (hw : wX0_pleaderWins d th x1 x2 x3 σ Qf) (hR : (({ frames := (3 + 1 * d), cells := 0, slots := 0, locals := 40 * (3 + 1 * d) } : Room)).frames + 1 ≤ R.frames ∧ 8 + (10 + 11) + (({ frames := (3 + 1 * d), cells := 0, slots := 0, locals := 40 * (3 + 1 * d) } : Room)).locals ≤ R.locals) (hrest : rest.length ≤ 4) (hsize : ls.size = nL) (hf : cells + 0 ≤ R.cells ∧ slots + 0 ≤ R.slots) (hdg : decode cc pc = .ok (.invokevirtual 451, 3))
    (kk : ∀ (r : Int32) (σ1 : XS) (H1 : Heap) (locs1 : List Loc), Qf r σ1 → xR E σ1 H1 → va_S (xA E) s.heap H1 locs1 → W p l e R s m args below meth c H1 locs1 (cells + 0) (slots + 0) Qz (F0 m (pc + 3) ls (.int r :: rest))) : W p l e R s m args below meth c H locs cells slots Qz (F0 m pc ls (.int x3 :: .int x2 :: .int x1 :: xv E r0 :: rest)) := by
  subst hr
  obtain ⟨hx, hb, hml, hown, hts, hrt, hlk, hK, hZ⟩ := id cx
  exact x_goi (va_runV (As := [.int x1, .int x2, .int x3]) (rest := rest) (x_fix cx) (MX0_pleaderWins l E d th x1 x2 x3 σ Qf hw) (cwV 3 hts (lw_V q2330 q2332 qs71 q156 q2333) rfl rfl rfl (by decide +kernel) hR) (x_preV cx hR0 hS0 hk (by decide) (q := (RX0, TX0, 24)) rfl rfl [.int x1, .int x2, .int x3]) rfl rfl hsize rfl (lv_room (xroom hrest)) hdg hf) hS0 kk
def wX0_duel (d : Nat) (th : Nat) (x1 : Int32) (x2 : Int32) (σ : XS) (Q : Int32 → XS → Prop) : Prop :=
  kd σ th = 1 ∧ (wX0_isCount th x1 σ (fun r1 s1 => if r1 = 0 then (Q (-1 : Int32) s1) else (wX0_in x2 (0 : Int32) (1 : Int32) s1 (fun r3 s3 => if r3 = 0 then (Q (-1 : Int32) s3) else (kd s3 th = 1 ∧ (wX0_laysWon th x1 s3 (fun s4 => kd s4 th = 1 ∧ (oc s4 (fr s4 th 6) 3 (fun a7 => wX0_pleaderWins d th (fi s4 a7 7) (fi s4 a7 8) x2 s4 (fun r8 s8 => if r8 = 0 then (Q (0 : Int32) s8) else (Q (1 : Int32) s8)))))))))))
set_option maxHeartbeats 4000000 in
theorem MX0_duel (l : Launch) (E : xx_E) (d : Nat) (th : Nat) (x1 : Int32) (x2 : Int32) (σ : XS) (Q : Int32 → XS → Prop) (hw : wX0_duel d th x1 x2 σ Q) : xx_Mi l yX0_duel (ws_ yX0_duel cX0_duel 3 (some .int)) ({ frames := (6 + 1 * d), cells := 0, slots := 0, locals := 40 * (6 + 1 * d) } : Room) E [xv E (some th), .int x1, .int x2] σ Q 0 0 := by
  refine x_of (own := "StruckCounts") (by decide +kernel) rfl ?_
  intro p e s m args below meth c cx hR ha hnm
  refine x_entry [xv E (some th), .int x1, .int x2] 3 [(0, xv E (some th)), (1, .int x1), (2, .int x2)] ha (by simp [lg_sl, xv_cat, vc_i, vc_j, vc_f]) (by simp [lv_args, xv_cat, vc_i, vc_j, vc_f]) (fun ls hl => ?_)
  have hS : va_S (xA E) s.heap s.heap [] := va_S.rf
  have hcb : 0 + 0 ≤ 0 := Nat.le_of_eq (Nat.zero_add _)
  have hsb : 0 + 0 ≤ 0 := Nat.le_of_eq (Nat.zero_add _)
  unfold wX0_duel at hw
  obtain ⟨hx, hb, hml, hown, hts, hrt, hlk, hMK, hZ⟩ := id cx
  refine x_aload_n cx dX0_duel_0 rfl (lv_at hl 0 rfl) ?_
  refine lv_iload_n hx hb dX0_duel_1 rfl (lv_at hl 1 rfl) ?_
  obtain ⟨hk2, hw⟩ := hw
  refine CX0_isCount_X0_290 cx hR hS rfl hk2 hw (by constructor <;> dsimp only <;> omega) (Nat.le_of_ble_eq_true rfl) hl.1 ⟨by dsimp only; omega, by dsimp only; omega⟩ dX0_duel_2 (fun r1 s1 H locs hw hR hS => ?_)
  refine lv_if_eq (tgt := 17) hx hb dX0_duel_5 (by decide) (fun hc => ?_) (fun hc => ?_)
  · have hw := mm_ip hc hw
    refine lv_iconst (v := (-1 : Int32)) hx hb dX0_duel_17 (by decide) ?_
    exact x_iret cx hR hS (xle hcb) (xle hsb) hw dX0_duel_18
  · have hw := mm_in hc hw
    refine lv_iload_n hx hb dX0_duel_8 rfl (lv_at hl 2 rfl) ?_
    refine lv_iconst (v := (0 : Int32)) hx hb dX0_duel_9 (by decide) ?_
    refine lv_iconst (v := (1 : Int32)) hx hb dX0_duel_10 (by decide) ?_
    refine CX0_in_X0_96 cx hR hS  hw (by constructor <;> dsimp only <;> omega) (Nat.le_of_ble_eq_true rfl) hl.1 ⟨by dsimp only; omega, by dsimp only; omega⟩ dX0_duel_11 (fun r3 s3 H locs hw hR hS => ?_)
    refine lv_if_ne (tgt := 19) hx hb dX0_duel_14 (by decide) (fun hc => ?_) (fun hc => ?_)
    · have hw := mm_in hc hw
      refine x_aload_n cx dX0_duel_19 rfl (lv_at hl 0 rfl) ?_
      refine lv_iload_n hx hb dX0_duel_20 rfl (lv_at hl 1 rfl) ?_
      obtain ⟨hk5, hw⟩ := hw
      refine CX0_laysWon_X0_373 cx hR hS rfl hk5 hw (by constructor <;> dsimp only <;> omega) (Nat.le_of_ble_eq_true rfl) hl.1 ⟨by dsimp only; omega, by dsimp only; omega⟩ dX0_duel_21 (fun s4 H locs hw hR hS => ?_)
      refine x_aload_n cx dX0_duel_24 rfl (lv_at hl 0 rfl) ?_
      refine x_aload_n cx dX0_duel_25 rfl (lv_at hl 0 rfl) ?_
      obtain ⟨hk6, hw⟩ := hw
      refine xg_X0_31_1 cx hR rfl hk6 dX0_duel_26 ?_
      obtain ⟨a7, hr7, hk7, hw⟩ := hw
      refine xg_X0_149_3 cx hR hr7 hk7 dX0_duel_29 ?_
      refine x_aload_n cx dX0_duel_32 rfl (lv_at hl 0 rfl) ?_
      refine xg_X0_31_1 cx hR rfl hk6 dX0_duel_33 ?_
      refine xg_X0_152_3 cx hR hr7 hk7 dX0_duel_36 ?_
      refine lv_iload_n hx hb dX0_duel_39 rfl (lv_at hl 2 rfl) ?_
      refine CX0_pleaderWins_X0_451 d cx hR hS rfl hk6 hw (by constructor <;> dsimp only <;> omega) (Nat.le_of_ble_eq_true rfl) hl.1 ⟨by dsimp only; omega, by dsimp only; omega⟩ dX0_duel_40 (fun r8 s8 H locs hw hR hS => ?_)
      refine lv_if_eq (tgt := 50) hx hb dX0_duel_43 (by decide) (fun hc => ?_) (fun hc => ?_)
      · have hw := mm_ip hc hw
        refine lv_iconst (v := (0 : Int32)) hx hb dX0_duel_50 (by decide) ?_
        exact x_iret cx hR hS (xle hcb) (xle hsb) hw dX0_duel_51
      · have hw := mm_in hc hw
        refine lv_iconst (v := (1 : Int32)) hx hb dX0_duel_46 (by decide) ?_
        refine lv_goto (tgt := 51) hx hb dX0_duel_47 (by decide) ?_
        exact x_iret cx hR hS (xle hcb) (xle hsb) hw dX0_duel_51
    · have hw := mm_ip hc hw
      refine lv_iconst (v := (-1 : Int32)) hx hb dX0_duel_17 (by decide) ?_
      exact x_iret cx hR hS (xle hcb) (xle hsb) hw dX0_duel_18
-- X0_turn
def wX0_turn_154 (d : Nat) (Q : Int32 → XS → Prop) (K36 : Nat → Int32 → Int32 → Int32 → XS → Prop) (th : Nat) (x2 : Int32) (x3 : Int32) (x4 : Int32) (σ : XS) : Prop :=
  ∀ v1 : Int32, v1 = x4 + (1 : Int32) → K36 th x2 x3 v1 σ
set_option maxHeartbeats 4000000 in
theorem BX0_turn_154 {l : Launch} {p : Program} {e : Env} {s : State} {m : MethodId} {args : Array Value} {below : List Frame} {meth : Method} {c : Code} {E : xx_E} {Q : Int32 → XS → Prop} {K36 : Nat → Int32 → Int32 → Int32 → XS → Prop} (d : Nat) (cx : xx_X "StruckCounts" cX0_turn 8 (some .int) E p s m args meth c) (hK36 : ∀ (th : Nat) (x2 : Int32) (x3 : Int32) (x4 : Int32) (σ : XS), K36 th x2 x3 x4 σ → x_T p l e ({ frames := (6 + 1 * d), cells := 0, slots := 0, locals := 40 * (6 + 1 * d) } : Room) s m args below meth c E (va_Qi Q (fun σ' t => xW E σ' t) (xA E)) 0 0 8 36 0 0 σ [(0, xv E (some th)), (2, .int x2), (3, .int x3), (4, .int x4)] []) : ∀ (th : Nat) (x2 : Int32) (x3 : Int32) (x4 : Int32) (σ : XS), wX0_turn_154 d Q K36 th x2 x3 x4 σ → x_T p l e ({ frames := (6 + 1 * d), cells := 0, slots := 0, locals := 40 * (6 + 1 * d) } : Room) s m args below meth c E (va_Qi Q (fun σ' t => xW E σ' t) (xA E)) 0 0 8 154 0 0 σ [(0, xv E (some th)), (2, .int x2), (3, .int x3), (4, .int x4)] [] := by
  intro th x2 x3 x4 σ hw H locs ls cells slots hR hS hl hcb hsb
  unfold wX0_turn_154 at hw
  obtain ⟨hx, hb, hml, hown, hts, hrt, hlk, hMK, hZ⟩ := id cx
  obtain ⟨v1, hv1⟩ : ∃ v : Int32, v = x4 + (1 : Int32) := ⟨_, rfl⟩
  have hw := hw v1 hv1
  refine lv_iinc (v := v1) (lv' := [(4, .int v1), (0, xv E (some th)), (2, .int x2), (3, .int x3)]) hx hb dX0_turn_154 hl (k := 3) rfl (by rw [hv1]; rfl) (by decide) rfl (fun ls hl => ?_)
  refine lv_goto (tgt := 36) hx hb dX0_turn_157 (by decide) ?_
  exact hK36 _ _ _ _ _ hw _ _ _ _ _ hR hS (lv_sub hl [1, 2, 3, 0] rfl) hcb hsb
def wX0_turn_148 (d : Nat) (Q : Int32 → XS → Prop) (K36 : Nat → Int32 → Int32 → Int32 → XS → Prop) (K69 : Nat → Int32 → Int32 → Int32 → Int32 → XS → Prop) (th : Nat) (x2 : Int32) (x3 : Int32) (x4 : Int32) (x5 : Int32) (σ : XS) : Prop :=
  ∀ v2 : Int32, v2 = x5 + (1 : Int32) → K69 th x2 x3 x4 v2 σ
set_option maxHeartbeats 4000000 in
theorem BX0_turn_148 {l : Launch} {p : Program} {e : Env} {s : State} {m : MethodId} {args : Array Value} {below : List Frame} {meth : Method} {c : Code} {E : xx_E} {Q : Int32 → XS → Prop} {K36 : Nat → Int32 → Int32 → Int32 → XS → Prop} {K69 : Nat → Int32 → Int32 → Int32 → Int32 → XS → Prop} (d : Nat) (cx : xx_X "StruckCounts" cX0_turn 8 (some .int) E p s m args meth c) (hK36 : ∀ (th : Nat) (x2 : Int32) (x3 : Int32) (x4 : Int32) (σ : XS), K36 th x2 x3 x4 σ → x_T p l e ({ frames := (6 + 1 * d), cells := 0, slots := 0, locals := 40 * (6 + 1 * d) } : Room) s m args below meth c E (va_Qi Q (fun σ' t => xW E σ' t) (xA E)) 0 0 8 36 0 0 σ [(0, xv E (some th)), (2, .int x2), (3, .int x3), (4, .int x4)] []) (hK69 : ∀ (th : Nat) (x2 : Int32) (x3 : Int32) (x4 : Int32) (x5 : Int32) (σ : XS), K69 th x2 x3 x4 x5 σ → x_T p l e ({ frames := (6 + 1 * d), cells := 0, slots := 0, locals := 40 * (6 + 1 * d) } : Room) s m args below meth c E (va_Qi Q (fun σ' t => xW E σ' t) (xA E)) 0 0 8 69 0 0 σ [(0, xv E (some th)), (2, .int x2), (3, .int x3), (4, .int x4), (5, .int x5)] []) : ∀ (th : Nat) (x2 : Int32) (x3 : Int32) (x4 : Int32) (x5 : Int32) (σ : XS), wX0_turn_148 d Q K36 K69 th x2 x3 x4 x5 σ → x_T p l e ({ frames := (6 + 1 * d), cells := 0, slots := 0, locals := 40 * (6 + 1 * d) } : Room) s m args below meth c E (va_Qi Q (fun σ' t => xW E σ' t) (xA E)) 0 0 8 148 0 0 σ [(0, xv E (some th)), (2, .int x2), (3, .int x3), (4, .int x4), (5, .int x5)] [] := by
  intro th x2 x3 x4 x5 σ hw H locs ls cells slots hR hS hl hcb hsb
  unfold wX0_turn_148 at hw
  obtain ⟨hx, hb, hml, hown, hts, hrt, hlk, hMK, hZ⟩ := id cx
  obtain ⟨v2, hv2⟩ : ∃ v : Int32, v = x5 + (1 : Int32) := ⟨_, rfl⟩
  have hw := hw v2 hv2
  refine lv_iinc (v := v2) (lv' := [(5, .int v2), (0, xv E (some th)), (2, .int x2), (3, .int x3), (4, .int x4)]) hx hb dX0_turn_148 hl (k := 4) rfl (by rw [hv2]; rfl) (by decide) rfl (fun ls hl => ?_)
  refine lv_goto (tgt := 69) hx hb dX0_turn_151 (by decide) ?_
  exact hK69 _ _ _ _ _ _ hw _ _ _ _ _ hR hS (lv_sub hl [1, 2, 3, 4, 0] rfl) hcb hsb
def wX0_turn_133 (d : Nat) (Q : Int32 → XS → Prop) (K36 : Nat → Int32 → Int32 → Int32 → XS → Prop) (K69 : Nat → Int32 → Int32 → Int32 → Int32 → XS → Prop) (th : Nat) (x2 : Int32) (x3 : Int32) (x4 : Int32) (x5 : Int32) (t0 : Int32) (t1 : Int32) (σ : XS) : Prop :=
  if t0 = t1 then (if x3 = 0 then (Q x4 σ) else (Q x5 σ)) else (wX0_turn_148 d Q K36 K69 th x2 x3 x4 x5 σ)
set_option maxHeartbeats 4000000 in
theorem BX0_turn_133 {l : Launch} {p : Program} {e : Env} {s : State} {m : MethodId} {args : Array Value} {below : List Frame} {meth : Method} {c : Code} {E : xx_E} {Q : Int32 → XS → Prop} {K36 : Nat → Int32 → Int32 → Int32 → XS → Prop} {K69 : Nat → Int32 → Int32 → Int32 → Int32 → XS → Prop} (d : Nat) (cx : xx_X "StruckCounts" cX0_turn 8 (some .int) E p s m args meth c) (hK36 : ∀ (th : Nat) (x2 : Int32) (x3 : Int32) (x4 : Int32) (σ : XS), K36 th x2 x3 x4 σ → x_T p l e ({ frames := (6 + 1 * d), cells := 0, slots := 0, locals := 40 * (6 + 1 * d) } : Room) s m args below meth c E (va_Qi Q (fun σ' t => xW E σ' t) (xA E)) 0 0 8 36 0 0 σ [(0, xv E (some th)), (2, .int x2), (3, .int x3), (4, .int x4)] []) (hK69 : ∀ (th : Nat) (x2 : Int32) (x3 : Int32) (x4 : Int32) (x5 : Int32) (σ : XS), K69 th x2 x3 x4 x5 σ → x_T p l e ({ frames := (6 + 1 * d), cells := 0, slots := 0, locals := 40 * (6 + 1 * d) } : Room) s m args below meth c E (va_Qi Q (fun σ' t => xW E σ' t) (xA E)) 0 0 8 69 0 0 σ [(0, xv E (some th)), (2, .int x2), (3, .int x3), (4, .int x4), (5, .int x5)] []) : ∀ (th : Nat) (x2 : Int32) (x3 : Int32) (x4 : Int32) (x5 : Int32) (t0 : Int32) (t1 : Int32) (σ : XS), wX0_turn_133 d Q K36 K69 th x2 x3 x4 x5 t0 t1 σ → x_T p l e ({ frames := (6 + 1 * d), cells := 0, slots := 0, locals := 40 * (6 + 1 * d) } : Room) s m args below meth c E (va_Qi Q (fun σ' t => xW E σ' t) (xA E)) 0 0 8 133 0 0 σ [(0, xv E (some th)), (2, .int x2), (3, .int x3), (4, .int x4), (5, .int x5)] [.int t1, .int t0] := by
  intro th x2 x3 x4 x5 t0 t1 σ hw H locs ls cells slots hR hS hl hcb hsb
  unfold wX0_turn_133 at hw
  obtain ⟨hx, hb, hml, hown, hts, hrt, hlk, hMK, hZ⟩ := id cx
  refine lv_icmp_ne (tgt := 148) hx hb dX0_turn_133 (by decide) (fun hc => ?_) (fun hc => ?_)
  · have hw := mm_in hc hw
    exact BX0_turn_148 d cx hK36 hK69 _ _ _ _ _ _ hw _ _ _ _ _ hR hS (lv_sub hl [0, 1, 2, 3, 4] rfl) hcb hsb
  · have hw := mm_ip hc hw
    refine lv_iload_n hx hb dX0_turn_136 rfl (lv_at hl 2 rfl) ?_
    refine lv_if_ne (tgt := 145) hx hb dX0_turn_137 (by decide) (fun hc => ?_) (fun hc => ?_)
    · have hw := mm_in hc hw
      refine lv_iload hx hb dX0_turn_145 (lv_at hl 4 rfl) ?_
      exact x_iret cx hR hS (xle hcb) (xle hsb) hw dX0_turn_147
    · have hw := mm_ip hc hw
      refine lv_iload hx hb dX0_turn_140 (lv_at hl 3 rfl) ?_
      refine lv_goto (tgt := 147) hx hb dX0_turn_142 (by decide) ?_
      exact x_iret cx hR hS (xle hcb) (xle hsb) hw dX0_turn_147
def wX0_turn_69 (d : Nat) (Q : Int32 → XS → Prop) (K36 : Nat → Int32 → Int32 → Int32 → XS → Prop) (K69 : Nat → Int32 → Int32 → Int32 → Int32 → XS → Prop) (th : Nat) (x2 : Int32) (x3 : Int32) (x4 : Int32) (x5 : Int32) (σ : XS) : Prop :=
  if (2 : Int32) ≤ x5 then (wX0_turn_154 d Q K36 th x2 x3 x4 σ) else (kd σ th = 1 ∧ (oc σ (fr σ th 6) 3 (fun a4 => ∀ v5 : Int32, v5 = ((fi σ a4 7) ||| ((1 : Int32) <<< (x4 &&& 31))) → ∀ v6 : Int32, v6 = ((fi σ a4 8) ||| (x5 <<< (x4 &&& 31))) → wX0_isLeft th v5 v6 σ (fun r7 s7 => if r7 = 0 then (wX0_turn_148 d Q K36 K69 th x2 x3 x4 x5 s7) else (kd s7 th = 1 ∧ (wX0_pleaderWins d th v5 v6 x2 s7 (fun r8 s8 => if x2 = 0 then (wX0_turn_133 d Q K36 K69 th x2 x3 x4 x5 r8 (1 : Int32) s8) else (wX0_turn_133 d Q K36 K69 th x2 x3 x4 x5 r8 (0 : Int32) s8))))))))
set_option maxHeartbeats 4000000 in
theorem BX0_turn_69 {l : Launch} {p : Program} {e : Env} {s : State} {m : MethodId} {args : Array Value} {below : List Frame} {meth : Method} {c : Code} {E : xx_E} {Q : Int32 → XS → Prop} {K36 : Nat → Int32 → Int32 → Int32 → XS → Prop} {K69 : Nat → Int32 → Int32 → Int32 → Int32 → XS → Prop} (d : Nat) (cx : xx_X "StruckCounts" cX0_turn 8 (some .int) E p s m args meth c) (hK36 : ∀ (th : Nat) (x2 : Int32) (x3 : Int32) (x4 : Int32) (σ : XS), K36 th x2 x3 x4 σ → x_T p l e ({ frames := (6 + 1 * d), cells := 0, slots := 0, locals := 40 * (6 + 1 * d) } : Room) s m args below meth c E (va_Qi Q (fun σ' t => xW E σ' t) (xA E)) 0 0 8 36 0 0 σ [(0, xv E (some th)), (2, .int x2), (3, .int x3), (4, .int x4)] []) (hK69 : ∀ (th : Nat) (x2 : Int32) (x3 : Int32) (x4 : Int32) (x5 : Int32) (σ : XS), K69 th x2 x3 x4 x5 σ → x_T p l e ({ frames := (6 + 1 * d), cells := 0, slots := 0, locals := 40 * (6 + 1 * d) } : Room) s m args below meth c E (va_Qi Q (fun σ' t => xW E σ' t) (xA E)) 0 0 8 69 0 0 σ [(0, xv E (some th)), (2, .int x2), (3, .int x3), (4, .int x4), (5, .int x5)] []) : ∀ (th : Nat) (x2 : Int32) (x3 : Int32) (x4 : Int32) (x5 : Int32) (σ : XS), wX0_turn_69 d Q K36 K69 th x2 x3 x4 x5 σ → x_T p l e ({ frames := (6 + 1 * d), cells := 0, slots := 0, locals := 40 * (6 + 1 * d) } : Room) s m args below meth c E (va_Qi Q (fun σ' t => xW E σ' t) (xA E)) 0 0 8 69 0 0 σ [(0, xv E (some th)), (2, .int x2), (3, .int x3), (4, .int x4), (5, .int x5)] [] := by
  intro th x2 x3 x4 x5 σ hw H locs ls cells slots hR hS hl hcb hsb
  unfold wX0_turn_69 at hw
  obtain ⟨hx, hb, hml, hown, hts, hrt, hlk, hMK, hZ⟩ := id cx
  refine lv_iload hx hb dX0_turn_69 (lv_at hl 4 rfl) ?_
  refine lv_iconst (v := (2 : Int32)) hx hb dX0_turn_71 (by decide) ?_
  refine lv_icmp_ge (tgt := 154) hx hb dX0_turn_72 (by decide) (fun hc => ?_) (fun hc => ?_)
  · have hw := mm_ip hc hw
    exact BX0_turn_154 d cx hK36 _ _ _ _ _ hw _ _ _ _ _ hR hS (lv_sub hl [0, 1, 2, 3] rfl) hcb hsb
  · have hw := mm_in hc hw
    refine x_aload_n cx dX0_turn_75 rfl (lv_at hl 0 rfl) ?_
    obtain ⟨hk3, hw⟩ := hw
    refine xg_X0_31_1 cx hR rfl hk3 dX0_turn_76 ?_
    obtain ⟨a4, hr4, hk4, hw⟩ := hw
    refine xg_X0_149_3 cx hR hr4 hk4 dX0_turn_79 ?_
    refine lv_iconst (v := (1 : Int32)) hx hb dX0_turn_82 (by decide) ?_
    refine lv_iload hx hb dX0_turn_83 (lv_at hl 3 rfl) ?_
    refine lv_ishl hx hb dX0_turn_85 ?_
    refine lv_ior hx hb dX0_turn_86 ?_
    refine lv_topi (fun v5 hv5 => ?_)
    have hw := hw v5 hv5
    refine lv_istore (i := 6) (lv' := [(6, .int v5), (0, xv E (some th)), (2, .int x2), (3, .int x3), (4, .int x4), (5, .int x5)]) hx hb dX0_turn_87 hl (by decide) rfl (fun ls hl => ?_)
    refine x_aload_n cx dX0_turn_89 rfl (lv_at hl 1 rfl) ?_
    refine xg_X0_31_1 cx hR rfl hk3 dX0_turn_90 ?_
    refine xg_X0_152_3 cx hR hr4 hk4 dX0_turn_93 ?_
    refine lv_iload hx hb dX0_turn_96 (lv_at hl 5 rfl) ?_
    refine lv_iload hx hb dX0_turn_98 (lv_at hl 4 rfl) ?_
    refine lv_ishl hx hb dX0_turn_100 ?_
    refine lv_ior hx hb dX0_turn_101 ?_
    refine lv_topi (fun v6 hv6 => ?_)
    have hw := hw v6 hv6
    refine lv_istore (i := 7) (lv' := [(7, .int v6), (6, .int v5), (0, xv E (some th)), (2, .int x2), (3, .int x3), (4, .int x4), (5, .int x5)]) hx hb dX0_turn_102 hl (by decide) rfl (fun ls hl => ?_)
    refine x_aload_n cx dX0_turn_104 rfl (lv_at hl 2 rfl) ?_
    refine lv_iload hx hb dX0_turn_105 (lv_at hl 1 rfl) ?_
    refine lv_iload hx hb dX0_turn_107 (lv_at hl 0 rfl) ?_
    refine CX0_isLeft_X0_227 cx hR hS rfl hk3 hw (by constructor <;> dsimp only <;> omega) (Nat.le_of_ble_eq_true rfl) hl.1 ⟨by dsimp only; omega, by dsimp only; omega⟩ dX0_turn_109 (fun r7 s7 H locs hw hR hS => ?_)
    refine lv_if_eq (tgt := 148) hx hb dX0_turn_112 (by decide) (fun hc => ?_) (fun hc => ?_)
    · have hw := mm_ip hc hw
      exact BX0_turn_148 d cx hK36 hK69 _ _ _ _ _ _ hw _ _ _ _ _ hR hS (lv_sub hl [2, 3, 4, 5, 6] rfl) hcb hsb
    · have hw := mm_in hc hw
      refine x_aload_n cx dX0_turn_115 rfl (lv_at hl 2 rfl) ?_
      refine lv_iload hx hb dX0_turn_116 (lv_at hl 1 rfl) ?_
      refine lv_iload hx hb dX0_turn_118 (lv_at hl 0 rfl) ?_
      refine lv_iload_n hx hb dX0_turn_120 rfl (lv_at hl 3 rfl) ?_
      obtain ⟨hk9, hw⟩ := hw
      refine CX0_pleaderWins_X0_451 d cx hR hS rfl hk9 hw (by constructor <;> dsimp only <;> omega) (Nat.le_of_ble_eq_true rfl) hl.1 ⟨by dsimp only; omega, by dsimp only; omega⟩ dX0_turn_121 (fun r8 s8 H locs hw hR hS => ?_)
      refine lv_iload_n hx hb dX0_turn_124 rfl (lv_at hl 3 rfl) ?_
      refine lv_if_ne (tgt := 132) hx hb dX0_turn_125 (by decide) (fun hc => ?_) (fun hc => ?_)
      · have hw := mm_in hc hw
        refine lv_iconst (v := (0 : Int32)) hx hb dX0_turn_132 (by decide) ?_
        exact BX0_turn_133 d cx hK36 hK69 _ _ _ _ _ _ _ _ hw _ _ _ _ _ hR hS (lv_sub hl [2, 3, 4, 5, 6] rfl) hcb hsb
      · have hw := mm_ip hc hw
        refine lv_iconst (v := (1 : Int32)) hx hb dX0_turn_128 (by decide) ?_
        refine lv_goto (tgt := 133) hx hb dX0_turn_129 (by decide) ?_
        exact BX0_turn_133 d cx hK36 hK69 _ _ _ _ _ _ _ _ hw _ _ _ _ _ hR hS (lv_sub hl [2, 3, 4, 5, 6] rfl) hcb hsb
theorem LX0_turn_69 {l : Launch} {p : Program} {e : Env} {s : State} {m : MethodId} {args : Array Value} {below : List Frame} {meth : Method} {c : Code} {E : xx_E} {Q : Int32 → XS → Prop} {K36 : Nat → Int32 → Int32 → Int32 → XS → Prop} (d : Nat) (cx : xx_X "StruckCounts" cX0_turn 8 (some .int) E p s m args meth c) (hK36 : ∀ (th : Nat) (x2 : Int32) (x3 : Int32) (x4 : Int32) (σ : XS), K36 th x2 x3 x4 σ → x_T p l e ({ frames := (6 + 1 * d), cells := 0, slots := 0, locals := 40 * (6 + 1 * d) } : Room) s m args below meth c E (va_Qi Q (fun σ' t => xW E σ' t) (xA E)) 0 0 8 36 0 0 σ [(0, xv E (some th)), (2, .int x2), (3, .int x3), (4, .int x4)] []) : ∀ (th : Nat) (x2 : Int32) (x3 : Int32) (x4 : Int32) (x5 : Int32) (σ : XS), lp6F (wX0_turn_69 d Q K36) th x2 x3 x4 x5 σ → x_T p l e ({ frames := (6 + 1 * d), cells := 0, slots := 0, locals := 40 * (6 + 1 * d) } : Room) s m args below meth c E (va_Qi Q (fun σ' t => xW E σ' t) (xA E)) 0 0 8 69 0 0 σ [(0, xv E (some th)), (2, .int x2), (3, .int x3), (4, .int x4), (5, .int x5)] [] :=
  lp6F_of (fun K hK => BX0_turn_69 d cx hK36 hK)
def wX0_turn_36 (d : Nat) (Q : Int32 → XS → Prop) (K36 : Nat → Int32 → Int32 → Int32 → XS → Prop) (th : Nat) (x2 : Int32) (x3 : Int32) (x4 : Int32) (σ : XS) : Prop :=
  kd σ th = 1 ∧ (oc σ (fr σ th 5) 2 (fun a11 => if (fi σ a11 5) ≤ x4 then (Q (-2 : Int32) σ) else (oc σ (fr σ th 6) 3 (fun a12 => wX0_has (fi σ a12 7) x4 σ (fun r13 s13 => if r13 = 0 then (lp6F (wX0_turn_69 d Q K36) th x2 x3 x4 (0 : Int32) s13) else (wX0_turn_154 d Q K36 th x2 x3 x4 s13))))))
set_option maxHeartbeats 4000000 in
theorem BX0_turn_36 {l : Launch} {p : Program} {e : Env} {s : State} {m : MethodId} {args : Array Value} {below : List Frame} {meth : Method} {c : Code} {E : xx_E} {Q : Int32 → XS → Prop} {K36 : Nat → Int32 → Int32 → Int32 → XS → Prop} (d : Nat) (cx : xx_X "StruckCounts" cX0_turn 8 (some .int) E p s m args meth c) (hK36 : ∀ (th : Nat) (x2 : Int32) (x3 : Int32) (x4 : Int32) (σ : XS), K36 th x2 x3 x4 σ → x_T p l e ({ frames := (6 + 1 * d), cells := 0, slots := 0, locals := 40 * (6 + 1 * d) } : Room) s m args below meth c E (va_Qi Q (fun σ' t => xW E σ' t) (xA E)) 0 0 8 36 0 0 σ [(0, xv E (some th)), (2, .int x2), (3, .int x3), (4, .int x4)] []) : ∀ (th : Nat) (x2 : Int32) (x3 : Int32) (x4 : Int32) (σ : XS), wX0_turn_36 d Q K36 th x2 x3 x4 σ → x_T p l e ({ frames := (6 + 1 * d), cells := 0, slots := 0, locals := 40 * (6 + 1 * d) } : Room) s m args below meth c E (va_Qi Q (fun σ' t => xW E σ' t) (xA E)) 0 0 8 36 0 0 σ [(0, xv E (some th)), (2, .int x2), (3, .int x3), (4, .int x4)] [] := by
  intro th x2 x3 x4 σ hw H locs ls cells slots hR hS hl hcb hsb
  unfold wX0_turn_36 at hw
  obtain ⟨hx, hb, hml, hown, hts, hrt, hlk, hMK, hZ⟩ := id cx
  refine lv_iload hx hb dX0_turn_36 (lv_at hl 3 rfl) ?_
  refine x_aload_n cx dX0_turn_38 rfl (lv_at hl 0 rfl) ?_
  obtain ⟨hk10, hw⟩ := hw
  refine xg_X0_24_1 cx hR rfl hk10 dX0_turn_39 ?_
  obtain ⟨a11, hr11, hk11, hw⟩ := hw
  refine xg_X0_133_2 cx hR hr11 hk11 dX0_turn_42 ?_
  refine lv_icmp_ge (tgt := 160) hx hb dX0_turn_45 (by decide) (fun hc => ?_) (fun hc => ?_)
  · have hw := mm_ip hc hw
    refine lv_bipush (v := (-2 : Int32)) hx hb dX0_turn_160 (by decide) ?_
    exact x_iret cx hR hS (xle hcb) (xle hsb) hw dX0_turn_162
  · have hw := mm_in hc hw
    refine x_aload_n cx dX0_turn_48 rfl (lv_at hl 0 rfl) ?_
    refine xg_X0_31_1 cx hR rfl hk10 dX0_turn_49 ?_
    obtain ⟨a12, hr12, hk12, hw⟩ := hw
    refine xg_X0_149_3 cx hR hr12 hk12 dX0_turn_52 ?_
    refine lv_iload hx hb dX0_turn_55 (lv_at hl 3 rfl) ?_
    refine CX0_has_X0_223 cx hR hS  hw (by constructor <;> dsimp only <;> omega) (Nat.le_of_ble_eq_true rfl) hl.1 ⟨by dsimp only; omega, by dsimp only; omega⟩ dX0_turn_57 (fun r13 s13 H locs hw hR hS => ?_)
    refine lv_if_eq (tgt := 66) hx hb dX0_turn_60 (by decide) (fun hc => ?_) (fun hc => ?_)
    · have hw := mm_ip hc hw
      refine lv_iconst (v := (0 : Int32)) hx hb dX0_turn_66 (by decide) ?_
      refine lv_istore (i := 5) (lv' := [(5, .int (0 : Int32)), (0, xv E (some th)), (2, .int x2), (3, .int x3), (4, .int x4)]) hx hb dX0_turn_67 hl (by decide) rfl (fun ls hl => ?_)
      exact LX0_turn_69 d cx hK36 _ _ _ _ _ _ hw _ _ _ _ _ hR hS (lv_sub hl [1, 2, 3, 4, 0] rfl) hcb hsb
    · have hw := mm_in hc hw
      refine lv_goto (tgt := 154) hx hb dX0_turn_63 (by decide) ?_
      exact BX0_turn_154 d cx hK36 _ _ _ _ _ hw _ _ _ _ _ hR hS (lv_sub hl [0, 1, 2, 3] rfl) hcb hsb
theorem LX0_turn_36 {l : Launch} {p : Program} {e : Env} {s : State} {m : MethodId} {args : Array Value} {below : List Frame} {meth : Method} {c : Code} {E : xx_E} {Q : Int32 → XS → Prop} (d : Nat) (cx : xx_X "StruckCounts" cX0_turn 8 (some .int) E p s m args meth c) : ∀ (th : Nat) (x2 : Int32) (x3 : Int32) (x4 : Int32) (σ : XS), lp5F (wX0_turn_36 d Q) th x2 x3 x4 σ → x_T p l e ({ frames := (6 + 1 * d), cells := 0, slots := 0, locals := 40 * (6 + 1 * d) } : Room) s m args below meth c E (va_Qi Q (fun σ' t => xW E σ' t) (xA E)) 0 0 8 36 0 0 σ [(0, xv E (some th)), (2, .int x2), (3, .int x3), (4, .int x4)] [] :=
  lp5F_of (fun K hK => BX0_turn_36 d cx hK)
def wX0_turn (d : Nat) (th : Nat) (x1 : Int32) (x2 : Int32) (x3 : Int32) (σ : XS) (Q : Int32 → XS → Prop) : Prop :=
  kd σ th = 1 ∧ (wX0_isCount th x1 σ (fun r14 s14 => if r14 = 0 then (Q (-1 : Int32) s14) else (wX0_in x2 (0 : Int32) (1 : Int32) s14 (fun r16 s16 => if r16 = 0 then (Q (-1 : Int32) s16) else (wX0_in x3 (0 : Int32) (1 : Int32) s16 (fun r17 s17 => if r17 = 0 then (Q (-1 : Int32) s17) else (kd s17 th = 1 ∧ (wX0_laysWon th x1 s17 (fun s18 => lp5F (wX0_turn_36 d Q) th x2 x3 (0 : Int32) s18)))))))))
set_option maxHeartbeats 4000000 in
theorem MX0_turn (l : Launch) (E : xx_E) (d : Nat) (th : Nat) (x1 : Int32) (x2 : Int32) (x3 : Int32) (σ : XS) (Q : Int32 → XS → Prop) (hw : wX0_turn d th x1 x2 x3 σ Q) : xx_Mi l yX0_turn (ws_ yX0_turn cX0_turn 8 (some .int)) ({ frames := (6 + 1 * d), cells := 0, slots := 0, locals := 40 * (6 + 1 * d) } : Room) E [xv E (some th), .int x1, .int x2, .int x3] σ Q 0 0 := by
  refine x_of (own := "StruckCounts") (by decide +kernel) rfl ?_
  intro p e s m args below meth c cx hR ha hnm
  refine x_entry [xv E (some th), .int x1, .int x2, .int x3] 8 [(0, xv E (some th)), (1, .int x1), (2, .int x2), (3, .int x3)] ha (by simp [lg_sl, xv_cat, vc_i, vc_j, vc_f]) (by simp [lv_args, xv_cat, vc_i, vc_j, vc_f]) (fun ls hl => ?_)
  have hS : va_S (xA E) s.heap s.heap [] := va_S.rf
  have hcb : 0 + 0 ≤ 0 := Nat.le_of_eq (Nat.zero_add _)
  have hsb : 0 + 0 ≤ 0 := Nat.le_of_eq (Nat.zero_add _)
  unfold wX0_turn at hw
  obtain ⟨hx, hb, hml, hown, hts, hrt, hlk, hMK, hZ⟩ := id cx
  refine x_aload_n cx dX0_turn_0 rfl (lv_at hl 0 rfl) ?_
  refine lv_iload_n hx hb dX0_turn_1 rfl (lv_at hl 1 rfl) ?_
  obtain ⟨hk15, hw⟩ := hw
  refine CX0_isCount_X0_290 cx hR hS rfl hk15 hw (by constructor <;> dsimp only <;> omega) (Nat.le_of_ble_eq_true rfl) hl.1 ⟨by dsimp only; omega, by dsimp only; omega⟩ dX0_turn_2 (fun r14 s14 H locs hw hR hS => ?_)
  refine lv_if_eq (tgt := 26) hx hb dX0_turn_5 (by decide) (fun hc => ?_) (fun hc => ?_)
  · have hw := mm_ip hc hw
    refine lv_iconst (v := (-1 : Int32)) hx hb dX0_turn_26 (by decide) ?_
    exact x_iret cx hR hS (xle hcb) (xle hsb) hw dX0_turn_27
  · have hw := mm_in hc hw
    refine lv_iload_n hx hb dX0_turn_8 rfl (lv_at hl 2 rfl) ?_
    refine lv_iconst (v := (0 : Int32)) hx hb dX0_turn_9 (by decide) ?_
    refine lv_iconst (v := (1 : Int32)) hx hb dX0_turn_10 (by decide) ?_
    refine CX0_in_X0_96 cx hR hS  hw (by constructor <;> dsimp only <;> omega) (Nat.le_of_ble_eq_true rfl) hl.1 ⟨by dsimp only; omega, by dsimp only; omega⟩ dX0_turn_11 (fun r16 s16 H locs hw hR hS => ?_)
    refine lv_if_eq (tgt := 26) hx hb dX0_turn_14 (by decide) (fun hc => ?_) (fun hc => ?_)
    · have hw := mm_ip hc hw
      refine lv_iconst (v := (-1 : Int32)) hx hb dX0_turn_26 (by decide) ?_
      exact x_iret cx hR hS (xle hcb) (xle hsb) hw dX0_turn_27
    · have hw := mm_in hc hw
      refine lv_iload_n hx hb dX0_turn_17 rfl (lv_at hl 3 rfl) ?_
      refine lv_iconst (v := (0 : Int32)) hx hb dX0_turn_18 (by decide) ?_
      refine lv_iconst (v := (1 : Int32)) hx hb dX0_turn_19 (by decide) ?_
      refine CX0_in_X0_96 cx hR hS  hw (by constructor <;> dsimp only <;> omega) (Nat.le_of_ble_eq_true rfl) hl.1 ⟨by dsimp only; omega, by dsimp only; omega⟩ dX0_turn_20 (fun r17 s17 H locs hw hR hS => ?_)
      refine lv_if_ne (tgt := 28) hx hb dX0_turn_23 (by decide) (fun hc => ?_) (fun hc => ?_)
      · have hw := mm_in hc hw
        refine x_aload_n cx dX0_turn_28 rfl (lv_at hl 0 rfl) ?_
        refine lv_iload_n hx hb dX0_turn_29 rfl (lv_at hl 1 rfl) ?_
        obtain ⟨hk19, hw⟩ := hw
        refine CX0_laysWon_X0_373 cx hR hS rfl hk19 hw (by constructor <;> dsimp only <;> omega) (Nat.le_of_ble_eq_true rfl) hl.1 ⟨by dsimp only; omega, by dsimp only; omega⟩ dX0_turn_30 (fun s18 H locs hw hR hS => ?_)
        refine lv_iconst (v := (0 : Int32)) hx hb dX0_turn_33 (by decide) ?_
        refine lv_istore (i := 4) (lv' := [(4, .int (0 : Int32)), (0, xv E (some th)), (1, .int x1), (2, .int x2), (3, .int x3)]) hx hb dX0_turn_34 hl (by decide) rfl (fun ls hl => ?_)
        exact LX0_turn_36 d cx _ _ _ _ _ hw _ _ _ _ _ hR hS (lv_sub hl [1, 3, 4, 0] rfl) hcb hsb
      · have hw := mm_ip hc hw
        refine lv_iconst (v := (-1 : Int32)) hx hb dX0_turn_26 (by decide) ?_
        exact x_iret cx hR hS (xle hcb) (xle hsb) hw dX0_turn_27
-- X0_together
def wX0_together_51 (Q : Int32 → XS → Prop) (K20 : Nat → Int32 → Int32 → XS → Prop) (th : Nat) (x1 : Int32) (x2 : Int32) (σ : XS) : Prop :=
  ∀ v1 : Int32, v1 = x2 + (1 : Int32) → K20 th x1 v1 σ
set_option maxHeartbeats 4000000 in
theorem BX0_together_51 {l : Launch} {p : Program} {e : Env} {s : State} {m : MethodId} {args : Array Value} {below : List Frame} {meth : Method} {c : Code} {E : xx_E} {Q : Int32 → XS → Prop} {K20 : Nat → Int32 → Int32 → XS → Prop} (cx : xx_X "StruckCounts" cX0_together 3 (some .int) E p s m args meth c) (hK20 : ∀ (th : Nat) (x1 : Int32) (x2 : Int32) (σ : XS), K20 th x1 x2 σ → x_T p l e ({ frames := 6, cells := 0, slots := 0, locals := 240 } : Room) s m args below meth c E (va_Qi Q (fun σ' t => xW E σ' t) (xA E)) 0 0 3 20 0 0 σ [(0, xv E (some th)), (1, .int x1), (2, .int x2)] []) : ∀ (th : Nat) (x1 : Int32) (x2 : Int32) (σ : XS), wX0_together_51 Q K20 th x1 x2 σ → x_T p l e ({ frames := 6, cells := 0, slots := 0, locals := 240 } : Room) s m args below meth c E (va_Qi Q (fun σ' t => xW E σ' t) (xA E)) 0 0 3 51 0 0 σ [(0, xv E (some th)), (1, .int x1), (2, .int x2)] [] := by
  intro th x1 x2 σ hw H locs ls cells slots hR hS hl hcb hsb
  unfold wX0_together_51 at hw
  obtain ⟨hx, hb, hml, hown, hts, hrt, hlk, hMK, hZ⟩ := id cx
  obtain ⟨v1, hv1⟩ : ∃ v : Int32, v = x2 + (1 : Int32) := ⟨_, rfl⟩
  have hw := hw v1 hv1
  refine lv_iinc (v := v1) (lv' := [(2, .int v1), (0, xv E (some th)), (1, .int x1)]) hx hb dX0_together_51 hl (k := 2) rfl (by rw [hv1]; rfl) (by decide) rfl (fun ls hl => ?_)
  refine lv_goto (tgt := 20) hx hb dX0_together_54 (by decide) ?_
  exact hK20 _ _ _ _ hw _ _ _ _ _ hR hS (lv_sub hl [1, 2, 0] rfl) hcb hsb
def wX0_together_20 (Q : Int32 → XS → Prop) (K20 : Nat → Int32 → Int32 → XS → Prop) (th : Nat) (x1 : Int32) (x2 : Int32) (σ : XS) : Prop :=
  kd σ th = 1 ∧ (oc σ (fr σ th 5) 2 (fun a4 => wX1_sets a4 σ (fun r3 s3 => if r3 ≤ x2 then (Q (0 : Int32) s3) else (kd s3 th = 1 ∧ (wX0_isNow th x2 s3 (fun r5 s5 => if r5 = 0 then (wX0_together_51 Q K20 th x1 x2 s5) else (kd s5 th = 1 ∧ (wX0_wonOf th x1 x2 s5 (fun r7 s7 => if r7 = x1 then (Q (1 : Int32) s7) else (wX0_together_51 Q K20 th x1 x2 s7))))))))))
set_option maxHeartbeats 4000000 in
theorem BX0_together_20 {l : Launch} {p : Program} {e : Env} {s : State} {m : MethodId} {args : Array Value} {below : List Frame} {meth : Method} {c : Code} {E : xx_E} {Q : Int32 → XS → Prop} {K20 : Nat → Int32 → Int32 → XS → Prop} (cx : xx_X "StruckCounts" cX0_together 3 (some .int) E p s m args meth c) (hK20 : ∀ (th : Nat) (x1 : Int32) (x2 : Int32) (σ : XS), K20 th x1 x2 σ → x_T p l e ({ frames := 6, cells := 0, slots := 0, locals := 240 } : Room) s m args below meth c E (va_Qi Q (fun σ' t => xW E σ' t) (xA E)) 0 0 3 20 0 0 σ [(0, xv E (some th)), (1, .int x1), (2, .int x2)] []) : ∀ (th : Nat) (x1 : Int32) (x2 : Int32) (σ : XS), wX0_together_20 Q K20 th x1 x2 σ → x_T p l e ({ frames := 6, cells := 0, slots := 0, locals := 240 } : Room) s m args below meth c E (va_Qi Q (fun σ' t => xW E σ' t) (xA E)) 0 0 3 20 0 0 σ [(0, xv E (some th)), (1, .int x1), (2, .int x2)] [] := by
  intro th x1 x2 σ hw H locs ls cells slots hR hS hl hcb hsb
  unfold wX0_together_20 at hw
  obtain ⟨hx, hb, hml, hown, hts, hrt, hlk, hMK, hZ⟩ := id cx
  refine lv_iload_n hx hb dX0_together_20 rfl (lv_at hl 2 rfl) ?_
  refine x_aload_n cx dX0_together_21 rfl (lv_at hl 0 rfl) ?_
  obtain ⟨hk2, hw⟩ := hw
  refine xg_X0_24_1 cx hR rfl hk2 dX0_together_22 ?_
  obtain ⟨a4, hr4, hk4, hw⟩ := hw
  refine CX1_sets_X0_142 cx hR hS hr4 hk4 hw ⟨Nat.le_of_ble_eq_true rfl, Nat.le_of_ble_eq_true rfl⟩ (Nat.le_of_ble_eq_true rfl) hl.1 ⟨by dsimp only; omega, by dsimp only; omega⟩ dX0_together_25 (fun r3 s3 H locs hw hR hS => ?_)
  refine lv_icmp_ge (tgt := 57) hx hb dX0_together_28 (by decide) (fun hc => ?_) (fun hc => ?_)
  · have hw := mm_ip hc hw
    refine lv_iconst (v := (0 : Int32)) hx hb dX0_together_57 (by decide) ?_
    exact x_iret cx hR hS (xle hcb) (xle hsb) hw dX0_together_58
  · have hw := mm_in hc hw
    refine x_aload_n cx dX0_together_31 rfl (lv_at hl 0 rfl) ?_
    refine lv_iload_n hx hb dX0_together_32 rfl (lv_at hl 2 rfl) ?_
    obtain ⟨hk6, hw⟩ := hw
    refine CX0_isNow_X0_347 cx hR hS rfl hk6 hw ⟨Nat.le_of_ble_eq_true rfl, Nat.le_of_ble_eq_true rfl⟩ (Nat.le_of_ble_eq_true rfl) hl.1 ⟨by dsimp only; omega, by dsimp only; omega⟩ dX0_together_33 (fun r5 s5 H locs hw hR hS => ?_)
    refine lv_if_eq (tgt := 51) hx hb dX0_together_36 (by decide) (fun hc => ?_) (fun hc => ?_)
    · have hw := mm_ip hc hw
      exact BX0_together_51 cx hK20 _ _ _ _ hw _ _ _ _ _ hR hS (lv_sub hl [0, 1, 2] rfl) hcb hsb
    · have hw := mm_in hc hw
      refine x_aload_n cx dX0_together_39 rfl (lv_at hl 0 rfl) ?_
      refine lv_iload_n hx hb dX0_together_40 rfl (lv_at hl 1 rfl) ?_
      refine lv_iload_n hx hb dX0_together_41 rfl (lv_at hl 2 rfl) ?_
      obtain ⟨hk8, hw⟩ := hw
      refine CX0_wonOf_X0_403 cx hR hS rfl hk8 hw ⟨Nat.le_of_ble_eq_true rfl, Nat.le_of_ble_eq_true rfl⟩ (Nat.le_of_ble_eq_true rfl) hl.1 ⟨by dsimp only; omega, by dsimp only; omega⟩ dX0_together_42 (fun r7 s7 H locs hw hR hS => ?_)
      refine lv_iload_n hx hb dX0_together_45 rfl (lv_at hl 1 rfl) ?_
      refine lv_icmp_ne (tgt := 51) hx hb dX0_together_46 (by decide) (fun hc => ?_) (fun hc => ?_)
      · have hw := mm_in hc hw
        exact BX0_together_51 cx hK20 _ _ _ _ hw _ _ _ _ _ hR hS (lv_sub hl [0, 1, 2] rfl) hcb hsb
      · have hw := mm_ip hc hw
        refine lv_iconst (v := (1 : Int32)) hx hb dX0_together_49 (by decide) ?_
        exact x_iret cx hR hS (xle hcb) (xle hsb) hw dX0_together_50
theorem LX0_together_20 {l : Launch} {p : Program} {e : Env} {s : State} {m : MethodId} {args : Array Value} {below : List Frame} {meth : Method} {c : Code} {E : xx_E} {Q : Int32 → XS → Prop} (cx : xx_X "StruckCounts" cX0_together 3 (some .int) E p s m args meth c) : ∀ (th : Nat) (x1 : Int32) (x2 : Int32) (σ : XS), lp4F (wX0_together_20 Q) th x1 x2 σ → x_T p l e ({ frames := 6, cells := 0, slots := 0, locals := 240 } : Room) s m args below meth c E (va_Qi Q (fun σ' t => xW E σ' t) (xA E)) 0 0 3 20 0 0 σ [(0, xv E (some th)), (1, .int x1), (2, .int x2)] [] :=
  lp4F_of (fun K hK => BX0_together_20 cx hK)
def wX0_together (th : Nat) (x1 : Int32) (σ : XS) (Q : Int32 → XS → Prop) : Prop :=
  if x1 < 0 then (Q (-1 : Int32) σ) else (kd σ th = 1 ∧ (oc σ (fr σ th 6) 3 (fun a10 => if (x1 >>> ((fi σ a10 9) &&& 31)) = 0 then (lp4F (wX0_together_20 Q) th x1 (0 : Int32) σ) else (Q (-1 : Int32) σ))))
set_option maxHeartbeats 4000000 in
theorem MX0_together (l : Launch) (E : xx_E) (th : Nat) (x1 : Int32) (σ : XS) (Q : Int32 → XS → Prop) (hw : wX0_together th x1 σ Q) : xx_Mi l yX0_together (ws_ yX0_together cX0_together 3 (some .int)) ({ frames := 6, cells := 0, slots := 0, locals := 240 } : Room) E [xv E (some th), .int x1] σ Q 0 0 := by
  refine x_of (own := "StruckCounts") (by decide +kernel) rfl ?_
  intro p e s m args below meth c cx hR ha hnm
  refine x_entry [xv E (some th), .int x1] 3 [(0, xv E (some th)), (1, .int x1)] ha (by simp [lg_sl, xv_cat, vc_i, vc_j, vc_f]) (by simp [lv_args, xv_cat, vc_i, vc_j, vc_f]) (fun ls hl => ?_)
  have hS : va_S (xA E) s.heap s.heap [] := va_S.rf
  have hcb : 0 + 0 ≤ 0 := Nat.le_of_eq (Nat.zero_add _)
  have hsb : 0 + 0 ≤ 0 := Nat.le_of_eq (Nat.zero_add _)
  unfold wX0_together at hw
  obtain ⟨hx, hb, hml, hown, hts, hrt, hlk, hMK, hZ⟩ := id cx
  refine lv_iload_n hx hb dX0_together_0 rfl (lv_at hl 1 rfl) ?_
  refine lv_if_lt (tgt := 16) hx hb dX0_together_1 (by decide) (fun hc => ?_) (fun hc => ?_)
  · have hw := mm_ip hc hw
    refine lv_iconst (v := (-1 : Int32)) hx hb dX0_together_16 (by decide) ?_
    exact x_iret cx hR hS (xle hcb) (xle hsb) hw dX0_together_17
  · have hw := mm_in hc hw
    refine lv_iload_n hx hb dX0_together_4 rfl (lv_at hl 1 rfl) ?_
    refine x_aload_n cx dX0_together_5 rfl (lv_at hl 0 rfl) ?_
    obtain ⟨hk9, hw⟩ := hw
    refine xg_X0_31_1 cx hR rfl hk9 dX0_together_6 ?_
    obtain ⟨a10, hr10, hk10, hw⟩ := hw
    refine xg_X0_136_3 cx hR hr10 hk10 dX0_together_9 ?_
    refine lv_ishr hx hb dX0_together_12 ?_
    refine lv_if_eq (tgt := 18) hx hb dX0_together_13 (by decide) (fun hc => ?_) (fun hc => ?_)
    · have hw := mm_ip hc hw
      refine lv_iconst (v := (0 : Int32)) hx hb dX0_together_18 (by decide) ?_
      refine lv_istore_n (i := 2) (lv' := [(2, .int (0 : Int32)), (0, xv E (some th)), (1, .int x1)]) hx hb dX0_together_19 rfl hl (by decide) rfl (fun ls hl => ?_)
      exact LX0_together_20 cx _ _ _ _ hw _ _ _ _ _ hR hS (lv_sub hl [1, 2, 0] rfl) hcb hsb
    · have hw := mm_in hc hw
      refine lv_iconst (v := (-1 : Int32)) hx hb dX0_together_16 (by decide) ?_
      exact x_iret cx hR hS (xle hcb) (xle hsb) hw dX0_together_17
-- X0_elect
def wX0_elect_85 (d : Nat) (Q : Int32 → XS → Prop) (K21 : Nat → Int32 → Int32 → Int32 → Int32 → XS → Prop) (th : Nat) (x1 : Int32) (x2 : Int32) (x3 : Int32) (x4 : Int32) (σ : XS) : Prop :=
  ∀ v1 : Int32, v1 = x4 + (1 : Int32) → K21 th x1 x2 x3 v1 σ
set_option maxHeartbeats 4000000 in
theorem BX0_elect_85 {l : Launch} {p : Program} {e : Env} {s : State} {m : MethodId} {args : Array Value} {below : List Frame} {meth : Method} {c : Code} {E : xx_E} {Q : Int32 → XS → Prop} {K21 : Nat → Int32 → Int32 → Int32 → Int32 → XS → Prop} (d : Nat) (cx : xx_X "StruckCounts" cX0_elect 7 (some .int) E p s m args meth c) (hK21 : ∀ (th : Nat) (x1 : Int32) (x2 : Int32) (x3 : Int32) (x4 : Int32) (σ : XS), K21 th x1 x2 x3 x4 σ → x_T p l e ({ frames := (7 + 1 * d), cells := 0, slots := 0, locals := 40 * (7 + 1 * d) } : Room) s m args below meth c E (va_Qi Q (fun σ' t => xW E σ' t) (xA E)) 0 0 7 21 0 0 σ [(0, xv E (some th)), (1, .int x1), (2, .int x2), (3, .int x3), (4, .int x4)] []) : ∀ (th : Nat) (x1 : Int32) (x2 : Int32) (x3 : Int32) (x4 : Int32) (σ : XS), wX0_elect_85 d Q K21 th x1 x2 x3 x4 σ → x_T p l e ({ frames := (7 + 1 * d), cells := 0, slots := 0, locals := 40 * (7 + 1 * d) } : Room) s m args below meth c E (va_Qi Q (fun σ' t => xW E σ' t) (xA E)) 0 0 7 85 0 0 σ [(0, xv E (some th)), (1, .int x1), (2, .int x2), (3, .int x3), (4, .int x4)] [] := by
  intro th x1 x2 x3 x4 σ hw H locs ls cells slots hR hS hl hcb hsb
  unfold wX0_elect_85 at hw
  obtain ⟨hx, hb, hml, hown, hts, hrt, hlk, hMK, hZ⟩ := id cx
  obtain ⟨v1, hv1⟩ : ∃ v : Int32, v = x4 + (1 : Int32) := ⟨_, rfl⟩
  have hw := hw v1 hv1
  refine lv_iinc (v := v1) (lv' := [(4, .int v1), (0, xv E (some th)), (1, .int x1), (2, .int x2), (3, .int x3)]) hx hb dX0_elect_85 hl (k := 4) rfl (by rw [hv1]; rfl) (by decide) rfl (fun ls hl => ?_)
  refine lv_goto (tgt := 21) hx hb dX0_elect_88 (by decide) ?_
  exact hK21 _ _ _ _ _ _ hw _ _ _ _ _ hR hS (lv_sub hl [1, 2, 3, 4, 0] rfl) hcb hsb
def wX0_elect_82 (d : Nat) (Q : Int32 → XS → Prop) (K21 : Nat → Int32 → Int32 → Int32 → Int32 → XS → Prop) (th : Nat) (x1 : Int32) (x2 : Int32) (x4 : Int32) (x5 : Int32) (σ : XS) : Prop :=
  wX0_elect_85 d Q K21 th x1 x2 x5 x4 σ
set_option maxHeartbeats 4000000 in
theorem BX0_elect_82 {l : Launch} {p : Program} {e : Env} {s : State} {m : MethodId} {args : Array Value} {below : List Frame} {meth : Method} {c : Code} {E : xx_E} {Q : Int32 → XS → Prop} {K21 : Nat → Int32 → Int32 → Int32 → Int32 → XS → Prop} (d : Nat) (cx : xx_X "StruckCounts" cX0_elect 7 (some .int) E p s m args meth c) (hK21 : ∀ (th : Nat) (x1 : Int32) (x2 : Int32) (x3 : Int32) (x4 : Int32) (σ : XS), K21 th x1 x2 x3 x4 σ → x_T p l e ({ frames := (7 + 1 * d), cells := 0, slots := 0, locals := 40 * (7 + 1 * d) } : Room) s m args below meth c E (va_Qi Q (fun σ' t => xW E σ' t) (xA E)) 0 0 7 21 0 0 σ [(0, xv E (some th)), (1, .int x1), (2, .int x2), (3, .int x3), (4, .int x4)] []) : ∀ (th : Nat) (x1 : Int32) (x2 : Int32) (x4 : Int32) (x5 : Int32) (σ : XS), wX0_elect_82 d Q K21 th x1 x2 x4 x5 σ → x_T p l e ({ frames := (7 + 1 * d), cells := 0, slots := 0, locals := 40 * (7 + 1 * d) } : Room) s m args below meth c E (va_Qi Q (fun σ' t => xW E σ' t) (xA E)) 0 0 7 82 0 0 σ [(0, xv E (some th)), (1, .int x1), (2, .int x2), (4, .int x4), (5, .int x5)] [] := by
  intro th x1 x2 x4 x5 σ hw H locs ls cells slots hR hS hl hcb hsb
  unfold wX0_elect_82 at hw
  obtain ⟨hx, hb, hml, hown, hts, hrt, hlk, hMK, hZ⟩ := id cx
  refine lv_iload hx hb dX0_elect_82 (lv_at hl 4 rfl) ?_
  refine lv_istore_n (i := 3) (lv' := [(3, .int x5), (0, xv E (some th)), (1, .int x1), (2, .int x2), (4, .int x4), (5, .int x5)]) hx hb dX0_elect_84 rfl hl (by decide) rfl (fun ls hl => ?_)
  exact BX0_elect_85 d cx hK21 _ _ _ _ _ _ hw _ _ _ _ _ hR hS (lv_sub hl [1, 2, 3, 0, 4] rfl) hcb hsb
def wX0_elect_21 (d : Nat) (Q : Int32 → XS → Prop) (K21 : Nat → Int32 → Int32 → Int32 → Int32 → XS → Prop) (th : Nat) (x1 : Int32) (x2 : Int32) (x3 : Int32) (x4 : Int32) (σ : XS) : Prop :=
  kd σ th = 1 ∧ (oc σ (fr σ th 5) 2 (fun a4 => wX1_sets a4 σ (fun r3 s3 => if r3 ≤ x4 then (if x1 = 0 then (wJ11_bitCount x3 s3 (fun r5 s5 => Q r5 s5)) else (Q x3 s3)) else (kd s3 th = 1 ∧ (wX0_isNow th x4 s3 (fun r6 s6 => if r6 = 0 then (wX0_elect_85 d Q K21 th x1 x2 x3 x4 s6) else (kd s6 th = 1 ∧ (wX0_wonOf th x2 x4 s6 (fun r8 s8 => wJ11_bitCount r8 s8 (fun r10 s10 => wJ11_bitCount x3 s10 (fun r11 s11 => ∀ v12 : Int32, v12 = (r10 - r11) → if 0 < v12 then (wX0_elect_82 d Q K21 th x1 x2 x4 r8 s11) else (if v12 = 0 then (if x3 ≤ r8 then (wX0_elect_85 d Q K21 th x1 x2 x3 x4 s11) else (wX0_elect_82 d Q K21 th x1 x2 x4 r8 s11)) else (wX0_elect_85 d Q K21 th x1 x2 x3 x4 s11)))))))))))))
set_option maxHeartbeats 4000000 in
theorem BX0_elect_21 {l : Launch} {p : Program} {e : Env} {s : State} {m : MethodId} {args : Array Value} {below : List Frame} {meth : Method} {c : Code} {E : xx_E} {Q : Int32 → XS → Prop} {K21 : Nat → Int32 → Int32 → Int32 → Int32 → XS → Prop} (d : Nat) (cx : xx_X "StruckCounts" cX0_elect 7 (some .int) E p s m args meth c) (hK21 : ∀ (th : Nat) (x1 : Int32) (x2 : Int32) (x3 : Int32) (x4 : Int32) (σ : XS), K21 th x1 x2 x3 x4 σ → x_T p l e ({ frames := (7 + 1 * d), cells := 0, slots := 0, locals := 40 * (7 + 1 * d) } : Room) s m args below meth c E (va_Qi Q (fun σ' t => xW E σ' t) (xA E)) 0 0 7 21 0 0 σ [(0, xv E (some th)), (1, .int x1), (2, .int x2), (3, .int x3), (4, .int x4)] []) : ∀ (th : Nat) (x1 : Int32) (x2 : Int32) (x3 : Int32) (x4 : Int32) (σ : XS), wX0_elect_21 d Q K21 th x1 x2 x3 x4 σ → x_T p l e ({ frames := (7 + 1 * d), cells := 0, slots := 0, locals := 40 * (7 + 1 * d) } : Room) s m args below meth c E (va_Qi Q (fun σ' t => xW E σ' t) (xA E)) 0 0 7 21 0 0 σ [(0, xv E (some th)), (1, .int x1), (2, .int x2), (3, .int x3), (4, .int x4)] [] := by
  intro th x1 x2 x3 x4 σ hw H locs ls cells slots hR hS hl hcb hsb
  unfold wX0_elect_21 at hw
  obtain ⟨hx, hb, hml, hown, hts, hrt, hlk, hMK, hZ⟩ := id cx
  refine lv_iload hx hb dX0_elect_21 (lv_at hl 4 rfl) ?_
  refine x_aload_n cx dX0_elect_23 rfl (lv_at hl 0 rfl) ?_
  obtain ⟨hk2, hw⟩ := hw
  refine xg_X0_24_1 cx hR rfl hk2 dX0_elect_24 ?_
  obtain ⟨a4, hr4, hk4, hw⟩ := hw
  refine CX1_sets_X0_142 cx hR hS hr4 hk4 hw (by constructor <;> dsimp only <;> omega) (Nat.le_of_ble_eq_true rfl) hl.1 ⟨by dsimp only; omega, by dsimp only; omega⟩ dX0_elect_27 (fun r3 s3 H locs hw hR hS => ?_)
  refine lv_icmp_ge (tgt := 91) hx hb dX0_elect_30 (by decide) (fun hc => ?_) (fun hc => ?_)
  · have hw := mm_ip hc hw
    refine lv_iload_n hx hb dX0_elect_91 rfl (lv_at hl 1 rfl) ?_
    refine lv_if_ne (tgt := 102) hx hb dX0_elect_92 (by decide) (fun hc => ?_) (fun hc => ?_)
    · have hw := mm_in hc hw
      refine lv_iload_n hx hb dX0_elect_102 rfl (lv_at hl 3 rfl) ?_
      exact x_iret cx hR hS (xle hcb) (xle hsb) hw dX0_elect_103
    · have hw := mm_ip hc hw
      refine lv_iload_n hx hb dX0_elect_95 rfl (lv_at hl 3 rfl) ?_
      refine CJ11_bitCount_X0_198 cx hR hS  hw (by constructor <;> dsimp only <;> omega) (Nat.le_of_ble_eq_true rfl) hl.1 ⟨by dsimp only; omega, by dsimp only; omega⟩ dX0_elect_96 (fun r5 s5 H locs hw hR hS => ?_)
      refine lv_goto (tgt := 103) hx hb dX0_elect_99 (by decide) ?_
      exact x_iret cx hR hS (xle hcb) (xle hsb) hw dX0_elect_103
  · have hw := mm_in hc hw
    refine x_aload_n cx dX0_elect_33 rfl (lv_at hl 0 rfl) ?_
    refine lv_iload hx hb dX0_elect_34 (lv_at hl 4 rfl) ?_
    obtain ⟨hk7, hw⟩ := hw
    refine CX0_isNow_X0_347 cx hR hS rfl hk7 hw (by constructor <;> dsimp only <;> omega) (Nat.le_of_ble_eq_true rfl) hl.1 ⟨by dsimp only; omega, by dsimp only; omega⟩ dX0_elect_36 (fun r6 s6 H locs hw hR hS => ?_)
    refine lv_if_ne (tgt := 45) hx hb dX0_elect_39 (by decide) (fun hc => ?_) (fun hc => ?_)
    · have hw := mm_in hc hw
      refine x_aload_n cx dX0_elect_45 rfl (lv_at hl 0 rfl) ?_
      refine lv_iload_n hx hb dX0_elect_46 rfl (lv_at hl 2 rfl) ?_
      refine lv_iload hx hb dX0_elect_47 (lv_at hl 4 rfl) ?_
      obtain ⟨hk9, hw⟩ := hw
      refine CX0_wonOf_X0_403 cx hR hS rfl hk9 hw (by constructor <;> dsimp only <;> omega) (Nat.le_of_ble_eq_true rfl) hl.1 ⟨by dsimp only; omega, by dsimp only; omega⟩ dX0_elect_49 (fun r8 s8 H locs hw hR hS => ?_)
      refine lv_istore (i := 5) (lv' := [(5, .int r8), (0, xv E (some th)), (1, .int x1), (2, .int x2), (3, .int x3), (4, .int x4)]) hx hb dX0_elect_52 hl (by decide) rfl (fun ls hl => ?_)
      refine lv_iload hx hb dX0_elect_54 (lv_at hl 0 rfl) ?_
      refine CJ11_bitCount_X0_198 cx hR hS  hw (by constructor <;> dsimp only <;> omega) (Nat.le_of_ble_eq_true rfl) hl.1 ⟨by dsimp only; omega, by dsimp only; omega⟩ dX0_elect_56 (fun r10 s10 H locs hw hR hS => ?_)
      refine lv_iload_n hx hb dX0_elect_59 rfl (lv_at hl 4 rfl) ?_
      refine CJ11_bitCount_X0_198 cx hR hS  hw (by constructor <;> dsimp only <;> omega) (Nat.le_of_ble_eq_true rfl) hl.1 ⟨by dsimp only; omega, by dsimp only; omega⟩ dX0_elect_60 (fun r11 s11 H locs hw hR hS => ?_)
      refine lv_isub hx hb dX0_elect_63 ?_
      refine lv_topi (fun v12 hv12 => ?_)
      have hw := hw v12 hv12
      refine lv_istore (i := 6) (lv' := [(6, .int v12), (5, .int r8), (0, xv E (some th)), (1, .int x1), (2, .int x2), (3, .int x3), (4, .int x4)]) hx hb dX0_elect_64 hl (by decide) rfl (fun ls hl => ?_)
      refine lv_iload hx hb dX0_elect_66 (lv_at hl 0 rfl) ?_
      refine lv_if_gt (tgt := 82) hx hb dX0_elect_68 (by decide) (fun hc => ?_) (fun hc => ?_)
      · have hw := mm_ip hc hw
        exact BX0_elect_82 d cx hK21 _ _ _ _ _ _ hw _ _ _ _ _ hR hS (lv_sub hl [2, 3, 4, 6, 1] rfl) hcb hsb
      · have hw := mm_in hc hw
        refine lv_iload hx hb dX0_elect_71 (lv_at hl 0 rfl) ?_
        refine lv_if_ne (tgt := 85) hx hb dX0_elect_73 (by decide) (fun hc => ?_) (fun hc => ?_)
        · have hw := mm_in hc hw
          exact BX0_elect_85 d cx hK21 _ _ _ _ _ _ hw _ _ _ _ _ hR hS (lv_sub hl [2, 3, 4, 5, 6] rfl) hcb hsb
        · have hw := mm_ip hc hw
          refine lv_iload hx hb dX0_elect_76 (lv_at hl 1 rfl) ?_
          refine lv_iload_n hx hb dX0_elect_78 rfl (lv_at hl 5 rfl) ?_
          refine lv_icmp_ge (tgt := 85) hx hb dX0_elect_79 (by decide) (fun hc => ?_) (fun hc => ?_)
          · have hw := mm_ip hc hw
            exact BX0_elect_85 d cx hK21 _ _ _ _ _ _ hw _ _ _ _ _ hR hS (lv_sub hl [2, 3, 4, 5, 6] rfl) hcb hsb
          · have hw := mm_in hc hw
            exact BX0_elect_82 d cx hK21 _ _ _ _ _ _ hw _ _ _ _ _ hR hS (lv_sub hl [2, 3, 4, 6, 1] rfl) hcb hsb
    · have hw := mm_ip hc hw
      refine lv_goto (tgt := 85) hx hb dX0_elect_42 (by decide) ?_
      exact BX0_elect_85 d cx hK21 _ _ _ _ _ _ hw _ _ _ _ _ hR hS (lv_sub hl [0, 1, 2, 3, 4] rfl) hcb hsb
theorem LX0_elect_21 {l : Launch} {p : Program} {e : Env} {s : State} {m : MethodId} {args : Array Value} {below : List Frame} {meth : Method} {c : Code} {E : xx_E} {Q : Int32 → XS → Prop} (d : Nat) (cx : xx_X "StruckCounts" cX0_elect 7 (some .int) E p s m args meth c) : ∀ (th : Nat) (x1 : Int32) (x2 : Int32) (x3 : Int32) (x4 : Int32) (σ : XS), lp6F (wX0_elect_21 d Q) th x1 x2 x3 x4 σ → x_T p l e ({ frames := (7 + 1 * d), cells := 0, slots := 0, locals := 40 * (7 + 1 * d) } : Room) s m args below meth c E (va_Qi Q (fun σ' t => xW E σ' t) (xA E)) 0 0 7 21 0 0 σ [(0, xv E (some th)), (1, .int x1), (2, .int x2), (3, .int x3), (4, .int x4)] [] :=
  lp6F_of (fun K hK => BX0_elect_21 d cx hK)
def wX0_elect (d : Nat) (th : Nat) (x1 : Int32) (σ : XS) (Q : Int32 → XS → Prop) : Prop :=
  wX0_in x1 (0 : Int32) (1 : Int32) σ (fun r13 s13 => if r13 = 0 then (Q (-1 : Int32) s13) else (kd s13 th = 1 ∧ (wX0_standing d th s13 (fun r14 s14 => lp6F (wX0_elect_21 d Q) th x1 r14 (0 : Int32) (0 : Int32) s14))))
set_option maxHeartbeats 4000000 in
theorem MX0_elect (l : Launch) (E : xx_E) (d : Nat) (th : Nat) (x1 : Int32) (σ : XS) (Q : Int32 → XS → Prop) (hw : wX0_elect d th x1 σ Q) : xx_Mi l yX0_elect (ws_ yX0_elect cX0_elect 7 (some .int)) ({ frames := (7 + 1 * d), cells := 0, slots := 0, locals := 40 * (7 + 1 * d) } : Room) E [xv E (some th), .int x1] σ Q 0 0 := by
  refine x_of (own := "StruckCounts") (by decide +kernel) rfl ?_
  intro p e s m args below meth c cx hR ha hnm
  refine x_entry [xv E (some th), .int x1] 7 [(0, xv E (some th)), (1, .int x1)] ha (by simp [lg_sl, xv_cat, vc_i, vc_j, vc_f]) (by simp [lv_args, xv_cat, vc_i, vc_j, vc_f]) (fun ls hl => ?_)
  have hS : va_S (xA E) s.heap s.heap [] := va_S.rf
  have hcb : 0 + 0 ≤ 0 := Nat.le_of_eq (Nat.zero_add _)
  have hsb : 0 + 0 ≤ 0 := Nat.le_of_eq (Nat.zero_add _)
  unfold wX0_elect at hw
  obtain ⟨hx, hb, hml, hown, hts, hrt, hlk, hMK, hZ⟩ := id cx
  refine lv_iload_n hx hb dX0_elect_0 rfl (lv_at hl 1 rfl) ?_
  refine lv_iconst (v := (0 : Int32)) hx hb dX0_elect_1 (by decide) ?_
  refine lv_iconst (v := (1 : Int32)) hx hb dX0_elect_2 (by decide) ?_
  refine CX0_in_X0_96 cx hR hS  hw (by constructor <;> dsimp only <;> omega) (Nat.le_of_ble_eq_true rfl) hl.1 ⟨by dsimp only; omega, by dsimp only; omega⟩ dX0_elect_3 (fun r13 s13 H locs hw hR hS => ?_)
  refine lv_if_ne (tgt := 11) hx hb dX0_elect_6 (by decide) (fun hc => ?_) (fun hc => ?_)
  · have hw := mm_in hc hw
    refine x_aload_n cx dX0_elect_11 rfl (lv_at hl 0 rfl) ?_
    obtain ⟨hk15, hw⟩ := hw
    refine CX0_standing_X0_406 d cx hR hS rfl hk15 hw (by constructor <;> dsimp only <;> omega) (Nat.le_of_ble_eq_true rfl) hl.1 ⟨by dsimp only; omega, by dsimp only; omega⟩ dX0_elect_12 (fun r14 s14 H locs hw hR hS => ?_)
    refine lv_istore_n (i := 2) (lv' := [(2, .int r14), (0, xv E (some th)), (1, .int x1)]) hx hb dX0_elect_15 rfl hl (by decide) rfl (fun ls hl => ?_)
    refine lv_iconst (v := (0 : Int32)) hx hb dX0_elect_16 (by decide) ?_
    refine lv_istore_n (i := 3) (lv' := [(3, .int (0 : Int32)), (2, .int r14), (0, xv E (some th)), (1, .int x1)]) hx hb dX0_elect_17 rfl hl (by decide) rfl (fun ls hl => ?_)
    refine lv_iconst (v := (0 : Int32)) hx hb dX0_elect_18 (by decide) ?_
    refine lv_istore (i := 4) (lv' := [(4, .int (0 : Int32)), (3, .int (0 : Int32)), (2, .int r14), (0, xv E (some th)), (1, .int x1)]) hx hb dX0_elect_19 hl (by decide) rfl (fun ls hl => ?_)
    exact LX0_elect_21 d cx _ _ _ _ _ _ hw _ _ _ _ _ hR hS (lv_sub hl [3, 4, 2, 1, 0] rfl) hcb hsb
  · have hw := mm_ip hc hw
    refine lv_iconst (v := (-1 : Int32)) hx hb dX0_elect_9 (by decide) ?_
    exact x_iret cx hR hS (xle hcb) (xle hsb) hw dX0_elect_10
-- X0_asked
theorem xg_X0_49_1 {l : Launch} {p : Program} {e : Env} {R : Room} {s : State} {m : MethodId} {args : Array Value} {below : List Frame} {meth : Method} {c : Code} {H : Heap} {locs : List Loc} {cells slots : Nat} {Qz : State → Prop} {cc : ByteArray} {nL : Nat} {ret : Option FieldType} {E : xx_E} {σ : XS} {pc : Nat} {ls : Array Slot} {rest : List Value} (cx : xx_X "StruckCounts" cc nL ret E p s m args meth c) (hR : xR E σ H) {a : Nat} {r : Option Nat} (hr : r = some a) (hk : kd σ a = 1) (hdg : decode cc pc = .ok (.getfield 49, 3)) (kk : W p l e R s m args below meth c H locs cells slots Qz (F0 m (pc + 3) ls (.int (fi σ a 11) :: rest))) : W p l e R s m args below meth c H locs cells slots Qz (F0 m pc ls (xv E r :: rest)) :=
  x_get (ci := 0) cx hR hr hk (by decide) rfl in_X0 11 (by decide) q582 (fun _ h => h) (v := .int (fi σ a 11)) rfl hdg kk
theorem xg_X0_46_1 {l : Launch} {p : Program} {e : Env} {R : Room} {s : State} {m : MethodId} {args : Array Value} {below : List Frame} {meth : Method} {c : Code} {H : Heap} {locs : List Loc} {cells slots : Nat} {Qz : State → Prop} {cc : ByteArray} {nL : Nat} {ret : Option FieldType} {E : xx_E} {σ : XS} {pc : Nat} {ls : Array Slot} {rest : List Value} (cx : xx_X "StruckCounts" cc nL ret E p s m args meth c) (hR : xR E σ H) {a : Nat} {r : Option Nat} (hr : r = some a) (hk : kd σ a = 1) (hdg : decode cc pc = .ok (.getfield 46, 3)) (kk : W p l e R s m args below meth c H locs cells slots Qz (F0 m (pc + 3) ls (.int (fi σ a 10) :: rest))) : W p l e R s m args below meth c H locs cells slots Qz (F0 m pc ls (xv E r :: rest)) :=
  x_get (ci := 0) cx hR hr hk (by decide) rfl in_X0 10 (by decide) q581 (fun _ h => h) (v := .int (fi σ a 10)) rfl hdg kk
def wX0_asked (th : Nat) (x1 : Int32) (σ : XS) (Q : Int32 → XS → Prop) : Prop :=
  if x1 = 0 then (kd σ th = 1 ∧ (Q (fi σ th 10) σ)) else (if x1 = (1 : Int32) then (kd σ th = 1 ∧ (Q (fi σ th 11) σ)) else (Q (-1 : Int32) σ))
set_option maxHeartbeats 4000000 in
theorem MX0_asked (l : Launch) (E : xx_E) (th : Nat) (x1 : Int32) (σ : XS) (Q : Int32 → XS → Prop) (hw : wX0_asked th x1 σ Q) : xx_Mi l yX0_asked (ws_ yX0_asked cX0_asked 2 (some .int)) ({ frames := 0, cells := 0, slots := 0, locals := 0 } : Room) E [xv E (some th), .int x1] σ Q 0 0 := by
  refine x_of (own := "StruckCounts") (by decide +kernel) rfl ?_
  intro p e s m args below meth c cx hR ha hnm
  refine x_entry [xv E (some th), .int x1] 2 [(0, xv E (some th)), (1, .int x1)] ha (by simp [lg_sl, xv_cat, vc_i, vc_j, vc_f]) (by simp [lv_args, xv_cat, vc_i, vc_j, vc_f]) (fun ls hl => ?_)
  have hS : va_S (xA E) s.heap s.heap [] := va_S.rf
  have hcb : 0 + 0 ≤ 0 := Nat.le_of_eq (Nat.zero_add _)
  have hsb : 0 + 0 ≤ 0 := Nat.le_of_eq (Nat.zero_add _)
  unfold wX0_asked at hw
  obtain ⟨hx, hb, hml, hown, hts, hrt, hlk, hMK, hZ⟩ := id cx
  refine lv_iload_n hx hb dX0_asked_0 rfl (lv_at hl 1 rfl) ?_
  refine lv_if_ne (tgt := 11) hx hb dX0_asked_1 (by decide) (fun hc => ?_) (fun hc => ?_)
  · have hw := mm_in hc hw
    refine lv_iload_n hx hb dX0_asked_11 rfl (lv_at hl 1 rfl) ?_
    refine lv_iconst (v := (1 : Int32)) hx hb dX0_asked_12 (by decide) ?_
    refine lv_icmp_ne (tgt := 23) hx hb dX0_asked_13 (by decide) (fun hc => ?_) (fun hc => ?_)
    · have hw := mm_in hc hw
      refine lv_iconst (v := (-1 : Int32)) hx hb dX0_asked_23 (by decide) ?_
      exact x_iret cx hR hS (xle hcb) (xle hsb) hw dX0_asked_24
    · have hw := mm_ip hc hw
      refine x_aload_n cx dX0_asked_16 rfl (lv_at hl 0 rfl) ?_
      obtain ⟨hk1, hw⟩ := hw
      refine xg_X0_49_1 cx hR rfl hk1 dX0_asked_17 ?_
      refine lv_goto (tgt := 24) hx hb dX0_asked_20 (by decide) ?_
      exact x_iret cx hR hS (xle hcb) (xle hsb) hw dX0_asked_24
  · have hw := mm_ip hc hw
    refine x_aload_n cx dX0_asked_4 rfl (lv_at hl 0 rfl) ?_
    obtain ⟨hk2, hw⟩ := hw
    refine xg_X0_46_1 cx hR rfl hk2 dX0_asked_5 ?_
    refine lv_goto (tgt := 24) hx hb dX0_asked_8 (by decide) ?_
    exact x_iret cx hR hS (xle hcb) (xle hsb) hw dX0_asked_24
-- X0_count
theorem xg_X0_130_2 {l : Launch} {p : Program} {e : Env} {R : Room} {s : State} {m : MethodId} {args : Array Value} {below : List Frame} {meth : Method} {c : Code} {H : Heap} {locs : List Loc} {cells slots : Nat} {Qz : State → Prop} {cc : ByteArray} {nL : Nat} {ret : Option FieldType} {E : xx_E} {σ : XS} {pc : Nat} {ls : Array Slot} {rest : List Value} (cx : xx_X "StruckCounts" cc nL ret E p s m args meth c) (hR : xR E σ H) {a : Nat} {r : Option Nat} (hr : r = some a) (hk : kd σ a = 2) (hdg : decode cc pc = .ok (.getfield 130, 3)) (kk : W p l e R s m args below meth c H locs cells slots Qz (F0 m (pc + 3) ls (.int (fi σ a 7) :: rest))) : W p l e R s m args below meth c H locs cells slots Qz (F0 m pc ls (xv E r :: rest)) :=
  x_getN (ci := 1) cx hR hr hk (by decide) rfl in_X1 7 (by decide) (xx_nf_mem (i := 4) rfl) (fun _ h => h) (v := .int (fi σ a 7)) rfl hdg kk
def wX0_count (d : Nat) (th : Nat) (x1 : Int32) (σ : XS) (Q : Int32 → XS → Prop) : Prop :=
  if x1 = 0 then (kd σ th = 1 ∧ (oc σ (fr σ th 5) 2 (fun a2 => Q (fi σ a2 7) σ))) else (if x1 = 1 then (kd σ th = 1 ∧ (oc σ (fr σ th 5) 2 (fun a4 => Q (fi σ a4 5) σ))) else (if x1 = 2 then (kd σ th = 1 ∧ (oc σ (fr σ th 6) 3 (fun a6 => Q (fi σ a6 9) σ))) else (if x1 = 3 then (kd σ th = 1 ∧ (wX0_standing d th σ (fun r7 s7 => wJ11_bitCount r7 s7 (fun r9 s9 => Q r9 s9)))) else (if x1 = 4 then (kd σ th = 1 ∧ (oc σ (fr σ th 6) 3 (fun a11 => Q (fi σ a11 11) σ))) else (if x1 = 5 then (kd σ th = 1 ∧ (oc σ (fr σ th 6) 3 (fun a13 => if (fi σ a13 12) = 0 then (Q (0 : Int32) σ) else (Q (1 : Int32) σ)))) else (if x1 = 6 then (kd σ th = 1 ∧ (oc σ (fr σ th 6) 3 (fun a15 => wJ11_bitCount (fi σ a15 7) σ (fun r16 s16 => Q r16 s16)))) else (if x1 = 7 then (kd σ th = 1 ∧ (Q (fi σ th 4) σ)) else (if x1 = 8 then (kd σ th = 1 ∧ (Q (fi σ th 1) σ)) else (if x1 = 9 then (kd σ th = 1 ∧ (oc σ (fr σ th 5) 2 (fun a20 => Q (fi σ a20 8) σ))) else (Q (-1 : Int32) σ))))))))))
set_option maxHeartbeats 4000000 in
theorem MX0_count (l : Launch) (E : xx_E) (d : Nat) (th : Nat) (x1 : Int32) (σ : XS) (Q : Int32 → XS → Prop) (hw : wX0_count d th x1 σ Q) : xx_Mi l yX0_count (ws_ yX0_count cX0_count 2 (some .int)) ({ frames := (7 + 1 * d), cells := 0, slots := 0, locals := 40 * (7 + 1 * d) } : Room) E [xv E (some th), .int x1] σ Q 0 0 := by
  refine x_of (own := "StruckCounts") (by decide +kernel) rfl ?_
  intro p e s m args below meth c cx hR ha hnm
  refine x_entry [xv E (some th), .int x1] 2 [(0, xv E (some th)), (1, .int x1)] ha (by simp [lg_sl, xv_cat, vc_i, vc_j, vc_f]) (by simp [lv_args, xv_cat, vc_i, vc_j, vc_f]) (fun ls hl => ?_)
  have hS : va_S (xA E) s.heap s.heap [] := va_S.rf
  have hcb : 0 + 0 ≤ 0 := Nat.le_of_eq (Nat.zero_add _)
  have hsb : 0 + 0 ≤ 0 := Nat.le_of_eq (Nat.zero_add _)
  unfold wX0_count at hw
  obtain ⟨hx, hb, hml, hown, hts, hrt, hlk, hMK, hZ⟩ := id cx
  refine lv_iload_n hx hb dX0_count_0 rfl (lv_at hl 1 rfl) ?_
  by_cases hc0 : x1 = 0
  · have hw := mm_ip hc0 hw
    refine lv_tableIn (off := 55) (tgt := 56) hx hb dX0_count_1 (by rw [hc0]; decide) (by rw [hc0]; decide) (by rw [hc0]; decide) (by decide) ?_
    refine x_aload_n cx dX0_count_56 rfl (lv_at hl 0 rfl) ?_
    obtain ⟨hk1, hw⟩ := hw
    refine xg_X0_24_1 cx hR rfl hk1 dX0_count_57 ?_
    obtain ⟨a2, hr2, hk2, hw⟩ := hw
    refine xg_X0_130_2 cx hR hr2 hk2 dX0_count_60 ?_
    exact x_iret cx hR hS (xle hcb) (xle hsb) hw dX0_count_63
  have hw := mm_in hc0 hw
  by_cases hc1 : x1 = 1
  · have hw := mm_ip hc1 hw
    refine lv_tableIn (off := 63) (tgt := 64) hx hb dX0_count_1 (by rw [hc1]; decide) (by rw [hc1]; decide) (by rw [hc1]; decide) (by decide) ?_
    refine x_aload_n cx dX0_count_64 rfl (lv_at hl 0 rfl) ?_
    obtain ⟨hk3, hw⟩ := hw
    refine xg_X0_24_1 cx hR rfl hk3 dX0_count_65 ?_
    obtain ⟨a4, hr4, hk4, hw⟩ := hw
    refine xg_X0_133_2 cx hR hr4 hk4 dX0_count_68 ?_
    exact x_iret cx hR hS (xle hcb) (xle hsb) hw dX0_count_71
  have hw := mm_in hc1 hw
  by_cases hc2 : x1 = 2
  · have hw := mm_ip hc2 hw
    refine lv_tableIn (off := 71) (tgt := 72) hx hb dX0_count_1 (by rw [hc2]; decide) (by rw [hc2]; decide) (by rw [hc2]; decide) (by decide) ?_
    refine x_aload_n cx dX0_count_72 rfl (lv_at hl 0 rfl) ?_
    obtain ⟨hk5, hw⟩ := hw
    refine xg_X0_31_1 cx hR rfl hk5 dX0_count_73 ?_
    obtain ⟨a6, hr6, hk6, hw⟩ := hw
    refine xg_X0_136_3 cx hR hr6 hk6 dX0_count_76 ?_
    exact x_iret cx hR hS (xle hcb) (xle hsb) hw dX0_count_79
  have hw := mm_in hc2 hw
  by_cases hc3 : x1 = 3
  · have hw := mm_ip hc3 hw
    refine lv_tableIn (off := 79) (tgt := 80) hx hb dX0_count_1 (by rw [hc3]; decide) (by rw [hc3]; decide) (by rw [hc3]; decide) (by decide) ?_
    refine x_aload_n cx dX0_count_80 rfl (lv_at hl 0 rfl) ?_
    obtain ⟨hk8, hw⟩ := hw
    refine CX0_standing_X0_406 d cx hR hS rfl hk8 hw (by constructor <;> dsimp only <;> omega) (Nat.le_of_ble_eq_true rfl) hl.1 ⟨by dsimp only; omega, by dsimp only; omega⟩ dX0_count_81 (fun r7 s7 H locs hw hR hS => ?_)
    refine CJ11_bitCount_X0_198 cx hR hS  hw (by constructor <;> dsimp only <;> omega) (Nat.le_of_ble_eq_true rfl) hl.1 ⟨by dsimp only; omega, by dsimp only; omega⟩ dX0_count_84 (fun r9 s9 H locs hw hR hS => ?_)
    exact x_iret cx hR hS (xle hcb) (xle hsb) hw dX0_count_87
  have hw := mm_in hc3 hw
  by_cases hc4 : x1 = 4
  · have hw := mm_ip hc4 hw
    refine lv_tableIn (off := 87) (tgt := 88) hx hb dX0_count_1 (by rw [hc4]; decide) (by rw [hc4]; decide) (by rw [hc4]; decide) (by decide) ?_
    refine x_aload_n cx dX0_count_88 rfl (lv_at hl 0 rfl) ?_
    obtain ⟨hk10, hw⟩ := hw
    refine xg_X0_31_1 cx hR rfl hk10 dX0_count_89 ?_
    obtain ⟨a11, hr11, hk11, hw⟩ := hw
    refine xg_X0_340_3 cx hR hr11 hk11 dX0_count_92 ?_
    exact x_iret cx hR hS (xle hcb) (xle hsb) hw dX0_count_95
  have hw := mm_in hc4 hw
  by_cases hc5 : x1 = 5
  · have hw := mm_ip hc5 hw
    refine lv_tableIn (off := 95) (tgt := 96) hx hb dX0_count_1 (by rw [hc5]; decide) (by rw [hc5]; decide) (by rw [hc5]; decide) (by decide) ?_
    refine x_aload_n cx dX0_count_96 rfl (lv_at hl 0 rfl) ?_
    obtain ⟨hk12, hw⟩ := hw
    refine xg_X0_31_1 cx hR rfl hk12 dX0_count_97 ?_
    obtain ⟨a13, hr13, hk13, hw⟩ := hw
    refine xg_X0_316_3 cx hR hr13 hk13 dX0_count_100 ?_
    refine lv_if_eq (tgt := 110) hx hb dX0_count_103 (by decide) (fun hc => ?_) (fun hc => ?_)
    · have hw := mm_ip hc hw
      refine lv_iconst (v := (0 : Int32)) hx hb dX0_count_110 (by decide) ?_
      exact x_iret cx hR hS (xle hcb) (xle hsb) hw dX0_count_111
    · have hw := mm_in hc hw
      refine lv_iconst (v := (1 : Int32)) hx hb dX0_count_106 (by decide) ?_
      refine lv_goto (tgt := 111) hx hb dX0_count_107 (by decide) ?_
      exact x_iret cx hR hS (xle hcb) (xle hsb) hw dX0_count_111
  have hw := mm_in hc5 hw
  by_cases hc6 : x1 = 6
  · have hw := mm_ip hc6 hw
    refine lv_tableIn (off := 111) (tgt := 112) hx hb dX0_count_1 (by rw [hc6]; decide) (by rw [hc6]; decide) (by rw [hc6]; decide) (by decide) ?_
    refine x_aload_n cx dX0_count_112 rfl (lv_at hl 0 rfl) ?_
    obtain ⟨hk14, hw⟩ := hw
    refine xg_X0_31_1 cx hR rfl hk14 dX0_count_113 ?_
    obtain ⟨a15, hr15, hk15, hw⟩ := hw
    refine xg_X0_149_3 cx hR hr15 hk15 dX0_count_116 ?_
    refine CJ11_bitCount_X0_198 cx hR hS  hw (by constructor <;> dsimp only <;> omega) (Nat.le_of_ble_eq_true rfl) hl.1 ⟨by dsimp only; omega, by dsimp only; omega⟩ dX0_count_119 (fun r16 s16 H locs hw hR hS => ?_)
    exact x_iret cx hR hS (xle hcb) (xle hsb) hw dX0_count_122
  have hw := mm_in hc6 hw
  by_cases hc7 : x1 = 7
  · have hw := mm_ip hc7 hw
    refine lv_tableIn (off := 122) (tgt := 123) hx hb dX0_count_1 (by rw [hc7]; decide) (by rw [hc7]; decide) (by rw [hc7]; decide) (by decide) ?_
    refine x_aload_n cx dX0_count_123 rfl (lv_at hl 0 rfl) ?_
    obtain ⟨hk17, hw⟩ := hw
    refine xg_X0_127_1 cx hR rfl hk17 dX0_count_124 ?_
    exact x_iret cx hR hS (xle hcb) (xle hsb) hw dX0_count_127
  have hw := mm_in hc7 hw
  by_cases hc8 : x1 = 8
  · have hw := mm_ip hc8 hw
    refine lv_tableIn (off := 127) (tgt := 128) hx hb dX0_count_1 (by rw [hc8]; decide) (by rw [hc8]; decide) (by rw [hc8]; decide) (by decide) ?_
    refine x_aload_n cx dX0_count_128 rfl (lv_at hl 0 rfl) ?_
    obtain ⟨hk18, hw⟩ := hw
    refine xg_X0_93_1 cx hR rfl hk18 dX0_count_129 ?_
    exact x_iret cx hR hS (xle hcb) (xle hsb) hw dX0_count_132
  have hw := mm_in hc8 hw
  by_cases hc9 : x1 = 9
  · have hw := mm_ip hc9 hw
    refine lv_tableIn (off := 132) (tgt := 133) hx hb dX0_count_1 (by rw [hc9]; decide) (by rw [hc9]; decide) (by rw [hc9]; decide) (by decide) ?_
    refine x_aload_n cx dX0_count_133 rfl (lv_at hl 0 rfl) ?_
    obtain ⟨hk19, hw⟩ := hw
    refine xg_X0_24_1 cx hR rfl hk19 dX0_count_134 ?_
    obtain ⟨a20, hr20, hk20, hw⟩ := hw
    refine xg_X0_244_2 cx hR hr20 hk20 dX0_count_137 ?_
    exact x_iret cx hR hS (xle hcb) (xle hsb) hw dX0_count_140
  have hw := mm_in hc9 hw
  refine lv_tableOut (tgt := 141) hx hb dX0_count_1 (sw_out 0 9 [(0 : Int32), (1 : Int32), (2 : Int32), (3 : Int32), (4 : Int32), (5 : Int32), (6 : Int32), (7 : Int32), (8 : Int32), (9 : Int32)] (by simp only [List.all_cons, List.all_nil, Bool.and_true, Bool.and_eq_true, decide_eq_true_eq]; exact ⟨hc0, hc1, hc2, hc3, hc4, hc5, hc6, hc7, hc8, hc9⟩) (by intro z h1 h2; exact sw_in10 z h1 h2)) (by decide) ?_
  refine lv_iconst (v := (-1 : Int32)) hx hb dX0_count_141 (by decide) ?_
  exact x_iret cx hR hS (xle hcb) (xle hsb) hw dX0_count_142
