set_option maxRecDepth 100000
/-- the cells that are made since the law's entry -/
def lA (s : State) (q : Nat) : Prop := s.heap.size ≤ q
section LAWR
variable {p : Program} {l : Launch} {e : Env} {R : Room} {s : State} {m : MethodId} {args : Array Value} {below : List Frame} {meth : Method} {c : Code} {H : Heap} {cells slots mc ms : Nat} {Q : State → Prop}
variable {E : xx_E} {G : mm_G} {σ : XS} {τ : MS} {pc : Nat} {ls : Array Slot} {rest st : List Value} {av : Array Value}
/-- a method of x, called by the law -/
theorem law_xi {Qf : Int32 → XS → Prop} (hbase : ∀ q, xA E q → lA s q) (hr : va_Run p l e R s m args below meth c H [] cells slots mc ms (F0 m pc ls st) rest (va_Qi Qf (fun σ' t => xW E σ' t) (xA E) av) (xA E)) (hS0 : va_S (lA s) s.heap H [])
    (kk : ∀ (r : Int32) (σ1 : XS) (H1 : Heap), Qf r σ1 → xR E σ1 H1 → H.size ≤ H1.size → (∀ q : Nat, q < H.size → ¬ xA E q → H1[q]? = H[q]?) → va_S (lA s) s.heap H1 [] → W p l e R s m args below meth c H1 [] (cells + mc) (slots + ms) Q (F0 m (pc + 3) ls (.int r :: rest))) : W p l e R s m args below meth c H [] cells slots Q (F0 m pc ls st) :=
  va_calli hr hS0 (fun q _ h => hbase q h) (fun q h => hbase q h) (fun r u t H1 locs1 ht hvm hw hB hz1 hk1 hS => va_forget (fun q hq => hS.2.2 q hq) (kk r u H1 hw (x_after ht hB) hz1 hk1 ⟨hS.1, hS.2.1, fun q hq => nomatch hq⟩))
theorem law_xv {Qf : XS → Prop} (hbase : ∀ q, xA E q → lA s q) (hr : va_Run p l e R s m args below meth c H [] cells slots mc ms (F0 m pc ls st) rest (va_Qv Qf (fun σ' t => xW E σ' t) (xA E) av) (xA E)) (hS0 : va_S (lA s) s.heap H [])
    (kk : ∀ (σ1 : XS) (H1 : Heap), Qf σ1 → xR E σ1 H1 → H.size ≤ H1.size → (∀ q : Nat, q < H.size → ¬ xA E q → H1[q]? = H[q]?) → va_S (lA s) s.heap H1 [] → W p l e R s m args below meth c H1 [] (cells + mc) (slots + ms) Q (F0 m (pc + 3) ls rest)) : W p l e R s m args below meth c H [] cells slots Q (F0 m pc ls st) :=
  va_callv hr hS0 (fun q _ h => hbase q h) (fun q h => hbase q h) (fun u t H1 locs1 ht hvm hw hB hz1 hk1 hS => va_forget (fun q hq => hS.2.2 q hq) (kk u H1 hw (x_after ht hB) hz1 hk1 ⟨hS.1, hS.2.1, fun q hq => nomatch hq⟩))
/-- a method of m, called by the law -/
theorem law_mi {Qf : Int32 → MS → Prop} (hbase : ∀ q, mm_A G q → lA s q) (hr : va_Run p l e R s m args below meth c H [] cells slots 0 0 (F0 m pc ls st) rest (va_Qi Qf (fun σ' t => mm_W G σ' t) (mm_A G) av) (mm_A G)) (hS0 : va_S (lA s) s.heap H [])
    (kk : ∀ (r : Int32) (τ1 : MS) (H1 : Heap), Qf r τ1 → mm_R G τ1 H1 → H.size ≤ H1.size → (∀ q : Nat, q < H.size → ¬ mm_A G q → H1[q]? = H[q]?) → va_S (lA s) s.heap H1 [] → W p l e R s m args below meth c H1 [] cells slots Q (F0 m (pc + 3) ls (.int r :: rest))) : W p l e R s m args below meth c H [] cells slots Q (F0 m pc ls st) :=
  va_calli hr hS0 (fun q _ h => hbase q h) (fun q h => hbase q h) (fun r u t H1 locs1 ht hvm hw hB hz1 hk1 hS => va_forget (fun q hq => hS.2.2 q hq) (kk r u H1 hw (mm_after ht hB) hz1 hk1 ⟨hS.1, hS.2.1, fun q hq => nomatch hq⟩))
/-- x's call keeps m -/
theorem law_keepM {H1 : Heap} (h : mm_R G τ H) (hk : ∀ q : Nat, q < H.size → ¬ xA E q → H1[q]? = H[q]?) (hfo : ∀ q, mm_A G q ∨ q = mm_a G 42 → ¬ xA E q) : mm_R G τ H1 := by
  obtain ⟨h1, h2, h3, h4⟩ := h
  have same : ∀ q (c9 : Cell), H[q]? = some c9 → (mm_A G q ∨ q = mm_a G 42) → H1[q]? = some c9 := fun q c9 hq ha => by
    rw [hk q (Array.getElem?_eq_some_iff.mp hq).1 (hfo q ha)]
    exact hq
  refine ⟨?_, fun k hk9 => ?_, fun k hk9 => ?_, ?_⟩
  · obtain ⟨cell, q1, q2⟩ := h1
    exact ⟨cell, same _ _ q1 (Or.inl (Or.inl rfl)), q2⟩
  · have := h2 k hk9
    by_cases h42 : k = 42
    · exact same _ _ this (Or.inr (by rw [h42]))
    · refine same _ _ this (Or.inl (Or.inr ⟨k, ?_, rfl⟩))
      unfold mm_r
      have hw : mm_w k = true := by
        revert hk9 h42
        unfold mm_i mm_w
        split <;> simp_all
      rw [hw]
      rfl
  · refine same _ _ (h3 k hk9) (Or.inl (Or.inr ⟨k, ?_, rfl⟩))
    rcases hk9 with rfl | rfl <;> rfl
  · exact same _ _ h4 (Or.inl (Or.inr ⟨7, rfl, rfl⟩))
/-- m's call keeps x -/
theorem law_keepX {H1 : Heap} (hE : ∀ i, i < xK → xx_e E i < xx_b E) (h : xR E σ H) (hz : H.size ≤ H1.size) (hk : ∀ q : Nat, q < H.size → ¬ mm_A G q → H1[q]? = H[q]?) (hfo : ∀ a, kd σ a ≠ 0 → ¬ mm_A G (xr E a)) : ∃ n', xn σ ≤ n' ∧ xR E (xsk σ n') H1 := by
  refine ⟨xn σ + (H1.size - H.size), Nat.le_add_right _ _, ?_⟩
  obtain ⟨h0, h1, h2, h3, h4⟩ := h
  have hk9 : ∀ a, kd (xsk σ (xn σ + (H1.size - H.size))) a = if xn σ ≤ a then 0 else kd σ a := fun a => rfl
  have hlow : ∀ b, kd σ b ≠ 0 → xr E b < H.size := by
    intro b hb
    have := (h3 b hb).1
    unfold xr
    split
    · rename_i hb2
      have := hE b hb2
      omega
    · omega
  refine ⟨Nat.le_trans h0 (Nat.le_add_right _ _), ?_, fun q hq => h2 q (by omega), fun a ha => ?_, fun a => ⟨fun c hc hc2 => ?_, fun t ht ht2 => ?_⟩⟩
  · show H1.size = xx_b E + (xn σ + (H1.size - H.size) - xK)
    omega
  · rw [hk9] at ha
    split at ha
    · exact absurd rfl ha
    · exact ⟨Nat.lt_of_lt_of_le (h3 a ha).1 (Nat.le_add_right _ _), (h3 a ha).2⟩
  · rw [hk9] at hc
    split at hc
    · omega
    · obtain ⟨cell, q1, q2⟩ := (h4 a).1 c hc hc2
      exact ⟨cell, by rw [hk _ (hlow a (by omega)) (hfo a (by omega))]; exact q1, q2⟩
  · rw [hk9] at ht
    split at ht
    · omega
    · rw [hk _ (hlow a (by omega)) (hfo a (by omega))]
      exact (h4 a).2 t ht ht2
end LAWR
