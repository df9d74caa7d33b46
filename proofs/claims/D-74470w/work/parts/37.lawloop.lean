set_option maxRecDepth 100000
theorem law_sub {L : Nat} (hL : L ≤ 120) : (Int32.ofNat L - 5).toInt = (L : Int) - 5 := by
  have h5 : (5 : Int32).toInt = 5 := by decide
  have h1 : (Int32.ofNat L).toInt = (L : Int) := nI_toInt (by omega)
  rw [Int32.toInt_sub, h1, h5]
  exact Int.bmod_eq_of_le (by omega) (by omega)
theorem law_gt {L j : Nat} (hL : L ≤ 120) (h : j < 1000) (hj : L < j + 5) : Int32.ofNat L - 5 < nI j := by
  rw [Int32.lt_iff_toInt_lt, law_sub hL, nI_toInt (by omega)]
  omega
theorem law_le {L j : Nat} (hL : L ≤ 120) (hj : j + 5 ≤ L) : ¬ Int32.ofNat L - 5 < nI j := by
  rw [Int32.lt_iff_toInt_lt, law_sub hL, nI_toInt (by omega)]
  omega
theorem law_add5 {j : Nat} (hj : j < 1000) : nI j + 5 = nI (j + 5) := by
  apply Int32.toInt_inj.mp
  have h5 : (5 : Int32).toInt = 5 := by decide
  rw [Int32.toInt_add, h5, nI_toInt (by omega), nI_toInt (by omega), Int.bmod_eq_of_le (by omega) (by omega)]
  omega
theorem sw_r_0_40 : ∀ z : Int, 0 ≤ z → z ≤ 40 → ∃ c ∈ ([(0 : Int32), (1 : Int32), (2 : Int32), (3 : Int32), (4 : Int32), (5 : Int32), (6 : Int32), (7 : Int32), (8 : Int32), (9 : Int32), (10 : Int32), (11 : Int32), (12 : Int32), (13 : Int32), (14 : Int32), (15 : Int32), (16 : Int32), (17 : Int32), (18 : Int32), (19 : Int32), (20 : Int32), (21 : Int32), (22 : Int32), (23 : Int32), (24 : Int32), (25 : Int32), (26 : Int32), (27 : Int32), (28 : Int32), (29 : Int32), (30 : Int32), (31 : Int32), (32 : Int32), (33 : Int32), (34 : Int32), (35 : Int32), (36 : Int32), (37 : Int32), (38 : Int32), (39 : Int32), (40 : Int32)] : List Int32), c.toInt = z := by
  intro z h1 h2
  have h : z = 0 ∨ z = 1 ∨ z = 2 ∨ z = 3 ∨ z = 4 ∨ z = 5 ∨ z = 6 ∨ z = 7 ∨ z = 8 ∨ z = 9 ∨ z = 10 ∨ z = 11 ∨ z = 12 ∨ z = 13 ∨ z = 14 ∨ z = 15 ∨ z = 16 ∨ z = 17 ∨ z = 18 ∨ z = 19 ∨ z = 20 ∨ z = 21 ∨ z = 22 ∨ z = 23 ∨ z = 24 ∨ z = 25 ∨ z = 26 ∨ z = 27 ∨ z = 28 ∨ z = 29 ∨ z = 30 ∨ z = 31 ∨ z = 32 ∨ z = 33 ∨ z = 34 ∨ z = 35 ∨ z = 36 ∨ z = 37 ∨ z = 38 ∨ z = 39 ∨ z = 40 := by omega
  rcases h with rfl | rfl | rfl | rfl | rfl | rfl | rfl | rfl | rfl | rfl | rfl | rfl | rfl | rfl | rfl | rfl | rfl | rfl | rfl | rfl | rfl | rfl | rfl | rfl | rfl | rfl | rfl | rfl | rfl | rfl | rfl | rfl | rfl | rfl | rfl | rfl | rfl | rfl | rfl | rfl | rfl
  · exact ⟨0, by decide, by decide⟩
  · exact ⟨1, by decide, by decide⟩
  · exact ⟨2, by decide, by decide⟩
  · exact ⟨3, by decide, by decide⟩
  · exact ⟨4, by decide, by decide⟩
  · exact ⟨5, by decide, by decide⟩
  · exact ⟨6, by decide, by decide⟩
  · exact ⟨7, by decide, by decide⟩
  · exact ⟨8, by decide, by decide⟩
  · exact ⟨9, by decide, by decide⟩
  · exact ⟨10, by decide, by decide⟩
  · exact ⟨11, by decide, by decide⟩
  · exact ⟨12, by decide, by decide⟩
  · exact ⟨13, by decide, by decide⟩
  · exact ⟨14, by decide, by decide⟩
  · exact ⟨15, by decide, by decide⟩
  · exact ⟨16, by decide, by decide⟩
  · exact ⟨17, by decide, by decide⟩
  · exact ⟨18, by decide, by decide⟩
  · exact ⟨19, by decide, by decide⟩
  · exact ⟨20, by decide, by decide⟩
  · exact ⟨21, by decide, by decide⟩
  · exact ⟨22, by decide, by decide⟩
  · exact ⟨23, by decide, by decide⟩
  · exact ⟨24, by decide, by decide⟩
  · exact ⟨25, by decide, by decide⟩
  · exact ⟨26, by decide, by decide⟩
  · exact ⟨27, by decide, by decide⟩
  · exact ⟨28, by decide, by decide⟩
  · exact ⟨29, by decide, by decide⟩
  · exact ⟨30, by decide, by decide⟩
  · exact ⟨31, by decide, by decide⟩
  · exact ⟨32, by decide, by decide⟩
  · exact ⟨33, by decide, by decide⟩
  · exact ⟨34, by decide, by decide⟩
  · exact ⟨35, by decide, by decide⟩
  · exact ⟨36, by decide, by decide⟩
  · exact ⟨37, by decide, by decide⟩
  · exact ⟨38, by decide, by decide⟩
  · exact ⟨39, by decide, by decide⟩
  · exact ⟨40, by decide, by decide⟩
/-- one round of the law: v is the operation's number -/
def lawStep (th : Nat) (v a1 a2 a3 a4 : Int32) (σ : XS) (τ : MS) (K : Nat → Nat → XS → MS → Prop) : Prop :=
  if v = 0 then lawS_0 th a1 a2 a3 a4 σ τ K else if v = 1 then lawS_1 th a1 a2 a3 a4 σ τ K else if v = 2 then lawS_2 th a1 a2 a3 a4 σ τ K else if v = 3 then lawS_3 th a1 a2 a3 a4 σ τ K else if v = 4 then lawS_4 th a1 a2 a3 a4 σ τ K else if v = 5 then lawS_5 th a1 a2 a3 a4 σ τ K else if v = 6 then lawS_6 th a1 a2 a3 a4 σ τ K else if v = 7 then lawS_7 th a1 a2 a3 a4 σ τ K else if v = 8 then lawS_8 th a1 a2 a3 a4 σ τ K else if v = 9 then lawS_9 th a1 a2 a3 a4 σ τ K else if v = 10 then lawS_10 th a1 a2 a3 a4 σ τ K else if v = 11 then lawS_11 th a1 a2 a3 a4 σ τ K else if v = 12 then lawS_12 th a1 a2 a3 a4 σ τ K else if v = 13 then lawS_13 th a1 a2 a3 a4 σ τ K else if v = 14 then lawS_14 th a1 a2 a3 a4 σ τ K else if v = 15 then lawS_15 th a1 a2 a3 a4 σ τ K else if v = 16 then lawS_16 th a1 a2 a3 a4 σ τ K else if v = 17 then lawS_17 th a1 a2 a3 a4 σ τ K else if v = 18 then lawS_18 th a1 a2 a3 a4 σ τ K else if v = 19 then lawS_19 th a1 a2 a3 a4 σ τ K else if v = 20 then lawS_20 th a1 a2 a3 a4 σ τ K else if v = 21 then lawS_21 th a1 a2 a3 a4 σ τ K else if v = 22 then lawS_22 th a1 a2 a3 a4 σ τ K else if v = 23 then lawS_23 th a1 a2 a3 a4 σ τ K else if v = 24 then lawS_24 th a1 a2 a3 a4 σ τ K else if v = 25 then lawS_25 th a1 a2 a3 a4 σ τ K else if v = 26 then lawS_26 th a1 a2 a3 a4 σ τ K else if v = 27 then lawS_27 th a1 a2 a3 a4 σ τ K else if v = 28 then lawS_28 th a1 a2 a3 a4 σ τ K else if v = 29 then lawS_29 th a1 a2 a3 a4 σ τ K else if v = 30 then lawS_30 th a1 a2 a3 a4 σ τ K else if v = 31 then lawS_31 th a1 a2 a3 a4 σ τ K else if v = 32 then lawS_32 th a1 a2 a3 a4 σ τ K else if v = 33 then lawS_33 th a1 a2 a3 a4 σ τ K else if v = 34 then lawS_34 th a1 a2 a3 a4 σ τ K else if v = 35 then lawS_35 th a1 a2 a3 a4 σ τ K else if v = 36 then lawS_36 th a1 a2 a3 a4 σ τ K else if v = 37 then lawS_37 th a1 a2 a3 a4 σ τ K else if v = 38 then lawS_38 th a1 a2 a3 a4 σ τ K else if v = 39 then lawS_39 th a1 a2 a3 a4 σ τ K else if v = 40 then lawS_40 th a1 a2 a3 a4 σ τ K else K 0 0 σ τ
theorem law_loop {p : Program} {l : Launch} {e : Env} {s : State} {m : MethodId} {below : List Frame} {meth : Method} {c : Code} {E : xx_E} {G : mm_G} {b L th : Nat} {xs : Nat → Int32} (hl9 : l.stackTraces = false) (hcX : lawX E G p s m #[Value.ref b] meth c b L xs) (hL : L ≤ 120)
    (I : Nat → XS → MS → Prop) (hI : ∀ r σ τ, I r σ τ → kd σ th = 1 ∧ (r < 24 → lawStep th (xs (5 * r) &&& 63) (xs (5 * r + 1)) (xs (5 * r + 2)) (xs (5 * r + 3)) (xs (5 * r + 4)) σ τ (fun _ _ σ1 τ1 => I (r + 1) σ1 τ1))) :
    ∀ (d r : Nat), d + r = 24 → ∀ (H : Heap) (cells slots : Nat) (ls : Array Slot) (σ : XS) (τ : MS), I r σ τ → xR E σ H → mm_R G τ H → va_S (lA s) s.heap H [] → cells ≤ 20000 + 49000 * r → slots ≤ 40000 + 227000 * r → lv_has ls 4 [(3, .int (nI (5 * r))), (2, .ref (mm_o G)), (1, xv E (some th)), (0, .ref b)] →
      W p l e room_1 s m #[Value.ref b] below meth c H [] cells slots (lw_Z below #[Value.ref b] s) (F0 m 18 ls []) := by
  obtain ⟨cx, hK, hZ, hX, hbl, hbs, hfo1, hthr⟩ := id hcX
  obtain ⟨hx, hb, hml, hown, hts, hrt, hlk, hKx, hZx⟩ := id cx
  intro d
  induction d with
  | zero =>
    intro r hr H cells slots ls σ τ hII hR hM hS hcl hsl hl
    refine lv_iload_n hx hb dL_law_18 rfl (lv_at hl 0 rfl) ?_
    refine lv_aload_n hx hb dL_law_19 rfl (lv_at hl 3 rfl) ?_
    refine va_slen (A := lA s) hx hb hX hbl (fun h => absurd h (Nat.not_le.mpr hbl)) hS dL_law_20 ?_
    refine lv_iconst (v := (5 : Int32)) hx hb dL_law_21 (by decide) ?_
    refine lv_isub hx hb dL_law_22 ?_
    refine lv_icmp_gt (tgt := 1420) hx hb dL_law_23 (by decide) (fun _ => ?_) (fun h => absurd (law_gt (j := 5 * r) hL (by omega) (by omega)) h)
    refine lv_iconst (v := (1 : Int32)) hx hb dL_law_1420 (by decide) ?_
    exact W.widen (by omega) (by omega) (lw_ret hx hb hrt hlk dL_law_1421)
  | succ d ih =>
    intro r hr H cells slots ls σ τ hII hR hM hS hcl hsl hl
    refine lv_iload_n hx hb dL_law_18 rfl (lv_at hl 0 rfl) ?_
    refine lv_aload_n hx hb dL_law_19 rfl (lv_at hl 3 rfl) ?_
    refine va_slen (A := lA s) hx hb hX hbl (fun h => absurd h (Nat.not_le.mpr hbl)) hS dL_law_20 ?_
    refine lv_iconst (v := (5 : Int32)) hx hb dL_law_21 (by decide) ?_
    refine lv_isub hx hb dL_law_22 ?_
    by_cases hj : 5 * r + 5 ≤ L
    case neg =>
      refine lv_icmp_gt (tgt := 1420) hx hb dL_law_23 (by decide) (fun _ => ?_) (fun h => absurd (law_gt (j := 5 * r) hL (by omega) (by omega)) h)
      refine lv_iconst (v := (1 : Int32)) hx hb dL_law_1420 (by decide) ?_
      exact W.widen (by omega) (by omega) (lw_ret hx hb hrt hlk dL_law_1421)
    refine lv_icmp_gt (tgt := 1420) hx hb dL_law_23 (by decide) (fun h => absurd h (law_le (j := 5 * r) hL hj)) (fun _ => ?_)
    refine lv_aload_n hx hb dL_law_26 rfl (lv_at hl 3 rfl) ?_
    refine lv_iload_n hx hb dL_law_27 rfl (lv_at hl 0 rfl) ?_
    refine va_sld (A := lA s) hx hb hX hbl (fun h => absurd h (Nat.not_le.mpr hbl)) hS (fun h => by rcases h with h | h; exact nI_pos (by omega) h; rw [nI_clamp (by omega)] at h; omega) dL_law_28 ?_
    rw [nI_clamp (by omega)]
    refine lv_bipush (v := (63 : Int32)) hx hb dL_law_29 (by decide) ?_
    refine lv_iand hx hb dL_law_31 ?_
    have hi : nI (5 * r) = nI (5 * r) := rfl
    have hst := (hI _ _ _ hII).2 (by omega)
    have hgo : ∀ (k n : Nat) (σ1 : XS) (τ1 : MS) (H1 : Heap), I (r + 1) σ1 τ1 → k ≤ 49000 → n ≤ 227000 → xR E σ1 H1 → mm_R G τ1 H1 → va_S (lA s) s.heap H1 [] → W p l e room_1 s m #[Value.ref b] below meth c H1 [] (cells + k) (slots + n) (lw_Z below #[Value.ref b] s) (F0 m 1414 ls []) := by
      intro k n σ1 τ1 H1 hII1 hk hn hR1 hM1 hS1
      refine lv_iinc (v := nI (5 * (r + 1))) (lv' := [(3, .int (nI (5 * (r + 1)))), (2, .ref (mm_o G)), (1, xv E (some th)), (0, .ref b)]) hx hb dL_law_1414 hl (k := 0) rfl (by rw [show 5 * (r + 1) = 5 * r + 5 by omega]; exact law_add5 (j := 5 * r) (by omega)) (by decide) (by simp [xv_cat, xcat_r]) (fun ls1 hl1 => ?_)
      refine lv_goto (tgt := 18) hx hb dL_law_1417 (by decide) ?_
      exact ih (r + 1) (by omega) H1 _ _ ls1 σ1 τ1 hII1 hR1 hM1 hS1 (by omega) (by omega) hl1
    generalize hv : xs (5 * r) &&& 63 = v at hst ⊢
    unfold lawStep at hst
    by_cases hc0 : v = 0
    · replace hst := mm_ip hc0 hst
      refine lv_tableIn (off := 180) (tgt := 212) hx hb dL_law_32 (by rw [hc0]; decide) (by rw [hc0]; decide) (by rw [hc0]; decide) (by decide) ?_
      exact lawW_0 hl9 hcX hl hi (by omega) hL hR hM hS (hI _ _ _ hII).1 (by omega) (by omega) hst hgo
    replace hst := mm_in hc0 hst
    by_cases hc1 : v = 1
    · replace hst := mm_ip hc1 hst
      refine lv_tableIn (off := 203) (tgt := 235) hx hb dL_law_32 (by rw [hc1]; decide) (by rw [hc1]; decide) (by rw [hc1]; decide) (by decide) ?_
      exact lawW_1 hl9 hcX hl hi (by omega) hL hR hM hS (hI _ _ _ hII).1 (by omega) (by omega) hst hgo
    replace hst := mm_in hc1 hst
    by_cases hc2 : v = 2
    · replace hst := mm_ip hc2 hst
      refine lv_tableIn (off := 226) (tgt := 258) hx hb dL_law_32 (by rw [hc2]; decide) (by rw [hc2]; decide) (by rw [hc2]; decide) (by decide) ?_
      exact lawW_2 hl9 hcX hl hi (by omega) hL hR hM hS (hI _ _ _ hII).1 (by omega) (by omega) hst hgo
    replace hst := mm_in hc2 hst
    by_cases hc3 : v = 3
    · replace hst := mm_ip hc3 hst
      refine lv_tableIn (off := 239) (tgt := 271) hx hb dL_law_32 (by rw [hc3]; decide) (by rw [hc3]; decide) (by rw [hc3]; decide) (by decide) ?_
      exact lawW_3 hl9 hcX hl hi (by omega) hL hR hM hS (hI _ _ _ hII).1 (by omega) (by omega) hst hgo
    replace hst := mm_in hc3 hst
    by_cases hc4 : v = 4
    · replace hst := mm_ip hc4 hst
      refine lv_tableIn (off := 262) (tgt := 294) hx hb dL_law_32 (by rw [hc4]; decide) (by rw [hc4]; decide) (by rw [hc4]; decide) (by decide) ?_
      exact lawW_4 hl9 hcX hl hi (by omega) hL hR hM hS (hI _ _ _ hII).1 (by omega) (by omega) hst hgo
    replace hst := mm_in hc4 hst
    by_cases hc5 : v = 5
    · replace hst := mm_ip hc5 hst
      refine lv_tableIn (off := 295) (tgt := 327) hx hb dL_law_32 (by rw [hc5]; decide) (by rw [hc5]; decide) (by rw [hc5]; decide) (by decide) ?_
      exact lawW_5 hl9 hcX hl hi (by omega) hL hR hM hS (hI _ _ _ hII).1 (by omega) (by omega) hst hgo
    replace hst := mm_in hc5 hst
    by_cases hc6 : v = 6
    · replace hst := mm_ip hc6 hst
      refine lv_tableIn (off := 328) (tgt := 360) hx hb dL_law_32 (by rw [hc6]; decide) (by rw [hc6]; decide) (by rw [hc6]; decide) (by decide) ?_
      exact lawW_6 hl9 hcX hl hi (by omega) hL hR hM hS (hI _ _ _ hII).1 (by omega) (by omega) hst hgo
    replace hst := mm_in hc6 hst
    by_cases hc7 : v = 7
    · replace hst := mm_ip hc7 hst
      refine lv_tableIn (off := 371) (tgt := 403) hx hb dL_law_32 (by rw [hc7]; decide) (by rw [hc7]; decide) (by rw [hc7]; decide) (by decide) ?_
      exact lawW_7 hl9 hcX hl hi (by omega) hL hR hM hS (hI _ _ _ hII).1 (by omega) (by omega) hst hgo
    replace hst := mm_in hc7 hst
    by_cases hc8 : v = 8
    · replace hst := mm_ip hc8 hst
      refine lv_tableIn (off := 414) (tgt := 446) hx hb dL_law_32 (by rw [hc8]; decide) (by rw [hc8]; decide) (by rw [hc8]; decide) (by decide) ?_
      exact lawW_8 hl9 hcX hl hi (by omega) hL hR hM hS (hI _ _ _ hII).1 (by omega) (by omega) hst hgo
    replace hst := mm_in hc8 hst
    by_cases hc9 : v = 9
    · replace hst := mm_ip hc9 hst
      refine lv_tableIn (off := 447) (tgt := 479) hx hb dL_law_32 (by rw [hc9]; decide) (by rw [hc9]; decide) (by rw [hc9]; decide) (by decide) ?_
      exact lawW_9 hl9 hcX hl hi (by omega) hL hR hM hS (hI _ _ _ hII).1 (by omega) (by omega) hst hgo
    replace hst := mm_in hc9 hst
    by_cases hc10 : v = 10
    · replace hst := mm_ip hc10 hst
      refine lv_tableIn (off := 470) (tgt := 502) hx hb dL_law_32 (by rw [hc10]; decide) (by rw [hc10]; decide) (by rw [hc10]; decide) (by decide) ?_
      exact lawW_10 hl9 hcX hl hi (by omega) hL hR hM hS (hI _ _ _ hII).1 (by omega) (by omega) hst hgo
    replace hst := mm_in hc10 hst
    by_cases hc11 : v = 11
    · replace hst := mm_ip hc11 hst
      refine lv_tableIn (off := 483) (tgt := 515) hx hb dL_law_32 (by rw [hc11]; decide) (by rw [hc11]; decide) (by rw [hc11]; decide) (by decide) ?_
      exact lawW_11 hl9 hcX hl hi (by omega) hL hR hM hS (hI _ _ _ hII).1 (by omega) (by omega) hst hgo
    replace hst := mm_in hc11 hst
    by_cases hc12 : v = 12
    · replace hst := mm_ip hc12 hst
      refine lv_tableIn (off := 532) (tgt := 564) hx hb dL_law_32 (by rw [hc12]; decide) (by rw [hc12]; decide) (by rw [hc12]; decide) (by decide) ?_
      exact lawW_12 hl9 hcX hl hi (by omega) hL hR hM hS (hI _ _ _ hII).1 (by omega) (by omega) hst hgo
    replace hst := mm_in hc12 hst
    by_cases hc13 : v = 13
    · replace hst := mm_ip hc13 hst
      refine lv_tableIn (off := 575) (tgt := 607) hx hb dL_law_32 (by rw [hc13]; decide) (by rw [hc13]; decide) (by rw [hc13]; decide) (by decide) ?_
      exact lawW_13 hl9 hcX hl hi (by omega) hL hR hM hS (hI _ _ _ hII).1 (by omega) (by omega) hst hgo
    replace hst := mm_in hc13 hst
    by_cases hc14 : v = 14
    · replace hst := mm_ip hc14 hst
      refine lv_tableIn (off := 618) (tgt := 650) hx hb dL_law_32 (by rw [hc14]; decide) (by rw [hc14]; decide) (by rw [hc14]; decide) (by decide) ?_
      exact lawW_14 hl9 hcX hl hi (by omega) hL hR hM hS (hI _ _ _ hII).1 (by omega) (by omega) hst hgo
    replace hst := mm_in hc14 hst
    by_cases hc15 : v = 15
    · replace hst := mm_ip hc15 hst
      refine lv_tableIn (off := 641) (tgt := 673) hx hb dL_law_32 (by rw [hc15]; decide) (by rw [hc15]; decide) (by rw [hc15]; decide) (by decide) ?_
      exact lawW_15 hl9 hcX hl hi (by omega) hL hR hM hS (hI _ _ _ hII).1 (by omega) (by omega) hst hgo
    replace hst := mm_in hc15 hst
    by_cases hc16 : v = 16
    · replace hst := mm_ip hc16 hst
      refine lv_tableIn (off := 664) (tgt := 696) hx hb dL_law_32 (by rw [hc16]; decide) (by rw [hc16]; decide) (by rw [hc16]; decide) (by decide) ?_
      exact lawW_16 hl9 hcX hl hi (by omega) hL hR hM hS (hI _ _ _ hII).1 (by omega) (by omega) hst hgo
    replace hst := mm_in hc16 hst
    by_cases hc17 : v = 17
    · replace hst := mm_ip hc17 hst
      refine lv_tableIn (off := 677) (tgt := 709) hx hb dL_law_32 (by rw [hc17]; decide) (by rw [hc17]; decide) (by rw [hc17]; decide) (by decide) ?_
      exact lawW_17 hl9 hcX hl hi (by omega) hL hR hM hS (hI _ _ _ hII).1 (by omega) (by omega) hst hgo
    replace hst := mm_in hc17 hst
    by_cases hc18 : v = 18
    · replace hst := mm_ip hc18 hst
      refine lv_tableIn (off := 700) (tgt := 732) hx hb dL_law_32 (by rw [hc18]; decide) (by rw [hc18]; decide) (by rw [hc18]; decide) (by decide) ?_
      exact lawW_18 hl9 hcX hl hi (by omega) hL hR hM hS (hI _ _ _ hII).1 (by omega) (by omega) hst hgo
    replace hst := mm_in hc18 hst
    by_cases hc19 : v = 19
    · replace hst := mm_ip hc19 hst
      refine lv_tableIn (off := 723) (tgt := 755) hx hb dL_law_32 (by rw [hc19]; decide) (by rw [hc19]; decide) (by rw [hc19]; decide) (by decide) ?_
      exact lawW_19 hl9 hcX hl hi (by omega) hL hR hM hS (hI _ _ _ hII).1 (by omega) (by omega) hst hgo
    replace hst := mm_in hc19 hst
    by_cases hc20 : v = 20
    · replace hst := mm_ip hc20 hst
      refine lv_tableIn (off := 746) (tgt := 778) hx hb dL_law_32 (by rw [hc20]; decide) (by rw [hc20]; decide) (by rw [hc20]; decide) (by decide) ?_
      exact lawW_20 hl9 hcX hl hi (by omega) hL hR hM hS (hI _ _ _ hII).1 (by omega) (by omega) hst hgo
    replace hst := mm_in hc20 hst
    by_cases hc21 : v = 21
    · replace hst := mm_ip hc21 hst
      refine lv_tableIn (off := 779) (tgt := 811) hx hb dL_law_32 (by rw [hc21]; decide) (by rw [hc21]; decide) (by rw [hc21]; decide) (by decide) ?_
      exact lawW_21 hl9 hcX hl hi (by omega) hL hR hM hS (hI _ _ _ hII).1 (by omega) (by omega) hst hgo
    replace hst := mm_in hc21 hst
    by_cases hc22 : v = 22
    · replace hst := mm_ip hc22 hst
      refine lv_tableIn (off := 812) (tgt := 844) hx hb dL_law_32 (by rw [hc22]; decide) (by rw [hc22]; decide) (by rw [hc22]; decide) (by decide) ?_
      exact lawW_22 hl9 hcX hl hi (by omega) hL hR hM hS (hI _ _ _ hII).1 (by omega) (by omega) hst hgo
    replace hst := mm_in hc22 hst
    by_cases hc23 : v = 23
    · replace hst := mm_ip hc23 hst
      refine lv_tableIn (off := 845) (tgt := 877) hx hb dL_law_32 (by rw [hc23]; decide) (by rw [hc23]; decide) (by rw [hc23]; decide) (by decide) ?_
      exact lawW_23 hl9 hcX hl hi (by omega) hL hR hM hS (hI _ _ _ hII).1 (by omega) (by omega) hst hgo
    replace hst := mm_in hc23 hst
    by_cases hc24 : v = 24
    · replace hst := mm_ip hc24 hst
      refine lv_tableIn (off := 878) (tgt := 910) hx hb dL_law_32 (by rw [hc24]; decide) (by rw [hc24]; decide) (by rw [hc24]; decide) (by decide) ?_
      exact lawW_24 hl9 hcX hl hi (by omega) hL hR hM hS (hI _ _ _ hII).1 (by omega) (by omega) hst hgo
    replace hst := mm_in hc24 hst
    by_cases hc25 : v = 25
    · replace hst := mm_ip hc25 hst
      refine lv_tableIn (off := 901) (tgt := 933) hx hb dL_law_32 (by rw [hc25]; decide) (by rw [hc25]; decide) (by rw [hc25]; decide) (by decide) ?_
      exact lawW_25 hl9 hcX hl hi (by omega) hL hR hM hS (hI _ _ _ hII).1 (by omega) (by omega) hst hgo
    replace hst := mm_in hc25 hst
    by_cases hc26 : v = 26
    · replace hst := mm_ip hc26 hst
      refine lv_tableIn (off := 924) (tgt := 956) hx hb dL_law_32 (by rw [hc26]; decide) (by rw [hc26]; decide) (by rw [hc26]; decide) (by decide) ?_
      exact lawW_26 hl9 hcX hl hi (by omega) hL hR hM hS (hI _ _ _ hII).1 (by omega) (by omega) hst hgo
    replace hst := mm_in hc26 hst
    by_cases hc27 : v = 27
    · replace hst := mm_ip hc27 hst
      refine lv_tableIn (off := 957) (tgt := 989) hx hb dL_law_32 (by rw [hc27]; decide) (by rw [hc27]; decide) (by rw [hc27]; decide) (by decide) ?_
      exact lawW_27 hl9 hcX hl hi (by omega) hL hR hM hS (hI _ _ _ hII).1 (by omega) (by omega) hst hgo
    replace hst := mm_in hc27 hst
    by_cases hc28 : v = 28
    · replace hst := mm_ip hc28 hst
      refine lv_tableIn (off := 990) (tgt := 1022) hx hb dL_law_32 (by rw [hc28]; decide) (by rw [hc28]; decide) (by rw [hc28]; decide) (by decide) ?_
      exact lawW_28 hl9 hcX hl hi (by omega) hL hR hM hS (hI _ _ _ hII).1 (by omega) (by omega) hst hgo
    replace hst := mm_in hc28 hst
    by_cases hc29 : v = 29
    · replace hst := mm_ip hc29 hst
      refine lv_tableIn (off := 1013) (tgt := 1045) hx hb dL_law_32 (by rw [hc29]; decide) (by rw [hc29]; decide) (by rw [hc29]; decide) (by decide) ?_
      exact lawW_29 hl9 hcX hl hi (by omega) hL hR hM hS (hI _ _ _ hII).1 (by omega) (by omega) hst hgo
    replace hst := mm_in hc29 hst
    by_cases hc30 : v = 30
    · replace hst := mm_ip hc30 hst
      refine lv_tableIn (off := 1037) (tgt := 1069) hx hb dL_law_32 (by rw [hc30]; decide) (by rw [hc30]; decide) (by rw [hc30]; decide) (by decide) ?_
      exact lawW_30 hl9 hcX hl hi (by omega) hL hR hM hS (hI _ _ _ hII).1 (by omega) (by omega) hst hgo
    replace hst := mm_in hc30 hst
    by_cases hc31 : v = 31
    · replace hst := mm_ip hc31 hst
      refine lv_tableIn (off := 1050) (tgt := 1082) hx hb dL_law_32 (by rw [hc31]; decide) (by rw [hc31]; decide) (by rw [hc31]; decide) (by decide) ?_
      exact lawW_31 hl9 hcX hl hi (by omega) hL hR hM hS (hI _ _ _ hII).1 (by omega) (by omega) hst hgo
    replace hst := mm_in hc31 hst
    by_cases hc32 : v = 32
    · replace hst := mm_ip hc32 hst
      refine lv_tableIn (off := 1083) (tgt := 1115) hx hb dL_law_32 (by rw [hc32]; decide) (by rw [hc32]; decide) (by rw [hc32]; decide) (by decide) ?_
      exact lawW_32 hl9 hcX hl hi (by omega) hL hR hM hS (hI _ _ _ hII).1 (by omega) (by omega) hst hgo
    replace hst := mm_in hc32 hst
    by_cases hc33 : v = 33
    · replace hst := mm_ip hc33 hst
      refine lv_tableIn (off := 1132) (tgt := 1164) hx hb dL_law_32 (by rw [hc33]; decide) (by rw [hc33]; decide) (by rw [hc33]; decide) (by decide) ?_
      exact lawW_33 hl9 hcX hl hi (by omega) hL hR hM hS (hI _ _ _ hII).1 (by omega) (by omega) hst hgo
    replace hst := mm_in hc33 hst
    by_cases hc34 : v = 34
    · replace hst := mm_ip hc34 hst
      refine lv_tableIn (off := 1201) (tgt := 1233) hx hb dL_law_32 (by rw [hc34]; decide) (by rw [hc34]; decide) (by rw [hc34]; decide) (by decide) ?_
      exact lawW_34 hl9 hcX hl hi (by omega) hL hR hM hS (hI _ _ _ hII).1 (by omega) (by omega) hst hgo
    replace hst := mm_in hc34 hst
    by_cases hc35 : v = 35
    · replace hst := mm_ip hc35 hst
      refine lv_tableIn (off := 1234) (tgt := 1266) hx hb dL_law_32 (by rw [hc35]; decide) (by rw [hc35]; decide) (by rw [hc35]; decide) (by decide) ?_
      exact lawW_35 hl9 hcX hl hi (by omega) hL hR hM hS (hI _ _ _ hII).1 (by omega) (by omega) hst hgo
    replace hst := mm_in hc35 hst
    by_cases hc36 : v = 36
    · replace hst := mm_ip hc36 hst
      refine lv_tableIn (off := 1277) (tgt := 1309) hx hb dL_law_32 (by rw [hc36]; decide) (by rw [hc36]; decide) (by rw [hc36]; decide) (by decide) ?_
      exact lawW_36 hl9 hcX hl hi (by omega) hL hR hM hS (hI _ _ _ hII).1 (by omega) (by omega) hst hgo
    replace hst := mm_in hc36 hst
    by_cases hc37 : v = 37
    · replace hst := mm_ip hc37 hst
      refine lv_tableIn (off := 1300) (tgt := 1332) hx hb dL_law_32 (by rw [hc37]; decide) (by rw [hc37]; decide) (by rw [hc37]; decide) (by decide) ?_
      exact lawW_37 hl9 hcX hl hi (by omega) hL hR hM hS (hI _ _ _ hII).1 (by omega) (by omega) hst hgo
    replace hst := mm_in hc37 hst
    by_cases hc38 : v = 38
    · replace hst := mm_ip hc38 hst
      refine lv_tableIn (off := 1323) (tgt := 1355) hx hb dL_law_32 (by rw [hc38]; decide) (by rw [hc38]; decide) (by rw [hc38]; decide) (by decide) ?_
      exact lawW_38 hl9 hcX hl hi (by omega) hL hR hM hS (hI _ _ _ hII).1 (by omega) (by omega) hst hgo
    replace hst := mm_in hc38 hst
    by_cases hc39 : v = 39
    · replace hst := mm_ip hc39 hst
      refine lv_tableIn (off := 1336) (tgt := 1368) hx hb dL_law_32 (by rw [hc39]; decide) (by rw [hc39]; decide) (by rw [hc39]; decide) (by decide) ?_
      exact lawW_39 hl9 hcX hl hi (by omega) hL hR hM hS (hI _ _ _ hII).1 (by omega) (by omega) hst hgo
    replace hst := mm_in hc39 hst
    by_cases hc40 : v = 40
    · replace hst := mm_ip hc40 hst
      refine lv_tableIn (off := 1359) (tgt := 1391) hx hb dL_law_32 (by rw [hc40]; decide) (by rw [hc40]; decide) (by rw [hc40]; decide) (by decide) ?_
      exact lawW_40 hl9 hcX hl hi (by omega) hL hR hM hS (hI _ _ _ hII).1 (by omega) (by omega) hst hgo
    replace hst := mm_in hc40 hst
    refine lv_tableOut (tgt := 1414) hx hb dL_law_32 (sw_out 0 40 [(0 : Int32), (1 : Int32), (2 : Int32), (3 : Int32), (4 : Int32), (5 : Int32), (6 : Int32), (7 : Int32), (8 : Int32), (9 : Int32), (10 : Int32), (11 : Int32), (12 : Int32), (13 : Int32), (14 : Int32), (15 : Int32), (16 : Int32), (17 : Int32), (18 : Int32), (19 : Int32), (20 : Int32), (21 : Int32), (22 : Int32), (23 : Int32), (24 : Int32), (25 : Int32), (26 : Int32), (27 : Int32), (28 : Int32), (29 : Int32), (30 : Int32), (31 : Int32), (32 : Int32), (33 : Int32), (34 : Int32), (35 : Int32), (36 : Int32), (37 : Int32), (38 : Int32), (39 : Int32), (40 : Int32)] (by simp only [List.all_cons, List.all_nil, Bool.and_true, Bool.and_eq_true, decide_eq_true_eq]; exact ⟨hc0, hc1, hc2, hc3, hc4, hc5, hc6, hc7, hc8, hc9, hc10, hc11, hc12, hc13, hc14, hc15, hc16, hc17, hc18, hc19, hc20, hc21, hc22, hc23, hc24, hc25, hc26, hc27, hc28, hc29, hc30, hc31, hc32, hc33, hc34, hc35, hc36, hc37, hc38, hc39, hc40⟩) (by intro z h1 h2; exact sw_r_0_40 z h1 h2)) (by decide) ?_
    exact hgo 0 0 _ _ _ hst (by decide) (by decide) hR hM hS
