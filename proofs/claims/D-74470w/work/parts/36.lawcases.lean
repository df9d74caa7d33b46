set_option maxRecDepth 100000
theorem law_ix {i v : Int32} {j L k : Nat} (hi : i = nI j) (hj : j + 5 ≤ L) (hL : L ≤ 120) (hk : k < 5) (hv : v = nI k) : vp_in (i + v) L ∧ (i + v).toNatClampNeg = j + k := by
  have e : i + v = nI (j + k) := by
    subst hi; subst hv
    apply Int32.toInt_inj.mp
    rw [Int32.toInt_add, nI_toInt (by omega), nI_toInt (by omega), nI_toInt (by omega)]
    rw [Int.bmod_eq_of_le (by omega) (by omega)]
    omega
  rw [e]
  have h2 : (nI (j + k)).toNatClampNeg = j + k := nI_clamp (by omega)
  refine ⟨fun h => ?_, h2⟩
  rcases h with h | h
  · exact nI_pos (by omega) h
  · rw [h2] at h; omega
theorem law_arg {R : Room} {p : Program} {l : Launch} {e : Env} {s : State} {m : MethodId} {args : Array Value} {below : List Frame} {meth : Method} {c : Code} {H : Heap} {cells slots : Nat} {Q : State → Prop} {ls : Array Slot} {b L j : Nat} {xs : Nat → Int32} {i : Int32} {rest : List Value} {pc k : Nat} {v : Int32} (hx : p.tables.exec = Jvm.exec) (hb : c.code = cL_law) (hX : va_X b L xs s s.heap) (hbl : b < s.heap.size) (hS : va_S (lA s) s.heap H []) (hl0 : ls[0]? = some (.val (.ref b))) (hl3 : ls[3]? = some (.val (.int i))) (hi : i = nI j) (hj : j + 5 ≤ L) (hL : L ≤ 120) (hk : k < 5) (hv : v = nI k)
    (d0 : decode cL_law pc = .ok (.aload_n 0, 1)) (d1 : decode cL_law (pc + 1) = .ok (.iload_n 3, 1)) {w : Int} (d2 : decode cL_law (pc + 2) = .ok (.iconst w, 1)) (hw : Int32.ofInt w = v) (d3 : decode cL_law (pc + 3) = .ok (.iadd, 1)) (d4 : decode cL_law (pc + 4) = .ok (.iaload, 1))
    (kk : W p l e R s m args below meth c H [] cells slots Q (F0 m (pc + 5) ls (.int (xs (j + k)) :: rest))) : W p l e R s m args below meth c H [] cells slots Q (F0 m pc ls rest) := by
  obtain ⟨h1, h2⟩ := law_ix hi hj hL hk hv
  refine lv_aload_n hx hb d0 rfl hl0 ?_
  refine lv_iload_n hx hb d1 rfl hl3 ?_
  refine lv_iconst (v := v) hx hb d2 hw ?_
  refine lv_iadd hx hb d3 ?_
  refine va_sld (A := lA s) hx hb hX hbl (fun h => absurd h (Nat.not_le.mpr hbl)) hS h1 d4 ?_
  rw [h2]
  exact kk
section LAWL
variable {p : Program} {l : Launch} {e : Env} {R : Room} {s : State} {m : MethodId} {args : Array Value} {below : List Frame} {meth : Method} {c : Code} {H : Heap} {cells slots mc ms : Nat} {Q : State → Prop}
variable {E : xx_E} {G : mm_G} {σ : XS} {τ : MS} {pc : Nat} {ls : Array Slot} {rest st : List Value} {av : Array Value}
theorem law_xl {Qf : Int64 → XS → Prop} (hbase : ∀ q, xA E q → lA s q) (hr : va_Run p l e R s m args below meth c H [] cells slots mc ms (F0 m pc ls st) rest (va_Ql Qf (fun σ' t => xW E σ' t) (xA E) av) (xA E)) (hS0 : va_S (lA s) s.heap H [])
    (kk : ∀ (r : Int64) (σ1 : XS) (H1 : Heap), Qf r σ1 → xR E σ1 H1 → H.size ≤ H1.size → (∀ q : Nat, q < H.size → ¬ xA E q → H1[q]? = H[q]?) → va_S (lA s) s.heap H1 [] → W p l e R s m args below meth c H1 [] (cells + mc) (slots + ms) Q (F0 m (pc + 3) ls (.long r :: rest))) : W p l e R s m args below meth c H [] cells slots Q (F0 m pc ls st) :=
  va_calll hr hS0 (fun q _ h => hbase q h) (fun q h => hbase q h) (fun r u t H1 locs1 ht hvm hw hB hz1 hk1 hS => va_forget (fun q hq => hS.2.2 q hq) (kk r u H1 hw (x_after ht hB) hz1 hk1 ⟨hS.1, hS.2.1, fun q hq => nomatch hq⟩))
theorem law_ml {Qf : Int64 → MS → Prop} (hbase : ∀ q, mm_A G q → lA s q) (hr : va_Run p l e R s m args below meth c H [] cells slots 0 0 (F0 m pc ls st) rest (va_Ql Qf (fun σ' t => mm_W G σ' t) (mm_A G) av) (mm_A G)) (hS0 : va_S (lA s) s.heap H [])
    (kk : ∀ (r : Int64) (τ1 : MS) (H1 : Heap), Qf r τ1 → mm_R G τ1 H1 → H.size ≤ H1.size → (∀ q : Nat, q < H.size → ¬ mm_A G q → H1[q]? = H[q]?) → va_S (lA s) s.heap H1 [] → W p l e R s m args below meth c H1 [] cells slots Q (F0 m (pc + 3) ls (.long r :: rest))) : W p l e R s m args below meth c H [] cells slots Q (F0 m pc ls st) :=
  va_calll hr hS0 (fun q _ h => hbase q h) (fun q h => hbase q h) (fun r u t H1 locs1 ht hvm hw hB hz1 hk1 hS => va_forget (fun q hq => hS.2.2 q hq) (kk r u H1 hw (mm_after ht hB) hz1 hk1 ⟨hS.1, hS.2.1, fun q hq => nomatch hq⟩))
end LAWL
theorem law_fo {E : xx_E} {G : mm_G} {p : Program} {s : State} {m : MethodId} {args : Array Value} {meth : Method} {c : Code} {b L : Nat} {xs : Nat → Int32} (h : lawX E G p s m args meth c b L xs) : (∀ q, xA E q → lA s q) ∧ (∀ q, mm_A G q → lA s q) ∧ (∀ q, mm_A G q ∨ q = mm_a G 42 → ¬ xA E q) ∧ ∀ (σ : XS) (H : Heap), xR E σ H → ∀ a, kd σ a ≠ 0 → ¬ mm_A G (xr E a) := by
  obtain ⟨cx, hK, hZ, hX, hb, h1, h2, h3⟩ := h
  have hE : ∀ i, i < xK → xx_e E i < xx_b E := (x_K cx).2.1.1
  refine ⟨fun q hq => ?_, fun q hq => (h2 q hq).2, fun q hq hx => ?_, fun σ H hR a ha hm => ?_⟩
  · have : xx_b E ≤ q := hq.1
    show s.heap.size ≤ q
    omega
  · rcases hq with hq | hq
    · exact hx.2 (h2 q hq).1
    · have : xx_b E ≤ q := hx.1
      omega
  · obtain ⟨g1, g2⟩ := h2 _ hm
    by_cases hK9 : xK ≤ a
    · exact (hR.2.2.2.1 a ha).2 hK9 g1
    · unfold xr at g2
      rw [if_pos (by omega)] at g2
      have := hE a (by omega)
      omega
set_option maxHeartbeats 4000000 in
theorem lawW_0 {p : Program} {l : Launch} {e : Env} {s : State} {m : MethodId} {args : Array Value} {below : List Frame} {meth : Method} {c : Code} {H : Heap} {cells slots : Nat} {Q : State → Prop} {E : xx_E} {G : mm_G} {σ : XS} {τ : MS} {ls : Array Slot} {b L j th : Nat} {xs : Nat → Int32} {i : Int32} (hl9 : l.stackTraces = false) (hc9 : lawX E G p s m args meth c b L xs) (hl : lv_has ls 4 [(3, .int i), (2, .ref (mm_o G)), (1, xv E (some th)), (0, .ref b)]) (hi : i = nI j) (hj : j + 5 ≤ L) (hL : L ≤ 120) (hR : xR E σ H) (hM : mm_R G τ H) (hS : va_S (lA s) s.heap H []) (hk : kd σ th = 1) (hcells : cells + 49000 ≤ 1200144) (hslots : slots + 227000 ≤ 5492218) {K : Nat → Nat → XS → MS → Prop} (hw : lawS_0 th (xs (j + 1)) (xs (j + 2)) (xs (j + 3)) (xs (j + 4)) σ τ K)
    (kk : ∀ (k n : Nat) (σ1 : XS) (τ1 : MS) (H1 : Heap), K k n σ1 τ1 → k ≤ 49000 → n ≤ 227000 → xR E σ1 H1 → mm_R G τ1 H1 → va_S (lA s) s.heap H1 [] → W p l e room_1 s m args below meth c H1 [] (cells + k) (slots + n) Q (F0 m 1414 ls [])) : W p l e room_1 s m args below meth c H [] cells slots Q (F0 m 212 ls []) := by
  obtain ⟨cx, hK, hZ, hX, hbl, hbs, hfo1, hthr⟩ := id hc9
  obtain ⟨hbx, hbm, hfo, hfx⟩ := law_fo hc9
  obtain ⟨hx, hb, hml, hown, hts, hrt, hlk, hKx, hZx⟩ := id cx
  unfold lawS_0 at hw
  refine x_aload_n (r := some th) cx dL_law_212 rfl (lv_at hl 2 rfl) ?_
  refine law_arg (k := 1) (v := (1 : Int32)) hx hb hX hbl hS (lv_at hl 3 rfl) (lv_at hl 0 rfl) hi hj hL (by decide) rfl dL_law_213 dL_law_214 dL_law_215 (by decide) dL_law_216 dL_law_217 ?_
  refine law_xi hbx (va_runV (As := [.int (xs (j + 1))]) (rest := []) (x_fix cx) (MX0_sign l E th (xs (j + 1)) σ _ hw) (cwV 1 hts (lw_V q644 q645 q646 q156 q647) rfl rfl rfl (by decide +kernel) ⟨by dsimp only [room_1]; omega, by dsimp only [room_1]; omega⟩) (x_preV cx hR (law_S hS) hk (by decide) (q := (RX0, TX0, 24)) rfl rfl [.int (xs (j + 1))]) rfl rfl hl.1 rfl (Nat.le_of_ble_eq_true rfl) dL_law_218 ⟨by dsimp only [room_1]; omega, by dsimp only [room_1]; omega⟩) hS (fun r s1 H1 hw hR1 hz hk1 hS1 => ?_)
  have hM1 := law_keepM hM hk1 hfo
  refine lv_aload_n hx hb dL_law_221 rfl (lv_at hl 1 rfl) ?_
  refine law_arg (k := 1) (v := (1 : Int32)) hx hb hX hbl hS1 (lv_at hl 3 rfl) (lv_at hl 0 rfl) hi hj hL (by decide) rfl dL_law_222 dL_law_223 dL_law_224 (by decide) dL_law_225 dL_law_226 ?_
  refine law_mi hbm (va_runV (As := [.int (xs (j + 1))]) (rest := [.int r]) (x_fix cx) (M3_sign l G (xs (j + 1)) τ _ hw) (cwV 1 hts (lw_V q2542 q2543 q2544 q172 q2545) rfl rfl rfl (by decide +kernel) ⟨by dsimp only [room_1]; omega, by dsimp only [room_1]; omega⟩) ⟨mm_blind, law_mrecv hK hM1, my_pre (own := "StruckCountsLaw") (cc := cL_law) (nL := 4) (ret := some .boolean) ⟨hx, hb, hml, hown, hts, hrt, hlk, hK, hZ⟩ hM1 (law_S hS1) (.ref (mm_o G) :: [.int (xs (j + 1))])⟩ rfl rfl hl.1 rfl (Nat.le_of_ble_eq_true rfl) dL_law_227 ⟨by dsimp only [room_1]; omega, by dsimp only [room_1]; omega⟩) hS1 (fun r9 t1 H2 hw hM2 hz2 hk2 hS2 => ?_)
  obtain ⟨he, hw⟩ := hw
  obtain ⟨n9, hn99, hR2⟩ := law_keepX hKx.2.1.1 hR1 hz2 hk2 (hfx s1 H1 hR1)
  refine lv_icmp_eq (tgt := 1414) hx hb dL_law_230 (by decide) (fun _ => ?_) (fun h => absurd he h)
  exact kk 0 0 _ _ _ (hw n9 hn99) (by decide) (by decide) hR2 hM2 hS2
set_option maxHeartbeats 4000000 in
theorem lawW_1 {p : Program} {l : Launch} {e : Env} {s : State} {m : MethodId} {args : Array Value} {below : List Frame} {meth : Method} {c : Code} {H : Heap} {cells slots : Nat} {Q : State → Prop} {E : xx_E} {G : mm_G} {σ : XS} {τ : MS} {ls : Array Slot} {b L j th : Nat} {xs : Nat → Int32} {i : Int32} (hl9 : l.stackTraces = false) (hc9 : lawX E G p s m args meth c b L xs) (hl : lv_has ls 4 [(3, .int i), (2, .ref (mm_o G)), (1, xv E (some th)), (0, .ref b)]) (hi : i = nI j) (hj : j + 5 ≤ L) (hL : L ≤ 120) (hR : xR E σ H) (hM : mm_R G τ H) (hS : va_S (lA s) s.heap H []) (hk : kd σ th = 1) (hcells : cells + 49000 ≤ 1200144) (hslots : slots + 227000 ≤ 5492218) {K : Nat → Nat → XS → MS → Prop} (hw : lawS_1 th (xs (j + 1)) (xs (j + 2)) (xs (j + 3)) (xs (j + 4)) σ τ K)
    (kk : ∀ (k n : Nat) (σ1 : XS) (τ1 : MS) (H1 : Heap), K k n σ1 τ1 → k ≤ 49000 → n ≤ 227000 → xR E σ1 H1 → mm_R G τ1 H1 → va_S (lA s) s.heap H1 [] → W p l e room_1 s m args below meth c H1 [] (cells + k) (slots + n) Q (F0 m 1414 ls [])) : W p l e room_1 s m args below meth c H [] cells slots Q (F0 m 235 ls []) := by
  obtain ⟨cx, hK, hZ, hX, hbl, hbs, hfo1, hthr⟩ := id hc9
  obtain ⟨hbx, hbm, hfo, hfx⟩ := law_fo hc9
  obtain ⟨hx, hb, hml, hown, hts, hrt, hlk, hKx, hZx⟩ := id cx
  unfold lawS_1 at hw
  refine x_aload_n (r := some th) cx dL_law_235 rfl (lv_at hl 2 rfl) ?_
  refine law_arg (k := 1) (v := (1 : Int32)) hx hb hX hbl hS (lv_at hl 3 rfl) (lv_at hl 0 rfl) hi hj hL (by decide) rfl dL_law_236 dL_law_237 dL_law_238 (by decide) dL_law_239 dL_law_240 ?_
  refine law_xi hbx (va_runV (As := [.int (xs (j + 1))]) (rest := []) (x_fix cx) (MX0_end l E th (xs (j + 1)) σ _ hw) (cwV 1 hts (lw_V q648 q649 q650 q156 q651) rfl rfl rfl (by decide +kernel) ⟨by dsimp only [room_1]; omega, by dsimp only [room_1]; omega⟩) (x_preV cx hR (law_S hS) hk (by decide) (q := (RX0, TX0, 24)) rfl rfl [.int (xs (j + 1))]) rfl rfl hl.1 rfl (Nat.le_of_ble_eq_true rfl) dL_law_241 ⟨by dsimp only [room_1]; omega, by dsimp only [room_1]; omega⟩) hS (fun r s1 H1 hw hR1 hz hk1 hS1 => ?_)
  have hM1 := law_keepM hM hk1 hfo
  refine lv_aload_n hx hb dL_law_244 rfl (lv_at hl 1 rfl) ?_
  refine law_arg (k := 1) (v := (1 : Int32)) hx hb hX hbl hS1 (lv_at hl 3 rfl) (lv_at hl 0 rfl) hi hj hL (by decide) rfl dL_law_245 dL_law_246 dL_law_247 (by decide) dL_law_248 dL_law_249 ?_
  refine law_mi hbm (va_runV (As := [.int (xs (j + 1))]) (rest := [.int r]) (x_fix cx) (M3_end l G (xs (j + 1)) τ _ hw) (cwV 1 hts (lw_V q2546 q2547 q2548 q172 q2549) rfl rfl rfl (by decide +kernel) ⟨by dsimp only [room_1]; omega, by dsimp only [room_1]; omega⟩) ⟨mm_blind, law_mrecv hK hM1, my_pre (own := "StruckCountsLaw") (cc := cL_law) (nL := 4) (ret := some .boolean) ⟨hx, hb, hml, hown, hts, hrt, hlk, hK, hZ⟩ hM1 (law_S hS1) (.ref (mm_o G) :: [.int (xs (j + 1))])⟩ rfl rfl hl.1 rfl (Nat.le_of_ble_eq_true rfl) dL_law_250 ⟨by dsimp only [room_1]; omega, by dsimp only [room_1]; omega⟩) hS1 (fun r9 t1 H2 hw hM2 hz2 hk2 hS2 => ?_)
  obtain ⟨he, hw⟩ := hw
  obtain ⟨n9, hn99, hR2⟩ := law_keepX hKx.2.1.1 hR1 hz2 hk2 (hfx s1 H1 hR1)
  refine lv_icmp_eq (tgt := 1414) hx hb dL_law_253 (by decide) (fun _ => ?_) (fun h => absurd he h)
  exact kk 0 0 _ _ _ (hw n9 hn99) (by decide) (by decide) hR2 hM2 hS2
set_option maxHeartbeats 4000000 in
theorem lawW_2 {p : Program} {l : Launch} {e : Env} {s : State} {m : MethodId} {args : Array Value} {below : List Frame} {meth : Method} {c : Code} {H : Heap} {cells slots : Nat} {Q : State → Prop} {E : xx_E} {G : mm_G} {σ : XS} {τ : MS} {ls : Array Slot} {b L j th : Nat} {xs : Nat → Int32} {i : Int32} (hl9 : l.stackTraces = false) (hc9 : lawX E G p s m args meth c b L xs) (hl : lv_has ls 4 [(3, .int i), (2, .ref (mm_o G)), (1, xv E (some th)), (0, .ref b)]) (hi : i = nI j) (hj : j + 5 ≤ L) (hL : L ≤ 120) (hR : xR E σ H) (hM : mm_R G τ H) (hS : va_S (lA s) s.heap H []) (hk : kd σ th = 1) (hcells : cells + 49000 ≤ 1200144) (hslots : slots + 227000 ≤ 5492218) {K : Nat → Nat → XS → MS → Prop} (hw : lawS_2 th (xs (j + 1)) (xs (j + 2)) (xs (j + 3)) (xs (j + 4)) σ τ K)
    (kk : ∀ (k n : Nat) (σ1 : XS) (τ1 : MS) (H1 : Heap), K k n σ1 τ1 → k ≤ 49000 → n ≤ 227000 → xR E σ1 H1 → mm_R G τ1 H1 → va_S (lA s) s.heap H1 [] → W p l e room_1 s m args below meth c H1 [] (cells + k) (slots + n) Q (F0 m 1414 ls [])) : W p l e room_1 s m args below meth c H [] cells slots Q (F0 m 258 ls []) := by
  obtain ⟨cx, hK, hZ, hX, hbl, hbs, hfo1, hthr⟩ := id hc9
  obtain ⟨hbx, hbm, hfo, hfx⟩ := law_fo hc9
  obtain ⟨hx, hb, hml, hown, hts, hrt, hlk, hKx, hZx⟩ := id cx
  unfold lawS_2 at hw
  obtain ⟨d, hd, hw⟩ := hw
  obtain ⟨k, n, hk9, hn9, hw⟩ := hw
  refine x_aload_n (r := some th) cx dL_law_258 rfl (lv_at hl 2 rfl) ?_
  refine law_xi hbx (vx_runVW (As := []) (rest := []) (x_fix cx) (MX0_suit l E d th k n σ _ hw) (vx_cwVW 0 hts (lw_VW q655 q656 q657 q156 q658) rfl rfl rfl (by decide +kernel) ⟨by dsimp only [room_1]; omega, by dsimp only [room_1]; omega⟩) (x_preV cx hR (law_S hS) hk (by decide) (q := (RX0, TX0, 24)) rfl rfl []) rfl rfl hl.1 rfl (Nat.le_of_ble_eq_true rfl) dL_law_259 ⟨by dsimp only [room_1]; omega, by dsimp only [room_1]; omega⟩) hS (fun r s1 H1 hw hR1 hz hk1 hS1 => ?_)
  have hM1 := law_keepM hM hk1 hfo
  obtain ⟨d2, hd2, hw⟩ := hw
  refine lv_aload_n hx hb dL_law_262 rfl (lv_at hl 1 rfl) ?_
  refine law_mi hbm (va_runV (As := []) (rest := [.int r]) (x_fix cx) (M3_suit l G d2 τ _ hw) (cwV 0 hts (lw_V q2553 q2554 q2555 q172 q2556) rfl rfl rfl (by decide +kernel) ⟨by dsimp only [room_1]; omega, by dsimp only [room_1]; omega⟩) ⟨mm_blind, law_mrecv hK hM1, my_pre (own := "StruckCountsLaw") (cc := cL_law) (nL := 4) (ret := some .boolean) ⟨hx, hb, hml, hown, hts, hrt, hlk, hK, hZ⟩ hM1 (law_S hS1) (.ref (mm_o G) :: [])⟩ rfl rfl hl.1 rfl (Nat.le_of_ble_eq_true rfl) dL_law_263 ⟨by dsimp only [room_1]; omega, by dsimp only [room_1]; omega⟩) hS1 (fun r9 t1 H2 hw hM2 hz2 hk2 hS2 => ?_)
  obtain ⟨he, hw⟩ := hw
  obtain ⟨n9, hn99, hR2⟩ := law_keepX hKx.2.1.1 hR1 hz2 hk2 (hfx s1 H1 hR1)
  refine lv_icmp_eq (tgt := 1414) hx hb dL_law_266 (by decide) (fun _ => ?_) (fun h => absurd he h)
  exact kk k n _ _ _ (hw n9 hn99) hk9 hn9 hR2 hM2 hS2
set_option maxHeartbeats 4000000 in
theorem lawW_3 {p : Program} {l : Launch} {e : Env} {s : State} {m : MethodId} {args : Array Value} {below : List Frame} {meth : Method} {c : Code} {H : Heap} {cells slots : Nat} {Q : State → Prop} {E : xx_E} {G : mm_G} {σ : XS} {τ : MS} {ls : Array Slot} {b L j th : Nat} {xs : Nat → Int32} {i : Int32} (hl9 : l.stackTraces = false) (hc9 : lawX E G p s m args meth c b L xs) (hl : lv_has ls 4 [(3, .int i), (2, .ref (mm_o G)), (1, xv E (some th)), (0, .ref b)]) (hi : i = nI j) (hj : j + 5 ≤ L) (hL : L ≤ 120) (hR : xR E σ H) (hM : mm_R G τ H) (hS : va_S (lA s) s.heap H []) (hk : kd σ th = 1) (hcells : cells + 49000 ≤ 1200144) (hslots : slots + 227000 ≤ 5492218) {K : Nat → Nat → XS → MS → Prop} (hw : lawS_3 th (xs (j + 1)) (xs (j + 2)) (xs (j + 3)) (xs (j + 4)) σ τ K)
    (kk : ∀ (k n : Nat) (σ1 : XS) (τ1 : MS) (H1 : Heap), K k n σ1 τ1 → k ≤ 49000 → n ≤ 227000 → xR E σ1 H1 → mm_R G τ1 H1 → va_S (lA s) s.heap H1 [] → W p l e room_1 s m args below meth c H1 [] (cells + k) (slots + n) Q (F0 m 1414 ls [])) : W p l e room_1 s m args below meth c H [] cells slots Q (F0 m 271 ls []) := by
  obtain ⟨cx, hK, hZ, hX, hbl, hbs, hfo1, hthr⟩ := id hc9
  obtain ⟨hbx, hbm, hfo, hfx⟩ := law_fo hc9
  obtain ⟨hx, hb, hml, hown, hts, hrt, hlk, hKx, hZx⟩ := id cx
  unfold lawS_3 at hw
  refine x_aload_n (r := some th) cx dL_law_271 rfl (lv_at hl 2 rfl) ?_
  refine law_arg (k := 1) (v := (1 : Int32)) hx hb hX hbl hS (lv_at hl 3 rfl) (lv_at hl 0 rfl) hi hj hL (by decide) rfl dL_law_272 dL_law_273 dL_law_274 (by decide) dL_law_275 dL_law_276 ?_
  refine law_xi hbx (va_runV (As := [.int (xs (j + 1))]) (rest := []) (x_fix cx) (MX0_fault l E th (xs (j + 1)) σ _ hw) (cwV 1 hts (lw_V q1897 q1898 q1899 q156 q1900) rfl rfl rfl (by decide +kernel) ⟨by dsimp only [room_1]; omega, by dsimp only [room_1]; omega⟩) (x_preV cx hR (law_S hS) hk (by decide) (q := (RX0, TX0, 24)) rfl rfl [.int (xs (j + 1))]) rfl rfl hl.1 rfl (Nat.le_of_ble_eq_true rfl) dL_law_277 ⟨by dsimp only [room_1]; omega, by dsimp only [room_1]; omega⟩) hS (fun r s1 H1 hw hR1 hz hk1 hS1 => ?_)
  have hM1 := law_keepM hM hk1 hfo
  refine lv_aload_n hx hb dL_law_280 rfl (lv_at hl 1 rfl) ?_
  refine law_arg (k := 1) (v := (1 : Int32)) hx hb hX hbl hS1 (lv_at hl 3 rfl) (lv_at hl 0 rfl) hi hj hL (by decide) rfl dL_law_281 dL_law_282 dL_law_283 (by decide) dL_law_284 dL_law_285 ?_
  refine law_mi hbm (va_runV (As := [.int (xs (j + 1))]) (rest := [.int r]) (x_fix cx) (M3_fault l G (xs (j + 1)) τ _ hw) (cwV 1 hts (lw_V q2728 q2729 q2730 q172 q2731) rfl rfl rfl (by decide +kernel) ⟨by dsimp only [room_1]; omega, by dsimp only [room_1]; omega⟩) ⟨mm_blind, law_mrecv hK hM1, my_pre (own := "StruckCountsLaw") (cc := cL_law) (nL := 4) (ret := some .boolean) ⟨hx, hb, hml, hown, hts, hrt, hlk, hK, hZ⟩ hM1 (law_S hS1) (.ref (mm_o G) :: [.int (xs (j + 1))])⟩ rfl rfl hl.1 rfl (Nat.le_of_ble_eq_true rfl) dL_law_286 ⟨by dsimp only [room_1]; omega, by dsimp only [room_1]; omega⟩) hS1 (fun r9 t1 H2 hw hM2 hz2 hk2 hS2 => ?_)
  obtain ⟨he, hw⟩ := hw
  obtain ⟨n9, hn99, hR2⟩ := law_keepX hKx.2.1.1 hR1 hz2 hk2 (hfx s1 H1 hR1)
  refine lv_icmp_eq (tgt := 1414) hx hb dL_law_289 (by decide) (fun _ => ?_) (fun h => absurd he h)
  exact kk 0 0 _ _ _ (hw n9 hn99) (by decide) (by decide) hR2 hM2 hS2
set_option maxHeartbeats 4000000 in
theorem lawW_4 {p : Program} {l : Launch} {e : Env} {s : State} {m : MethodId} {args : Array Value} {below : List Frame} {meth : Method} {c : Code} {H : Heap} {cells slots : Nat} {Q : State → Prop} {E : xx_E} {G : mm_G} {σ : XS} {τ : MS} {ls : Array Slot} {b L j th : Nat} {xs : Nat → Int32} {i : Int32} (hl9 : l.stackTraces = false) (hc9 : lawX E G p s m args meth c b L xs) (hl : lv_has ls 4 [(3, .int i), (2, .ref (mm_o G)), (1, xv E (some th)), (0, .ref b)]) (hi : i = nI j) (hj : j + 5 ≤ L) (hL : L ≤ 120) (hR : xR E σ H) (hM : mm_R G τ H) (hS : va_S (lA s) s.heap H []) (hk : kd σ th = 1) (hcells : cells + 49000 ≤ 1200144) (hslots : slots + 227000 ≤ 5492218) {K : Nat → Nat → XS → MS → Prop} (hw : lawS_4 th (xs (j + 1)) (xs (j + 2)) (xs (j + 3)) (xs (j + 4)) σ τ K)
    (kk : ∀ (k n : Nat) (σ1 : XS) (τ1 : MS) (H1 : Heap), K k n σ1 τ1 → k ≤ 49000 → n ≤ 227000 → xR E σ1 H1 → mm_R G τ1 H1 → va_S (lA s) s.heap H1 [] → W p l e room_1 s m args below meth c H1 [] (cells + k) (slots + n) Q (F0 m 1414 ls [])) : W p l e room_1 s m args below meth c H [] cells slots Q (F0 m 294 ls []) := by
  obtain ⟨cx, hK, hZ, hX, hbl, hbs, hfo1, hthr⟩ := id hc9
  obtain ⟨hbx, hbm, hfo, hfx⟩ := law_fo hc9
  obtain ⟨hx, hb, hml, hown, hts, hrt, hlk, hKx, hZx⟩ := id cx
  unfold lawS_4 at hw
  refine x_aload_n (r := some th) cx dL_law_294 rfl (lv_at hl 2 rfl) ?_
  refine law_arg (k := 1) (v := (1 : Int32)) hx hb hX hbl hS (lv_at hl 3 rfl) (lv_at hl 0 rfl) hi hj hL (by decide) rfl dL_law_295 dL_law_296 dL_law_297 (by decide) dL_law_298 dL_law_299 ?_
  refine law_arg (k := 2) (v := (2 : Int32)) hx hb hX hbl hS (lv_at hl 3 rfl) (lv_at hl 0 rfl) hi hj hL (by decide) rfl dL_law_300 dL_law_301 dL_law_302 (by decide) dL_law_303 dL_law_304 ?_
  refine law_xi hbx (va_runV (As := [.int (xs (j + 1)), .int (xs (j + 2))]) (rest := []) (x_fix cx) (MX0_fact l E th (xs (j + 1)) (xs (j + 2)) σ _ hw) (cwV 2 hts (lw_V q1901 q1902 q1903 q156 q1904) rfl rfl rfl (by decide +kernel) ⟨by dsimp only [room_1]; omega, by dsimp only [room_1]; omega⟩) (x_preV cx hR (law_S hS) hk (by decide) (q := (RX0, TX0, 24)) rfl rfl [.int (xs (j + 1)), .int (xs (j + 2))]) rfl rfl hl.1 rfl (Nat.le_of_ble_eq_true rfl) dL_law_305 ⟨by dsimp only [room_1]; omega, by dsimp only [room_1]; omega⟩) hS (fun r s1 H1 hw hR1 hz hk1 hS1 => ?_)
  have hM1 := law_keepM hM hk1 hfo
  refine lv_aload_n hx hb dL_law_308 rfl (lv_at hl 1 rfl) ?_
  refine law_arg (k := 1) (v := (1 : Int32)) hx hb hX hbl hS1 (lv_at hl 3 rfl) (lv_at hl 0 rfl) hi hj hL (by decide) rfl dL_law_309 dL_law_310 dL_law_311 (by decide) dL_law_312 dL_law_313 ?_
  refine law_arg (k := 2) (v := (2 : Int32)) hx hb hX hbl hS1 (lv_at hl 3 rfl) (lv_at hl 0 rfl) hi hj hL (by decide) rfl dL_law_314 dL_law_315 dL_law_316 (by decide) dL_law_317 dL_law_318 ?_
  refine law_mi hbm (va_runV (As := [.int (xs (j + 1)), .int (xs (j + 2))]) (rest := [.int r]) (x_fix cx) (M3_fact l G (xs (j + 1)) (xs (j + 2)) τ _ hw) (cwV 2 hts (lw_V q2732 q2733 q2734 q172 q2735) rfl rfl rfl (by decide +kernel) ⟨by dsimp only [room_1]; omega, by dsimp only [room_1]; omega⟩) ⟨mm_blind, law_mrecv hK hM1, my_pre (own := "StruckCountsLaw") (cc := cL_law) (nL := 4) (ret := some .boolean) ⟨hx, hb, hml, hown, hts, hrt, hlk, hK, hZ⟩ hM1 (law_S hS1) (.ref (mm_o G) :: [.int (xs (j + 1)), .int (xs (j + 2))])⟩ rfl rfl hl.1 rfl (Nat.le_of_ble_eq_true rfl) dL_law_319 ⟨by dsimp only [room_1]; omega, by dsimp only [room_1]; omega⟩) hS1 (fun r9 t1 H2 hw hM2 hz2 hk2 hS2 => ?_)
  obtain ⟨he, hw⟩ := hw
  obtain ⟨n9, hn99, hR2⟩ := law_keepX hKx.2.1.1 hR1 hz2 hk2 (hfx s1 H1 hR1)
  refine lv_icmp_eq (tgt := 1414) hx hb dL_law_322 (by decide) (fun _ => ?_) (fun h => absurd he h)
  exact kk 0 0 _ _ _ (hw n9 hn99) (by decide) (by decide) hR2 hM2 hS2
set_option maxHeartbeats 4000000 in
theorem lawW_5 {p : Program} {l : Launch} {e : Env} {s : State} {m : MethodId} {args : Array Value} {below : List Frame} {meth : Method} {c : Code} {H : Heap} {cells slots : Nat} {Q : State → Prop} {E : xx_E} {G : mm_G} {σ : XS} {τ : MS} {ls : Array Slot} {b L j th : Nat} {xs : Nat → Int32} {i : Int32} (hl9 : l.stackTraces = false) (hc9 : lawX E G p s m args meth c b L xs) (hl : lv_has ls 4 [(3, .int i), (2, .ref (mm_o G)), (1, xv E (some th)), (0, .ref b)]) (hi : i = nI j) (hj : j + 5 ≤ L) (hL : L ≤ 120) (hR : xR E σ H) (hM : mm_R G τ H) (hS : va_S (lA s) s.heap H []) (hk : kd σ th = 1) (hcells : cells + 49000 ≤ 1200144) (hslots : slots + 227000 ≤ 5492218) {K : Nat → Nat → XS → MS → Prop} (hw : lawS_5 th (xs (j + 1)) (xs (j + 2)) (xs (j + 3)) (xs (j + 4)) σ τ K)
    (kk : ∀ (k n : Nat) (σ1 : XS) (τ1 : MS) (H1 : Heap), K k n σ1 τ1 → k ≤ 49000 → n ≤ 227000 → xR E σ1 H1 → mm_R G τ1 H1 → va_S (lA s) s.heap H1 [] → W p l e room_1 s m args below meth c H1 [] (cells + k) (slots + n) Q (F0 m 1414 ls [])) : W p l e room_1 s m args below meth c H [] cells slots Q (F0 m 327 ls []) := by
  obtain ⟨cx, hK, hZ, hX, hbl, hbs, hfo1, hthr⟩ := id hc9
  obtain ⟨hbx, hbm, hfo, hfx⟩ := law_fo hc9
  obtain ⟨hx, hb, hml, hown, hts, hrt, hlk, hKx, hZx⟩ := id cx
  unfold lawS_5 at hw
  obtain ⟨d, hd, hw⟩ := hw
  obtain ⟨k, n, hk9, hn9, hw⟩ := hw
  refine x_aload_n (r := some th) cx dL_law_327 rfl (lv_at hl 2 rfl) ?_
  refine law_arg (k := 1) (v := (1 : Int32)) hx hb hX hbl hS (lv_at hl 3 rfl) (lv_at hl 0 rfl) hi hj hL (by decide) rfl dL_law_328 dL_law_329 dL_law_330 (by decide) dL_law_331 dL_law_332 ?_
  refine law_arg (k := 2) (v := (2 : Int32)) hx hb hX hbl hS (lv_at hl 3 rfl) (lv_at hl 0 rfl) hi hj hL (by decide) rfl dL_law_333 dL_law_334 dL_law_335 (by decide) dL_law_336 dL_law_337 ?_
  refine law_xi hbx (va_runV (As := [.int (xs (j + 1)), .int (xs (j + 2))]) (rest := []) (x_fix cx) (MX0_of l E d th (xs (j + 1)) (xs (j + 2)) k n σ _ hw) (cwV 2 hts (lw_V q1914 q1915 q1916 q156 q1917) rfl rfl rfl (by decide +kernel) ⟨by dsimp only [room_1]; omega, by dsimp only [room_1]; omega⟩) (x_preV cx hR (law_S hS) hk (by decide) (q := (RX0, TX0, 24)) rfl rfl [.int (xs (j + 1)), .int (xs (j + 2))]) rfl rfl hl.1 rfl (Nat.le_of_ble_eq_true rfl) dL_law_338 ⟨by dsimp only [room_1]; omega, by dsimp only [room_1]; omega⟩) hS (fun r s1 H1 hw hR1 hz hk1 hS1 => ?_)
  have hM1 := law_keepM hM hk1 hfo
  refine lv_aload_n hx hb dL_law_341 rfl (lv_at hl 1 rfl) ?_
  refine law_arg (k := 1) (v := (1 : Int32)) hx hb hX hbl hS1 (lv_at hl 3 rfl) (lv_at hl 0 rfl) hi hj hL (by decide) rfl dL_law_342 dL_law_343 dL_law_344 (by decide) dL_law_345 dL_law_346 ?_
  refine law_arg (k := 2) (v := (2 : Int32)) hx hb hX hbl hS1 (lv_at hl 3 rfl) (lv_at hl 0 rfl) hi hj hL (by decide) rfl dL_law_347 dL_law_348 dL_law_349 (by decide) dL_law_350 dL_law_351 ?_
  refine law_mi hbm (va_runV (As := [.int (xs (j + 1)), .int (xs (j + 2))]) (rest := [.int r]) (x_fix cx) (M3_of l G (xs (j + 1)) (xs (j + 2)) τ _ hw) (cwV 2 hts (lw_V q2748 q2749 q2750 q172 q2751) rfl rfl rfl (by decide +kernel) ⟨by dsimp only [room_1]; omega, by dsimp only [room_1]; omega⟩) ⟨mm_blind, law_mrecv hK hM1, my_pre (own := "StruckCountsLaw") (cc := cL_law) (nL := 4) (ret := some .boolean) ⟨hx, hb, hml, hown, hts, hrt, hlk, hK, hZ⟩ hM1 (law_S hS1) (.ref (mm_o G) :: [.int (xs (j + 1)), .int (xs (j + 2))])⟩ rfl rfl hl.1 rfl (Nat.le_of_ble_eq_true rfl) dL_law_352 ⟨by dsimp only [room_1]; omega, by dsimp only [room_1]; omega⟩) hS1 (fun r9 t1 H2 hw hM2 hz2 hk2 hS2 => ?_)
  obtain ⟨he, hw⟩ := hw
  obtain ⟨n9, hn99, hR2⟩ := law_keepX hKx.2.1.1 hR1 hz2 hk2 (hfx s1 H1 hR1)
  refine lv_icmp_eq (tgt := 1414) hx hb dL_law_355 (by decide) (fun _ => ?_) (fun h => absurd he h)
  exact kk k n _ _ _ (hw n9 hn99) hk9 hn9 hR2 hM2 hS2
set_option maxHeartbeats 4000000 in
theorem lawW_6 {p : Program} {l : Launch} {e : Env} {s : State} {m : MethodId} {args : Array Value} {below : List Frame} {meth : Method} {c : Code} {H : Heap} {cells slots : Nat} {Q : State → Prop} {E : xx_E} {G : mm_G} {σ : XS} {τ : MS} {ls : Array Slot} {b L j th : Nat} {xs : Nat → Int32} {i : Int32} (hl9 : l.stackTraces = false) (hc9 : lawX E G p s m args meth c b L xs) (hl : lv_has ls 4 [(3, .int i), (2, .ref (mm_o G)), (1, xv E (some th)), (0, .ref b)]) (hi : i = nI j) (hj : j + 5 ≤ L) (hL : L ≤ 120) (hR : xR E σ H) (hM : mm_R G τ H) (hS : va_S (lA s) s.heap H []) (hk : kd σ th = 1) (hcells : cells + 49000 ≤ 1200144) (hslots : slots + 227000 ≤ 5492218) {K : Nat → Nat → XS → MS → Prop} (hw : lawS_6 th (xs (j + 1)) (xs (j + 2)) (xs (j + 3)) (xs (j + 4)) σ τ K)
    (kk : ∀ (k n : Nat) (σ1 : XS) (τ1 : MS) (H1 : Heap), K k n σ1 τ1 → k ≤ 49000 → n ≤ 227000 → xR E σ1 H1 → mm_R G τ1 H1 → va_S (lA s) s.heap H1 [] → W p l e room_1 s m args below meth c H1 [] (cells + k) (slots + n) Q (F0 m 1414 ls [])) : W p l e room_1 s m args below meth c H [] cells slots Q (F0 m 360 ls []) := by
  obtain ⟨cx, hK, hZ, hX, hbl, hbs, hfo1, hthr⟩ := id hc9
  obtain ⟨hbx, hbm, hfo, hfx⟩ := law_fo hc9
  obtain ⟨hx, hb, hml, hown, hts, hrt, hlk, hKx, hZx⟩ := id cx
  unfold lawS_6 at hw
  obtain ⟨d, hd, hw⟩ := hw
  refine x_aload_n (r := some th) cx dL_law_360 rfl (lv_at hl 2 rfl) ?_
  refine law_arg (k := 1) (v := (1 : Int32)) hx hb hX hbl hS (lv_at hl 3 rfl) (lv_at hl 0 rfl) hi hj hL (by decide) rfl dL_law_361 dL_law_362 dL_law_363 (by decide) dL_law_364 dL_law_365 ?_
  refine law_arg (k := 2) (v := (2 : Int32)) hx hb hX hbl hS (lv_at hl 3 rfl) (lv_at hl 0 rfl) hi hj hL (by decide) rfl dL_law_366 dL_law_367 dL_law_368 (by decide) dL_law_369 dL_law_370 ?_
  refine law_arg (k := 3) (v := (3 : Int32)) hx hb hX hbl hS (lv_at hl 3 rfl) (lv_at hl 0 rfl) hi hj hL (by decide) rfl dL_law_371 dL_law_372 dL_law_373 (by decide) dL_law_374 dL_law_375 ?_
  refine law_xi hbx (va_runV (As := [.int (xs (j + 1)), .int (xs (j + 2)), .int (xs (j + 3))]) (rest := []) (x_fix cx) (MX0_element l E d th (xs (j + 1)) (xs (j + 2)) (xs (j + 3)) σ _ hw) (cwV 3 hts (lw_V q1990 q1991 q1992 q156 q1993) rfl rfl rfl (by decide +kernel) ⟨by dsimp only [room_1]; omega, by dsimp only [room_1]; omega⟩) (x_preV cx hR (law_S hS) hk (by decide) (q := (RX0, TX0, 24)) rfl rfl [.int (xs (j + 1)), .int (xs (j + 2)), .int (xs (j + 3))]) rfl rfl hl.1 rfl (Nat.le_of_ble_eq_true rfl) dL_law_376 ⟨by dsimp only [room_1]; omega, by dsimp only [room_1]; omega⟩) hS (fun r s1 H1 hw hR1 hz hk1 hS1 => ?_)
  have hM1 := law_keepM hM hk1 hfo
  refine lv_aload_n hx hb dL_law_379 rfl (lv_at hl 1 rfl) ?_
  refine law_arg (k := 1) (v := (1 : Int32)) hx hb hX hbl hS1 (lv_at hl 3 rfl) (lv_at hl 0 rfl) hi hj hL (by decide) rfl dL_law_380 dL_law_381 dL_law_382 (by decide) dL_law_383 dL_law_384 ?_
  refine law_arg (k := 2) (v := (2 : Int32)) hx hb hX hbl hS1 (lv_at hl 3 rfl) (lv_at hl 0 rfl) hi hj hL (by decide) rfl dL_law_385 dL_law_386 dL_law_387 (by decide) dL_law_388 dL_law_389 ?_
  refine law_arg (k := 3) (v := (3 : Int32)) hx hb hX hbl hS1 (lv_at hl 3 rfl) (lv_at hl 0 rfl) hi hj hL (by decide) rfl dL_law_390 dL_law_391 dL_law_392 (by decide) dL_law_393 dL_law_394 ?_
  refine law_mi hbm (va_runV (As := [.int (xs (j + 1)), .int (xs (j + 2)), .int (xs (j + 3))]) (rest := [.int r]) (x_fix cx) (M3_element l G (xs (j + 1)) (xs (j + 2)) (xs (j + 3)) τ _ hw) (cwV 3 hts (lw_V q2807 q2808 q2809 q172 q2810) rfl rfl rfl (by decide +kernel) ⟨by dsimp only [room_1]; omega, by dsimp only [room_1]; omega⟩) ⟨mm_blind, law_mrecv hK hM1, my_pre (own := "StruckCountsLaw") (cc := cL_law) (nL := 4) (ret := some .boolean) ⟨hx, hb, hml, hown, hts, hrt, hlk, hK, hZ⟩ hM1 (law_S hS1) (.ref (mm_o G) :: [.int (xs (j + 1)), .int (xs (j + 2)), .int (xs (j + 3))])⟩ rfl rfl hl.1 rfl (Nat.le_of_ble_eq_true rfl) dL_law_395 ⟨by dsimp only [room_1]; omega, by dsimp only [room_1]; omega⟩) hS1 (fun r9 t1 H2 hw hM2 hz2 hk2 hS2 => ?_)
  obtain ⟨he, hw⟩ := hw
  obtain ⟨n9, hn99, hR2⟩ := law_keepX hKx.2.1.1 hR1 hz2 hk2 (hfx s1 H1 hR1)
  refine lv_icmp_eq (tgt := 1414) hx hb dL_law_398 (by decide) (fun _ => ?_) (fun h => absurd he h)
  exact kk 0 0 _ _ _ (hw n9 hn99) (by decide) (by decide) hR2 hM2 hS2
set_option maxHeartbeats 4000000 in
theorem lawW_7 {p : Program} {l : Launch} {e : Env} {s : State} {m : MethodId} {args : Array Value} {below : List Frame} {meth : Method} {c : Code} {H : Heap} {cells slots : Nat} {Q : State → Prop} {E : xx_E} {G : mm_G} {σ : XS} {τ : MS} {ls : Array Slot} {b L j th : Nat} {xs : Nat → Int32} {i : Int32} (hl9 : l.stackTraces = false) (hc9 : lawX E G p s m args meth c b L xs) (hl : lv_has ls 4 [(3, .int i), (2, .ref (mm_o G)), (1, xv E (some th)), (0, .ref b)]) (hi : i = nI j) (hj : j + 5 ≤ L) (hL : L ≤ 120) (hR : xR E σ H) (hM : mm_R G τ H) (hS : va_S (lA s) s.heap H []) (hk : kd σ th = 1) (hcells : cells + 49000 ≤ 1200144) (hslots : slots + 227000 ≤ 5492218) {K : Nat → Nat → XS → MS → Prop} (hw : lawS_7 th (xs (j + 1)) (xs (j + 2)) (xs (j + 3)) (xs (j + 4)) σ τ K)
    (kk : ∀ (k n : Nat) (σ1 : XS) (τ1 : MS) (H1 : Heap), K k n σ1 τ1 → k ≤ 49000 → n ≤ 227000 → xR E σ1 H1 → mm_R G τ1 H1 → va_S (lA s) s.heap H1 [] → W p l e room_1 s m args below meth c H1 [] (cells + k) (slots + n) Q (F0 m 1414 ls [])) : W p l e room_1 s m args below meth c H [] cells slots Q (F0 m 403 ls []) := by
  obtain ⟨cx, hK, hZ, hX, hbl, hbs, hfo1, hthr⟩ := id hc9
  obtain ⟨hbx, hbm, hfo, hfx⟩ := law_fo hc9
  obtain ⟨hx, hb, hml, hown, hts, hrt, hlk, hKx, hZx⟩ := id cx
  unfold lawS_7 at hw
  obtain ⟨d, hd, hw⟩ := hw
  refine x_aload_n (r := some th) cx dL_law_403 rfl (lv_at hl 2 rfl) ?_
  refine law_arg (k := 1) (v := (1 : Int32)) hx hb hX hbl hS (lv_at hl 3 rfl) (lv_at hl 0 rfl) hi hj hL (by decide) rfl dL_law_404 dL_law_405 dL_law_406 (by decide) dL_law_407 dL_law_408 ?_
  refine law_arg (k := 2) (v := (2 : Int32)) hx hb hX hbl hS (lv_at hl 3 rfl) (lv_at hl 0 rfl) hi hj hL (by decide) rfl dL_law_409 dL_law_410 dL_law_411 (by decide) dL_law_412 dL_law_413 ?_
  refine law_arg (k := 3) (v := (3 : Int32)) hx hb hX hbl hS (lv_at hl 3 rfl) (lv_at hl 0 rfl) hi hj hL (by decide) rfl dL_law_414 dL_law_415 dL_law_416 (by decide) dL_law_417 dL_law_418 ?_
  refine law_xi hbx (va_runV (As := [.int (xs (j + 1)), .int (xs (j + 2)), .int (xs (j + 3))]) (rest := []) (x_fix cx) (MX0_bar l E d th (xs (j + 1)) (xs (j + 2)) (xs (j + 3)) σ _ hw) (cwV 3 hts (lw_V q2042 q2043 q2044 q156 q2045) rfl rfl rfl (by decide +kernel) ⟨by dsimp only [room_1]; omega, by dsimp only [room_1]; omega⟩) (x_preV cx hR (law_S hS) hk (by decide) (q := (RX0, TX0, 24)) rfl rfl [.int (xs (j + 1)), .int (xs (j + 2)), .int (xs (j + 3))]) rfl rfl hl.1 rfl (Nat.le_of_ble_eq_true rfl) dL_law_419 ⟨by dsimp only [room_1]; omega, by dsimp only [room_1]; omega⟩) hS (fun r s1 H1 hw hR1 hz hk1 hS1 => ?_)
  have hM1 := law_keepM hM hk1 hfo
  refine lv_aload_n hx hb dL_law_422 rfl (lv_at hl 1 rfl) ?_
  refine law_arg (k := 1) (v := (1 : Int32)) hx hb hX hbl hS1 (lv_at hl 3 rfl) (lv_at hl 0 rfl) hi hj hL (by decide) rfl dL_law_423 dL_law_424 dL_law_425 (by decide) dL_law_426 dL_law_427 ?_
  refine law_arg (k := 2) (v := (2 : Int32)) hx hb hX hbl hS1 (lv_at hl 3 rfl) (lv_at hl 0 rfl) hi hj hL (by decide) rfl dL_law_428 dL_law_429 dL_law_430 (by decide) dL_law_431 dL_law_432 ?_
  refine law_arg (k := 3) (v := (3 : Int32)) hx hb hX hbl hS1 (lv_at hl 3 rfl) (lv_at hl 0 rfl) hi hj hL (by decide) rfl dL_law_433 dL_law_434 dL_law_435 (by decide) dL_law_436 dL_law_437 ?_
  refine law_mi hbm (va_runV (As := [.int (xs (j + 1)), .int (xs (j + 2)), .int (xs (j + 3))]) (rest := [.int r]) (x_fix cx) (M3_bar l G (xs (j + 1)) (xs (j + 2)) (xs (j + 3)) τ _ hw) (cwV 3 hts (lw_V q2825 q2826 q2827 q172 q2828) rfl rfl rfl (by decide +kernel) ⟨by dsimp only [room_1]; omega, by dsimp only [room_1]; omega⟩) ⟨mm_blind, law_mrecv hK hM1, my_pre (own := "StruckCountsLaw") (cc := cL_law) (nL := 4) (ret := some .boolean) ⟨hx, hb, hml, hown, hts, hrt, hlk, hK, hZ⟩ hM1 (law_S hS1) (.ref (mm_o G) :: [.int (xs (j + 1)), .int (xs (j + 2)), .int (xs (j + 3))])⟩ rfl rfl hl.1 rfl (Nat.le_of_ble_eq_true rfl) dL_law_438 ⟨by dsimp only [room_1]; omega, by dsimp only [room_1]; omega⟩) hS1 (fun r9 t1 H2 hw hM2 hz2 hk2 hS2 => ?_)
  obtain ⟨he, hw⟩ := hw
  obtain ⟨n9, hn99, hR2⟩ := law_keepX hKx.2.1.1 hR1 hz2 hk2 (hfx s1 H1 hR1)
  refine lv_icmp_eq (tgt := 1414) hx hb dL_law_441 (by decide) (fun _ => ?_) (fun h => absurd he h)
  exact kk 0 0 _ _ _ (hw n9 hn99) (by decide) (by decide) hR2 hM2 hS2
set_option maxHeartbeats 4000000 in
theorem lawW_8 {p : Program} {l : Launch} {e : Env} {s : State} {m : MethodId} {args : Array Value} {below : List Frame} {meth : Method} {c : Code} {H : Heap} {cells slots : Nat} {Q : State → Prop} {E : xx_E} {G : mm_G} {σ : XS} {τ : MS} {ls : Array Slot} {b L j th : Nat} {xs : Nat → Int32} {i : Int32} (hl9 : l.stackTraces = false) (hc9 : lawX E G p s m args meth c b L xs) (hl : lv_has ls 4 [(3, .int i), (2, .ref (mm_o G)), (1, xv E (some th)), (0, .ref b)]) (hi : i = nI j) (hj : j + 5 ≤ L) (hL : L ≤ 120) (hR : xR E σ H) (hM : mm_R G τ H) (hS : va_S (lA s) s.heap H []) (hk : kd σ th = 1) (hcells : cells + 49000 ≤ 1200144) (hslots : slots + 227000 ≤ 5492218) {K : Nat → Nat → XS → MS → Prop} (hw : lawS_8 th (xs (j + 1)) (xs (j + 2)) (xs (j + 3)) (xs (j + 4)) σ τ K)
    (kk : ∀ (k n : Nat) (σ1 : XS) (τ1 : MS) (H1 : Heap), K k n σ1 τ1 → k ≤ 49000 → n ≤ 227000 → xR E σ1 H1 → mm_R G τ1 H1 → va_S (lA s) s.heap H1 [] → W p l e room_1 s m args below meth c H1 [] (cells + k) (slots + n) Q (F0 m 1414 ls [])) : W p l e room_1 s m args below meth c H [] cells slots Q (F0 m 446 ls []) := by
  obtain ⟨cx, hK, hZ, hX, hbl, hbs, hfo1, hthr⟩ := id hc9
  obtain ⟨hbx, hbm, hfo, hfx⟩ := law_fo hc9
  obtain ⟨hx, hb, hml, hown, hts, hrt, hlk, hKx, hZx⟩ := id cx
  unfold lawS_8 at hw
  refine x_aload_n (r := some th) cx dL_law_446 rfl (lv_at hl 2 rfl) ?_
  refine law_arg (k := 1) (v := (1 : Int32)) hx hb hX hbl hS (lv_at hl 3 rfl) (lv_at hl 0 rfl) hi hj hL (by decide) rfl dL_law_447 dL_law_448 dL_law_449 (by decide) dL_law_450 dL_law_451 ?_
  refine law_arg (k := 2) (v := (2 : Int32)) hx hb hX hbl hS (lv_at hl 3 rfl) (lv_at hl 0 rfl) hi hj hL (by decide) rfl dL_law_452 dL_law_453 dL_law_454 (by decide) dL_law_455 dL_law_456 ?_
  refine law_xi hbx (va_runV (As := [.int (xs (j + 1)), .int (xs (j + 2))]) (rest := []) (x_fix cx) (MX0_answer l E th (xs (j + 1)) (xs (j + 2)) σ _ hw) (cwV 2 hts (lw_V q2046 q2047 q2048 q156 q2049) rfl rfl rfl (by decide +kernel) ⟨by dsimp only [room_1]; omega, by dsimp only [room_1]; omega⟩) (x_preV cx hR (law_S hS) hk (by decide) (q := (RX0, TX0, 24)) rfl rfl [.int (xs (j + 1)), .int (xs (j + 2))]) rfl rfl hl.1 rfl (Nat.le_of_ble_eq_true rfl) dL_law_457 ⟨by dsimp only [room_1]; omega, by dsimp only [room_1]; omega⟩) hS (fun r s1 H1 hw hR1 hz hk1 hS1 => ?_)
  have hM1 := law_keepM hM hk1 hfo
  refine lv_aload_n hx hb dL_law_460 rfl (lv_at hl 1 rfl) ?_
  refine law_arg (k := 1) (v := (1 : Int32)) hx hb hX hbl hS1 (lv_at hl 3 rfl) (lv_at hl 0 rfl) hi hj hL (by decide) rfl dL_law_461 dL_law_462 dL_law_463 (by decide) dL_law_464 dL_law_465 ?_
  refine law_arg (k := 2) (v := (2 : Int32)) hx hb hX hbl hS1 (lv_at hl 3 rfl) (lv_at hl 0 rfl) hi hj hL (by decide) rfl dL_law_466 dL_law_467 dL_law_468 (by decide) dL_law_469 dL_law_470 ?_
  refine law_mi hbm (va_runV (As := [.int (xs (j + 1)), .int (xs (j + 2))]) (rest := [.int r]) (x_fix cx) (M3_answer l G (xs (j + 1)) (xs (j + 2)) τ _ hw) (cwV 2 hts (lw_V q2829 q2830 q2831 q172 q2832) rfl rfl rfl (by decide +kernel) ⟨by dsimp only [room_1]; omega, by dsimp only [room_1]; omega⟩) ⟨mm_blind, law_mrecv hK hM1, my_pre (own := "StruckCountsLaw") (cc := cL_law) (nL := 4) (ret := some .boolean) ⟨hx, hb, hml, hown, hts, hrt, hlk, hK, hZ⟩ hM1 (law_S hS1) (.ref (mm_o G) :: [.int (xs (j + 1)), .int (xs (j + 2))])⟩ rfl rfl hl.1 rfl (Nat.le_of_ble_eq_true rfl) dL_law_471 ⟨by dsimp only [room_1]; omega, by dsimp only [room_1]; omega⟩) hS1 (fun r9 t1 H2 hw hM2 hz2 hk2 hS2 => ?_)
  obtain ⟨he, hw⟩ := hw
  obtain ⟨n9, hn99, hR2⟩ := law_keepX hKx.2.1.1 hR1 hz2 hk2 (hfx s1 H1 hR1)
  refine lv_icmp_eq (tgt := 1414) hx hb dL_law_474 (by decide) (fun _ => ?_) (fun h => absurd he h)
  exact kk 0 0 _ _ _ (hw n9 hn99) (by decide) (by decide) hR2 hM2 hS2
set_option maxHeartbeats 4000000 in
theorem lawW_9 {p : Program} {l : Launch} {e : Env} {s : State} {m : MethodId} {args : Array Value} {below : List Frame} {meth : Method} {c : Code} {H : Heap} {cells slots : Nat} {Q : State → Prop} {E : xx_E} {G : mm_G} {σ : XS} {τ : MS} {ls : Array Slot} {b L j th : Nat} {xs : Nat → Int32} {i : Int32} (hl9 : l.stackTraces = false) (hc9 : lawX E G p s m args meth c b L xs) (hl : lv_has ls 4 [(3, .int i), (2, .ref (mm_o G)), (1, xv E (some th)), (0, .ref b)]) (hi : i = nI j) (hj : j + 5 ≤ L) (hL : L ≤ 120) (hR : xR E σ H) (hM : mm_R G τ H) (hS : va_S (lA s) s.heap H []) (hk : kd σ th = 1) (hcells : cells + 49000 ≤ 1200144) (hslots : slots + 227000 ≤ 5492218) {K : Nat → Nat → XS → MS → Prop} (hw : lawS_9 th (xs (j + 1)) (xs (j + 2)) (xs (j + 3)) (xs (j + 4)) σ τ K)
    (kk : ∀ (k n : Nat) (σ1 : XS) (τ1 : MS) (H1 : Heap), K k n σ1 τ1 → k ≤ 49000 → n ≤ 227000 → xR E σ1 H1 → mm_R G τ1 H1 → va_S (lA s) s.heap H1 [] → W p l e room_1 s m args below meth c H1 [] (cells + k) (slots + n) Q (F0 m 1414 ls [])) : W p l e room_1 s m args below meth c H [] cells slots Q (F0 m 479 ls []) := by
  obtain ⟨cx, hK, hZ, hX, hbl, hbs, hfo1, hthr⟩ := id hc9
  obtain ⟨hbx, hbm, hfo, hfx⟩ := law_fo hc9
  obtain ⟨hx, hb, hml, hown, hts, hrt, hlk, hKx, hZx⟩ := id cx
  unfold lawS_9 at hw
  refine x_aload_n (r := some th) cx dL_law_479 rfl (lv_at hl 2 rfl) ?_
  refine law_arg (k := 1) (v := (1 : Int32)) hx hb hX hbl hS (lv_at hl 3 rfl) (lv_at hl 0 rfl) hi hj hL (by decide) rfl dL_law_480 dL_law_481 dL_law_482 (by decide) dL_law_483 dL_law_484 ?_
  refine law_xi hbx (va_runV (As := [.int (xs (j + 1))]) (rest := []) (x_fix cx) (MX0_withdraw l E th (xs (j + 1)) σ _ hw) (cwV 1 hts (lw_V q2074 q2075 q2076 q156 q2077) rfl rfl rfl (by decide +kernel) ⟨by dsimp only [room_1]; omega, by dsimp only [room_1]; omega⟩) (x_preV cx hR (law_S hS) hk (by decide) (q := (RX0, TX0, 24)) rfl rfl [.int (xs (j + 1))]) rfl rfl hl.1 rfl (Nat.le_of_ble_eq_true rfl) dL_law_485 ⟨by dsimp only [room_1]; omega, by dsimp only [room_1]; omega⟩) hS (fun r s1 H1 hw hR1 hz hk1 hS1 => ?_)
  have hM1 := law_keepM hM hk1 hfo
  refine lv_aload_n hx hb dL_law_488 rfl (lv_at hl 1 rfl) ?_
  refine law_arg (k := 1) (v := (1 : Int32)) hx hb hX hbl hS1 (lv_at hl 3 rfl) (lv_at hl 0 rfl) hi hj hL (by decide) rfl dL_law_489 dL_law_490 dL_law_491 (by decide) dL_law_492 dL_law_493 ?_
  refine law_mi hbm (va_runV (As := [.int (xs (j + 1))]) (rest := [.int r]) (x_fix cx) (M3_withdraw l G (xs (j + 1)) τ _ hw) (cwV 1 hts (lw_V q2853 q2854 q2855 q172 q2856) rfl rfl rfl (by decide +kernel) ⟨by dsimp only [room_1]; omega, by dsimp only [room_1]; omega⟩) ⟨mm_blind, law_mrecv hK hM1, my_pre (own := "StruckCountsLaw") (cc := cL_law) (nL := 4) (ret := some .boolean) ⟨hx, hb, hml, hown, hts, hrt, hlk, hK, hZ⟩ hM1 (law_S hS1) (.ref (mm_o G) :: [.int (xs (j + 1))])⟩ rfl rfl hl.1 rfl (Nat.le_of_ble_eq_true rfl) dL_law_494 ⟨by dsimp only [room_1]; omega, by dsimp only [room_1]; omega⟩) hS1 (fun r9 t1 H2 hw hM2 hz2 hk2 hS2 => ?_)
  obtain ⟨he, hw⟩ := hw
  obtain ⟨n9, hn99, hR2⟩ := law_keepX hKx.2.1.1 hR1 hz2 hk2 (hfx s1 H1 hR1)
  refine lv_icmp_eq (tgt := 1414) hx hb dL_law_497 (by decide) (fun _ => ?_) (fun h => absurd he h)
  exact kk 0 0 _ _ _ (hw n9 hn99) (by decide) (by decide) hR2 hM2 hS2
set_option maxHeartbeats 4000000 in
theorem lawW_10 {p : Program} {l : Launch} {e : Env} {s : State} {m : MethodId} {args : Array Value} {below : List Frame} {meth : Method} {c : Code} {H : Heap} {cells slots : Nat} {Q : State → Prop} {E : xx_E} {G : mm_G} {σ : XS} {τ : MS} {ls : Array Slot} {b L j th : Nat} {xs : Nat → Int32} {i : Int32} (hl9 : l.stackTraces = false) (hc9 : lawX E G p s m args meth c b L xs) (hl : lv_has ls 4 [(3, .int i), (2, .ref (mm_o G)), (1, xv E (some th)), (0, .ref b)]) (hi : i = nI j) (hj : j + 5 ≤ L) (hL : L ≤ 120) (hR : xR E σ H) (hM : mm_R G τ H) (hS : va_S (lA s) s.heap H []) (hk : kd σ th = 1) (hcells : cells + 49000 ≤ 1200144) (hslots : slots + 227000 ≤ 5492218) {K : Nat → Nat → XS → MS → Prop} (hw : lawS_10 th (xs (j + 1)) (xs (j + 2)) (xs (j + 3)) (xs (j + 4)) σ τ K)
    (kk : ∀ (k n : Nat) (σ1 : XS) (τ1 : MS) (H1 : Heap), K k n σ1 τ1 → k ≤ 49000 → n ≤ 227000 → xR E σ1 H1 → mm_R G τ1 H1 → va_S (lA s) s.heap H1 [] → W p l e room_1 s m args below meth c H1 [] (cells + k) (slots + n) Q (F0 m 1414 ls [])) : W p l e room_1 s m args below meth c H [] cells slots Q (F0 m 502 ls []) := by
  obtain ⟨cx, hK, hZ, hX, hbl, hbs, hfo1, hthr⟩ := id hc9
  obtain ⟨hbx, hbm, hfo, hfx⟩ := law_fo hc9
  obtain ⟨hx, hb, hml, hown, hts, hrt, hlk, hKx, hZx⟩ := id cx
  unfold lawS_10 at hw
  refine x_aload_n (r := some th) cx dL_law_502 rfl (lv_at hl 2 rfl) ?_
  refine law_xi hbx (va_runV (As := []) (rest := []) (x_fix cx) (MX0_close l E th σ _ hw) (cwV 0 hts (lw_V q2078 q2079 q2080 q156 q2081) rfl rfl rfl (by decide +kernel) ⟨by dsimp only [room_1]; omega, by dsimp only [room_1]; omega⟩) (x_preV cx hR (law_S hS) hk (by decide) (q := (RX0, TX0, 24)) rfl rfl []) rfl rfl hl.1 rfl (Nat.le_of_ble_eq_true rfl) dL_law_503 ⟨by dsimp only [room_1]; omega, by dsimp only [room_1]; omega⟩) hS (fun r s1 H1 hw hR1 hz hk1 hS1 => ?_)
  have hM1 := law_keepM hM hk1 hfo
  refine lv_aload_n hx hb dL_law_506 rfl (lv_at hl 1 rfl) ?_
  refine law_mi hbm (va_runV (As := []) (rest := [.int r]) (x_fix cx) (M3_close l G τ _ hw) (cwV 0 hts (lw_V q2857 q2858 q2859 q172 q2860) rfl rfl rfl (by decide +kernel) ⟨by dsimp only [room_1]; omega, by dsimp only [room_1]; omega⟩) ⟨mm_blind, law_mrecv hK hM1, my_pre (own := "StruckCountsLaw") (cc := cL_law) (nL := 4) (ret := some .boolean) ⟨hx, hb, hml, hown, hts, hrt, hlk, hK, hZ⟩ hM1 (law_S hS1) (.ref (mm_o G) :: [])⟩ rfl rfl hl.1 rfl (Nat.le_of_ble_eq_true rfl) dL_law_507 ⟨by dsimp only [room_1]; omega, by dsimp only [room_1]; omega⟩) hS1 (fun r9 t1 H2 hw hM2 hz2 hk2 hS2 => ?_)
  obtain ⟨he, hw⟩ := hw
  obtain ⟨n9, hn99, hR2⟩ := law_keepX hKx.2.1.1 hR1 hz2 hk2 (hfx s1 H1 hR1)
  refine lv_icmp_eq (tgt := 1414) hx hb dL_law_510 (by decide) (fun _ => ?_) (fun h => absurd he h)
  exact kk 0 0 _ _ _ (hw n9 hn99) (by decide) (by decide) hR2 hM2 hS2
set_option maxHeartbeats 4000000 in
theorem lawW_11 {p : Program} {l : Launch} {e : Env} {s : State} {m : MethodId} {args : Array Value} {below : List Frame} {meth : Method} {c : Code} {H : Heap} {cells slots : Nat} {Q : State → Prop} {E : xx_E} {G : mm_G} {σ : XS} {τ : MS} {ls : Array Slot} {b L j th : Nat} {xs : Nat → Int32} {i : Int32} (hl9 : l.stackTraces = false) (hc9 : lawX E G p s m args meth c b L xs) (hl : lv_has ls 4 [(3, .int i), (2, .ref (mm_o G)), (1, xv E (some th)), (0, .ref b)]) (hi : i = nI j) (hj : j + 5 ≤ L) (hL : L ≤ 120) (hR : xR E σ H) (hM : mm_R G τ H) (hS : va_S (lA s) s.heap H []) (hk : kd σ th = 1) (hcells : cells + 49000 ≤ 1200144) (hslots : slots + 227000 ≤ 5492218) {K : Nat → Nat → XS → MS → Prop} (hw : lawS_11 th (xs (j + 1)) (xs (j + 2)) (xs (j + 3)) (xs (j + 4)) σ τ K)
    (kk : ∀ (k n : Nat) (σ1 : XS) (τ1 : MS) (H1 : Heap), K k n σ1 τ1 → k ≤ 49000 → n ≤ 227000 → xR E σ1 H1 → mm_R G τ1 H1 → va_S (lA s) s.heap H1 [] → W p l e room_1 s m args below meth c H1 [] (cells + k) (slots + n) Q (F0 m 1414 ls [])) : W p l e room_1 s m args below meth c H [] cells slots Q (F0 m 515 ls []) := by
  obtain ⟨cx, hK, hZ, hX, hbl, hbs, hfo1, hthr⟩ := id hc9
  obtain ⟨hbx, hbm, hfo, hfx⟩ := law_fo hc9
  obtain ⟨hx, hb, hml, hown, hts, hrt, hlk, hKx, hZx⟩ := id cx
  unfold lawS_11 at hw
  refine x_aload_n (r := some th) cx dL_law_515 rfl (lv_at hl 2 rfl) ?_
  refine law_arg (k := 1) (v := (1 : Int32)) hx hb hX hbl hS (lv_at hl 3 rfl) (lv_at hl 0 rfl) hi hj hL (by decide) rfl dL_law_516 dL_law_517 dL_law_518 (by decide) dL_law_519 dL_law_520 ?_
  refine law_arg (k := 2) (v := (2 : Int32)) hx hb hX hbl hS (lv_at hl 3 rfl) (lv_at hl 0 rfl) hi hj hL (by decide) rfl dL_law_521 dL_law_522 dL_law_523 (by decide) dL_law_524 dL_law_525 ?_
  refine law_bool hx hb dL_law_526 dL_law_529 dL_law_530 dL_law_533 ?_
  refine law_xi hbx (va_runV (As := [.int (xs (j + 1)), .int (lbz (xs (j + 2)))]) (rest := []) (x_fix cx) (MX0_find l E th (xs (j + 1)) (lbz (xs (j + 2))) σ _ hw) (cwV 2 hts (lw_V q2086 q2087 q2088 q156 q2089) rfl rfl rfl (by decide +kernel) ⟨by dsimp only [room_1]; omega, by dsimp only [room_1]; omega⟩) (x_preV cx hR (law_S hS) hk (by decide) (q := (RX0, TX0, 24)) rfl rfl [.int (xs (j + 1)), .int (lbz (xs (j + 2)))]) rfl rfl hl.1 rfl (Nat.le_of_ble_eq_true rfl) dL_law_534 ⟨by dsimp only [room_1]; omega, by dsimp only [room_1]; omega⟩) hS (fun r s1 H1 hw hR1 hz hk1 hS1 => ?_)
  have hM1 := law_keepM hM hk1 hfo
  refine lv_aload_n hx hb dL_law_537 rfl (lv_at hl 1 rfl) ?_
  refine law_arg (k := 1) (v := (1 : Int32)) hx hb hX hbl hS1 (lv_at hl 3 rfl) (lv_at hl 0 rfl) hi hj hL (by decide) rfl dL_law_538 dL_law_539 dL_law_540 (by decide) dL_law_541 dL_law_542 ?_
  refine law_arg (k := 2) (v := (2 : Int32)) hx hb hX hbl hS1 (lv_at hl 3 rfl) (lv_at hl 0 rfl) hi hj hL (by decide) rfl dL_law_543 dL_law_544 dL_law_545 (by decide) dL_law_546 dL_law_547 ?_
  refine law_bool hx hb dL_law_548 dL_law_551 dL_law_552 dL_law_555 ?_
  refine law_mi hbm (va_runV (As := [.int (xs (j + 1)), .int (lbz (xs (j + 2)))]) (rest := [.int r]) (x_fix cx) (M3_find l G (xs (j + 1)) (lbz (xs (j + 2))) τ _ hw) (cwV 2 hts (lw_V q2865 q2866 q2867 q172 q2868) rfl rfl rfl (by decide +kernel) ⟨by dsimp only [room_1]; omega, by dsimp only [room_1]; omega⟩) ⟨mm_blind, law_mrecv hK hM1, my_pre (own := "StruckCountsLaw") (cc := cL_law) (nL := 4) (ret := some .boolean) ⟨hx, hb, hml, hown, hts, hrt, hlk, hK, hZ⟩ hM1 (law_S hS1) (.ref (mm_o G) :: [.int (xs (j + 1)), .int (lbz (xs (j + 2)))])⟩ rfl rfl hl.1 rfl (Nat.le_of_ble_eq_true rfl) dL_law_556 ⟨by dsimp only [room_1]; omega, by dsimp only [room_1]; omega⟩) hS1 (fun r9 t1 H2 hw hM2 hz2 hk2 hS2 => ?_)
  obtain ⟨he, hw⟩ := hw
  obtain ⟨n9, hn99, hR2⟩ := law_keepX hKx.2.1.1 hR1 hz2 hk2 (hfx s1 H1 hR1)
  refine lv_icmp_eq (tgt := 1414) hx hb dL_law_559 (by decide) (fun _ => ?_) (fun h => absurd he h)
  exact kk 0 0 _ _ _ (hw n9 hn99) (by decide) (by decide) hR2 hM2 hS2
set_option maxHeartbeats 4000000 in
theorem lawW_12 {p : Program} {l : Launch} {e : Env} {s : State} {m : MethodId} {args : Array Value} {below : List Frame} {meth : Method} {c : Code} {H : Heap} {cells slots : Nat} {Q : State → Prop} {E : xx_E} {G : mm_G} {σ : XS} {τ : MS} {ls : Array Slot} {b L j th : Nat} {xs : Nat → Int32} {i : Int32} (hl9 : l.stackTraces = false) (hc9 : lawX E G p s m args meth c b L xs) (hl : lv_has ls 4 [(3, .int i), (2, .ref (mm_o G)), (1, xv E (some th)), (0, .ref b)]) (hi : i = nI j) (hj : j + 5 ≤ L) (hL : L ≤ 120) (hR : xR E σ H) (hM : mm_R G τ H) (hS : va_S (lA s) s.heap H []) (hk : kd σ th = 1) (hcells : cells + 49000 ≤ 1200144) (hslots : slots + 227000 ≤ 5492218) {K : Nat → Nat → XS → MS → Prop} (hw : lawS_12 th (xs (j + 1)) (xs (j + 2)) (xs (j + 3)) (xs (j + 4)) σ τ K)
    (kk : ∀ (k n : Nat) (σ1 : XS) (τ1 : MS) (H1 : Heap), K k n σ1 τ1 → k ≤ 49000 → n ≤ 227000 → xR E σ1 H1 → mm_R G τ1 H1 → va_S (lA s) s.heap H1 [] → W p l e room_1 s m args below meth c H1 [] (cells + k) (slots + n) Q (F0 m 1414 ls [])) : W p l e room_1 s m args below meth c H [] cells slots Q (F0 m 564 ls []) := by
  obtain ⟨cx, hK, hZ, hX, hbl, hbs, hfo1, hthr⟩ := id hc9
  obtain ⟨hbx, hbm, hfo, hfx⟩ := law_fo hc9
  obtain ⟨hx, hb, hml, hown, hts, hrt, hlk, hKx, hZx⟩ := id cx
  unfold lawS_12 at hw
  refine x_aload_n (r := some th) cx dL_law_564 rfl (lv_at hl 2 rfl) ?_
  refine law_arg (k := 1) (v := (1 : Int32)) hx hb hX hbl hS (lv_at hl 3 rfl) (lv_at hl 0 rfl) hi hj hL (by decide) rfl dL_law_565 dL_law_566 dL_law_567 (by decide) dL_law_568 dL_law_569 ?_
  refine law_arg (k := 2) (v := (2 : Int32)) hx hb hX hbl hS (lv_at hl 3 rfl) (lv_at hl 0 rfl) hi hj hL (by decide) rfl dL_law_570 dL_law_571 dL_law_572 (by decide) dL_law_573 dL_law_574 ?_
  refine law_arg (k := 3) (v := (3 : Int32)) hx hb hX hbl hS (lv_at hl 3 rfl) (lv_at hl 0 rfl) hi hj hL (by decide) rfl dL_law_575 dL_law_576 dL_law_577 (by decide) dL_law_578 dL_law_579 ?_
  refine law_xi hbx (va_runV (As := [.int (xs (j + 1)), .int (xs (j + 2)), .int (xs (j + 3))]) (rest := []) (x_fix cx) (MX0_say l E th (xs (j + 1)) (xs (j + 2)) (xs (j + 3)) σ _ hw) (cwV 3 hts (lw_V q2090 q2091 q2092 q156 q2093) rfl rfl rfl (by decide +kernel) ⟨by dsimp only [room_1]; omega, by dsimp only [room_1]; omega⟩) (x_preV cx hR (law_S hS) hk (by decide) (q := (RX0, TX0, 24)) rfl rfl [.int (xs (j + 1)), .int (xs (j + 2)), .int (xs (j + 3))]) rfl rfl hl.1 rfl (Nat.le_of_ble_eq_true rfl) dL_law_580 ⟨by dsimp only [room_1]; omega, by dsimp only [room_1]; omega⟩) hS (fun r s1 H1 hw hR1 hz hk1 hS1 => ?_)
  have hM1 := law_keepM hM hk1 hfo
  refine lv_aload_n hx hb dL_law_583 rfl (lv_at hl 1 rfl) ?_
  refine law_arg (k := 1) (v := (1 : Int32)) hx hb hX hbl hS1 (lv_at hl 3 rfl) (lv_at hl 0 rfl) hi hj hL (by decide) rfl dL_law_584 dL_law_585 dL_law_586 (by decide) dL_law_587 dL_law_588 ?_
  refine law_arg (k := 2) (v := (2 : Int32)) hx hb hX hbl hS1 (lv_at hl 3 rfl) (lv_at hl 0 rfl) hi hj hL (by decide) rfl dL_law_589 dL_law_590 dL_law_591 (by decide) dL_law_592 dL_law_593 ?_
  refine law_arg (k := 3) (v := (3 : Int32)) hx hb hX hbl hS1 (lv_at hl 3 rfl) (lv_at hl 0 rfl) hi hj hL (by decide) rfl dL_law_594 dL_law_595 dL_law_596 (by decide) dL_law_597 dL_law_598 ?_
  refine law_mi hbm (va_runV (As := [.int (xs (j + 1)), .int (xs (j + 2)), .int (xs (j + 3))]) (rest := [.int r]) (x_fix cx) (M3_say l G (xs (j + 1)) (xs (j + 2)) (xs (j + 3)) τ _ hw) (cwV 3 hts (lw_V q2869 q2870 q2871 q172 q2872) rfl rfl rfl (by decide +kernel) ⟨by dsimp only [room_1]; omega, by dsimp only [room_1]; omega⟩) ⟨mm_blind, law_mrecv hK hM1, my_pre (own := "StruckCountsLaw") (cc := cL_law) (nL := 4) (ret := some .boolean) ⟨hx, hb, hml, hown, hts, hrt, hlk, hK, hZ⟩ hM1 (law_S hS1) (.ref (mm_o G) :: [.int (xs (j + 1)), .int (xs (j + 2)), .int (xs (j + 3))])⟩ rfl rfl hl.1 rfl (Nat.le_of_ble_eq_true rfl) dL_law_599 ⟨by dsimp only [room_1]; omega, by dsimp only [room_1]; omega⟩) hS1 (fun r9 t1 H2 hw hM2 hz2 hk2 hS2 => ?_)
  obtain ⟨he, hw⟩ := hw
  obtain ⟨n9, hn99, hR2⟩ := law_keepX hKx.2.1.1 hR1 hz2 hk2 (hfx s1 H1 hR1)
  refine lv_icmp_eq (tgt := 1414) hx hb dL_law_602 (by decide) (fun _ => ?_) (fun h => absurd he h)
  exact kk 0 0 _ _ _ (hw n9 hn99) (by decide) (by decide) hR2 hM2 hS2
set_option maxHeartbeats 4000000 in
theorem lawW_13 {p : Program} {l : Launch} {e : Env} {s : State} {m : MethodId} {args : Array Value} {below : List Frame} {meth : Method} {c : Code} {H : Heap} {cells slots : Nat} {Q : State → Prop} {E : xx_E} {G : mm_G} {σ : XS} {τ : MS} {ls : Array Slot} {b L j th : Nat} {xs : Nat → Int32} {i : Int32} (hl9 : l.stackTraces = false) (hc9 : lawX E G p s m args meth c b L xs) (hl : lv_has ls 4 [(3, .int i), (2, .ref (mm_o G)), (1, xv E (some th)), (0, .ref b)]) (hi : i = nI j) (hj : j + 5 ≤ L) (hL : L ≤ 120) (hR : xR E σ H) (hM : mm_R G τ H) (hS : va_S (lA s) s.heap H []) (hk : kd σ th = 1) (hcells : cells + 49000 ≤ 1200144) (hslots : slots + 227000 ≤ 5492218) {K : Nat → Nat → XS → MS → Prop} (hw : lawS_13 th (xs (j + 1)) (xs (j + 2)) (xs (j + 3)) (xs (j + 4)) σ τ K)
    (kk : ∀ (k n : Nat) (σ1 : XS) (τ1 : MS) (H1 : Heap), K k n σ1 τ1 → k ≤ 49000 → n ≤ 227000 → xR E σ1 H1 → mm_R G τ1 H1 → va_S (lA s) s.heap H1 [] → W p l e room_1 s m args below meth c H1 [] (cells + k) (slots + n) Q (F0 m 1414 ls [])) : W p l e room_1 s m args below meth c H [] cells slots Q (F0 m 607 ls []) := by
  obtain ⟨cx, hK, hZ, hX, hbl, hbs, hfo1, hthr⟩ := id hc9
  obtain ⟨hbx, hbm, hfo, hfx⟩ := law_fo hc9
  obtain ⟨hx, hb, hml, hown, hts, hrt, hlk, hKx, hZx⟩ := id cx
  unfold lawS_13 at hw
  refine x_aload_n (r := some th) cx dL_law_607 rfl (lv_at hl 2 rfl) ?_
  refine law_arg (k := 1) (v := (1 : Int32)) hx hb hX hbl hS (lv_at hl 3 rfl) (lv_at hl 0 rfl) hi hj hL (by decide) rfl dL_law_608 dL_law_609 dL_law_610 (by decide) dL_law_611 dL_law_612 ?_
  refine law_arg (k := 2) (v := (2 : Int32)) hx hb hX hbl hS (lv_at hl 3 rfl) (lv_at hl 0 rfl) hi hj hL (by decide) rfl dL_law_613 dL_law_614 dL_law_615 (by decide) dL_law_616 dL_law_617 ?_
  refine law_arg (k := 3) (v := (3 : Int32)) hx hb hX hbl hS (lv_at hl 3 rfl) (lv_at hl 0 rfl) hi hj hL (by decide) rfl dL_law_618 dL_law_619 dL_law_620 (by decide) dL_law_621 dL_law_622 ?_
  refine law_xi hbx (va_runV (As := [.int (xs (j + 1)), .int (xs (j + 2)), .int (xs (j + 3))]) (rest := []) (x_fix cx) (MX0_add l E th (xs (j + 1)) (xs (j + 2)) (xs (j + 3)) σ _ hw) (cwV 3 hts (lw_V q2098 q2099 q2100 q156 q2101) rfl rfl rfl (by decide +kernel) ⟨by dsimp only [room_1]; omega, by dsimp only [room_1]; omega⟩) (x_preV cx hR (law_S hS) hk (by decide) (q := (RX0, TX0, 24)) rfl rfl [.int (xs (j + 1)), .int (xs (j + 2)), .int (xs (j + 3))]) rfl rfl hl.1 rfl (Nat.le_of_ble_eq_true rfl) dL_law_623 ⟨by dsimp only [room_1]; omega, by dsimp only [room_1]; omega⟩) hS (fun r s1 H1 hw hR1 hz hk1 hS1 => ?_)
  have hM1 := law_keepM hM hk1 hfo
  refine lv_aload_n hx hb dL_law_626 rfl (lv_at hl 1 rfl) ?_
  refine law_arg (k := 1) (v := (1 : Int32)) hx hb hX hbl hS1 (lv_at hl 3 rfl) (lv_at hl 0 rfl) hi hj hL (by decide) rfl dL_law_627 dL_law_628 dL_law_629 (by decide) dL_law_630 dL_law_631 ?_
  refine law_arg (k := 2) (v := (2 : Int32)) hx hb hX hbl hS1 (lv_at hl 3 rfl) (lv_at hl 0 rfl) hi hj hL (by decide) rfl dL_law_632 dL_law_633 dL_law_634 (by decide) dL_law_635 dL_law_636 ?_
  refine law_arg (k := 3) (v := (3 : Int32)) hx hb hX hbl hS1 (lv_at hl 3 rfl) (lv_at hl 0 rfl) hi hj hL (by decide) rfl dL_law_637 dL_law_638 dL_law_639 (by decide) dL_law_640 dL_law_641 ?_
  refine law_mi hbm (va_runV (As := [.int (xs (j + 1)), .int (xs (j + 2)), .int (xs (j + 3))]) (rest := [.int r]) (x_fix cx) (M3_add l G (xs (j + 1)) (xs (j + 2)) (xs (j + 3)) τ _ hw) (cwV 3 hts (lw_V q2873 q2874 q2875 q172 q2876) rfl rfl rfl (by decide +kernel) ⟨by dsimp only [room_1]; omega, by dsimp only [room_1]; omega⟩) ⟨mm_blind, law_mrecv hK hM1, my_pre (own := "StruckCountsLaw") (cc := cL_law) (nL := 4) (ret := some .boolean) ⟨hx, hb, hml, hown, hts, hrt, hlk, hK, hZ⟩ hM1 (law_S hS1) (.ref (mm_o G) :: [.int (xs (j + 1)), .int (xs (j + 2)), .int (xs (j + 3))])⟩ rfl rfl hl.1 rfl (Nat.le_of_ble_eq_true rfl) dL_law_642 ⟨by dsimp only [room_1]; omega, by dsimp only [room_1]; omega⟩) hS1 (fun r9 t1 H2 hw hM2 hz2 hk2 hS2 => ?_)
  obtain ⟨he, hw⟩ := hw
  obtain ⟨n9, hn99, hR2⟩ := law_keepX hKx.2.1.1 hR1 hz2 hk2 (hfx s1 H1 hR1)
  refine lv_icmp_eq (tgt := 1414) hx hb dL_law_645 (by decide) (fun _ => ?_) (fun h => absurd he h)
  exact kk 0 0 _ _ _ (hw n9 hn99) (by decide) (by decide) hR2 hM2 hS2
set_option maxHeartbeats 4000000 in
theorem lawW_14 {p : Program} {l : Launch} {e : Env} {s : State} {m : MethodId} {args : Array Value} {below : List Frame} {meth : Method} {c : Code} {H : Heap} {cells slots : Nat} {Q : State → Prop} {E : xx_E} {G : mm_G} {σ : XS} {τ : MS} {ls : Array Slot} {b L j th : Nat} {xs : Nat → Int32} {i : Int32} (hl9 : l.stackTraces = false) (hc9 : lawX E G p s m args meth c b L xs) (hl : lv_has ls 4 [(3, .int i), (2, .ref (mm_o G)), (1, xv E (some th)), (0, .ref b)]) (hi : i = nI j) (hj : j + 5 ≤ L) (hL : L ≤ 120) (hR : xR E σ H) (hM : mm_R G τ H) (hS : va_S (lA s) s.heap H []) (hk : kd σ th = 1) (hcells : cells + 49000 ≤ 1200144) (hslots : slots + 227000 ≤ 5492218) {K : Nat → Nat → XS → MS → Prop} (hw : lawS_14 th (xs (j + 1)) (xs (j + 2)) (xs (j + 3)) (xs (j + 4)) σ τ K)
    (kk : ∀ (k n : Nat) (σ1 : XS) (τ1 : MS) (H1 : Heap), K k n σ1 τ1 → k ≤ 49000 → n ≤ 227000 → xR E σ1 H1 → mm_R G τ1 H1 → va_S (lA s) s.heap H1 [] → W p l e room_1 s m args below meth c H1 [] (cells + k) (slots + n) Q (F0 m 1414 ls [])) : W p l e room_1 s m args below meth c H [] cells slots Q (F0 m 650 ls []) := by
  obtain ⟨cx, hK, hZ, hX, hbl, hbs, hfo1, hthr⟩ := id hc9
  obtain ⟨hbx, hbm, hfo, hfx⟩ := law_fo hc9
  obtain ⟨hx, hb, hml, hown, hts, hrt, hlk, hKx, hZx⟩ := id cx
  unfold lawS_14 at hw
  refine x_aload_n (r := some th) cx dL_law_650 rfl (lv_at hl 2 rfl) ?_
  refine law_arg (k := 1) (v := (1 : Int32)) hx hb hX hbl hS (lv_at hl 3 rfl) (lv_at hl 0 rfl) hi hj hL (by decide) rfl dL_law_651 dL_law_652 dL_law_653 (by decide) dL_law_654 dL_law_655 ?_
  refine law_xi hbx (va_runV (As := [.int (xs (j + 1))]) (rest := []) (x_fix cx) (MX0_strike l E th (xs (j + 1)) σ _ hw) (cwV 1 hts (lw_V q2103 q2104 q2105 q156 q2106) rfl rfl rfl (by decide +kernel) ⟨by dsimp only [room_1]; omega, by dsimp only [room_1]; omega⟩) (x_preV cx hR (law_S hS) hk (by decide) (q := (RX0, TX0, 24)) rfl rfl [.int (xs (j + 1))]) rfl rfl hl.1 rfl (Nat.le_of_ble_eq_true rfl) dL_law_656 ⟨by dsimp only [room_1]; omega, by dsimp only [room_1]; omega⟩) hS (fun r s1 H1 hw hR1 hz hk1 hS1 => ?_)
  have hM1 := law_keepM hM hk1 hfo
  refine lv_aload_n hx hb dL_law_659 rfl (lv_at hl 1 rfl) ?_
  refine law_arg (k := 1) (v := (1 : Int32)) hx hb hX hbl hS1 (lv_at hl 3 rfl) (lv_at hl 0 rfl) hi hj hL (by decide) rfl dL_law_660 dL_law_661 dL_law_662 (by decide) dL_law_663 dL_law_664 ?_
  refine law_mi hbm (va_runV (As := [.int (xs (j + 1))]) (rest := [.int r]) (x_fix cx) (M3_strike l G (xs (j + 1)) τ _ hw) (cwV 1 hts (lw_V q2877 q2878 q2879 q172 q2880) rfl rfl rfl (by decide +kernel) ⟨by dsimp only [room_1]; omega, by dsimp only [room_1]; omega⟩) ⟨mm_blind, law_mrecv hK hM1, my_pre (own := "StruckCountsLaw") (cc := cL_law) (nL := 4) (ret := some .boolean) ⟨hx, hb, hml, hown, hts, hrt, hlk, hK, hZ⟩ hM1 (law_S hS1) (.ref (mm_o G) :: [.int (xs (j + 1))])⟩ rfl rfl hl.1 rfl (Nat.le_of_ble_eq_true rfl) dL_law_665 ⟨by dsimp only [room_1]; omega, by dsimp only [room_1]; omega⟩) hS1 (fun r9 t1 H2 hw hM2 hz2 hk2 hS2 => ?_)
  obtain ⟨he, hw⟩ := hw
  obtain ⟨n9, hn99, hR2⟩ := law_keepX hKx.2.1.1 hR1 hz2 hk2 (hfx s1 H1 hR1)
  refine lv_icmp_eq (tgt := 1414) hx hb dL_law_668 (by decide) (fun _ => ?_) (fun h => absurd he h)
  exact kk 0 0 _ _ _ (hw n9 hn99) (by decide) (by decide) hR2 hM2 hS2
set_option maxHeartbeats 4000000 in
theorem lawW_15 {p : Program} {l : Launch} {e : Env} {s : State} {m : MethodId} {args : Array Value} {below : List Frame} {meth : Method} {c : Code} {H : Heap} {cells slots : Nat} {Q : State → Prop} {E : xx_E} {G : mm_G} {σ : XS} {τ : MS} {ls : Array Slot} {b L j th : Nat} {xs : Nat → Int32} {i : Int32} (hl9 : l.stackTraces = false) (hc9 : lawX E G p s m args meth c b L xs) (hl : lv_has ls 4 [(3, .int i), (2, .ref (mm_o G)), (1, xv E (some th)), (0, .ref b)]) (hi : i = nI j) (hj : j + 5 ≤ L) (hL : L ≤ 120) (hR : xR E σ H) (hM : mm_R G τ H) (hS : va_S (lA s) s.heap H []) (hk : kd σ th = 1) (hcells : cells + 49000 ≤ 1200144) (hslots : slots + 227000 ≤ 5492218) {K : Nat → Nat → XS → MS → Prop} (hw : lawS_15 th (xs (j + 1)) (xs (j + 2)) (xs (j + 3)) (xs (j + 4)) σ τ K)
    (kk : ∀ (k n : Nat) (σ1 : XS) (τ1 : MS) (H1 : Heap), K k n σ1 τ1 → k ≤ 49000 → n ≤ 227000 → xR E σ1 H1 → mm_R G τ1 H1 → va_S (lA s) s.heap H1 [] → W p l e room_1 s m args below meth c H1 [] (cells + k) (slots + n) Q (F0 m 1414 ls [])) : W p l e room_1 s m args below meth c H [] cells slots Q (F0 m 673 ls []) := by
  obtain ⟨cx, hK, hZ, hX, hbl, hbs, hfo1, hthr⟩ := id hc9
  obtain ⟨hbx, hbm, hfo, hfx⟩ := law_fo hc9
  obtain ⟨hx, hb, hml, hown, hts, hrt, hlk, hKx, hZx⟩ := id cx
  unfold lawS_15 at hw
  refine x_aload_n (r := some th) cx dL_law_673 rfl (lv_at hl 2 rfl) ?_
  refine law_arg (k := 1) (v := (1 : Int32)) hx hb hX hbl hS (lv_at hl 3 rfl) (lv_at hl 0 rfl) hi hj hL (by decide) rfl dL_law_674 dL_law_675 dL_law_676 (by decide) dL_law_677 dL_law_678 ?_
  refine law_xi hbx (va_runV (As := [.int (xs (j + 1))]) (rest := []) (x_fix cx) (MX0_days l E th (xs (j + 1)) σ _ hw) (cwV 1 hts (lw_V q2107 q2108 q2109 q156 q2110) rfl rfl rfl (by decide +kernel) ⟨by dsimp only [room_1]; omega, by dsimp only [room_1]; omega⟩) (x_preV cx hR (law_S hS) hk (by decide) (q := (RX0, TX0, 24)) rfl rfl [.int (xs (j + 1))]) rfl rfl hl.1 rfl (Nat.le_of_ble_eq_true rfl) dL_law_679 ⟨by dsimp only [room_1]; omega, by dsimp only [room_1]; omega⟩) hS (fun r s1 H1 hw hR1 hz hk1 hS1 => ?_)
  have hM1 := law_keepM hM hk1 hfo
  refine lv_aload_n hx hb dL_law_682 rfl (lv_at hl 1 rfl) ?_
  refine law_arg (k := 1) (v := (1 : Int32)) hx hb hX hbl hS1 (lv_at hl 3 rfl) (lv_at hl 0 rfl) hi hj hL (by decide) rfl dL_law_683 dL_law_684 dL_law_685 (by decide) dL_law_686 dL_law_687 ?_
  refine law_mi hbm (va_runV (As := [.int (xs (j + 1))]) (rest := [.int r]) (x_fix cx) (M3_days l G (xs (j + 1)) τ _ hw) (cwV 1 hts (lw_V q2881 q2882 q2883 q172 q2884) rfl rfl rfl (by decide +kernel) ⟨by dsimp only [room_1]; omega, by dsimp only [room_1]; omega⟩) ⟨mm_blind, law_mrecv hK hM1, my_pre (own := "StruckCountsLaw") (cc := cL_law) (nL := 4) (ret := some .boolean) ⟨hx, hb, hml, hown, hts, hrt, hlk, hK, hZ⟩ hM1 (law_S hS1) (.ref (mm_o G) :: [.int (xs (j + 1))])⟩ rfl rfl hl.1 rfl (Nat.le_of_ble_eq_true rfl) dL_law_688 ⟨by dsimp only [room_1]; omega, by dsimp only [room_1]; omega⟩) hS1 (fun r9 t1 H2 hw hM2 hz2 hk2 hS2 => ?_)
  obtain ⟨he, hw⟩ := hw
  obtain ⟨n9, hn99, hR2⟩ := law_keepX hKx.2.1.1 hR1 hz2 hk2 (hfx s1 H1 hR1)
  refine lv_icmp_eq (tgt := 1414) hx hb dL_law_691 (by decide) (fun _ => ?_) (fun h => absurd he h)
  exact kk 0 0 _ _ _ (hw n9 hn99) (by decide) (by decide) hR2 hM2 hS2
set_option maxHeartbeats 4000000 in
theorem lawW_16 {p : Program} {l : Launch} {e : Env} {s : State} {m : MethodId} {args : Array Value} {below : List Frame} {meth : Method} {c : Code} {H : Heap} {cells slots : Nat} {Q : State → Prop} {E : xx_E} {G : mm_G} {σ : XS} {τ : MS} {ls : Array Slot} {b L j th : Nat} {xs : Nat → Int32} {i : Int32} (hl9 : l.stackTraces = false) (hc9 : lawX E G p s m args meth c b L xs) (hl : lv_has ls 4 [(3, .int i), (2, .ref (mm_o G)), (1, xv E (some th)), (0, .ref b)]) (hi : i = nI j) (hj : j + 5 ≤ L) (hL : L ≤ 120) (hR : xR E σ H) (hM : mm_R G τ H) (hS : va_S (lA s) s.heap H []) (hk : kd σ th = 1) (hcells : cells + 49000 ≤ 1200144) (hslots : slots + 227000 ≤ 5492218) {K : Nat → Nat → XS → MS → Prop} (hw : lawS_16 th (xs (j + 1)) (xs (j + 2)) (xs (j + 3)) (xs (j + 4)) σ τ K)
    (kk : ∀ (k n : Nat) (σ1 : XS) (τ1 : MS) (H1 : Heap), K k n σ1 τ1 → k ≤ 49000 → n ≤ 227000 → xR E σ1 H1 → mm_R G τ1 H1 → va_S (lA s) s.heap H1 [] → W p l e room_1 s m args below meth c H1 [] (cells + k) (slots + n) Q (F0 m 1414 ls [])) : W p l e room_1 s m args below meth c H [] cells slots Q (F0 m 696 ls []) := by
  obtain ⟨cx, hK, hZ, hX, hbl, hbs, hfo1, hthr⟩ := id hc9
  obtain ⟨hbx, hbm, hfo, hfx⟩ := law_fo hc9
  obtain ⟨hx, hb, hml, hown, hts, hrt, hlk, hKx, hZx⟩ := id cx
  unfold lawS_16 at hw
  refine x_aload_n (r := some th) cx dL_law_696 rfl (lv_at hl 2 rfl) ?_
  refine law_xi hbx (va_runV (As := []) (rest := []) (x_fix cx) (MX0_undo l E th σ _ hw) (cwV 0 hts (lw_V q2111 q2112 q2113 q156 q2114) rfl rfl rfl (by decide +kernel) ⟨by dsimp only [room_1]; omega, by dsimp only [room_1]; omega⟩) (x_preV cx hR (law_S hS) hk (by decide) (q := (RX0, TX0, 24)) rfl rfl []) rfl rfl hl.1 rfl (Nat.le_of_ble_eq_true rfl) dL_law_697 ⟨by dsimp only [room_1]; omega, by dsimp only [room_1]; omega⟩) hS (fun r s1 H1 hw hR1 hz hk1 hS1 => ?_)
  have hM1 := law_keepM hM hk1 hfo
  refine lv_aload_n hx hb dL_law_700 rfl (lv_at hl 1 rfl) ?_
  refine law_mi hbm (va_runV (As := []) (rest := [.int r]) (x_fix cx) (M3_undo l G τ _ hw) (cwV 0 hts (lw_V q2885 q2886 q2887 q172 q2888) rfl rfl rfl (by decide +kernel) ⟨by dsimp only [room_1]; omega, by dsimp only [room_1]; omega⟩) ⟨mm_blind, law_mrecv hK hM1, my_pre (own := "StruckCountsLaw") (cc := cL_law) (nL := 4) (ret := some .boolean) ⟨hx, hb, hml, hown, hts, hrt, hlk, hK, hZ⟩ hM1 (law_S hS1) (.ref (mm_o G) :: [])⟩ rfl rfl hl.1 rfl (Nat.le_of_ble_eq_true rfl) dL_law_701 ⟨by dsimp only [room_1]; omega, by dsimp only [room_1]; omega⟩) hS1 (fun r9 t1 H2 hw hM2 hz2 hk2 hS2 => ?_)
  obtain ⟨he, hw⟩ := hw
  obtain ⟨n9, hn99, hR2⟩ := law_keepX hKx.2.1.1 hR1 hz2 hk2 (hfx s1 H1 hR1)
  refine lv_icmp_eq (tgt := 1414) hx hb dL_law_704 (by decide) (fun _ => ?_) (fun h => absurd he h)
  exact kk 0 0 _ _ _ (hw n9 hn99) (by decide) (by decide) hR2 hM2 hS2
set_option maxHeartbeats 4000000 in
theorem lawW_17 {p : Program} {l : Launch} {e : Env} {s : State} {m : MethodId} {args : Array Value} {below : List Frame} {meth : Method} {c : Code} {H : Heap} {cells slots : Nat} {Q : State → Prop} {E : xx_E} {G : mm_G} {σ : XS} {τ : MS} {ls : Array Slot} {b L j th : Nat} {xs : Nat → Int32} {i : Int32} (hl9 : l.stackTraces = false) (hc9 : lawX E G p s m args meth c b L xs) (hl : lv_has ls 4 [(3, .int i), (2, .ref (mm_o G)), (1, xv E (some th)), (0, .ref b)]) (hi : i = nI j) (hj : j + 5 ≤ L) (hL : L ≤ 120) (hR : xR E σ H) (hM : mm_R G τ H) (hS : va_S (lA s) s.heap H []) (hk : kd σ th = 1) (hcells : cells + 49000 ≤ 1200144) (hslots : slots + 227000 ≤ 5492218) {K : Nat → Nat → XS → MS → Prop} (hw : lawS_17 th (xs (j + 1)) (xs (j + 2)) (xs (j + 3)) (xs (j + 4)) σ τ K)
    (kk : ∀ (k n : Nat) (σ1 : XS) (τ1 : MS) (H1 : Heap), K k n σ1 τ1 → k ≤ 49000 → n ≤ 227000 → xR E σ1 H1 → mm_R G τ1 H1 → va_S (lA s) s.heap H1 [] → W p l e room_1 s m args below meth c H1 [] (cells + k) (slots + n) Q (F0 m 1414 ls [])) : W p l e room_1 s m args below meth c H [] cells slots Q (F0 m 709 ls []) := by
  obtain ⟨cx, hK, hZ, hX, hbl, hbs, hfo1, hthr⟩ := id hc9
  obtain ⟨hbx, hbm, hfo, hfx⟩ := law_fo hc9
  obtain ⟨hx, hb, hml, hown, hts, hrt, hlk, hKx, hZx⟩ := id cx
  unfold lawS_17 at hw
  refine x_aload_n (r := some th) cx dL_law_709 rfl (lv_at hl 2 rfl) ?_
  refine law_arg (k := 1) (v := (1 : Int32)) hx hb hX hbl hS (lv_at hl 3 rfl) (lv_at hl 0 rfl) hi hj hL (by decide) rfl dL_law_710 dL_law_711 dL_law_712 (by decide) dL_law_713 dL_law_714 ?_
  refine law_xi hbx (va_runV (As := [.int (xs (j + 1))]) (rest := []) (x_fix cx) (MX0_keep l E th (xs (j + 1)) σ _ hw) (cwV 1 hts (lw_V q2115 q2116 q2117 q156 q2118) rfl rfl rfl (by decide +kernel) ⟨by dsimp only [room_1]; omega, by dsimp only [room_1]; omega⟩) (x_preV cx hR (law_S hS) hk (by decide) (q := (RX0, TX0, 24)) rfl rfl [.int (xs (j + 1))]) rfl rfl hl.1 rfl (Nat.le_of_ble_eq_true rfl) dL_law_715 ⟨by dsimp only [room_1]; omega, by dsimp only [room_1]; omega⟩) hS (fun r s1 H1 hw hR1 hz hk1 hS1 => ?_)
  have hM1 := law_keepM hM hk1 hfo
  refine lv_aload_n hx hb dL_law_718 rfl (lv_at hl 1 rfl) ?_
  refine law_arg (k := 1) (v := (1 : Int32)) hx hb hX hbl hS1 (lv_at hl 3 rfl) (lv_at hl 0 rfl) hi hj hL (by decide) rfl dL_law_719 dL_law_720 dL_law_721 (by decide) dL_law_722 dL_law_723 ?_
  refine law_mi hbm (va_runV (As := [.int (xs (j + 1))]) (rest := [.int r]) (x_fix cx) (M3_keep l G (xs (j + 1)) τ _ hw) (cwV 1 hts (lw_V q2889 q2890 q2891 q172 q2892) rfl rfl rfl (by decide +kernel) ⟨by dsimp only [room_1]; omega, by dsimp only [room_1]; omega⟩) ⟨mm_blind, law_mrecv hK hM1, my_pre (own := "StruckCountsLaw") (cc := cL_law) (nL := 4) (ret := some .boolean) ⟨hx, hb, hml, hown, hts, hrt, hlk, hK, hZ⟩ hM1 (law_S hS1) (.ref (mm_o G) :: [.int (xs (j + 1))])⟩ rfl rfl hl.1 rfl (Nat.le_of_ble_eq_true rfl) dL_law_724 ⟨by dsimp only [room_1]; omega, by dsimp only [room_1]; omega⟩) hS1 (fun r9 t1 H2 hw hM2 hz2 hk2 hS2 => ?_)
  obtain ⟨he, hw⟩ := hw
  obtain ⟨n9, hn99, hR2⟩ := law_keepX hKx.2.1.1 hR1 hz2 hk2 (hfx s1 H1 hR1)
  refine lv_icmp_eq (tgt := 1414) hx hb dL_law_727 (by decide) (fun _ => ?_) (fun h => absurd he h)
  exact kk 0 0 _ _ _ (hw n9 hn99) (by decide) (by decide) hR2 hM2 hS2
set_option maxHeartbeats 4000000 in
theorem lawW_18 {p : Program} {l : Launch} {e : Env} {s : State} {m : MethodId} {args : Array Value} {below : List Frame} {meth : Method} {c : Code} {H : Heap} {cells slots : Nat} {Q : State → Prop} {E : xx_E} {G : mm_G} {σ : XS} {τ : MS} {ls : Array Slot} {b L j th : Nat} {xs : Nat → Int32} {i : Int32} (hl9 : l.stackTraces = false) (hc9 : lawX E G p s m args meth c b L xs) (hl : lv_has ls 4 [(3, .int i), (2, .ref (mm_o G)), (1, xv E (some th)), (0, .ref b)]) (hi : i = nI j) (hj : j + 5 ≤ L) (hL : L ≤ 120) (hR : xR E σ H) (hM : mm_R G τ H) (hS : va_S (lA s) s.heap H []) (hk : kd σ th = 1) (hcells : cells + 49000 ≤ 1200144) (hslots : slots + 227000 ≤ 5492218) {K : Nat → Nat → XS → MS → Prop} (hw : lawS_18 th (xs (j + 1)) (xs (j + 2)) (xs (j + 3)) (xs (j + 4)) σ τ K)
    (kk : ∀ (k n : Nat) (σ1 : XS) (τ1 : MS) (H1 : Heap), K k n σ1 τ1 → k ≤ 49000 → n ≤ 227000 → xR E σ1 H1 → mm_R G τ1 H1 → va_S (lA s) s.heap H1 [] → W p l e room_1 s m args below meth c H1 [] (cells + k) (slots + n) Q (F0 m 1414 ls [])) : W p l e room_1 s m args below meth c H [] cells slots Q (F0 m 732 ls []) := by
  obtain ⟨cx, hK, hZ, hX, hbl, hbs, hfo1, hthr⟩ := id hc9
  obtain ⟨hbx, hbm, hfo, hfx⟩ := law_fo hc9
  obtain ⟨hx, hb, hml, hown, hts, hrt, hlk, hKx, hZx⟩ := id cx
  unfold lawS_18 at hw
  refine x_aload_n (r := some th) cx dL_law_732 rfl (lv_at hl 2 rfl) ?_
  refine law_arg (k := 1) (v := (1 : Int32)) hx hb hX hbl hS (lv_at hl 3 rfl) (lv_at hl 0 rfl) hi hj hL (by decide) rfl dL_law_733 dL_law_734 dL_law_735 (by decide) dL_law_736 dL_law_737 ?_
  refine law_xi hbx (va_runV (As := [.int (xs (j + 1))]) (rest := []) (x_fix cx) (MX0_again l E th (xs (j + 1)) σ _ hw) (cwV 1 hts (lw_V q2119 q2120 q2121 q156 q2122) rfl rfl rfl (by decide +kernel) ⟨by dsimp only [room_1]; omega, by dsimp only [room_1]; omega⟩) (x_preV cx hR (law_S hS) hk (by decide) (q := (RX0, TX0, 24)) rfl rfl [.int (xs (j + 1))]) rfl rfl hl.1 rfl (Nat.le_of_ble_eq_true rfl) dL_law_738 ⟨by dsimp only [room_1]; omega, by dsimp only [room_1]; omega⟩) hS (fun r s1 H1 hw hR1 hz hk1 hS1 => ?_)
  have hM1 := law_keepM hM hk1 hfo
  refine lv_aload_n hx hb dL_law_741 rfl (lv_at hl 1 rfl) ?_
  refine law_arg (k := 1) (v := (1 : Int32)) hx hb hX hbl hS1 (lv_at hl 3 rfl) (lv_at hl 0 rfl) hi hj hL (by decide) rfl dL_law_742 dL_law_743 dL_law_744 (by decide) dL_law_745 dL_law_746 ?_
  refine law_mi hbm (va_runV (As := [.int (xs (j + 1))]) (rest := [.int r]) (x_fix cx) (M3_again l G (xs (j + 1)) τ _ hw) (cwV 1 hts (lw_V q2893 q2894 q2895 q172 q2896) rfl rfl rfl (by decide +kernel) ⟨by dsimp only [room_1]; omega, by dsimp only [room_1]; omega⟩) ⟨mm_blind, law_mrecv hK hM1, my_pre (own := "StruckCountsLaw") (cc := cL_law) (nL := 4) (ret := some .boolean) ⟨hx, hb, hml, hown, hts, hrt, hlk, hK, hZ⟩ hM1 (law_S hS1) (.ref (mm_o G) :: [.int (xs (j + 1))])⟩ rfl rfl hl.1 rfl (Nat.le_of_ble_eq_true rfl) dL_law_747 ⟨by dsimp only [room_1]; omega, by dsimp only [room_1]; omega⟩) hS1 (fun r9 t1 H2 hw hM2 hz2 hk2 hS2 => ?_)
  obtain ⟨he, hw⟩ := hw
  obtain ⟨n9, hn99, hR2⟩ := law_keepX hKx.2.1.1 hR1 hz2 hk2 (hfx s1 H1 hR1)
  refine lv_icmp_eq (tgt := 1414) hx hb dL_law_750 (by decide) (fun _ => ?_) (fun h => absurd he h)
  exact kk 0 0 _ _ _ (hw n9 hn99) (by decide) (by decide) hR2 hM2 hS2
set_option maxHeartbeats 4000000 in
theorem lawW_19 {p : Program} {l : Launch} {e : Env} {s : State} {m : MethodId} {args : Array Value} {below : List Frame} {meth : Method} {c : Code} {H : Heap} {cells slots : Nat} {Q : State → Prop} {E : xx_E} {G : mm_G} {σ : XS} {τ : MS} {ls : Array Slot} {b L j th : Nat} {xs : Nat → Int32} {i : Int32} (hl9 : l.stackTraces = false) (hc9 : lawX E G p s m args meth c b L xs) (hl : lv_has ls 4 [(3, .int i), (2, .ref (mm_o G)), (1, xv E (some th)), (0, .ref b)]) (hi : i = nI j) (hj : j + 5 ≤ L) (hL : L ≤ 120) (hR : xR E σ H) (hM : mm_R G τ H) (hS : va_S (lA s) s.heap H []) (hk : kd σ th = 1) (hcells : cells + 49000 ≤ 1200144) (hslots : slots + 227000 ≤ 5492218) {K : Nat → Nat → XS → MS → Prop} (hw : lawS_19 th (xs (j + 1)) (xs (j + 2)) (xs (j + 3)) (xs (j + 4)) σ τ K)
    (kk : ∀ (k n : Nat) (σ1 : XS) (τ1 : MS) (H1 : Heap), K k n σ1 τ1 → k ≤ 49000 → n ≤ 227000 → xR E σ1 H1 → mm_R G τ1 H1 → va_S (lA s) s.heap H1 [] → W p l e room_1 s m args below meth c H1 [] (cells + k) (slots + n) Q (F0 m 1414 ls [])) : W p l e room_1 s m args below meth c H [] cells slots Q (F0 m 755 ls []) := by
  obtain ⟨cx, hK, hZ, hX, hbl, hbs, hfo1, hthr⟩ := id hc9
  obtain ⟨hbx, hbm, hfo, hfx⟩ := law_fo hc9
  obtain ⟨hx, hb, hml, hown, hts, hrt, hlk, hKx, hZx⟩ := id cx
  unfold lawS_19 at hw
  refine x_aload_n (r := some th) cx dL_law_755 rfl (lv_at hl 2 rfl) ?_
  refine law_arg (k := 1) (v := (1 : Int32)) hx hb hX hbl hS (lv_at hl 3 rfl) (lv_at hl 0 rfl) hi hj hL (by decide) rfl dL_law_756 dL_law_757 dL_law_758 (by decide) dL_law_759 dL_law_760 ?_
  refine law_xi hbx (va_runV (As := [.int (xs (j + 1))]) (rest := []) (x_fix cx) (MX0_worlds l E th (xs (j + 1)) σ _ hw) (cwV 1 hts (lw_V q2123 q2124 q2125 q156 q2126) rfl rfl rfl (by decide +kernel) ⟨by dsimp only [room_1]; omega, by dsimp only [room_1]; omega⟩) (x_preV cx hR (law_S hS) hk (by decide) (q := (RX0, TX0, 24)) rfl rfl [.int (xs (j + 1))]) rfl rfl hl.1 rfl (Nat.le_of_ble_eq_true rfl) dL_law_761 ⟨by dsimp only [room_1]; omega, by dsimp only [room_1]; omega⟩) hS (fun r s1 H1 hw hR1 hz hk1 hS1 => ?_)
  have hM1 := law_keepM hM hk1 hfo
  refine lv_aload_n hx hb dL_law_764 rfl (lv_at hl 1 rfl) ?_
  refine law_arg (k := 1) (v := (1 : Int32)) hx hb hX hbl hS1 (lv_at hl 3 rfl) (lv_at hl 0 rfl) hi hj hL (by decide) rfl dL_law_765 dL_law_766 dL_law_767 (by decide) dL_law_768 dL_law_769 ?_
  refine law_mi hbm (va_runV (As := [.int (xs (j + 1))]) (rest := [.int r]) (x_fix cx) (M3_worlds l G (xs (j + 1)) τ _ hw) (cwV 1 hts (lw_V q2897 q2898 q2899 q172 q2900) rfl rfl rfl (by decide +kernel) ⟨by dsimp only [room_1]; omega, by dsimp only [room_1]; omega⟩) ⟨mm_blind, law_mrecv hK hM1, my_pre (own := "StruckCountsLaw") (cc := cL_law) (nL := 4) (ret := some .boolean) ⟨hx, hb, hml, hown, hts, hrt, hlk, hK, hZ⟩ hM1 (law_S hS1) (.ref (mm_o G) :: [.int (xs (j + 1))])⟩ rfl rfl hl.1 rfl (Nat.le_of_ble_eq_true rfl) dL_law_770 ⟨by dsimp only [room_1]; omega, by dsimp only [room_1]; omega⟩) hS1 (fun r9 t1 H2 hw hM2 hz2 hk2 hS2 => ?_)
  obtain ⟨he, hw⟩ := hw
  obtain ⟨n9, hn99, hR2⟩ := law_keepX hKx.2.1.1 hR1 hz2 hk2 (hfx s1 H1 hR1)
  refine lv_icmp_eq (tgt := 1414) hx hb dL_law_773 (by decide) (fun _ => ?_) (fun h => absurd he h)
  exact kk 0 0 _ _ _ (hw n9 hn99) (by decide) (by decide) hR2 hM2 hS2
set_option maxHeartbeats 4000000 in
theorem lawW_20 {p : Program} {l : Launch} {e : Env} {s : State} {m : MethodId} {args : Array Value} {below : List Frame} {meth : Method} {c : Code} {H : Heap} {cells slots : Nat} {Q : State → Prop} {E : xx_E} {G : mm_G} {σ : XS} {τ : MS} {ls : Array Slot} {b L j th : Nat} {xs : Nat → Int32} {i : Int32} (hl9 : l.stackTraces = false) (hc9 : lawX E G p s m args meth c b L xs) (hl : lv_has ls 4 [(3, .int i), (2, .ref (mm_o G)), (1, xv E (some th)), (0, .ref b)]) (hi : i = nI j) (hj : j + 5 ≤ L) (hL : L ≤ 120) (hR : xR E σ H) (hM : mm_R G τ H) (hS : va_S (lA s) s.heap H []) (hk : kd σ th = 1) (hcells : cells + 49000 ≤ 1200144) (hslots : slots + 227000 ≤ 5492218) {K : Nat → Nat → XS → MS → Prop} (hw : lawS_20 th (xs (j + 1)) (xs (j + 2)) (xs (j + 3)) (xs (j + 4)) σ τ K)
    (kk : ∀ (k n : Nat) (σ1 : XS) (τ1 : MS) (H1 : Heap), K k n σ1 τ1 → k ≤ 49000 → n ≤ 227000 → xR E σ1 H1 → mm_R G τ1 H1 → va_S (lA s) s.heap H1 [] → W p l e room_1 s m args below meth c H1 [] (cells + k) (slots + n) Q (F0 m 1414 ls [])) : W p l e room_1 s m args below meth c H [] cells slots Q (F0 m 778 ls []) := by
  obtain ⟨cx, hK, hZ, hX, hbl, hbs, hfo1, hthr⟩ := id hc9
  obtain ⟨hbx, hbm, hfo, hfx⟩ := law_fo hc9
  obtain ⟨hx, hb, hml, hown, hts, hrt, hlk, hKx, hZx⟩ := id cx
  unfold lawS_20 at hw
  refine x_aload_n (r := some th) cx dL_law_778 rfl (lv_at hl 2 rfl) ?_
  refine law_arg (k := 1) (v := (1 : Int32)) hx hb hX hbl hS (lv_at hl 3 rfl) (lv_at hl 0 rfl) hi hj hL (by decide) rfl dL_law_779 dL_law_780 dL_law_781 (by decide) dL_law_782 dL_law_783 ?_
  refine law_arg (k := 2) (v := (2 : Int32)) hx hb hX hbl hS (lv_at hl 3 rfl) (lv_at hl 0 rfl) hi hj hL (by decide) rfl dL_law_784 dL_law_785 dL_law_786 (by decide) dL_law_787 dL_law_788 ?_
  refine law_xi hbx (va_runV (As := [.int (xs (j + 1)), .int (xs (j + 2))]) (rest := []) (x_fix cx) (MX0_clash l E th (xs (j + 1)) (xs (j + 2)) σ _ hw) (cwV 2 hts (lw_V q2131 q2132 q2133 q156 q2134) rfl rfl rfl (by decide +kernel) ⟨by dsimp only [room_1]; omega, by dsimp only [room_1]; omega⟩) (x_preV cx hR (law_S hS) hk (by decide) (q := (RX0, TX0, 24)) rfl rfl [.int (xs (j + 1)), .int (xs (j + 2))]) rfl rfl hl.1 rfl (Nat.le_of_ble_eq_true rfl) dL_law_789 ⟨by dsimp only [room_1]; omega, by dsimp only [room_1]; omega⟩) hS (fun r s1 H1 hw hR1 hz hk1 hS1 => ?_)
  have hM1 := law_keepM hM hk1 hfo
  refine lv_aload_n hx hb dL_law_792 rfl (lv_at hl 1 rfl) ?_
  refine law_arg (k := 1) (v := (1 : Int32)) hx hb hX hbl hS1 (lv_at hl 3 rfl) (lv_at hl 0 rfl) hi hj hL (by decide) rfl dL_law_793 dL_law_794 dL_law_795 (by decide) dL_law_796 dL_law_797 ?_
  refine law_arg (k := 2) (v := (2 : Int32)) hx hb hX hbl hS1 (lv_at hl 3 rfl) (lv_at hl 0 rfl) hi hj hL (by decide) rfl dL_law_798 dL_law_799 dL_law_800 (by decide) dL_law_801 dL_law_802 ?_
  refine law_mi hbm (va_runV (As := [.int (xs (j + 1)), .int (xs (j + 2))]) (rest := [.int r]) (x_fix cx) (M3_clash l G (xs (j + 1)) (xs (j + 2)) τ _ hw) (cwV 2 hts (lw_V q2901 q2902 q2903 q172 q2904) rfl rfl rfl (by decide +kernel) ⟨by dsimp only [room_1]; omega, by dsimp only [room_1]; omega⟩) ⟨mm_blind, law_mrecv hK hM1, my_pre (own := "StruckCountsLaw") (cc := cL_law) (nL := 4) (ret := some .boolean) ⟨hx, hb, hml, hown, hts, hrt, hlk, hK, hZ⟩ hM1 (law_S hS1) (.ref (mm_o G) :: [.int (xs (j + 1)), .int (xs (j + 2))])⟩ rfl rfl hl.1 rfl (Nat.le_of_ble_eq_true rfl) dL_law_803 ⟨by dsimp only [room_1]; omega, by dsimp only [room_1]; omega⟩) hS1 (fun r9 t1 H2 hw hM2 hz2 hk2 hS2 => ?_)
  obtain ⟨he, hw⟩ := hw
  obtain ⟨n9, hn99, hR2⟩ := law_keepX hKx.2.1.1 hR1 hz2 hk2 (hfx s1 H1 hR1)
  refine lv_icmp_eq (tgt := 1414) hx hb dL_law_806 (by decide) (fun _ => ?_) (fun h => absurd he h)
  exact kk 0 0 _ _ _ (hw n9 hn99) (by decide) (by decide) hR2 hM2 hS2
set_option maxHeartbeats 4000000 in
theorem lawW_21 {p : Program} {l : Launch} {e : Env} {s : State} {m : MethodId} {args : Array Value} {below : List Frame} {meth : Method} {c : Code} {H : Heap} {cells slots : Nat} {Q : State → Prop} {E : xx_E} {G : mm_G} {σ : XS} {τ : MS} {ls : Array Slot} {b L j th : Nat} {xs : Nat → Int32} {i : Int32} (hl9 : l.stackTraces = false) (hc9 : lawX E G p s m args meth c b L xs) (hl : lv_has ls 4 [(3, .int i), (2, .ref (mm_o G)), (1, xv E (some th)), (0, .ref b)]) (hi : i = nI j) (hj : j + 5 ≤ L) (hL : L ≤ 120) (hR : xR E σ H) (hM : mm_R G τ H) (hS : va_S (lA s) s.heap H []) (hk : kd σ th = 1) (hcells : cells + 49000 ≤ 1200144) (hslots : slots + 227000 ≤ 5492218) {K : Nat → Nat → XS → MS → Prop} (hw : lawS_21 th (xs (j + 1)) (xs (j + 2)) (xs (j + 3)) (xs (j + 4)) σ τ K)
    (kk : ∀ (k n : Nat) (σ1 : XS) (τ1 : MS) (H1 : Heap), K k n σ1 τ1 → k ≤ 49000 → n ≤ 227000 → xR E σ1 H1 → mm_R G τ1 H1 → va_S (lA s) s.heap H1 [] → W p l e room_1 s m args below meth c H1 [] (cells + k) (slots + n) Q (F0 m 1414 ls [])) : W p l e room_1 s m args below meth c H [] cells slots Q (F0 m 811 ls []) := by
  obtain ⟨cx, hK, hZ, hX, hbl, hbs, hfo1, hthr⟩ := id hc9
  obtain ⟨hbx, hbm, hfo, hfx⟩ := law_fo hc9
  obtain ⟨hx, hb, hml, hown, hts, hrt, hlk, hKx, hZx⟩ := id cx
  unfold lawS_21 at hw
  refine x_aload_n (r := some th) cx dL_law_811 rfl (lv_at hl 2 rfl) ?_
  refine law_arg (k := 1) (v := (1 : Int32)) hx hb hX hbl hS (lv_at hl 3 rfl) (lv_at hl 0 rfl) hi hj hL (by decide) rfl dL_law_812 dL_law_813 dL_law_814 (by decide) dL_law_815 dL_law_816 ?_
  refine law_arg (k := 2) (v := (2 : Int32)) hx hb hX hbl hS (lv_at hl 3 rfl) (lv_at hl 0 rfl) hi hj hL (by decide) rfl dL_law_817 dL_law_818 dL_law_819 (by decide) dL_law_820 dL_law_821 ?_
  refine law_xi hbx (va_runV (As := [.int (xs (j + 1)), .int (xs (j + 2))]) (rest := []) (x_fix cx) (MX0_implied l E th (xs (j + 1)) (xs (j + 2)) σ _ hw) (cwV 2 hts (lw_V q2135 q2136 q2137 q156 q2138) rfl rfl rfl (by decide +kernel) ⟨by dsimp only [room_1]; omega, by dsimp only [room_1]; omega⟩) (x_preV cx hR (law_S hS) hk (by decide) (q := (RX0, TX0, 24)) rfl rfl [.int (xs (j + 1)), .int (xs (j + 2))]) rfl rfl hl.1 rfl (Nat.le_of_ble_eq_true rfl) dL_law_822 ⟨by dsimp only [room_1]; omega, by dsimp only [room_1]; omega⟩) hS (fun r s1 H1 hw hR1 hz hk1 hS1 => ?_)
  have hM1 := law_keepM hM hk1 hfo
  refine lv_aload_n hx hb dL_law_825 rfl (lv_at hl 1 rfl) ?_
  refine law_arg (k := 1) (v := (1 : Int32)) hx hb hX hbl hS1 (lv_at hl 3 rfl) (lv_at hl 0 rfl) hi hj hL (by decide) rfl dL_law_826 dL_law_827 dL_law_828 (by decide) dL_law_829 dL_law_830 ?_
  refine law_arg (k := 2) (v := (2 : Int32)) hx hb hX hbl hS1 (lv_at hl 3 rfl) (lv_at hl 0 rfl) hi hj hL (by decide) rfl dL_law_831 dL_law_832 dL_law_833 (by decide) dL_law_834 dL_law_835 ?_
  refine law_mi hbm (va_runV (As := [.int (xs (j + 1)), .int (xs (j + 2))]) (rest := [.int r]) (x_fix cx) (M3_implied l G (xs (j + 1)) (xs (j + 2)) τ _ hw) (cwV 2 hts (lw_V q2905 q2906 q2907 q172 q2908) rfl rfl rfl (by decide +kernel) ⟨by dsimp only [room_1]; omega, by dsimp only [room_1]; omega⟩) ⟨mm_blind, law_mrecv hK hM1, my_pre (own := "StruckCountsLaw") (cc := cL_law) (nL := 4) (ret := some .boolean) ⟨hx, hb, hml, hown, hts, hrt, hlk, hK, hZ⟩ hM1 (law_S hS1) (.ref (mm_o G) :: [.int (xs (j + 1)), .int (xs (j + 2))])⟩ rfl rfl hl.1 rfl (Nat.le_of_ble_eq_true rfl) dL_law_836 ⟨by dsimp only [room_1]; omega, by dsimp only [room_1]; omega⟩) hS1 (fun r9 t1 H2 hw hM2 hz2 hk2 hS2 => ?_)
  obtain ⟨he, hw⟩ := hw
  obtain ⟨n9, hn99, hR2⟩ := law_keepX hKx.2.1.1 hR1 hz2 hk2 (hfx s1 H1 hR1)
  refine lv_icmp_eq (tgt := 1414) hx hb dL_law_839 (by decide) (fun _ => ?_) (fun h => absurd he h)
  exact kk 0 0 _ _ _ (hw n9 hn99) (by decide) (by decide) hR2 hM2 hS2
set_option maxHeartbeats 4000000 in
theorem lawW_22 {p : Program} {l : Launch} {e : Env} {s : State} {m : MethodId} {args : Array Value} {below : List Frame} {meth : Method} {c : Code} {H : Heap} {cells slots : Nat} {Q : State → Prop} {E : xx_E} {G : mm_G} {σ : XS} {τ : MS} {ls : Array Slot} {b L j th : Nat} {xs : Nat → Int32} {i : Int32} (hl9 : l.stackTraces = false) (hc9 : lawX E G p s m args meth c b L xs) (hl : lv_has ls 4 [(3, .int i), (2, .ref (mm_o G)), (1, xv E (some th)), (0, .ref b)]) (hi : i = nI j) (hj : j + 5 ≤ L) (hL : L ≤ 120) (hR : xR E σ H) (hM : mm_R G τ H) (hS : va_S (lA s) s.heap H []) (hk : kd σ th = 1) (hcells : cells + 49000 ≤ 1200144) (hslots : slots + 227000 ≤ 5492218) {K : Nat → Nat → XS → MS → Prop} (hw : lawS_22 th (xs (j + 1)) (xs (j + 2)) (xs (j + 3)) (xs (j + 4)) σ τ K)
    (kk : ∀ (k n : Nat) (σ1 : XS) (τ1 : MS) (H1 : Heap), K k n σ1 τ1 → k ≤ 49000 → n ≤ 227000 → xR E σ1 H1 → mm_R G τ1 H1 → va_S (lA s) s.heap H1 [] → W p l e room_1 s m args below meth c H1 [] (cells + k) (slots + n) Q (F0 m 1414 ls [])) : W p l e room_1 s m args below meth c H [] cells slots Q (F0 m 844 ls []) := by
  obtain ⟨cx, hK, hZ, hX, hbl, hbs, hfo1, hthr⟩ := id hc9
  obtain ⟨hbx, hbm, hfo, hfx⟩ := law_fo hc9
  obtain ⟨hx, hb, hml, hown, hts, hrt, hlk, hKx, hZx⟩ := id cx
  unfold lawS_22 at hw
  obtain ⟨d, hd, hw⟩ := hw
  refine x_aload_n (r := some th) cx dL_law_844 rfl (lv_at hl 2 rfl) ?_
  refine law_arg (k := 1) (v := (1 : Int32)) hx hb hX hbl hS (lv_at hl 3 rfl) (lv_at hl 0 rfl) hi hj hL (by decide) rfl dL_law_845 dL_law_846 dL_law_847 (by decide) dL_law_848 dL_law_849 ?_
  refine law_arg (k := 2) (v := (2 : Int32)) hx hb hX hbl hS (lv_at hl 3 rfl) (lv_at hl 0 rfl) hi hj hL (by decide) rfl dL_law_850 dL_law_851 dL_law_852 (by decide) dL_law_853 dL_law_854 ?_
  refine law_xi hbx (va_runV (As := [.int (xs (j + 1)), .int (xs (j + 2))]) (rest := []) (x_fix cx) (MX0_lacks l E d th (xs (j + 1)) (xs (j + 2)) σ _ hw) (cwV 2 hts (lw_V q2146 q2147 q2148 q156 q2149) rfl rfl rfl (by decide +kernel) ⟨by dsimp only [room_1]; omega, by dsimp only [room_1]; omega⟩) (x_preV cx hR (law_S hS) hk (by decide) (q := (RX0, TX0, 24)) rfl rfl [.int (xs (j + 1)), .int (xs (j + 2))]) rfl rfl hl.1 rfl (Nat.le_of_ble_eq_true rfl) dL_law_855 ⟨by dsimp only [room_1]; omega, by dsimp only [room_1]; omega⟩) hS (fun r s1 H1 hw hR1 hz hk1 hS1 => ?_)
  have hM1 := law_keepM hM hk1 hfo
  refine lv_aload_n hx hb dL_law_858 rfl (lv_at hl 1 rfl) ?_
  refine law_arg (k := 1) (v := (1 : Int32)) hx hb hX hbl hS1 (lv_at hl 3 rfl) (lv_at hl 0 rfl) hi hj hL (by decide) rfl dL_law_859 dL_law_860 dL_law_861 (by decide) dL_law_862 dL_law_863 ?_
  refine law_arg (k := 2) (v := (2 : Int32)) hx hb hX hbl hS1 (lv_at hl 3 rfl) (lv_at hl 0 rfl) hi hj hL (by decide) rfl dL_law_864 dL_law_865 dL_law_866 (by decide) dL_law_867 dL_law_868 ?_
  refine law_mi hbm (va_runV (As := [.int (xs (j + 1)), .int (xs (j + 2))]) (rest := [.int r]) (x_fix cx) (M3_lacks l G (xs (j + 1)) (xs (j + 2)) τ _ hw) (cwV 2 hts (lw_V q2913 q2914 q2915 q172 q2916) rfl rfl rfl (by decide +kernel) ⟨by dsimp only [room_1]; omega, by dsimp only [room_1]; omega⟩) ⟨mm_blind, law_mrecv hK hM1, my_pre (own := "StruckCountsLaw") (cc := cL_law) (nL := 4) (ret := some .boolean) ⟨hx, hb, hml, hown, hts, hrt, hlk, hK, hZ⟩ hM1 (law_S hS1) (.ref (mm_o G) :: [.int (xs (j + 1)), .int (xs (j + 2))])⟩ rfl rfl hl.1 rfl (Nat.le_of_ble_eq_true rfl) dL_law_869 ⟨by dsimp only [room_1]; omega, by dsimp only [room_1]; omega⟩) hS1 (fun r9 t1 H2 hw hM2 hz2 hk2 hS2 => ?_)
  obtain ⟨he, hw⟩ := hw
  obtain ⟨n9, hn99, hR2⟩ := law_keepX hKx.2.1.1 hR1 hz2 hk2 (hfx s1 H1 hR1)
  refine lv_icmp_eq (tgt := 1414) hx hb dL_law_872 (by decide) (fun _ => ?_) (fun h => absurd he h)
  exact kk 0 0 _ _ _ (hw n9 hn99) (by decide) (by decide) hR2 hM2 hS2
set_option maxHeartbeats 4000000 in
theorem lawW_23 {p : Program} {l : Launch} {e : Env} {s : State} {m : MethodId} {args : Array Value} {below : List Frame} {meth : Method} {c : Code} {H : Heap} {cells slots : Nat} {Q : State → Prop} {E : xx_E} {G : mm_G} {σ : XS} {τ : MS} {ls : Array Slot} {b L j th : Nat} {xs : Nat → Int32} {i : Int32} (hl9 : l.stackTraces = false) (hc9 : lawX E G p s m args meth c b L xs) (hl : lv_has ls 4 [(3, .int i), (2, .ref (mm_o G)), (1, xv E (some th)), (0, .ref b)]) (hi : i = nI j) (hj : j + 5 ≤ L) (hL : L ≤ 120) (hR : xR E σ H) (hM : mm_R G τ H) (hS : va_S (lA s) s.heap H []) (hk : kd σ th = 1) (hcells : cells + 49000 ≤ 1200144) (hslots : slots + 227000 ≤ 5492218) {K : Nat → Nat → XS → MS → Prop} (hw : lawS_23 th (xs (j + 1)) (xs (j + 2)) (xs (j + 3)) (xs (j + 4)) σ τ K)
    (kk : ∀ (k n : Nat) (σ1 : XS) (τ1 : MS) (H1 : Heap), K k n σ1 τ1 → k ≤ 49000 → n ≤ 227000 → xR E σ1 H1 → mm_R G τ1 H1 → va_S (lA s) s.heap H1 [] → W p l e room_1 s m args below meth c H1 [] (cells + k) (slots + n) Q (F0 m 1414 ls [])) : W p l e room_1 s m args below meth c H [] cells slots Q (F0 m 877 ls []) := by
  obtain ⟨cx, hK, hZ, hX, hbl, hbs, hfo1, hthr⟩ := id hc9
  obtain ⟨hbx, hbm, hfo, hfx⟩ := law_fo hc9
  obtain ⟨hx, hb, hml, hown, hts, hrt, hlk, hKx, hZx⟩ := id cx
  unfold lawS_23 at hw
  obtain ⟨k, n, hk9, hn9, hw⟩ := hw
  refine x_aload_n (r := some th) cx dL_law_877 rfl (lv_at hl 2 rfl) ?_
  refine law_arg (k := 1) (v := (1 : Int32)) hx hb hX hbl hS (lv_at hl 3 rfl) (lv_at hl 0 rfl) hi hj hL (by decide) rfl dL_law_878 dL_law_879 dL_law_880 (by decide) dL_law_881 dL_law_882 ?_
  refine law_arg (k := 2) (v := (2 : Int32)) hx hb hX hbl hS (lv_at hl 3 rfl) (lv_at hl 0 rfl) hi hj hL (by decide) rfl dL_law_883 dL_law_884 dL_law_885 (by decide) dL_law_886 dL_law_887 ?_
  refine law_xi hbx (vx_runVW (As := [.int (xs (j + 1)), .int (xs (j + 2))]) (rest := []) (x_fix cx) (MX0_grown l hl9 E th (xs (j + 1)) (xs (j + 2)) k n σ _ hw) (vx_cwVW 2 hts (lw_VW q2158 q2159 q2160 q156 q2161) rfl rfl rfl (by decide +kernel) ⟨by dsimp only [room_1]; omega, by dsimp only [room_1]; omega⟩) (x_preV cx hR (law_S hS) hk (by decide) (q := (RX0, TX0, 24)) rfl rfl [.int (xs (j + 1)), .int (xs (j + 2))]) rfl rfl hl.1 rfl (Nat.le_of_ble_eq_true rfl) dL_law_888 ⟨by dsimp only [room_1]; omega, by dsimp only [room_1]; omega⟩) hS (fun r s1 H1 hw hR1 hz hk1 hS1 => ?_)
  have hM1 := law_keepM hM hk1 hfo
  refine lv_aload_n hx hb dL_law_891 rfl (lv_at hl 1 rfl) ?_
  refine law_arg (k := 1) (v := (1 : Int32)) hx hb hX hbl hS1 (lv_at hl 3 rfl) (lv_at hl 0 rfl) hi hj hL (by decide) rfl dL_law_892 dL_law_893 dL_law_894 (by decide) dL_law_895 dL_law_896 ?_
  refine law_arg (k := 2) (v := (2 : Int32)) hx hb hX hbl hS1 (lv_at hl 3 rfl) (lv_at hl 0 rfl) hi hj hL (by decide) rfl dL_law_897 dL_law_898 dL_law_899 (by decide) dL_law_900 dL_law_901 ?_
  refine law_mi hbm (va_runV (As := [.int (xs (j + 1)), .int (xs (j + 2))]) (rest := [.int r]) (x_fix cx) (M3_grown l G (xs (j + 1)) (xs (j + 2)) τ _ hw) (cwV 2 hts (lw_V q2921 q2922 q2923 q172 q2924) rfl rfl rfl (by decide +kernel) ⟨by dsimp only [room_1]; omega, by dsimp only [room_1]; omega⟩) ⟨mm_blind, law_mrecv hK hM1, my_pre (own := "StruckCountsLaw") (cc := cL_law) (nL := 4) (ret := some .boolean) ⟨hx, hb, hml, hown, hts, hrt, hlk, hK, hZ⟩ hM1 (law_S hS1) (.ref (mm_o G) :: [.int (xs (j + 1)), .int (xs (j + 2))])⟩ rfl rfl hl.1 rfl (Nat.le_of_ble_eq_true rfl) dL_law_902 ⟨by dsimp only [room_1]; omega, by dsimp only [room_1]; omega⟩) hS1 (fun r9 t1 H2 hw hM2 hz2 hk2 hS2 => ?_)
  obtain ⟨he, hw⟩ := hw
  obtain ⟨n9, hn99, hR2⟩ := law_keepX hKx.2.1.1 hR1 hz2 hk2 (hfx s1 H1 hR1)
  refine lv_icmp_eq (tgt := 1414) hx hb dL_law_905 (by decide) (fun _ => ?_) (fun h => absurd he h)
  exact kk k n _ _ _ (hw n9 hn99) hk9 hn9 hR2 hM2 hS2
set_option maxHeartbeats 4000000 in
theorem lawW_24 {p : Program} {l : Launch} {e : Env} {s : State} {m : MethodId} {args : Array Value} {below : List Frame} {meth : Method} {c : Code} {H : Heap} {cells slots : Nat} {Q : State → Prop} {E : xx_E} {G : mm_G} {σ : XS} {τ : MS} {ls : Array Slot} {b L j th : Nat} {xs : Nat → Int32} {i : Int32} (hl9 : l.stackTraces = false) (hc9 : lawX E G p s m args meth c b L xs) (hl : lv_has ls 4 [(3, .int i), (2, .ref (mm_o G)), (1, xv E (some th)), (0, .ref b)]) (hi : i = nI j) (hj : j + 5 ≤ L) (hL : L ≤ 120) (hR : xR E σ H) (hM : mm_R G τ H) (hS : va_S (lA s) s.heap H []) (hk : kd σ th = 1) (hcells : cells + 49000 ≤ 1200144) (hslots : slots + 227000 ≤ 5492218) {K : Nat → Nat → XS → MS → Prop} (hw : lawS_24 th (xs (j + 1)) (xs (j + 2)) (xs (j + 3)) (xs (j + 4)) σ τ K)
    (kk : ∀ (k n : Nat) (σ1 : XS) (τ1 : MS) (H1 : Heap), K k n σ1 τ1 → k ≤ 49000 → n ≤ 227000 → xR E σ1 H1 → mm_R G τ1 H1 → va_S (lA s) s.heap H1 [] → W p l e room_1 s m args below meth c H1 [] (cells + k) (slots + n) Q (F0 m 1414 ls [])) : W p l e room_1 s m args below meth c H [] cells slots Q (F0 m 910 ls []) := by
  obtain ⟨cx, hK, hZ, hX, hbl, hbs, hfo1, hthr⟩ := id hc9
  obtain ⟨hbx, hbm, hfo, hfx⟩ := law_fo hc9
  obtain ⟨hx, hb, hml, hown, hts, hrt, hlk, hKx, hZx⟩ := id cx
  unfold lawS_24 at hw
  refine x_aload_n (r := some th) cx dL_law_910 rfl (lv_at hl 2 rfl) ?_
  refine law_arg (k := 1) (v := (1 : Int32)) hx hb hX hbl hS (lv_at hl 3 rfl) (lv_at hl 0 rfl) hi hj hL (by decide) rfl dL_law_911 dL_law_912 dL_law_913 (by decide) dL_law_914 dL_law_915 ?_
  refine law_xi hbx (va_runV (As := [.int (xs (j + 1))]) (rest := []) (x_fix cx) (MX0_issues l E th (xs (j + 1)) σ _ hw) (cwV 1 hts (lw_V q2192 q2193 q2194 q156 q2195) rfl rfl rfl (by decide +kernel) ⟨by dsimp only [room_1]; omega, by dsimp only [room_1]; omega⟩) (x_preV cx hR (law_S hS) hk (by decide) (q := (RX0, TX0, 24)) rfl rfl [.int (xs (j + 1))]) rfl rfl hl.1 rfl (Nat.le_of_ble_eq_true rfl) dL_law_916 ⟨by dsimp only [room_1]; omega, by dsimp only [room_1]; omega⟩) hS (fun r s1 H1 hw hR1 hz hk1 hS1 => ?_)
  have hM1 := law_keepM hM hk1 hfo
  refine lv_aload_n hx hb dL_law_919 rfl (lv_at hl 1 rfl) ?_
  refine law_arg (k := 1) (v := (1 : Int32)) hx hb hX hbl hS1 (lv_at hl 3 rfl) (lv_at hl 0 rfl) hi hj hL (by decide) rfl dL_law_920 dL_law_921 dL_law_922 (by decide) dL_law_923 dL_law_924 ?_
  refine law_mi hbm (va_runV (As := [.int (xs (j + 1))]) (rest := [.int r]) (x_fix cx) (M3_issues l G (xs (j + 1)) τ _ hw) (cwV 1 hts (lw_V q2927 q2928 q2929 q172 q2930) rfl rfl rfl (by decide +kernel) ⟨by dsimp only [room_1]; omega, by dsimp only [room_1]; omega⟩) ⟨mm_blind, law_mrecv hK hM1, my_pre (own := "StruckCountsLaw") (cc := cL_law) (nL := 4) (ret := some .boolean) ⟨hx, hb, hml, hown, hts, hrt, hlk, hK, hZ⟩ hM1 (law_S hS1) (.ref (mm_o G) :: [.int (xs (j + 1))])⟩ rfl rfl hl.1 rfl (Nat.le_of_ble_eq_true rfl) dL_law_925 ⟨by dsimp only [room_1]; omega, by dsimp only [room_1]; omega⟩) hS1 (fun r9 t1 H2 hw hM2 hz2 hk2 hS2 => ?_)
  obtain ⟨he, hw⟩ := hw
  obtain ⟨n9, hn99, hR2⟩ := law_keepX hKx.2.1.1 hR1 hz2 hk2 (hfx s1 H1 hR1)
  refine lv_icmp_eq (tgt := 1414) hx hb dL_law_928 (by decide) (fun _ => ?_) (fun h => absurd he h)
  exact kk 0 0 _ _ _ (hw n9 hn99) (by decide) (by decide) hR2 hM2 hS2
set_option maxHeartbeats 4000000 in
theorem lawW_25 {p : Program} {l : Launch} {e : Env} {s : State} {m : MethodId} {args : Array Value} {below : List Frame} {meth : Method} {c : Code} {H : Heap} {cells slots : Nat} {Q : State → Prop} {E : xx_E} {G : mm_G} {σ : XS} {τ : MS} {ls : Array Slot} {b L j th : Nat} {xs : Nat → Int32} {i : Int32} (hl9 : l.stackTraces = false) (hc9 : lawX E G p s m args meth c b L xs) (hl : lv_has ls 4 [(3, .int i), (2, .ref (mm_o G)), (1, xv E (some th)), (0, .ref b)]) (hi : i = nI j) (hj : j + 5 ≤ L) (hL : L ≤ 120) (hR : xR E σ H) (hM : mm_R G τ H) (hS : va_S (lA s) s.heap H []) (hk : kd σ th = 1) (hcells : cells + 49000 ≤ 1200144) (hslots : slots + 227000 ≤ 5492218) {K : Nat → Nat → XS → MS → Prop} (hw : lawS_25 th (xs (j + 1)) (xs (j + 2)) (xs (j + 3)) (xs (j + 4)) σ τ K)
    (kk : ∀ (k n : Nat) (σ1 : XS) (τ1 : MS) (H1 : Heap), K k n σ1 τ1 → k ≤ 49000 → n ≤ 227000 → xR E σ1 H1 → mm_R G τ1 H1 → va_S (lA s) s.heap H1 [] → W p l e room_1 s m args below meth c H1 [] (cells + k) (slots + n) Q (F0 m 1414 ls [])) : W p l e room_1 s m args below meth c H [] cells slots Q (F0 m 933 ls []) := by
  obtain ⟨cx, hK, hZ, hX, hbl, hbs, hfo1, hthr⟩ := id hc9
  obtain ⟨hbx, hbm, hfo, hfx⟩ := law_fo hc9
  obtain ⟨hx, hb, hml, hown, hts, hrt, hlk, hKx, hZx⟩ := id cx
  unfold lawS_25 at hw
  refine x_aload_n (r := some th) cx dL_law_933 rfl (lv_at hl 2 rfl) ?_
  refine law_arg (k := 1) (v := (1 : Int32)) hx hb hX hbl hS (lv_at hl 3 rfl) (lv_at hl 0 rfl) hi hj hL (by decide) rfl dL_law_934 dL_law_935 dL_law_936 (by decide) dL_law_937 dL_law_938 ?_
  refine law_xi hbx (va_runV (As := [.int (xs (j + 1))]) (rest := []) (x_fix cx) (MX0_judged l E th (xs (j + 1)) σ _ hw) (cwV 1 hts (lw_V q2200 q2201 q2202 q156 q2203) rfl rfl rfl (by decide +kernel) ⟨by dsimp only [room_1]; omega, by dsimp only [room_1]; omega⟩) (x_preV cx hR (law_S hS) hk (by decide) (q := (RX0, TX0, 24)) rfl rfl [.int (xs (j + 1))]) rfl rfl hl.1 rfl (Nat.le_of_ble_eq_true rfl) dL_law_939 ⟨by dsimp only [room_1]; omega, by dsimp only [room_1]; omega⟩) hS (fun r s1 H1 hw hR1 hz hk1 hS1 => ?_)
  have hM1 := law_keepM hM hk1 hfo
  refine lv_aload_n hx hb dL_law_942 rfl (lv_at hl 1 rfl) ?_
  refine law_arg (k := 1) (v := (1 : Int32)) hx hb hX hbl hS1 (lv_at hl 3 rfl) (lv_at hl 0 rfl) hi hj hL (by decide) rfl dL_law_943 dL_law_944 dL_law_945 (by decide) dL_law_946 dL_law_947 ?_
  refine law_mi hbm (va_runV (As := [.int (xs (j + 1))]) (rest := [.int r]) (x_fix cx) (M3_judged l G (xs (j + 1)) τ _ hw) (cwV 1 hts (lw_V q2931 q2932 q2933 q172 q2934) rfl rfl rfl (by decide +kernel) ⟨by dsimp only [room_1]; omega, by dsimp only [room_1]; omega⟩) ⟨mm_blind, law_mrecv hK hM1, my_pre (own := "StruckCountsLaw") (cc := cL_law) (nL := 4) (ret := some .boolean) ⟨hx, hb, hml, hown, hts, hrt, hlk, hK, hZ⟩ hM1 (law_S hS1) (.ref (mm_o G) :: [.int (xs (j + 1))])⟩ rfl rfl hl.1 rfl (Nat.le_of_ble_eq_true rfl) dL_law_948 ⟨by dsimp only [room_1]; omega, by dsimp only [room_1]; omega⟩) hS1 (fun r9 t1 H2 hw hM2 hz2 hk2 hS2 => ?_)
  obtain ⟨he, hw⟩ := hw
  obtain ⟨n9, hn99, hR2⟩ := law_keepX hKx.2.1.1 hR1 hz2 hk2 (hfx s1 H1 hR1)
  refine lv_icmp_eq (tgt := 1414) hx hb dL_law_951 (by decide) (fun _ => ?_) (fun h => absurd he h)
  exact kk 0 0 _ _ _ (hw n9 hn99) (by decide) (by decide) hR2 hM2 hS2
set_option maxHeartbeats 4000000 in
theorem lawW_26 {p : Program} {l : Launch} {e : Env} {s : State} {m : MethodId} {args : Array Value} {below : List Frame} {meth : Method} {c : Code} {H : Heap} {cells slots : Nat} {Q : State → Prop} {E : xx_E} {G : mm_G} {σ : XS} {τ : MS} {ls : Array Slot} {b L j th : Nat} {xs : Nat → Int32} {i : Int32} (hl9 : l.stackTraces = false) (hc9 : lawX E G p s m args meth c b L xs) (hl : lv_has ls 4 [(3, .int i), (2, .ref (mm_o G)), (1, xv E (some th)), (0, .ref b)]) (hi : i = nI j) (hj : j + 5 ≤ L) (hL : L ≤ 120) (hR : xR E σ H) (hM : mm_R G τ H) (hS : va_S (lA s) s.heap H []) (hk : kd σ th = 1) (hcells : cells + 49000 ≤ 1200144) (hslots : slots + 227000 ≤ 5492218) {K : Nat → Nat → XS → MS → Prop} (hw : lawS_26 th (xs (j + 1)) (xs (j + 2)) (xs (j + 3)) (xs (j + 4)) σ τ K)
    (kk : ∀ (k n : Nat) (σ1 : XS) (τ1 : MS) (H1 : Heap), K k n σ1 τ1 → k ≤ 49000 → n ≤ 227000 → xR E σ1 H1 → mm_R G τ1 H1 → va_S (lA s) s.heap H1 [] → W p l e room_1 s m args below meth c H1 [] (cells + k) (slots + n) Q (F0 m 1414 ls [])) : W p l e room_1 s m args below meth c H [] cells slots Q (F0 m 956 ls []) := by
  obtain ⟨cx, hK, hZ, hX, hbl, hbs, hfo1, hthr⟩ := id hc9
  obtain ⟨hbx, hbm, hfo, hfx⟩ := law_fo hc9
  obtain ⟨hx, hb, hml, hown, hts, hrt, hlk, hKx, hZx⟩ := id cx
  unfold lawS_26 at hw
  obtain ⟨d, hd, hw⟩ := hw
  refine x_aload_n (r := some th) cx dL_law_956 rfl (lv_at hl 2 rfl) ?_
  refine law_arg (k := 1) (v := (1 : Int32)) hx hb hX hbl hS (lv_at hl 3 rfl) (lv_at hl 0 rfl) hi hj hL (by decide) rfl dL_law_957 dL_law_958 dL_law_959 (by decide) dL_law_960 dL_law_961 ?_
  refine law_arg (k := 2) (v := (2 : Int32)) hx hb hX hbl hS (lv_at hl 3 rfl) (lv_at hl 0 rfl) hi hj hL (by decide) rfl dL_law_962 dL_law_963 dL_law_964 (by decide) dL_law_965 dL_law_966 ?_
  refine law_xi hbx (va_runV (As := [.int (xs (j + 1)), .int (xs (j + 2))]) (rest := []) (x_fix cx) (MX0_tries l E d th (xs (j + 1)) (xs (j + 2)) σ _ hw) (cwV 2 hts (lw_V q2211 q2212 q2213 q156 q2214) rfl rfl rfl (by decide +kernel) ⟨by dsimp only [room_1]; omega, by dsimp only [room_1]; omega⟩) (x_preV cx hR (law_S hS) hk (by decide) (q := (RX0, TX0, 24)) rfl rfl [.int (xs (j + 1)), .int (xs (j + 2))]) rfl rfl hl.1 rfl (Nat.le_of_ble_eq_true rfl) dL_law_967 ⟨by dsimp only [room_1]; omega, by dsimp only [room_1]; omega⟩) hS (fun r s1 H1 hw hR1 hz hk1 hS1 => ?_)
  have hM1 := law_keepM hM hk1 hfo
  refine lv_aload_n hx hb dL_law_970 rfl (lv_at hl 1 rfl) ?_
  refine law_arg (k := 1) (v := (1 : Int32)) hx hb hX hbl hS1 (lv_at hl 3 rfl) (lv_at hl 0 rfl) hi hj hL (by decide) rfl dL_law_971 dL_law_972 dL_law_973 (by decide) dL_law_974 dL_law_975 ?_
  refine law_arg (k := 2) (v := (2 : Int32)) hx hb hX hbl hS1 (lv_at hl 3 rfl) (lv_at hl 0 rfl) hi hj hL (by decide) rfl dL_law_976 dL_law_977 dL_law_978 (by decide) dL_law_979 dL_law_980 ?_
  refine law_mi hbm (va_runV (As := [.int (xs (j + 1)), .int (xs (j + 2))]) (rest := [.int r]) (x_fix cx) (M3_tries l G (xs (j + 1)) (xs (j + 2)) τ _ hw) (cwV 2 hts (lw_V q2948 q2949 q2950 q172 q2951) rfl rfl rfl (by decide +kernel) ⟨by dsimp only [room_1]; omega, by dsimp only [room_1]; omega⟩) ⟨mm_blind, law_mrecv hK hM1, my_pre (own := "StruckCountsLaw") (cc := cL_law) (nL := 4) (ret := some .boolean) ⟨hx, hb, hml, hown, hts, hrt, hlk, hK, hZ⟩ hM1 (law_S hS1) (.ref (mm_o G) :: [.int (xs (j + 1)), .int (xs (j + 2))])⟩ rfl rfl hl.1 rfl (Nat.le_of_ble_eq_true rfl) dL_law_981 ⟨by dsimp only [room_1]; omega, by dsimp only [room_1]; omega⟩) hS1 (fun r9 t1 H2 hw hM2 hz2 hk2 hS2 => ?_)
  obtain ⟨he, hw⟩ := hw
  obtain ⟨n9, hn99, hR2⟩ := law_keepX hKx.2.1.1 hR1 hz2 hk2 (hfx s1 H1 hR1)
  refine lv_icmp_eq (tgt := 1414) hx hb dL_law_984 (by decide) (fun _ => ?_) (fun h => absurd he h)
  exact kk 0 0 _ _ _ (hw n9 hn99) (by decide) (by decide) hR2 hM2 hS2
set_option maxHeartbeats 4000000 in
theorem lawW_27 {p : Program} {l : Launch} {e : Env} {s : State} {m : MethodId} {args : Array Value} {below : List Frame} {meth : Method} {c : Code} {H : Heap} {cells slots : Nat} {Q : State → Prop} {E : xx_E} {G : mm_G} {σ : XS} {τ : MS} {ls : Array Slot} {b L j th : Nat} {xs : Nat → Int32} {i : Int32} (hl9 : l.stackTraces = false) (hc9 : lawX E G p s m args meth c b L xs) (hl : lv_has ls 4 [(3, .int i), (2, .ref (mm_o G)), (1, xv E (some th)), (0, .ref b)]) (hi : i = nI j) (hj : j + 5 ≤ L) (hL : L ≤ 120) (hR : xR E σ H) (hM : mm_R G τ H) (hS : va_S (lA s) s.heap H []) (hk : kd σ th = 1) (hcells : cells + 49000 ≤ 1200144) (hslots : slots + 227000 ≤ 5492218) {K : Nat → Nat → XS → MS → Prop} (hw : lawS_27 th (xs (j + 1)) (xs (j + 2)) (xs (j + 3)) (xs (j + 4)) σ τ K)
    (kk : ∀ (k n : Nat) (σ1 : XS) (τ1 : MS) (H1 : Heap), K k n σ1 τ1 → k ≤ 49000 → n ≤ 227000 → xR E σ1 H1 → mm_R G τ1 H1 → va_S (lA s) s.heap H1 [] → W p l e room_1 s m args below meth c H1 [] (cells + k) (slots + n) Q (F0 m 1414 ls [])) : W p l e room_1 s m args below meth c H [] cells slots Q (F0 m 989 ls []) := by
  obtain ⟨cx, hK, hZ, hX, hbl, hbs, hfo1, hthr⟩ := id hc9
  obtain ⟨hbx, hbm, hfo, hfx⟩ := law_fo hc9
  obtain ⟨hx, hb, hml, hown, hts, hrt, hlk, hKx, hZx⟩ := id cx
  unfold lawS_27 at hw
  obtain ⟨d, hd, hw⟩ := hw
  refine x_aload_n (r := some th) cx dL_law_989 rfl (lv_at hl 2 rfl) ?_
  refine law_arg (k := 1) (v := (1 : Int32)) hx hb hX hbl hS (lv_at hl 3 rfl) (lv_at hl 0 rfl) hi hj hL (by decide) rfl dL_law_990 dL_law_991 dL_law_992 (by decide) dL_law_993 dL_law_994 ?_
  refine law_arg (k := 2) (v := (2 : Int32)) hx hb hX hbl hS (lv_at hl 3 rfl) (lv_at hl 0 rfl) hi hj hL (by decide) rfl dL_law_995 dL_law_996 dL_law_997 (by decide) dL_law_998 dL_law_999 ?_
  refine law_xi hbx (va_runV (As := [.int (xs (j + 1)), .int (xs (j + 2))]) (rest := []) (x_fix cx) (MX0_chance l E d th (xs (j + 1)) (xs (j + 2)) σ _ hw) (cwV 2 hts (lw_V q2223 q2224 q2225 q156 q2226) rfl rfl rfl (by decide +kernel) ⟨by dsimp only [room_1]; omega, by dsimp only [room_1]; omega⟩) (x_preV cx hR (law_S hS) hk (by decide) (q := (RX0, TX0, 24)) rfl rfl [.int (xs (j + 1)), .int (xs (j + 2))]) rfl rfl hl.1 rfl (Nat.le_of_ble_eq_true rfl) dL_law_1000 ⟨by dsimp only [room_1]; omega, by dsimp only [room_1]; omega⟩) hS (fun r s1 H1 hw hR1 hz hk1 hS1 => ?_)
  have hM1 := law_keepM hM hk1 hfo
  refine lv_aload_n hx hb dL_law_1003 rfl (lv_at hl 1 rfl) ?_
  refine law_arg (k := 1) (v := (1 : Int32)) hx hb hX hbl hS1 (lv_at hl 3 rfl) (lv_at hl 0 rfl) hi hj hL (by decide) rfl dL_law_1004 dL_law_1005 dL_law_1006 (by decide) dL_law_1007 dL_law_1008 ?_
  refine law_arg (k := 2) (v := (2 : Int32)) hx hb hX hbl hS1 (lv_at hl 3 rfl) (lv_at hl 0 rfl) hi hj hL (by decide) rfl dL_law_1009 dL_law_1010 dL_law_1011 (by decide) dL_law_1012 dL_law_1013 ?_
  refine law_mi hbm (va_runV (As := [.int (xs (j + 1)), .int (xs (j + 2))]) (rest := [.int r]) (x_fix cx) (M3_chance l G (xs (j + 1)) (xs (j + 2)) τ _ hw) (cwV 2 hts (lw_V q2996 q2997 q2998 q172 q2999) rfl rfl rfl (by decide +kernel) ⟨by dsimp only [room_1]; omega, by dsimp only [room_1]; omega⟩) ⟨mm_blind, law_mrecv hK hM1, my_pre (own := "StruckCountsLaw") (cc := cL_law) (nL := 4) (ret := some .boolean) ⟨hx, hb, hml, hown, hts, hrt, hlk, hK, hZ⟩ hM1 (law_S hS1) (.ref (mm_o G) :: [.int (xs (j + 1)), .int (xs (j + 2))])⟩ rfl rfl hl.1 rfl (Nat.le_of_ble_eq_true rfl) dL_law_1014 ⟨by dsimp only [room_1]; omega, by dsimp only [room_1]; omega⟩) hS1 (fun r9 t1 H2 hw hM2 hz2 hk2 hS2 => ?_)
  obtain ⟨he, hw⟩ := hw
  obtain ⟨n9, hn99, hR2⟩ := law_keepX hKx.2.1.1 hR1 hz2 hk2 (hfx s1 H1 hR1)
  refine lv_icmp_eq (tgt := 1414) hx hb dL_law_1017 (by decide) (fun _ => ?_) (fun h => absurd he h)
  exact kk 0 0 _ _ _ (hw n9 hn99) (by decide) (by decide) hR2 hM2 hS2
set_option maxHeartbeats 4000000 in
theorem lawW_28 {p : Program} {l : Launch} {e : Env} {s : State} {m : MethodId} {args : Array Value} {below : List Frame} {meth : Method} {c : Code} {H : Heap} {cells slots : Nat} {Q : State → Prop} {E : xx_E} {G : mm_G} {σ : XS} {τ : MS} {ls : Array Slot} {b L j th : Nat} {xs : Nat → Int32} {i : Int32} (hl9 : l.stackTraces = false) (hc9 : lawX E G p s m args meth c b L xs) (hl : lv_has ls 4 [(3, .int i), (2, .ref (mm_o G)), (1, xv E (some th)), (0, .ref b)]) (hi : i = nI j) (hj : j + 5 ≤ L) (hL : L ≤ 120) (hR : xR E σ H) (hM : mm_R G τ H) (hS : va_S (lA s) s.heap H []) (hk : kd σ th = 1) (hcells : cells + 49000 ≤ 1200144) (hslots : slots + 227000 ≤ 5492218) {K : Nat → Nat → XS → MS → Prop} (hw : lawS_28 th (xs (j + 1)) (xs (j + 2)) (xs (j + 3)) (xs (j + 4)) σ τ K)
    (kk : ∀ (k n : Nat) (σ1 : XS) (τ1 : MS) (H1 : Heap), K k n σ1 τ1 → k ≤ 49000 → n ≤ 227000 → xR E σ1 H1 → mm_R G τ1 H1 → va_S (lA s) s.heap H1 [] → W p l e room_1 s m args below meth c H1 [] (cells + k) (slots + n) Q (F0 m 1414 ls [])) : W p l e room_1 s m args below meth c H [] cells slots Q (F0 m 1022 ls []) := by
  obtain ⟨cx, hK, hZ, hX, hbl, hbs, hfo1, hthr⟩ := id hc9
  obtain ⟨hbx, hbm, hfo, hfx⟩ := law_fo hc9
  obtain ⟨hx, hb, hml, hown, hts, hrt, hlk, hKx, hZx⟩ := id cx
  unfold lawS_28 at hw
  obtain ⟨d, hd, hw⟩ := hw
  obtain ⟨k, n, hk9, hn9, hw⟩ := hw
  refine x_aload_n (r := some th) cx dL_law_1022 rfl (lv_at hl 2 rfl) ?_
  refine law_arg (k := 1) (v := (1 : Int32)) hx hb hX hbl hS (lv_at hl 3 rfl) (lv_at hl 0 rfl) hi hj hL (by decide) rfl dL_law_1023 dL_law_1024 dL_law_1025 (by decide) dL_law_1026 dL_law_1027 ?_
  refine law_xi hbx (va_runV (As := [.int (xs (j + 1))]) (rest := []) (x_fix cx) (MX0_award l E d th (xs (j + 1)) k n σ _ hw) (cwV 1 hts (lw_V q2241 q2242 q2243 q156 q2244) rfl rfl rfl (by decide +kernel) ⟨by dsimp only [room_1]; omega, by dsimp only [room_1]; omega⟩) (x_preV cx hR (law_S hS) hk (by decide) (q := (RX0, TX0, 24)) rfl rfl [.int (xs (j + 1))]) rfl rfl hl.1 rfl (Nat.le_of_ble_eq_true rfl) dL_law_1028 ⟨by dsimp only [room_1]; omega, by dsimp only [room_1]; omega⟩) hS (fun r s1 H1 hw hR1 hz hk1 hS1 => ?_)
  have hM1 := law_keepM hM hk1 hfo
  refine lv_aload_n hx hb dL_law_1031 rfl (lv_at hl 1 rfl) ?_
  refine law_arg (k := 1) (v := (1 : Int32)) hx hb hX hbl hS1 (lv_at hl 3 rfl) (lv_at hl 0 rfl) hi hj hL (by decide) rfl dL_law_1032 dL_law_1033 dL_law_1034 (by decide) dL_law_1035 dL_law_1036 ?_
  refine law_mi hbm (va_runV (As := [.int (xs (j + 1))]) (rest := [.int r]) (x_fix cx) (M3_award l G (xs (j + 1)) τ _ hw) (cwV 1 hts (lw_V q3008 q3009 q3010 q172 q3011) rfl rfl rfl (by decide +kernel) ⟨by dsimp only [room_1]; omega, by dsimp only [room_1]; omega⟩) ⟨mm_blind, law_mrecv hK hM1, my_pre (own := "StruckCountsLaw") (cc := cL_law) (nL := 4) (ret := some .boolean) ⟨hx, hb, hml, hown, hts, hrt, hlk, hK, hZ⟩ hM1 (law_S hS1) (.ref (mm_o G) :: [.int (xs (j + 1))])⟩ rfl rfl hl.1 rfl (Nat.le_of_ble_eq_true rfl) dL_law_1037 ⟨by dsimp only [room_1]; omega, by dsimp only [room_1]; omega⟩) hS1 (fun r9 t1 H2 hw hM2 hz2 hk2 hS2 => ?_)
  obtain ⟨he, hw⟩ := hw
  obtain ⟨n9, hn99, hR2⟩ := law_keepX hKx.2.1.1 hR1 hz2 hk2 (hfx s1 H1 hR1)
  refine lv_icmp_eq (tgt := 1414) hx hb dL_law_1040 (by decide) (fun _ => ?_) (fun h => absurd he h)
  exact kk k n _ _ _ (hw n9 hn99) hk9 hn9 hR2 hM2 hS2
set_option maxHeartbeats 4000000 in
theorem lawW_29 {p : Program} {l : Launch} {e : Env} {s : State} {m : MethodId} {args : Array Value} {below : List Frame} {meth : Method} {c : Code} {H : Heap} {cells slots : Nat} {Q : State → Prop} {E : xx_E} {G : mm_G} {σ : XS} {τ : MS} {ls : Array Slot} {b L j th : Nat} {xs : Nat → Int32} {i : Int32} (hl9 : l.stackTraces = false) (hc9 : lawX E G p s m args meth c b L xs) (hl : lv_has ls 4 [(3, .int i), (2, .ref (mm_o G)), (1, xv E (some th)), (0, .ref b)]) (hi : i = nI j) (hj : j + 5 ≤ L) (hL : L ≤ 120) (hR : xR E σ H) (hM : mm_R G τ H) (hS : va_S (lA s) s.heap H []) (hk : kd σ th = 1) (hcells : cells + 49000 ≤ 1200144) (hslots : slots + 227000 ≤ 5492218) {K : Nat → Nat → XS → MS → Prop} (hw : lawS_29 th (xs (j + 1)) (xs (j + 2)) (xs (j + 3)) (xs (j + 4)) σ τ K)
    (kk : ∀ (k n : Nat) (σ1 : XS) (τ1 : MS) (H1 : Heap), K k n σ1 τ1 → k ≤ 49000 → n ≤ 227000 → xR E σ1 H1 → mm_R G τ1 H1 → va_S (lA s) s.heap H1 [] → W p l e room_1 s m args below meth c H1 [] (cells + k) (slots + n) Q (F0 m 1414 ls [])) : W p l e room_1 s m args below meth c H [] cells slots Q (F0 m 1045 ls []) := by
  obtain ⟨cx, hK, hZ, hX, hbl, hbs, hfo1, hthr⟩ := id hc9
  obtain ⟨hbx, hbm, hfo, hfx⟩ := law_fo hc9
  obtain ⟨hx, hb, hml, hown, hts, hrt, hlk, hKx, hZx⟩ := id cx
  unfold lawS_29 at hw
  obtain ⟨d, hd, hw⟩ := hw
  obtain ⟨k, n, hk9, hn9, hw⟩ := hw
  refine x_aload_n (r := some th) cx dL_law_1045 rfl (lv_at hl 2 rfl) ?_
  refine law_arg (k := 1) (v := (1 : Int32)) hx hb hX hbl hS (lv_at hl 3 rfl) (lv_at hl 0 rfl) hi hj hL (by decide) rfl dL_law_1046 dL_law_1047 dL_law_1048 (by decide) dL_law_1049 dL_law_1050 ?_
  refine law_xl hbx (va_runV (As := [.int (xs (j + 1))]) (rest := []) (x_fix cx) (MX0_meant l E d th (xs (j + 1)) k n σ _ hw) (cwV 1 hts (lw_V q2257 q2258 q2259 q156 q2260) rfl rfl rfl (by decide +kernel) ⟨by dsimp only [room_1]; omega, by dsimp only [room_1]; omega⟩) (x_preV cx hR (law_S hS) hk (by decide) (q := (RX0, TX0, 24)) rfl rfl [.int (xs (j + 1))]) rfl rfl hl.1 rfl (Nat.le_of_ble_eq_true rfl) dL_law_1051 ⟨by dsimp only [room_1]; omega, by dsimp only [room_1]; omega⟩) hS (fun r s1 H1 hw hR1 hz hk1 hS1 => ?_)
  have hM1 := law_keepM hM hk1 hfo
  refine lv_aload_n hx hb dL_law_1054 rfl (lv_at hl 1 rfl) ?_
  refine law_arg (k := 1) (v := (1 : Int32)) hx hb hX hbl hS1 (lv_at hl 3 rfl) (lv_at hl 0 rfl) hi hj hL (by decide) rfl dL_law_1055 dL_law_1056 dL_law_1057 (by decide) dL_law_1058 dL_law_1059 ?_
  refine law_ml hbm (va_runV (As := [.int (xs (j + 1))]) (rest := [.long r]) (x_fix cx) (M3_meant l G (xs (j + 1)) τ _ hw) (cwV 1 hts (lw_V q3024 q3025 q3026 q172 q3027) rfl rfl rfl (by decide +kernel) ⟨by dsimp only [room_1]; omega, by dsimp only [room_1]; omega⟩) ⟨mm_blind, law_mrecv hK hM1, my_pre (own := "StruckCountsLaw") (cc := cL_law) (nL := 4) (ret := some .boolean) ⟨hx, hb, hml, hown, hts, hrt, hlk, hK, hZ⟩ hM1 (law_S hS1) (.ref (mm_o G) :: [.int (xs (j + 1))])⟩ rfl rfl hl.1 rfl (Nat.le_of_ble_eq_true rfl) dL_law_1060 ⟨by dsimp only [room_1]; omega, by dsimp only [room_1]; omega⟩) hS1 (fun r9 t1 H2 hw hM2 hz2 hk2 hS2 => ?_)
  obtain ⟨he, hw⟩ := hw
  obtain ⟨n9, hn99, hR2⟩ := law_keepX hKx.2.1.1 hR1 hz2 hk2 (hfx s1 H1 hR1)
  refine W.lcmp hx hb dL_law_1063 ?_
  refine lv_if_eq (tgt := 1414) hx hb dL_law_1064 (by decide) (fun _ => ?_) (fun h => absurd ((lg_cmp_eq _ _).mpr he) h)
  exact kk k n _ _ _ (hw n9 hn99) hk9 hn9 hR2 hM2 hS2
set_option maxHeartbeats 4000000 in
theorem lawW_30 {p : Program} {l : Launch} {e : Env} {s : State} {m : MethodId} {args : Array Value} {below : List Frame} {meth : Method} {c : Code} {H : Heap} {cells slots : Nat} {Q : State → Prop} {E : xx_E} {G : mm_G} {σ : XS} {τ : MS} {ls : Array Slot} {b L j th : Nat} {xs : Nat → Int32} {i : Int32} (hl9 : l.stackTraces = false) (hc9 : lawX E G p s m args meth c b L xs) (hl : lv_has ls 4 [(3, .int i), (2, .ref (mm_o G)), (1, xv E (some th)), (0, .ref b)]) (hi : i = nI j) (hj : j + 5 ≤ L) (hL : L ≤ 120) (hR : xR E σ H) (hM : mm_R G τ H) (hS : va_S (lA s) s.heap H []) (hk : kd σ th = 1) (hcells : cells + 49000 ≤ 1200144) (hslots : slots + 227000 ≤ 5492218) {K : Nat → Nat → XS → MS → Prop} (hw : lawS_30 th (xs (j + 1)) (xs (j + 2)) (xs (j + 3)) (xs (j + 4)) σ τ K)
    (kk : ∀ (k n : Nat) (σ1 : XS) (τ1 : MS) (H1 : Heap), K k n σ1 τ1 → k ≤ 49000 → n ≤ 227000 → xR E σ1 H1 → mm_R G τ1 H1 → va_S (lA s) s.heap H1 [] → W p l e room_1 s m args below meth c H1 [] (cells + k) (slots + n) Q (F0 m 1414 ls [])) : W p l e room_1 s m args below meth c H [] cells slots Q (F0 m 1069 ls []) := by
  obtain ⟨cx, hK, hZ, hX, hbl, hbs, hfo1, hthr⟩ := id hc9
  obtain ⟨hbx, hbm, hfo, hfx⟩ := law_fo hc9
  obtain ⟨hx, hb, hml, hown, hts, hrt, hlk, hKx, hZx⟩ := id cx
  unfold lawS_30 at hw
  obtain ⟨d, hd, hw⟩ := hw
  obtain ⟨k, n, hk9, hn9, hw⟩ := hw
  refine x_aload_n (r := some th) cx dL_law_1069 rfl (lv_at hl 2 rfl) ?_
  refine law_xi hbx (va_runV (As := []) (rest := []) (x_fix cx) (MX0_outcomes l E d th k n σ _ hw) (cwV 0 hts (lw_V q2262 q2263 q2264 q156 q2265) rfl rfl rfl (by decide +kernel) ⟨by dsimp only [room_1]; omega, by dsimp only [room_1]; omega⟩) (x_preV cx hR (law_S hS) hk (by decide) (q := (RX0, TX0, 24)) rfl rfl []) rfl rfl hl.1 rfl (Nat.le_of_ble_eq_true rfl) dL_law_1070 ⟨by dsimp only [room_1]; omega, by dsimp only [room_1]; omega⟩) hS (fun r s1 H1 hw hR1 hz hk1 hS1 => ?_)
  have hM1 := law_keepM hM hk1 hfo
  refine lv_aload_n hx hb dL_law_1073 rfl (lv_at hl 1 rfl) ?_
  refine law_mi hbm (va_runV (As := []) (rest := [.int r]) (x_fix cx) (M3_outcomes l G τ _ hw) (cwV 0 hts (lw_V q3029 q3030 q3031 q172 q3032) rfl rfl rfl (by decide +kernel) ⟨by dsimp only [room_1]; omega, by dsimp only [room_1]; omega⟩) ⟨mm_blind, law_mrecv hK hM1, my_pre (own := "StruckCountsLaw") (cc := cL_law) (nL := 4) (ret := some .boolean) ⟨hx, hb, hml, hown, hts, hrt, hlk, hK, hZ⟩ hM1 (law_S hS1) (.ref (mm_o G) :: [])⟩ rfl rfl hl.1 rfl (Nat.le_of_ble_eq_true rfl) dL_law_1074 ⟨by dsimp only [room_1]; omega, by dsimp only [room_1]; omega⟩) hS1 (fun r9 t1 H2 hw hM2 hz2 hk2 hS2 => ?_)
  obtain ⟨he, hw⟩ := hw
  obtain ⟨n9, hn99, hR2⟩ := law_keepX hKx.2.1.1 hR1 hz2 hk2 (hfx s1 H1 hR1)
  refine lv_icmp_eq (tgt := 1414) hx hb dL_law_1077 (by decide) (fun _ => ?_) (fun h => absurd he h)
  exact kk k n _ _ _ (hw n9 hn99) hk9 hn9 hR2 hM2 hS2
set_option maxHeartbeats 4000000 in
theorem lawW_31 {p : Program} {l : Launch} {e : Env} {s : State} {m : MethodId} {args : Array Value} {below : List Frame} {meth : Method} {c : Code} {H : Heap} {cells slots : Nat} {Q : State → Prop} {E : xx_E} {G : mm_G} {σ : XS} {τ : MS} {ls : Array Slot} {b L j th : Nat} {xs : Nat → Int32} {i : Int32} (hl9 : l.stackTraces = false) (hc9 : lawX E G p s m args meth c b L xs) (hl : lv_has ls 4 [(3, .int i), (2, .ref (mm_o G)), (1, xv E (some th)), (0, .ref b)]) (hi : i = nI j) (hj : j + 5 ≤ L) (hL : L ≤ 120) (hR : xR E σ H) (hM : mm_R G τ H) (hS : va_S (lA s) s.heap H []) (hk : kd σ th = 1) (hcells : cells + 49000 ≤ 1200144) (hslots : slots + 227000 ≤ 5492218) {K : Nat → Nat → XS → MS → Prop} (hw : lawS_31 th (xs (j + 1)) (xs (j + 2)) (xs (j + 3)) (xs (j + 4)) σ τ K)
    (kk : ∀ (k n : Nat) (σ1 : XS) (τ1 : MS) (H1 : Heap), K k n σ1 τ1 → k ≤ 49000 → n ≤ 227000 → xR E σ1 H1 → mm_R G τ1 H1 → va_S (lA s) s.heap H1 [] → W p l e room_1 s m args below meth c H1 [] (cells + k) (slots + n) Q (F0 m 1414 ls [])) : W p l e room_1 s m args below meth c H [] cells slots Q (F0 m 1082 ls []) := by
  obtain ⟨cx, hK, hZ, hX, hbl, hbs, hfo1, hthr⟩ := id hc9
  obtain ⟨hbx, hbm, hfo, hfx⟩ := law_fo hc9
  obtain ⟨hx, hb, hml, hown, hts, hrt, hlk, hKx, hZx⟩ := id cx
  unfold lawS_31 at hw
  obtain ⟨d, hd, hw⟩ := hw
  obtain ⟨k, n, hk9, hn9, hw⟩ := hw
  refine x_aload_n (r := some th) cx dL_law_1082 rfl (lv_at hl 2 rfl) ?_
  refine law_arg (k := 1) (v := (1 : Int32)) hx hb hX hbl hS (lv_at hl 3 rfl) (lv_at hl 0 rfl) hi hj hL (by decide) rfl dL_law_1083 dL_law_1084 dL_law_1085 (by decide) dL_law_1086 dL_law_1087 ?_
  refine law_arg (k := 2) (v := (2 : Int32)) hx hb hX hbl hS (lv_at hl 3 rfl) (lv_at hl 0 rfl) hi hj hL (by decide) rfl dL_law_1088 dL_law_1089 dL_law_1090 (by decide) dL_law_1091 dL_law_1092 ?_
  refine law_xi hbx (va_runV (As := [.int (xs (j + 1)), .int (xs (j + 2))]) (rest := []) (x_fix cx) (MX0_outcome l E d th (xs (j + 1)) (xs (j + 2)) k n σ _ hw) (cwV 2 hts (lw_V q2302 q2303 q2304 q156 q2305) rfl rfl rfl (by decide +kernel) ⟨by dsimp only [room_1]; omega, by dsimp only [room_1]; omega⟩) (x_preV cx hR (law_S hS) hk (by decide) (q := (RX0, TX0, 24)) rfl rfl [.int (xs (j + 1)), .int (xs (j + 2))]) rfl rfl hl.1 rfl (Nat.le_of_ble_eq_true rfl) dL_law_1093 ⟨by dsimp only [room_1]; omega, by dsimp only [room_1]; omega⟩) hS (fun r s1 H1 hw hR1 hz hk1 hS1 => ?_)
  have hM1 := law_keepM hM hk1 hfo
  refine lv_aload_n hx hb dL_law_1096 rfl (lv_at hl 1 rfl) ?_
  refine law_arg (k := 1) (v := (1 : Int32)) hx hb hX hbl hS1 (lv_at hl 3 rfl) (lv_at hl 0 rfl) hi hj hL (by decide) rfl dL_law_1097 dL_law_1098 dL_law_1099 (by decide) dL_law_1100 dL_law_1101 ?_
  refine law_arg (k := 2) (v := (2 : Int32)) hx hb hX hbl hS1 (lv_at hl 3 rfl) (lv_at hl 0 rfl) hi hj hL (by decide) rfl dL_law_1102 dL_law_1103 dL_law_1104 (by decide) dL_law_1105 dL_law_1106 ?_
  refine law_mi hbm (va_runV (As := [.int (xs (j + 1)), .int (xs (j + 2))]) (rest := [.int r]) (x_fix cx) (M3_outcome l G (xs (j + 1)) (xs (j + 2)) τ _ hw) (cwV 2 hts (lw_V q3037 q3038 q3039 q172 q3040) rfl rfl rfl (by decide +kernel) ⟨by dsimp only [room_1]; omega, by dsimp only [room_1]; omega⟩) ⟨mm_blind, law_mrecv hK hM1, my_pre (own := "StruckCountsLaw") (cc := cL_law) (nL := 4) (ret := some .boolean) ⟨hx, hb, hml, hown, hts, hrt, hlk, hK, hZ⟩ hM1 (law_S hS1) (.ref (mm_o G) :: [.int (xs (j + 1)), .int (xs (j + 2))])⟩ rfl rfl hl.1 rfl (Nat.le_of_ble_eq_true rfl) dL_law_1107 ⟨by dsimp only [room_1]; omega, by dsimp only [room_1]; omega⟩) hS1 (fun r9 t1 H2 hw hM2 hz2 hk2 hS2 => ?_)
  obtain ⟨he, hw⟩ := hw
  obtain ⟨n9, hn99, hR2⟩ := law_keepX hKx.2.1.1 hR1 hz2 hk2 (hfx s1 H1 hR1)
  refine lv_icmp_eq (tgt := 1414) hx hb dL_law_1110 (by decide) (fun _ => ?_) (fun h => absurd he h)
  exact kk k n _ _ _ (hw n9 hn99) hk9 hn9 hR2 hM2 hS2
set_option maxHeartbeats 4000000 in
theorem lawW_32 {p : Program} {l : Launch} {e : Env} {s : State} {m : MethodId} {args : Array Value} {below : List Frame} {meth : Method} {c : Code} {H : Heap} {cells slots : Nat} {Q : State → Prop} {E : xx_E} {G : mm_G} {σ : XS} {τ : MS} {ls : Array Slot} {b L j th : Nat} {xs : Nat → Int32} {i : Int32} (hl9 : l.stackTraces = false) (hc9 : lawX E G p s m args meth c b L xs) (hl : lv_has ls 4 [(3, .int i), (2, .ref (mm_o G)), (1, xv E (some th)), (0, .ref b)]) (hi : i = nI j) (hj : j + 5 ≤ L) (hL : L ≤ 120) (hR : xR E σ H) (hM : mm_R G τ H) (hS : va_S (lA s) s.heap H []) (hk : kd σ th = 1) (hcells : cells + 49000 ≤ 1200144) (hslots : slots + 227000 ≤ 5492218) {K : Nat → Nat → XS → MS → Prop} (hw : lawS_32 th (xs (j + 1)) (xs (j + 2)) (xs (j + 3)) (xs (j + 4)) σ τ K)
    (kk : ∀ (k n : Nat) (σ1 : XS) (τ1 : MS) (H1 : Heap), K k n σ1 τ1 → k ≤ 49000 → n ≤ 227000 → xR E σ1 H1 → mm_R G τ1 H1 → va_S (lA s) s.heap H1 [] → W p l e room_1 s m args below meth c H1 [] (cells + k) (slots + n) Q (F0 m 1414 ls [])) : W p l e room_1 s m args below meth c H [] cells slots Q (F0 m 1115 ls []) := by
  obtain ⟨cx, hK, hZ, hX, hbl, hbs, hfo1, hthr⟩ := id hc9
  obtain ⟨hbx, hbm, hfo, hfx⟩ := law_fo hc9
  obtain ⟨hx, hb, hml, hown, hts, hrt, hlk, hKx, hZx⟩ := id cx
  unfold lawS_32 at hw
  refine x_aload_n (r := some th) cx dL_law_1115 rfl (lv_at hl 2 rfl) ?_
  refine law_arg (k := 1) (v := (1 : Int32)) hx hb hX hbl hS (lv_at hl 3 rfl) (lv_at hl 0 rfl) hi hj hL (by decide) rfl dL_law_1116 dL_law_1117 dL_law_1118 (by decide) dL_law_1119 dL_law_1120 ?_
  refine law_arg (k := 2) (v := (2 : Int32)) hx hb hX hbl hS (lv_at hl 3 rfl) (lv_at hl 0 rfl) hi hj hL (by decide) rfl dL_law_1121 dL_law_1122 dL_law_1123 (by decide) dL_law_1124 dL_law_1125 ?_
  refine law_bool hx hb dL_law_1126 dL_law_1129 dL_law_1130 dL_law_1133 ?_
  refine law_xi hbx (va_runV (As := [.int (xs (j + 1)), .int (lbz (xs (j + 2)))]) (rest := []) (x_fix cx) (MX0_proofs l E th (xs (j + 1)) (lbz (xs (j + 2))) σ _ hw) (cwV 2 hts (lw_V q2306 q2307 q2308 q156 q2309) rfl rfl rfl (by decide +kernel) ⟨by dsimp only [room_1]; omega, by dsimp only [room_1]; omega⟩) (x_preV cx hR (law_S hS) hk (by decide) (q := (RX0, TX0, 24)) rfl rfl [.int (xs (j + 1)), .int (lbz (xs (j + 2)))]) rfl rfl hl.1 rfl (Nat.le_of_ble_eq_true rfl) dL_law_1134 ⟨by dsimp only [room_1]; omega, by dsimp only [room_1]; omega⟩) hS (fun r s1 H1 hw hR1 hz hk1 hS1 => ?_)
  have hM1 := law_keepM hM hk1 hfo
  refine lv_aload_n hx hb dL_law_1137 rfl (lv_at hl 1 rfl) ?_
  refine law_arg (k := 1) (v := (1 : Int32)) hx hb hX hbl hS1 (lv_at hl 3 rfl) (lv_at hl 0 rfl) hi hj hL (by decide) rfl dL_law_1138 dL_law_1139 dL_law_1140 (by decide) dL_law_1141 dL_law_1142 ?_
  refine law_arg (k := 2) (v := (2 : Int32)) hx hb hX hbl hS1 (lv_at hl 3 rfl) (lv_at hl 0 rfl) hi hj hL (by decide) rfl dL_law_1143 dL_law_1144 dL_law_1145 (by decide) dL_law_1146 dL_law_1147 ?_
  refine law_bool hx hb dL_law_1148 dL_law_1151 dL_law_1152 dL_law_1155 ?_
  refine law_mi hbm (va_runV (As := [.int (xs (j + 1)), .int (lbz (xs (j + 2)))]) (rest := [.int r]) (x_fix cx) (M3_proofs l G (xs (j + 1)) (lbz (xs (j + 2))) τ _ hw) (cwV 2 hts (lw_V q2973 q2974 q2975 q172 q2976) rfl rfl rfl (by decide +kernel) ⟨by dsimp only [room_1]; omega, by dsimp only [room_1]; omega⟩) ⟨mm_blind, law_mrecv hK hM1, my_pre (own := "StruckCountsLaw") (cc := cL_law) (nL := 4) (ret := some .boolean) ⟨hx, hb, hml, hown, hts, hrt, hlk, hK, hZ⟩ hM1 (law_S hS1) (.ref (mm_o G) :: [.int (xs (j + 1)), .int (lbz (xs (j + 2)))])⟩ rfl rfl hl.1 rfl (Nat.le_of_ble_eq_true rfl) dL_law_1156 ⟨by dsimp only [room_1]; omega, by dsimp only [room_1]; omega⟩) hS1 (fun r9 t1 H2 hw hM2 hz2 hk2 hS2 => ?_)
  obtain ⟨he, hw⟩ := hw
  obtain ⟨n9, hn99, hR2⟩ := law_keepX hKx.2.1.1 hR1 hz2 hk2 (hfx s1 H1 hR1)
  refine lv_icmp_eq (tgt := 1414) hx hb dL_law_1159 (by decide) (fun _ => ?_) (fun h => absurd he h)
  exact kk 0 0 _ _ _ (hw n9 hn99) (by decide) (by decide) hR2 hM2 hS2
set_option maxHeartbeats 4000000 in
theorem lawW_33 {p : Program} {l : Launch} {e : Env} {s : State} {m : MethodId} {args : Array Value} {below : List Frame} {meth : Method} {c : Code} {H : Heap} {cells slots : Nat} {Q : State → Prop} {E : xx_E} {G : mm_G} {σ : XS} {τ : MS} {ls : Array Slot} {b L j th : Nat} {xs : Nat → Int32} {i : Int32} (hl9 : l.stackTraces = false) (hc9 : lawX E G p s m args meth c b L xs) (hl : lv_has ls 4 [(3, .int i), (2, .ref (mm_o G)), (1, xv E (some th)), (0, .ref b)]) (hi : i = nI j) (hj : j + 5 ≤ L) (hL : L ≤ 120) (hR : xR E σ H) (hM : mm_R G τ H) (hS : va_S (lA s) s.heap H []) (hk : kd σ th = 1) (hcells : cells + 49000 ≤ 1200144) (hslots : slots + 227000 ≤ 5492218) {K : Nat → Nat → XS → MS → Prop} (hw : lawS_33 th (xs (j + 1)) (xs (j + 2)) (xs (j + 3)) (xs (j + 4)) σ τ K)
    (kk : ∀ (k n : Nat) (σ1 : XS) (τ1 : MS) (H1 : Heap), K k n σ1 τ1 → k ≤ 49000 → n ≤ 227000 → xR E σ1 H1 → mm_R G τ1 H1 → va_S (lA s) s.heap H1 [] → W p l e room_1 s m args below meth c H1 [] (cells + k) (slots + n) Q (F0 m 1414 ls [])) : W p l e room_1 s m args below meth c H [] cells slots Q (F0 m 1164 ls []) := by
  obtain ⟨cx, hK, hZ, hX, hbl, hbs, hfo1, hthr⟩ := id hc9
  obtain ⟨hbx, hbm, hfo, hfx⟩ := law_fo hc9
  obtain ⟨hx, hb, hml, hown, hts, hrt, hlk, hKx, hZx⟩ := id cx
  unfold lawS_33 at hw
  refine x_aload_n (r := some th) cx dL_law_1164 rfl (lv_at hl 2 rfl) ?_
  refine law_arg (k := 1) (v := (1 : Int32)) hx hb hX hbl hS (lv_at hl 3 rfl) (lv_at hl 0 rfl) hi hj hL (by decide) rfl dL_law_1165 dL_law_1166 dL_law_1167 (by decide) dL_law_1168 dL_law_1169 ?_
  refine law_arg (k := 2) (v := (2 : Int32)) hx hb hX hbl hS (lv_at hl 3 rfl) (lv_at hl 0 rfl) hi hj hL (by decide) rfl dL_law_1170 dL_law_1171 dL_law_1172 (by decide) dL_law_1173 dL_law_1174 ?_
  refine law_bool hx hb dL_law_1175 dL_law_1178 dL_law_1179 dL_law_1182 ?_
  refine law_arg (k := 3) (v := (3 : Int32)) hx hb hX hbl hS (lv_at hl 3 rfl) (lv_at hl 0 rfl) hi hj hL (by decide) rfl dL_law_1183 dL_law_1184 dL_law_1185 (by decide) dL_law_1186 dL_law_1187 ?_
  refine law_arg (k := 4) (v := (4 : Int32)) hx hb hX hbl hS (lv_at hl 3 rfl) (lv_at hl 0 rfl) hi hj hL (by decide) rfl dL_law_1188 dL_law_1189 dL_law_1190 (by decide) dL_law_1191 dL_law_1192 ?_
  refine law_xi hbx (va_runV (As := [.int (xs (j + 1)), .int (lbz (xs (j + 2))), .int (xs (j + 3)), .int (xs (j + 4))]) (rest := []) (x_fix cx) (MX0_proof l E th (xs (j + 1)) (lbz (xs (j + 2))) (xs (j + 3)) (xs (j + 4)) σ _ hw) (cwV 4 hts (lw_V q2322 q2323 q2324 q156 q2325) rfl rfl rfl (by decide +kernel) ⟨by dsimp only [room_1]; omega, by dsimp only [room_1]; omega⟩) (x_preV cx hR (law_S hS) hk (by decide) (q := (RX0, TX0, 24)) rfl rfl [.int (xs (j + 1)), .int (lbz (xs (j + 2))), .int (xs (j + 3)), .int (xs (j + 4))]) rfl rfl hl.1 rfl (Nat.le_of_ble_eq_true rfl) dL_law_1193 ⟨by dsimp only [room_1]; omega, by dsimp only [room_1]; omega⟩) hS (fun r s1 H1 hw hR1 hz hk1 hS1 => ?_)
  have hM1 := law_keepM hM hk1 hfo
  refine lv_aload_n hx hb dL_law_1196 rfl (lv_at hl 1 rfl) ?_
  refine law_arg (k := 1) (v := (1 : Int32)) hx hb hX hbl hS1 (lv_at hl 3 rfl) (lv_at hl 0 rfl) hi hj hL (by decide) rfl dL_law_1197 dL_law_1198 dL_law_1199 (by decide) dL_law_1200 dL_law_1201 ?_
  refine law_arg (k := 2) (v := (2 : Int32)) hx hb hX hbl hS1 (lv_at hl 3 rfl) (lv_at hl 0 rfl) hi hj hL (by decide) rfl dL_law_1202 dL_law_1203 dL_law_1204 (by decide) dL_law_1205 dL_law_1206 ?_
  refine law_bool hx hb dL_law_1207 dL_law_1210 dL_law_1211 dL_law_1214 ?_
  refine law_arg (k := 3) (v := (3 : Int32)) hx hb hX hbl hS1 (lv_at hl 3 rfl) (lv_at hl 0 rfl) hi hj hL (by decide) rfl dL_law_1215 dL_law_1216 dL_law_1217 (by decide) dL_law_1218 dL_law_1219 ?_
  refine law_arg (k := 4) (v := (4 : Int32)) hx hb hX hbl hS1 (lv_at hl 3 rfl) (lv_at hl 0 rfl) hi hj hL (by decide) rfl dL_law_1220 dL_law_1221 dL_law_1222 (by decide) dL_law_1223 dL_law_1224 ?_
  refine law_mi hbm (va_runV (As := [.int (xs (j + 1)), .int (lbz (xs (j + 2))), .int (xs (j + 3)), .int (xs (j + 4))]) (rest := [.int r]) (x_fix cx) (M3_proof l G (xs (j + 1)) (lbz (xs (j + 2))) (xs (j + 3)) (xs (j + 4)) τ _ hw) (cwV 4 hts (lw_V q2992 q2993 q2994 q172 q2995) rfl rfl rfl (by decide +kernel) ⟨by dsimp only [room_1]; omega, by dsimp only [room_1]; omega⟩) ⟨mm_blind, law_mrecv hK hM1, my_pre (own := "StruckCountsLaw") (cc := cL_law) (nL := 4) (ret := some .boolean) ⟨hx, hb, hml, hown, hts, hrt, hlk, hK, hZ⟩ hM1 (law_S hS1) (.ref (mm_o G) :: [.int (xs (j + 1)), .int (lbz (xs (j + 2))), .int (xs (j + 3)), .int (xs (j + 4))])⟩ rfl rfl hl.1 rfl (Nat.le_of_ble_eq_true rfl) dL_law_1225 ⟨by dsimp only [room_1]; omega, by dsimp only [room_1]; omega⟩) hS1 (fun r9 t1 H2 hw hM2 hz2 hk2 hS2 => ?_)
  obtain ⟨he, hw⟩ := hw
  obtain ⟨n9, hn99, hR2⟩ := law_keepX hKx.2.1.1 hR1 hz2 hk2 (hfx s1 H1 hR1)
  refine lv_icmp_eq (tgt := 1414) hx hb dL_law_1228 (by decide) (fun _ => ?_) (fun h => absurd he h)
  exact kk 0 0 _ _ _ (hw n9 hn99) (by decide) (by decide) hR2 hM2 hS2
set_option maxHeartbeats 4000000 in
theorem lawW_34 {p : Program} {l : Launch} {e : Env} {s : State} {m : MethodId} {args : Array Value} {below : List Frame} {meth : Method} {c : Code} {H : Heap} {cells slots : Nat} {Q : State → Prop} {E : xx_E} {G : mm_G} {σ : XS} {τ : MS} {ls : Array Slot} {b L j th : Nat} {xs : Nat → Int32} {i : Int32} (hl9 : l.stackTraces = false) (hc9 : lawX E G p s m args meth c b L xs) (hl : lv_has ls 4 [(3, .int i), (2, .ref (mm_o G)), (1, xv E (some th)), (0, .ref b)]) (hi : i = nI j) (hj : j + 5 ≤ L) (hL : L ≤ 120) (hR : xR E σ H) (hM : mm_R G τ H) (hS : va_S (lA s) s.heap H []) (hk : kd σ th = 1) (hcells : cells + 49000 ≤ 1200144) (hslots : slots + 227000 ≤ 5492218) {K : Nat → Nat → XS → MS → Prop} (hw : lawS_34 th (xs (j + 1)) (xs (j + 2)) (xs (j + 3)) (xs (j + 4)) σ τ K)
    (kk : ∀ (k n : Nat) (σ1 : XS) (τ1 : MS) (H1 : Heap), K k n σ1 τ1 → k ≤ 49000 → n ≤ 227000 → xR E σ1 H1 → mm_R G τ1 H1 → va_S (lA s) s.heap H1 [] → W p l e room_1 s m args below meth c H1 [] (cells + k) (slots + n) Q (F0 m 1414 ls [])) : W p l e room_1 s m args below meth c H [] cells slots Q (F0 m 1233 ls []) := by
  obtain ⟨cx, hK, hZ, hX, hbl, hbs, hfo1, hthr⟩ := id hc9
  obtain ⟨hbx, hbm, hfo, hfx⟩ := law_fo hc9
  obtain ⟨hx, hb, hml, hown, hts, hrt, hlk, hKx, hZx⟩ := id cx
  unfold lawS_34 at hw
  obtain ⟨d, hd, hw⟩ := hw
  refine x_aload_n (r := some th) cx dL_law_1233 rfl (lv_at hl 2 rfl) ?_
  refine law_arg (k := 1) (v := (1 : Int32)) hx hb hX hbl hS (lv_at hl 3 rfl) (lv_at hl 0 rfl) hi hj hL (by decide) rfl dL_law_1234 dL_law_1235 dL_law_1236 (by decide) dL_law_1237 dL_law_1238 ?_
  refine law_arg (k := 2) (v := (2 : Int32)) hx hb hX hbl hS (lv_at hl 3 rfl) (lv_at hl 0 rfl) hi hj hL (by decide) rfl dL_law_1239 dL_law_1240 dL_law_1241 (by decide) dL_law_1242 dL_law_1243 ?_
  refine law_xi hbx (va_runV (As := [.int (xs (j + 1)), .int (xs (j + 2))]) (rest := []) (x_fix cx) (MX0_duel l E d th (xs (j + 1)) (xs (j + 2)) σ _ hw) (cwV 2 hts (lw_V q2326 q2327 q2328 q156 q2329) rfl rfl rfl (by decide +kernel) ⟨by dsimp only [room_1]; omega, by dsimp only [room_1]; omega⟩) (x_preV cx hR (law_S hS) hk (by decide) (q := (RX0, TX0, 24)) rfl rfl [.int (xs (j + 1)), .int (xs (j + 2))]) rfl rfl hl.1 rfl (Nat.le_of_ble_eq_true rfl) dL_law_1244 ⟨by dsimp only [room_1]; omega, by dsimp only [room_1]; omega⟩) hS (fun r s1 H1 hw hR1 hz hk1 hS1 => ?_)
  have hM1 := law_keepM hM hk1 hfo
  refine lv_aload_n hx hb dL_law_1247 rfl (lv_at hl 1 rfl) ?_
  refine law_arg (k := 1) (v := (1 : Int32)) hx hb hX hbl hS1 (lv_at hl 3 rfl) (lv_at hl 0 rfl) hi hj hL (by decide) rfl dL_law_1248 dL_law_1249 dL_law_1250 (by decide) dL_law_1251 dL_law_1252 ?_
  refine law_arg (k := 2) (v := (2 : Int32)) hx hb hX hbl hS1 (lv_at hl 3 rfl) (lv_at hl 0 rfl) hi hj hL (by decide) rfl dL_law_1253 dL_law_1254 dL_law_1255 (by decide) dL_law_1256 dL_law_1257 ?_
  refine law_mi hbm (va_runV (As := [.int (xs (j + 1)), .int (xs (j + 2))]) (rest := [.int r]) (x_fix cx) (M3_duel l G (xs (j + 1)) (xs (j + 2)) τ _ hw) (cwV 2 hts (lw_V q2961 q2962 q2963 q172 q2964) rfl rfl rfl (by decide +kernel) ⟨by dsimp only [room_1]; omega, by dsimp only [room_1]; omega⟩) ⟨mm_blind, law_mrecv hK hM1, my_pre (own := "StruckCountsLaw") (cc := cL_law) (nL := 4) (ret := some .boolean) ⟨hx, hb, hml, hown, hts, hrt, hlk, hK, hZ⟩ hM1 (law_S hS1) (.ref (mm_o G) :: [.int (xs (j + 1)), .int (xs (j + 2))])⟩ rfl rfl hl.1 rfl (Nat.le_of_ble_eq_true rfl) dL_law_1258 ⟨by dsimp only [room_1]; omega, by dsimp only [room_1]; omega⟩) hS1 (fun r9 t1 H2 hw hM2 hz2 hk2 hS2 => ?_)
  obtain ⟨he, hw⟩ := hw
  obtain ⟨n9, hn99, hR2⟩ := law_keepX hKx.2.1.1 hR1 hz2 hk2 (hfx s1 H1 hR1)
  refine lv_icmp_eq (tgt := 1414) hx hb dL_law_1261 (by decide) (fun _ => ?_) (fun h => absurd he h)
  exact kk 0 0 _ _ _ (hw n9 hn99) (by decide) (by decide) hR2 hM2 hS2
set_option maxHeartbeats 4000000 in
theorem lawW_35 {p : Program} {l : Launch} {e : Env} {s : State} {m : MethodId} {args : Array Value} {below : List Frame} {meth : Method} {c : Code} {H : Heap} {cells slots : Nat} {Q : State → Prop} {E : xx_E} {G : mm_G} {σ : XS} {τ : MS} {ls : Array Slot} {b L j th : Nat} {xs : Nat → Int32} {i : Int32} (hl9 : l.stackTraces = false) (hc9 : lawX E G p s m args meth c b L xs) (hl : lv_has ls 4 [(3, .int i), (2, .ref (mm_o G)), (1, xv E (some th)), (0, .ref b)]) (hi : i = nI j) (hj : j + 5 ≤ L) (hL : L ≤ 120) (hR : xR E σ H) (hM : mm_R G τ H) (hS : va_S (lA s) s.heap H []) (hk : kd σ th = 1) (hcells : cells + 49000 ≤ 1200144) (hslots : slots + 227000 ≤ 5492218) {K : Nat → Nat → XS → MS → Prop} (hw : lawS_35 th (xs (j + 1)) (xs (j + 2)) (xs (j + 3)) (xs (j + 4)) σ τ K)
    (kk : ∀ (k n : Nat) (σ1 : XS) (τ1 : MS) (H1 : Heap), K k n σ1 τ1 → k ≤ 49000 → n ≤ 227000 → xR E σ1 H1 → mm_R G τ1 H1 → va_S (lA s) s.heap H1 [] → W p l e room_1 s m args below meth c H1 [] (cells + k) (slots + n) Q (F0 m 1414 ls [])) : W p l e room_1 s m args below meth c H [] cells slots Q (F0 m 1266 ls []) := by
  obtain ⟨cx, hK, hZ, hX, hbl, hbs, hfo1, hthr⟩ := id hc9
  obtain ⟨hbx, hbm, hfo, hfx⟩ := law_fo hc9
  obtain ⟨hx, hb, hml, hown, hts, hrt, hlk, hKx, hZx⟩ := id cx
  unfold lawS_35 at hw
  obtain ⟨d, hd, hw⟩ := hw
  refine x_aload_n (r := some th) cx dL_law_1266 rfl (lv_at hl 2 rfl) ?_
  refine law_arg (k := 1) (v := (1 : Int32)) hx hb hX hbl hS (lv_at hl 3 rfl) (lv_at hl 0 rfl) hi hj hL (by decide) rfl dL_law_1267 dL_law_1268 dL_law_1269 (by decide) dL_law_1270 dL_law_1271 ?_
  refine law_arg (k := 2) (v := (2 : Int32)) hx hb hX hbl hS (lv_at hl 3 rfl) (lv_at hl 0 rfl) hi hj hL (by decide) rfl dL_law_1272 dL_law_1273 dL_law_1274 (by decide) dL_law_1275 dL_law_1276 ?_
  refine law_arg (k := 3) (v := (3 : Int32)) hx hb hX hbl hS (lv_at hl 3 rfl) (lv_at hl 0 rfl) hi hj hL (by decide) rfl dL_law_1277 dL_law_1278 dL_law_1279 (by decide) dL_law_1280 dL_law_1281 ?_
  refine law_xi hbx (va_runV (As := [.int (xs (j + 1)), .int (xs (j + 2)), .int (xs (j + 3))]) (rest := []) (x_fix cx) (MX0_turn l E d th (xs (j + 1)) (xs (j + 2)) (xs (j + 3)) σ _ hw) (cwV 3 hts (lw_V q2334 q2335 q2336 q156 q2337) rfl rfl rfl (by decide +kernel) ⟨by dsimp only [room_1]; omega, by dsimp only [room_1]; omega⟩) (x_preV cx hR (law_S hS) hk (by decide) (q := (RX0, TX0, 24)) rfl rfl [.int (xs (j + 1)), .int (xs (j + 2)), .int (xs (j + 3))]) rfl rfl hl.1 rfl (Nat.le_of_ble_eq_true rfl) dL_law_1282 ⟨by dsimp only [room_1]; omega, by dsimp only [room_1]; omega⟩) hS (fun r s1 H1 hw hR1 hz hk1 hS1 => ?_)
  have hM1 := law_keepM hM hk1 hfo
  refine lv_aload_n hx hb dL_law_1285 rfl (lv_at hl 1 rfl) ?_
  refine law_arg (k := 1) (v := (1 : Int32)) hx hb hX hbl hS1 (lv_at hl 3 rfl) (lv_at hl 0 rfl) hi hj hL (by decide) rfl dL_law_1286 dL_law_1287 dL_law_1288 (by decide) dL_law_1289 dL_law_1290 ?_
  refine law_arg (k := 2) (v := (2 : Int32)) hx hb hX hbl hS1 (lv_at hl 3 rfl) (lv_at hl 0 rfl) hi hj hL (by decide) rfl dL_law_1291 dL_law_1292 dL_law_1293 (by decide) dL_law_1294 dL_law_1295 ?_
  refine law_arg (k := 3) (v := (3 : Int32)) hx hb hX hbl hS1 (lv_at hl 3 rfl) (lv_at hl 0 rfl) hi hj hL (by decide) rfl dL_law_1296 dL_law_1297 dL_law_1298 (by decide) dL_law_1299 dL_law_1300 ?_
  refine law_mi hbm (va_runV (As := [.int (xs (j + 1)), .int (xs (j + 2)), .int (xs (j + 3))]) (rest := [.int r]) (x_fix cx) (M3_turn l G (xs (j + 1)) (xs (j + 2)) (xs (j + 3)) τ _ hw) (cwV 3 hts (lw_V q2969 q2970 q2971 q172 q2972) rfl rfl rfl (by decide +kernel) ⟨by dsimp only [room_1]; omega, by dsimp only [room_1]; omega⟩) ⟨mm_blind, law_mrecv hK hM1, my_pre (own := "StruckCountsLaw") (cc := cL_law) (nL := 4) (ret := some .boolean) ⟨hx, hb, hml, hown, hts, hrt, hlk, hK, hZ⟩ hM1 (law_S hS1) (.ref (mm_o G) :: [.int (xs (j + 1)), .int (xs (j + 2)), .int (xs (j + 3))])⟩ rfl rfl hl.1 rfl (Nat.le_of_ble_eq_true rfl) dL_law_1301 ⟨by dsimp only [room_1]; omega, by dsimp only [room_1]; omega⟩) hS1 (fun r9 t1 H2 hw hM2 hz2 hk2 hS2 => ?_)
  obtain ⟨he, hw⟩ := hw
  obtain ⟨n9, hn99, hR2⟩ := law_keepX hKx.2.1.1 hR1 hz2 hk2 (hfx s1 H1 hR1)
  refine lv_icmp_eq (tgt := 1414) hx hb dL_law_1304 (by decide) (fun _ => ?_) (fun h => absurd he h)
  exact kk 0 0 _ _ _ (hw n9 hn99) (by decide) (by decide) hR2 hM2 hS2
set_option maxHeartbeats 4000000 in
theorem lawW_36 {p : Program} {l : Launch} {e : Env} {s : State} {m : MethodId} {args : Array Value} {below : List Frame} {meth : Method} {c : Code} {H : Heap} {cells slots : Nat} {Q : State → Prop} {E : xx_E} {G : mm_G} {σ : XS} {τ : MS} {ls : Array Slot} {b L j th : Nat} {xs : Nat → Int32} {i : Int32} (hl9 : l.stackTraces = false) (hc9 : lawX E G p s m args meth c b L xs) (hl : lv_has ls 4 [(3, .int i), (2, .ref (mm_o G)), (1, xv E (some th)), (0, .ref b)]) (hi : i = nI j) (hj : j + 5 ≤ L) (hL : L ≤ 120) (hR : xR E σ H) (hM : mm_R G τ H) (hS : va_S (lA s) s.heap H []) (hk : kd σ th = 1) (hcells : cells + 49000 ≤ 1200144) (hslots : slots + 227000 ≤ 5492218) {K : Nat → Nat → XS → MS → Prop} (hw : lawS_36 th (xs (j + 1)) (xs (j + 2)) (xs (j + 3)) (xs (j + 4)) σ τ K)
    (kk : ∀ (k n : Nat) (σ1 : XS) (τ1 : MS) (H1 : Heap), K k n σ1 τ1 → k ≤ 49000 → n ≤ 227000 → xR E σ1 H1 → mm_R G τ1 H1 → va_S (lA s) s.heap H1 [] → W p l e room_1 s m args below meth c H1 [] (cells + k) (slots + n) Q (F0 m 1414 ls [])) : W p l e room_1 s m args below meth c H [] cells slots Q (F0 m 1309 ls []) := by
  obtain ⟨cx, hK, hZ, hX, hbl, hbs, hfo1, hthr⟩ := id hc9
  obtain ⟨hbx, hbm, hfo, hfx⟩ := law_fo hc9
  obtain ⟨hx, hb, hml, hown, hts, hrt, hlk, hKx, hZx⟩ := id cx
  unfold lawS_36 at hw
  refine x_aload_n (r := some th) cx dL_law_1309 rfl (lv_at hl 2 rfl) ?_
  refine law_arg (k := 1) (v := (1 : Int32)) hx hb hX hbl hS (lv_at hl 3 rfl) (lv_at hl 0 rfl) hi hj hL (by decide) rfl dL_law_1310 dL_law_1311 dL_law_1312 (by decide) dL_law_1313 dL_law_1314 ?_
  refine law_xi hbx (va_runV (As := [.int (xs (j + 1))]) (rest := []) (x_fix cx) (MX0_together l E th (xs (j + 1)) σ _ hw) (cwV 1 hts (lw_V q2338 q2339 q2340 q156 q2341) rfl rfl rfl (by decide +kernel) ⟨by dsimp only [room_1]; omega, by dsimp only [room_1]; omega⟩) (x_preV cx hR (law_S hS) hk (by decide) (q := (RX0, TX0, 24)) rfl rfl [.int (xs (j + 1))]) rfl rfl hl.1 rfl (Nat.le_of_ble_eq_true rfl) dL_law_1315 ⟨by dsimp only [room_1]; omega, by dsimp only [room_1]; omega⟩) hS (fun r s1 H1 hw hR1 hz hk1 hS1 => ?_)
  have hM1 := law_keepM hM hk1 hfo
  refine lv_aload_n hx hb dL_law_1318 rfl (lv_at hl 1 rfl) ?_
  refine law_arg (k := 1) (v := (1 : Int32)) hx hb hX hbl hS1 (lv_at hl 3 rfl) (lv_at hl 0 rfl) hi hj hL (by decide) rfl dL_law_1319 dL_law_1320 dL_law_1321 (by decide) dL_law_1322 dL_law_1323 ?_
  refine law_mi hbm (va_runV (As := [.int (xs (j + 1))]) (rest := [.int r]) (x_fix cx) (M3_together l G (xs (j + 1)) τ _ hw) (cwV 1 hts (lw_V q3042 q3043 q3044 q172 q3045) rfl rfl rfl (by decide +kernel) ⟨by dsimp only [room_1]; omega, by dsimp only [room_1]; omega⟩) ⟨mm_blind, law_mrecv hK hM1, my_pre (own := "StruckCountsLaw") (cc := cL_law) (nL := 4) (ret := some .boolean) ⟨hx, hb, hml, hown, hts, hrt, hlk, hK, hZ⟩ hM1 (law_S hS1) (.ref (mm_o G) :: [.int (xs (j + 1))])⟩ rfl rfl hl.1 rfl (Nat.le_of_ble_eq_true rfl) dL_law_1324 ⟨by dsimp only [room_1]; omega, by dsimp only [room_1]; omega⟩) hS1 (fun r9 t1 H2 hw hM2 hz2 hk2 hS2 => ?_)
  obtain ⟨he, hw⟩ := hw
  obtain ⟨n9, hn99, hR2⟩ := law_keepX hKx.2.1.1 hR1 hz2 hk2 (hfx s1 H1 hR1)
  refine lv_icmp_eq (tgt := 1414) hx hb dL_law_1327 (by decide) (fun _ => ?_) (fun h => absurd he h)
  exact kk 0 0 _ _ _ (hw n9 hn99) (by decide) (by decide) hR2 hM2 hS2
set_option maxHeartbeats 4000000 in
theorem lawW_37 {p : Program} {l : Launch} {e : Env} {s : State} {m : MethodId} {args : Array Value} {below : List Frame} {meth : Method} {c : Code} {H : Heap} {cells slots : Nat} {Q : State → Prop} {E : xx_E} {G : mm_G} {σ : XS} {τ : MS} {ls : Array Slot} {b L j th : Nat} {xs : Nat → Int32} {i : Int32} (hl9 : l.stackTraces = false) (hc9 : lawX E G p s m args meth c b L xs) (hl : lv_has ls 4 [(3, .int i), (2, .ref (mm_o G)), (1, xv E (some th)), (0, .ref b)]) (hi : i = nI j) (hj : j + 5 ≤ L) (hL : L ≤ 120) (hR : xR E σ H) (hM : mm_R G τ H) (hS : va_S (lA s) s.heap H []) (hk : kd σ th = 1) (hcells : cells + 49000 ≤ 1200144) (hslots : slots + 227000 ≤ 5492218) {K : Nat → Nat → XS → MS → Prop} (hw : lawS_37 th (xs (j + 1)) (xs (j + 2)) (xs (j + 3)) (xs (j + 4)) σ τ K)
    (kk : ∀ (k n : Nat) (σ1 : XS) (τ1 : MS) (H1 : Heap), K k n σ1 τ1 → k ≤ 49000 → n ≤ 227000 → xR E σ1 H1 → mm_R G τ1 H1 → va_S (lA s) s.heap H1 [] → W p l e room_1 s m args below meth c H1 [] (cells + k) (slots + n) Q (F0 m 1414 ls [])) : W p l e room_1 s m args below meth c H [] cells slots Q (F0 m 1332 ls []) := by
  obtain ⟨cx, hK, hZ, hX, hbl, hbs, hfo1, hthr⟩ := id hc9
  obtain ⟨hbx, hbm, hfo, hfx⟩ := law_fo hc9
  obtain ⟨hx, hb, hml, hown, hts, hrt, hlk, hKx, hZx⟩ := id cx
  unfold lawS_37 at hw
  obtain ⟨d, hd, hw⟩ := hw
  refine x_aload_n (r := some th) cx dL_law_1332 rfl (lv_at hl 2 rfl) ?_
  refine law_arg (k := 1) (v := (1 : Int32)) hx hb hX hbl hS (lv_at hl 3 rfl) (lv_at hl 0 rfl) hi hj hL (by decide) rfl dL_law_1333 dL_law_1334 dL_law_1335 (by decide) dL_law_1336 dL_law_1337 ?_
  refine law_xi hbx (va_runV (As := [.int (xs (j + 1))]) (rest := []) (x_fix cx) (MX0_elect l E d th (xs (j + 1)) σ _ hw) (cwV 1 hts (lw_V q2342 q2343 q2344 q156 q2345) rfl rfl rfl (by decide +kernel) ⟨by dsimp only [room_1]; omega, by dsimp only [room_1]; omega⟩) (x_preV cx hR (law_S hS) hk (by decide) (q := (RX0, TX0, 24)) rfl rfl [.int (xs (j + 1))]) rfl rfl hl.1 rfl (Nat.le_of_ble_eq_true rfl) dL_law_1338 ⟨by dsimp only [room_1]; omega, by dsimp only [room_1]; omega⟩) hS (fun r s1 H1 hw hR1 hz hk1 hS1 => ?_)
  have hM1 := law_keepM hM hk1 hfo
  refine lv_aload_n hx hb dL_law_1341 rfl (lv_at hl 1 rfl) ?_
  refine law_arg (k := 1) (v := (1 : Int32)) hx hb hX hbl hS1 (lv_at hl 3 rfl) (lv_at hl 0 rfl) hi hj hL (by decide) rfl dL_law_1342 dL_law_1343 dL_law_1344 (by decide) dL_law_1345 dL_law_1346 ?_
  refine law_mi hbm (va_runV (As := [.int (xs (j + 1))]) (rest := [.int r]) (x_fix cx) (M3_elect l G (xs (j + 1)) τ _ hw) (cwV 1 hts (lw_V q3046 q3047 q3048 q172 q3049) rfl rfl rfl (by decide +kernel) ⟨by dsimp only [room_1]; omega, by dsimp only [room_1]; omega⟩) ⟨mm_blind, law_mrecv hK hM1, my_pre (own := "StruckCountsLaw") (cc := cL_law) (nL := 4) (ret := some .boolean) ⟨hx, hb, hml, hown, hts, hrt, hlk, hK, hZ⟩ hM1 (law_S hS1) (.ref (mm_o G) :: [.int (xs (j + 1))])⟩ rfl rfl hl.1 rfl (Nat.le_of_ble_eq_true rfl) dL_law_1347 ⟨by dsimp only [room_1]; omega, by dsimp only [room_1]; omega⟩) hS1 (fun r9 t1 H2 hw hM2 hz2 hk2 hS2 => ?_)
  obtain ⟨he, hw⟩ := hw
  obtain ⟨n9, hn99, hR2⟩ := law_keepX hKx.2.1.1 hR1 hz2 hk2 (hfx s1 H1 hR1)
  refine lv_icmp_eq (tgt := 1414) hx hb dL_law_1350 (by decide) (fun _ => ?_) (fun h => absurd he h)
  exact kk 0 0 _ _ _ (hw n9 hn99) (by decide) (by decide) hR2 hM2 hS2
set_option maxHeartbeats 4000000 in
theorem lawW_38 {p : Program} {l : Launch} {e : Env} {s : State} {m : MethodId} {args : Array Value} {below : List Frame} {meth : Method} {c : Code} {H : Heap} {cells slots : Nat} {Q : State → Prop} {E : xx_E} {G : mm_G} {σ : XS} {τ : MS} {ls : Array Slot} {b L j th : Nat} {xs : Nat → Int32} {i : Int32} (hl9 : l.stackTraces = false) (hc9 : lawX E G p s m args meth c b L xs) (hl : lv_has ls 4 [(3, .int i), (2, .ref (mm_o G)), (1, xv E (some th)), (0, .ref b)]) (hi : i = nI j) (hj : j + 5 ≤ L) (hL : L ≤ 120) (hR : xR E σ H) (hM : mm_R G τ H) (hS : va_S (lA s) s.heap H []) (hk : kd σ th = 1) (hcells : cells + 49000 ≤ 1200144) (hslots : slots + 227000 ≤ 5492218) {K : Nat → Nat → XS → MS → Prop} (hw : lawS_38 th (xs (j + 1)) (xs (j + 2)) (xs (j + 3)) (xs (j + 4)) σ τ K)
    (kk : ∀ (k n : Nat) (σ1 : XS) (τ1 : MS) (H1 : Heap), K k n σ1 τ1 → k ≤ 49000 → n ≤ 227000 → xR E σ1 H1 → mm_R G τ1 H1 → va_S (lA s) s.heap H1 [] → W p l e room_1 s m args below meth c H1 [] (cells + k) (slots + n) Q (F0 m 1414 ls [])) : W p l e room_1 s m args below meth c H [] cells slots Q (F0 m 1355 ls []) := by
  obtain ⟨cx, hK, hZ, hX, hbl, hbs, hfo1, hthr⟩ := id hc9
  obtain ⟨hbx, hbm, hfo, hfx⟩ := law_fo hc9
  obtain ⟨hx, hb, hml, hown, hts, hrt, hlk, hKx, hZx⟩ := id cx
  unfold lawS_38 at hw
  obtain ⟨d, hd, hw⟩ := hw
  obtain ⟨k, n, hk9, hn9, hw⟩ := hw
  refine x_aload_n (r := some th) cx dL_law_1355 rfl (lv_at hl 2 rfl) ?_
  refine law_xi hbx (vx_runVW (As := []) (rest := []) (x_fix cx) (MX0_ask l E d th k n σ _ hw) (vx_cwVW 0 hts (lw_VW q2346 q2347 q2348 q156 q2349) rfl rfl rfl (by decide +kernel) ⟨by dsimp only [room_1]; omega, by dsimp only [room_1]; omega⟩) (x_preV cx hR (law_S hS) hk (by decide) (q := (RX0, TX0, 24)) rfl rfl []) rfl rfl hl.1 rfl (Nat.le_of_ble_eq_true rfl) dL_law_1356 ⟨by dsimp only [room_1]; omega, by dsimp only [room_1]; omega⟩) hS (fun r s1 H1 hw hR1 hz hk1 hS1 => ?_)
  have hM1 := law_keepM hM hk1 hfo
  obtain ⟨d2, hd2, hw⟩ := hw
  refine lv_aload_n hx hb dL_law_1359 rfl (lv_at hl 1 rfl) ?_
  refine law_mi hbm (va_runV (As := []) (rest := [.int r]) (x_fix cx) (M3_ask l G d2 τ _ hw) (cwV 0 hts (lw_V q3050 q3051 q3052 q172 q3053) rfl rfl rfl (by decide +kernel) ⟨by dsimp only [room_1]; omega, by dsimp only [room_1]; omega⟩) ⟨mm_blind, law_mrecv hK hM1, my_pre (own := "StruckCountsLaw") (cc := cL_law) (nL := 4) (ret := some .boolean) ⟨hx, hb, hml, hown, hts, hrt, hlk, hK, hZ⟩ hM1 (law_S hS1) (.ref (mm_o G) :: [])⟩ rfl rfl hl.1 rfl (Nat.le_of_ble_eq_true rfl) dL_law_1360 ⟨by dsimp only [room_1]; omega, by dsimp only [room_1]; omega⟩) hS1 (fun r9 t1 H2 hw hM2 hz2 hk2 hS2 => ?_)
  obtain ⟨he, hw⟩ := hw
  obtain ⟨n9, hn99, hR2⟩ := law_keepX hKx.2.1.1 hR1 hz2 hk2 (hfx s1 H1 hR1)
  refine lv_icmp_eq (tgt := 1414) hx hb dL_law_1363 (by decide) (fun _ => ?_) (fun h => absurd he h)
  exact kk k n _ _ _ (hw n9 hn99) hk9 hn9 hR2 hM2 hS2
set_option maxHeartbeats 4000000 in
theorem lawW_39 {p : Program} {l : Launch} {e : Env} {s : State} {m : MethodId} {args : Array Value} {below : List Frame} {meth : Method} {c : Code} {H : Heap} {cells slots : Nat} {Q : State → Prop} {E : xx_E} {G : mm_G} {σ : XS} {τ : MS} {ls : Array Slot} {b L j th : Nat} {xs : Nat → Int32} {i : Int32} (hl9 : l.stackTraces = false) (hc9 : lawX E G p s m args meth c b L xs) (hl : lv_has ls 4 [(3, .int i), (2, .ref (mm_o G)), (1, xv E (some th)), (0, .ref b)]) (hi : i = nI j) (hj : j + 5 ≤ L) (hL : L ≤ 120) (hR : xR E σ H) (hM : mm_R G τ H) (hS : va_S (lA s) s.heap H []) (hk : kd σ th = 1) (hcells : cells + 49000 ≤ 1200144) (hslots : slots + 227000 ≤ 5492218) {K : Nat → Nat → XS → MS → Prop} (hw : lawS_39 th (xs (j + 1)) (xs (j + 2)) (xs (j + 3)) (xs (j + 4)) σ τ K)
    (kk : ∀ (k n : Nat) (σ1 : XS) (τ1 : MS) (H1 : Heap), K k n σ1 τ1 → k ≤ 49000 → n ≤ 227000 → xR E σ1 H1 → mm_R G τ1 H1 → va_S (lA s) s.heap H1 [] → W p l e room_1 s m args below meth c H1 [] (cells + k) (slots + n) Q (F0 m 1414 ls [])) : W p l e room_1 s m args below meth c H [] cells slots Q (F0 m 1368 ls []) := by
  obtain ⟨cx, hK, hZ, hX, hbl, hbs, hfo1, hthr⟩ := id hc9
  obtain ⟨hbx, hbm, hfo, hfx⟩ := law_fo hc9
  obtain ⟨hx, hb, hml, hown, hts, hrt, hlk, hKx, hZx⟩ := id cx
  unfold lawS_39 at hw
  refine x_aload_n (r := some th) cx dL_law_1368 rfl (lv_at hl 2 rfl) ?_
  refine law_arg (k := 1) (v := (1 : Int32)) hx hb hX hbl hS (lv_at hl 3 rfl) (lv_at hl 0 rfl) hi hj hL (by decide) rfl dL_law_1369 dL_law_1370 dL_law_1371 (by decide) dL_law_1372 dL_law_1373 ?_
  refine law_xi hbx (va_runV (As := [.int (xs (j + 1))]) (rest := []) (x_fix cx) (MX0_asked l E th (xs (j + 1)) σ _ hw) (cwV 1 hts (lw_V q2355 q2356 q2357 q156 q2358) rfl rfl rfl (by decide +kernel) ⟨by dsimp only [room_1]; omega, by dsimp only [room_1]; omega⟩) (x_preV cx hR (law_S hS) hk (by decide) (q := (RX0, TX0, 24)) rfl rfl [.int (xs (j + 1))]) rfl rfl hl.1 rfl (Nat.le_of_ble_eq_true rfl) dL_law_1374 ⟨by dsimp only [room_1]; omega, by dsimp only [room_1]; omega⟩) hS (fun r s1 H1 hw hR1 hz hk1 hS1 => ?_)
  have hM1 := law_keepM hM hk1 hfo
  refine lv_aload_n hx hb dL_law_1377 rfl (lv_at hl 1 rfl) ?_
  refine law_arg (k := 1) (v := (1 : Int32)) hx hb hX hbl hS1 (lv_at hl 3 rfl) (lv_at hl 0 rfl) hi hj hL (by decide) rfl dL_law_1378 dL_law_1379 dL_law_1380 (by decide) dL_law_1381 dL_law_1382 ?_
  refine law_mi hbm (va_runV (As := [.int (xs (j + 1))]) (rest := [.int r]) (x_fix cx) (M3_asked l G (xs (j + 1)) τ _ hw) (cwV 1 hts (lw_V q3054 q3055 q3056 q172 q3057) rfl rfl rfl (by decide +kernel) ⟨by dsimp only [room_1]; omega, by dsimp only [room_1]; omega⟩) ⟨mm_blind, law_mrecv hK hM1, my_pre (own := "StruckCountsLaw") (cc := cL_law) (nL := 4) (ret := some .boolean) ⟨hx, hb, hml, hown, hts, hrt, hlk, hK, hZ⟩ hM1 (law_S hS1) (.ref (mm_o G) :: [.int (xs (j + 1))])⟩ rfl rfl hl.1 rfl (Nat.le_of_ble_eq_true rfl) dL_law_1383 ⟨by dsimp only [room_1]; omega, by dsimp only [room_1]; omega⟩) hS1 (fun r9 t1 H2 hw hM2 hz2 hk2 hS2 => ?_)
  obtain ⟨he, hw⟩ := hw
  obtain ⟨n9, hn99, hR2⟩ := law_keepX hKx.2.1.1 hR1 hz2 hk2 (hfx s1 H1 hR1)
  refine lv_icmp_eq (tgt := 1414) hx hb dL_law_1386 (by decide) (fun _ => ?_) (fun h => absurd he h)
  exact kk 0 0 _ _ _ (hw n9 hn99) (by decide) (by decide) hR2 hM2 hS2
set_option maxHeartbeats 4000000 in
theorem lawW_40 {p : Program} {l : Launch} {e : Env} {s : State} {m : MethodId} {args : Array Value} {below : List Frame} {meth : Method} {c : Code} {H : Heap} {cells slots : Nat} {Q : State → Prop} {E : xx_E} {G : mm_G} {σ : XS} {τ : MS} {ls : Array Slot} {b L j th : Nat} {xs : Nat → Int32} {i : Int32} (hl9 : l.stackTraces = false) (hc9 : lawX E G p s m args meth c b L xs) (hl : lv_has ls 4 [(3, .int i), (2, .ref (mm_o G)), (1, xv E (some th)), (0, .ref b)]) (hi : i = nI j) (hj : j + 5 ≤ L) (hL : L ≤ 120) (hR : xR E σ H) (hM : mm_R G τ H) (hS : va_S (lA s) s.heap H []) (hk : kd σ th = 1) (hcells : cells + 49000 ≤ 1200144) (hslots : slots + 227000 ≤ 5492218) {K : Nat → Nat → XS → MS → Prop} (hw : lawS_40 th (xs (j + 1)) (xs (j + 2)) (xs (j + 3)) (xs (j + 4)) σ τ K)
    (kk : ∀ (k n : Nat) (σ1 : XS) (τ1 : MS) (H1 : Heap), K k n σ1 τ1 → k ≤ 49000 → n ≤ 227000 → xR E σ1 H1 → mm_R G τ1 H1 → va_S (lA s) s.heap H1 [] → W p l e room_1 s m args below meth c H1 [] (cells + k) (slots + n) Q (F0 m 1414 ls [])) : W p l e room_1 s m args below meth c H [] cells slots Q (F0 m 1391 ls []) := by
  obtain ⟨cx, hK, hZ, hX, hbl, hbs, hfo1, hthr⟩ := id hc9
  obtain ⟨hbx, hbm, hfo, hfx⟩ := law_fo hc9
  obtain ⟨hx, hb, hml, hown, hts, hrt, hlk, hKx, hZx⟩ := id cx
  unfold lawS_40 at hw
  obtain ⟨d, hd, hw⟩ := hw
  refine x_aload_n (r := some th) cx dL_law_1391 rfl (lv_at hl 2 rfl) ?_
  refine law_arg (k := 1) (v := (1 : Int32)) hx hb hX hbl hS (lv_at hl 3 rfl) (lv_at hl 0 rfl) hi hj hL (by decide) rfl dL_law_1392 dL_law_1393 dL_law_1394 (by decide) dL_law_1395 dL_law_1396 ?_
  refine law_xi hbx (va_runV (As := [.int (xs (j + 1))]) (rest := []) (x_fix cx) (MX0_count l E d th (xs (j + 1)) σ _ hw) (cwV 1 hts (lw_V q2359 q2360 q2361 q156 q2362) rfl rfl rfl (by decide +kernel) ⟨by dsimp only [room_1]; omega, by dsimp only [room_1]; omega⟩) (x_preV cx hR (law_S hS) hk (by decide) (q := (RX0, TX0, 24)) rfl rfl [.int (xs (j + 1))]) rfl rfl hl.1 rfl (Nat.le_of_ble_eq_true rfl) dL_law_1397 ⟨by dsimp only [room_1]; omega, by dsimp only [room_1]; omega⟩) hS (fun r s1 H1 hw hR1 hz hk1 hS1 => ?_)
  have hM1 := law_keepM hM hk1 hfo
  refine lv_aload_n hx hb dL_law_1400 rfl (lv_at hl 1 rfl) ?_
  refine law_arg (k := 1) (v := (1 : Int32)) hx hb hX hbl hS1 (lv_at hl 3 rfl) (lv_at hl 0 rfl) hi hj hL (by decide) rfl dL_law_1401 dL_law_1402 dL_law_1403 (by decide) dL_law_1404 dL_law_1405 ?_
  refine law_mi hbm (va_runV (As := [.int (xs (j + 1))]) (rest := [.int r]) (x_fix cx) (M3_count l G (xs (j + 1)) τ _ hw) (cwV 1 hts (lw_V q3058 q3059 q3060 q172 q3061) rfl rfl rfl (by decide +kernel) ⟨by dsimp only [room_1]; omega, by dsimp only [room_1]; omega⟩) ⟨mm_blind, law_mrecv hK hM1, my_pre (own := "StruckCountsLaw") (cc := cL_law) (nL := 4) (ret := some .boolean) ⟨hx, hb, hml, hown, hts, hrt, hlk, hK, hZ⟩ hM1 (law_S hS1) (.ref (mm_o G) :: [.int (xs (j + 1))])⟩ rfl rfl hl.1 rfl (Nat.le_of_ble_eq_true rfl) dL_law_1406 ⟨by dsimp only [room_1]; omega, by dsimp only [room_1]; omega⟩) hS1 (fun r9 t1 H2 hw hM2 hz2 hk2 hS2 => ?_)
  obtain ⟨he, hw⟩ := hw
  obtain ⟨n9, hn99, hR2⟩ := law_keepX hKx.2.1.1 hR1 hz2 hk2 (hfx s1 H1 hR1)
  refine lv_icmp_eq (tgt := 1414) hx hb dL_law_1409 (by decide) (fun _ => ?_) (fun h => absurd he h)
  exact kk 0 0 _ _ _ (hw n9 hn99) (by decide) (by decide) hR2 hM2 hS2
