set_option maxRecDepth 100000
def wJ17_addExact (x0 : Int32) (x1 : Int32) (σ : XS) (Q : Int32 → XS → Prop) : Prop :=
  ∀ v1 : Int32, v1 = (x0 + x1) → if 0 ≤ ((x0 ^^^ v1) &&& (x1 ^^^ v1)) then (Q v1 σ) else False
set_option maxHeartbeats 4000000 in
theorem MJ17_addExact (l : Launch) (E : xx_E) (x0 : Int32) (x1 : Int32) (σ : XS) (Q : Int32 → XS → Prop) (hw : wJ17_addExact x0 x1 σ Q) : xx_Mi l yJ17_addExact (ws_ yJ17_addExact cJ17_addExact 3 (some .int)) ({ frames := 0, cells := 0, slots := 0, locals := 0 } : Room) E [.int x0, .int x1] σ Q 0 0 := by
  refine x_of (own := "java/lang/Math") (by decide +kernel) rfl ?_
  intro p e s m args below meth c cx hR ha hnm
  refine x_entry [.int x0, .int x1] 3 [(0, .int x0), (1, .int x1)] ha (Nat.le_of_ble_eq_true rfl) rfl (fun ls hl => ?_)
  have hS : va_S (xA E) s.heap s.heap [] := va_S.rf
  have hcb : 0 + 0 ≤ 0 := Nat.le_of_eq (Nat.zero_add _)
  have hsb : 0 + 0 ≤ 0 := Nat.le_of_eq (Nat.zero_add _)
  unfold wJ17_addExact at hw
  obtain ⟨hx, hb, hml, hown, hts, hrt, hlk, hMK, hZ⟩ := id cx
  refine lv_iload_n hx hb dJ17_addExact_0 rfl (lv_at hl 0 rfl) ?_
  refine lv_iload_n hx hb dJ17_addExact_1 rfl (lv_at hl 1 rfl) ?_
  refine lv_iadd hx hb dJ17_addExact_2 ?_
  refine lv_topi (fun v1 hv1 => ?_)
  have hw := hw v1 hv1
  refine lv_istore_n (i := 2) (lv' := [(2, .int v1), (0, .int x0), (1, .int x1)]) hx hb dJ17_addExact_3 rfl hl (by decide) rfl (fun ls hl => ?_)
  refine lv_iload_n hx hb dJ17_addExact_4 rfl (lv_at hl 1 rfl) ?_
  refine lv_iload_n hx hb dJ17_addExact_5 rfl (lv_at hl 0 rfl) ?_
  refine lv_ixor hx hb dJ17_addExact_6 ?_
  refine lv_iload_n hx hb dJ17_addExact_7 rfl (lv_at hl 2 rfl) ?_
  refine lv_iload_n hx hb dJ17_addExact_8 rfl (lv_at hl 0 rfl) ?_
  refine lv_ixor hx hb dJ17_addExact_9 ?_
  refine lv_iand hx hb dJ17_addExact_10 ?_
  refine lv_if_ge (tgt := 24) hx hb dJ17_addExact_11 (by decide) (fun hc => ?_) (fun hc => ?_)
  · have hw := mm_ip hc hw
    refine lv_iload_n hx hb dJ17_addExact_24 rfl (lv_at hl 0 rfl) ?_
    exact x_iret cx hR hS (xle hcb) (xle hsb) hw dJ17_addExact_25
  · have hw := mm_in hc hw
    exact hw.elim
def xx_LA : List Cond := vx_atS "java/lang/Math" 113 "java/lang/ArithmeticException" ["java/lang/RuntimeException", "java/lang/Exception"]
theorem xx_LA_g : xx_LA.filter goodWord = ([184, 1008, 1017, 1020, 1023, 1025, 1009, 1010, 212, 213, 1011, 1016, 1021, 1041, 998, 1042, 1000, 1043, 1002, 1012, 1014, 1004, 2173, 2174, 1040, 1004, 2164, 2165, 2166, 2167, 2167, 2168, 2169, 2170, 2170, 2171, 2172, 2173, 2191, 2163, 2185, 1019, 2177, 2178, 2180, 2176, 1007, 1006, 2175] : List Nat).filterMap (fun i => lw_tbl[i]?) := by rfl
theorem xx_LA_m : ∀ w ∈ xx_LA.filter goodWord, w ∈ lw_all := by
  intro w hw
  have hg : goodWord w = true := (List.mem_filter.mp hw).2
  rw [xx_LA_g] at hw
  obtain ⟨i, -, hi⟩ := List.mem_filterMap.mp hw
  exact List.mem_filter.mpr ⟨List.mem_of_getElem? hi, hg⟩
theorem xx_LA_n : xx_LA.filter (fun w => !goodWord w) = [.declares ⟨"java/lang/RuntimeException", "<init>", "(Ljava/lang/String;)V"⟩, .declares ⟨"java/lang/Exception", "<init>", "(Ljava/lang/String;)V"⟩, .declares ⟨"java/lang/Throwable", "<init>", "(Ljava/lang/String;)V"⟩, .castable "java/lang/ArithmeticException" "java/lang/ArithmeticException"] := by rfl
def xTY (T : Nat → XS → Prop) (E : xx_E) : Addr → String → State → State → Prop := vx_X (fun u : Nat × XS => T u.1 u.2) (fun q C u t => C = "java/lang/ArithmeticException" ∧ q = xr E u.1 ∧ xW E u.2 t) (xA E)
theorem xsk_R {E : xx_E} {σ : XS} {H H1 : Heap} (hE : ∀ i, i < xK → xx_e E i < xx_b E) (hR : xR E σ H) (hz : H.size ≤ H1.size) (ho : ∀ q, q < H.size → H1[q]? = H[q]?) : xR E (xsk σ (xn σ + (H1.size - H.size))) H1 := by
  obtain ⟨h0, h1, h2, h3, h4⟩ := hR
  have hk : ∀ a, kd (xsk σ (xn σ + (H1.size - H.size))) a = if xn σ ≤ a then 0 else kd σ a := fun a => rfl
  have hlow : ∀ b, kd σ b ≠ 0 → xr E b < H.size := by
    intro b hb
    have := (h3 b hb).1
    unfold xr
    split
    · rename_i hb2
      have := hE b hb2
      omega
    · omega
  refine ⟨Nat.le_trans h0 (Nat.le_add_right _ _), ?_, fun q hq => h2 q (by omega), fun a ha => ?_, fun a => ⟨fun c hc hc2 => ?_, fun t ht ht2 => ?_⟩⟩
  · show H1.size = xx_b E + (xn σ + (H1.size - H.size) - xK)
    omega
  · rw [hk] at ha
    split at ha
    · exact absurd rfl ha
    · exact ⟨Nat.lt_of_lt_of_le (h3 a ha).1 (Nat.le_add_right _ _), (h3 a ha).2⟩
  · rw [hk] at hc
    split at hc
    · omega
    · obtain ⟨cell, q1, q2⟩ := (h4 a).1 c hc hc2
      exact ⟨cell, by rw [ho _ (hlow a (by omega))]; exact q1, q2⟩
  · rw [hk] at ht
    split at ht
    · omega
    · rw [ho _ (hlow a (by omega))]
      exact (h4 a).2 t ht ht2
theorem xx_zq {E : xx_E} {C n d : String} {r : Option Nat} {U : State} {H : Heap} (h1 : va_Z C n d (xv E r) (xA E) U H) (h2 : vx_L C n d (xA E) U H) : vx_Zq C n d (xA E) U H := by
  cases r with
  | none => exact ⟨Or.inl h1, h2⟩
  | some a => exact ⟨Or.inr ⟨xr E a, h1⟩, h2⟩
theorem MJ17_addExactT (l : Launch) (hl9 : l.stackTraces = false) (E : xx_E) (x0 : Int32) (x1 : Int32) (σ : XS) (T : Nat → XS → Prop) (hov : ¬ 0 ≤ ((x0 ^^^ (x0 + x1)) &&& (x1 ^^^ (x0 + x1)))) (hT : ∀ n', xn σ ≤ n' → T (xn σ) (xsk σ n')) : vx_Met l yJ17_addExact (ws_ yJ17_addExact cJ17_addExact 3 (some .int)) ({ frames := 6, cells := 1, slots := 6, locals := 240 } : Room) (va_Pc [.int x0, .int x1] (fun U => xW E σ U)) (va_Qi (fun _ _ => False) (fun σ' t => xW E σ' t) (xA E)) (xTY T E) 1 6 (xA E) := by
  refine vx_ofF (cc := cJ17_addExact) (maxL := 3) (ret := some .int) (by decide +kernel) rfl ?_
  intro p e s m args below meth c s₁ B hml hnt hv
  obtain ⟨ha, hR, hK, hZ⟩ := hv
  have hts := atoms_spec (ws := ws_ yJ17_addExact cJ17_addExact 3 (some .int)) B.pre
  have hts : ∀ w ∈ lw_all, w.before _ s = true := fun w h => hts w (List.mem_cons_of_mem _ h)
  have hown : s.vm.findClass "java/lang/Math" = some m.cls := findClass_of_methodNamed B.named
  have cx : xx_X "java/lang/Math" cJ17_addExact 3 (some .int) E p s m args meth c := ⟨B.exec, B.bytes, hml, hown, hts, B.returns, B.notSynchronized, hK, hZ⟩
  refine x_entry [.int x0, .int x1] 3 [(0, .int x0), (1, .int x1)] ha (Nat.le_of_ble_eq_true rfl) rfl (fun ls hl => ?_)
  have hS : va_S (xA E) s.heap s.heap [] := va_S.rf
  obtain ⟨hx, hb, hml, hown, hts, hrt, hlk, hMK, hZ⟩ := id cx
  refine lv_iload_n hx hb dJ17_addExact_0 rfl (lv_at hl 0 rfl) ?_
  refine lv_iload_n hx hb dJ17_addExact_1 rfl (lv_at hl 1 rfl) ?_
  refine lv_iadd hx hb dJ17_addExact_2 ?_
  refine lv_topi (fun v1 hv1 => ?_)
  refine lv_istore_n (i := 2) (lv' := [(2, .int v1), (0, .int x0), (1, .int x1)]) hx hb dJ17_addExact_3 rfl hl (by decide) rfl (fun ls hl => ?_)
  refine lv_iload_n hx hb dJ17_addExact_4 rfl (lv_at hl 1 rfl) ?_
  refine lv_iload_n hx hb dJ17_addExact_5 rfl (lv_at hl 0 rfl) ?_
  refine lv_ixor hx hb dJ17_addExact_6 ?_
  refine lv_iload_n hx hb dJ17_addExact_7 rfl (lv_at hl 2 rfl) ?_
  refine lv_iload_n hx hb dJ17_addExact_8 rfl (lv_at hl 0 rfl) ?_
  refine lv_ixor hx hb dJ17_addExact_9 ?_
  refine lv_iand hx hb dJ17_addExact_10 ?_
  refine lv_if_ge (tgt := 24) hx hb dJ17_addExact_11 (by decide) (fun hc => ?_) (fun hc => ?_)
  · exact absurd (by rw [← hv1]; exact hc) hov
  · refine vx_throwS hx hb hl9 (own := "java/lang/Math") (cls := "java/lang/ArithmeticException") (text := xx_st 13) (names := ["java/lang/RuntimeException", "java/lang/Exception"]) (ik := 109) (is := 111) (ic := 113) (sa := xr E 26) (A := xA E) hown (by decide +kernel) (by decide +kernel) (hts _ q2189) (hts _ q204) (hZ.2.2.2.2.2.1 13 (by decide)) (vx_hat (L := xx_LA) (fun w hw => hts w (xx_LA_m w hw)) (fun w hw => by rw [xx_LA_n] at hw; exact hw) (vx_c (va_Nw.use (A := args) rfl (hMK.2.2.2.2.2.2.2.2.2.2.2.1 _ (List.mem_of_getElem? (i := 9) rfl))) (vx_c (va_Nw.use (A := args) rfl (hMK.2.2.2.2.2.2.2.2.2.2.2.1 _ (List.mem_of_getElem? (i := 7) rfl))) (vx_c (va_Nw.use (A := args) rfl (hMK.2.2.2.2.2.2.2.2.2.2.2.1 _ (List.mem_of_getElem? (i := 5) rfl))) (vx_c (va_Nw.use (A := args) rfl (hMK.2.2.2.2.1 ("java/lang/ArithmeticException", "java/lang/ArithmeticException") (by decide))) vx_n))))) (by decide +kernel) (xx_zq hZ.2.2.2.1 hZ.2.2.2.2.2.2.1) (xx_zq hZ.2.2.2.2.1 hZ.2.2.2.2.2.2.2) hS (hl.1.trans hml.symm) dJ17_addExact_14 dJ17_addExact_17 dJ17_addExact_18 dJ17_addExact_20 dJ17_addExact_23 (fun x hx => (hnt x hx).elim) (by decide) (by decide) (by decide) (by decide) hlk (fun t hW hz hk => ?_) (fun z hz => nomatch hz) (by decide) (by decide)
    have hz9 : ∃ n', xn σ ≤ n' ∧ xR E (xsk σ n') t.heap := ⟨_, Nat.le_add_right _ _, xsk_R hMK.2.1.1 hR hz hk⟩
    obtain ⟨n', h1, h2⟩ := hz9
    refine ⟨(xn σ, xsk σ n'), hT n' h1, ⟨rfl, ?_, h2, hMK.warm hW, (hZ.warm hW).kept (fun a h3 _ => hk a h3)⟩, ⟨hz, fun q h3 _ => hk q h3⟩⟩
    show s.heap.size = xr E (xn σ)
    unfold xr
    rw [if_neg (by have := hR.1; omega)]
    exact hR.2.1
theorem x_addx {p : Program} {l : Launch} {e : Env} {R : Room} {s : State} {m : MethodId} {args : Array Value} {below : List Frame} {meth : Method} {c : Code} {H : Heap} {locs : List Loc} {cells slots : Nat} {Q : State → Prop}
    {own : String} {cc : ByteArray} {nL : Nat} {ret : Option FieldType} {E : xx_E} {σ : XS} {pc : Nat} {ls : Array Slot} {rest : List Value} (hl9 : l.stackTraces = false) (cx : xx_X own cc nL ret E p s m args meth c) {x : ExceptionTableEntry} (htab : c.exceptionTable.toList = [x]) (hcov : covers x pc = true) (h0 : x.catchType ≠ 0) (hq : Cond.classLink own x.catchType "java/lang/ArithmeticException" ∈ lw_all)
    (hR0 : xR E σ H) (hS0 : va_S (xA E) s.heap H locs) {index : Nat} (hql : Cond.methodLink own index yJ17_addExact ∈ lw_all) {u v : Int32} (hR : 7 ≤ R.frames ∧ 280 ≤ R.locals) (hc : cells ≤ R.cells) (hs : slots ≤ R.slots) (hrest : rest.length ≤ 4) (hsize : ls.size = nL) (hdg : decode cc pc = .ok (.invokestatic index, 3))
    (kk : 0 ≤ ((u ^^^ (u + v)) &&& (v ^^^ (u + v))) → ∀ (H1 : Heap) (locs1 : List Loc), xR E σ H1 → va_S (xA E) s.heap H1 locs1 → W p l e R s m args below meth c H1 locs1 cells slots Q (F0 m (pc + 3) ls (.int (u + v) :: rest)))
    (kx : ¬ 0 ≤ ((u ^^^ (u + v)) &&& (v ^^^ (u + v))) → (cells + 1 ≤ R.cells ∧ slots + 6 ≤ R.slots) ∧ ∀ (n' : Nat) (H1 : Heap) (locs1 : List Loc), xn σ ≤ n' → xR E (xsk σ n') H1 → va_S (xA E) s.heap H1 locs1 → W p l e R s m args below meth c H1 locs1 (cells + 1) (slots + 6) Q (F0 m x.handlerPc ls [xv E (some (xn σ))])) : W p l e R s m args below meth c H locs cells slots Q (F0 m pc ls (.int v :: .int u :: rest)) := by
  obtain ⟨hx, hb, hml, hown, hts, hrt, hlk, hK, hZ⟩ := id cx
  by_cases hov : 0 ≤ ((u ^^^ (u + v)) &&& (v ^^^ (u + v)))
  · exact x_goi (va_runS (As := [.int u, .int v]) (rest := rest) (x_fix cx) (MJ17_addExact l E u v σ (fun r σ1 => r = u + v ∧ σ1 = σ) (by intro v1 h1; rw [h1, if_pos hov]; exact ⟨rfl, rfl⟩)) (va_cwS 2 hts (lw_S hql q2187 q179 q2188) rfl rfl rfl (by decide +kernel) ⟨by dsimp only; omega, by dsimp only; omega⟩) ⟨xblind, x_pre cx hR0 hS0 [.int u, .int v]⟩ rfl rfl hsize rfl (lv_room (xroom hrest)) hdg ⟨by omega, by omega⟩) hS0 (fun r σ1 H1 locs1 h hR1 hS1 => by
      obtain ⟨rfl, rfl⟩ := h
      exact kk hov H1 locs1 hR1 hS1)
  · obtain ⟨hf, kx⟩ := kx hov
    exact vx_calli (vx_runS (As := [.int u, .int v]) (rest := rest) (x_fix cx) (MJ17_addExactT l hl9 E u v σ (fun q σ1 => ∃ n', xn σ ≤ n' ∧ q = xn σ ∧ σ1 = xsk σ n') hov (fun n' h => ⟨n', h, rfl, rfl⟩)) (va_cwS 2 hts (lw_S hql q2187 q179 q2188) rfl rfl rfl (by decide +kernel) ⟨by dsimp only; omega, by dsimp only; omega⟩) ⟨xblind, x_pre cx hR0 hS0 [.int u, .int v]⟩ rfl rfl hsize rfl (lv_room (xroom hrest)) hdg hf) hS0 (fun q _ h => h) (fun q h => h) (fun q _ h => h) (fun E' ce q9 u9 t H1 locs1 ht hvm hw hB hz1 hk1 hS h1 h2 h3 => by
      obtain ⟨rfl, rfl, hW⟩ := hB
      obtain ⟨n', g1, g2, g3⟩ := hw
      have hR1 := x_after ht hW
      rw [g2] at h1
      rw [g3] at hR1
      rw [g2]
      exact vx_catch hown [] x [] htab (fun z hz => nomatch hz) hcov h0 (hts _ hq) (va_Nw.use (A := args) rfl (hK.2.2.2.2.1 ("java/lang/ArithmeticException", "java/lang/ArithmeticException") (by decide))) h1 h2 h3 (kx n' H1 locs1 g1 hR1 hS)) (fun r u9 t H1 locs1 ht hvm hw hB hz1 hk1 hS => hw.elim)
