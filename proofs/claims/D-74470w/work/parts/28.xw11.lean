set_option maxRecDepth 100000
-- X0_judged
theorem CX0_judgedBy_X0_376 {l : Launch} {p : Program} {e : Env} {R : Room} {s : State} {m : MethodId} {args : Array Value} {below : List Frame} {meth : Method} {c : Code} {H : Heap} {locs : List Loc} {cells slots : Nat} {Qz : State → Prop} {cc : ByteArray} {nL : Nat} {ret : Option FieldType} {E : xx_E} {σ : XS} {pc : Nat} {ls : Array Slot} {rest : List Value} {th : Nat} {x1 : Int32} {x2 : Int32} (cx : xx_X "StruckCounts" cc nL ret E p s m args meth c) (hR0 : xR E σ H) (hS0 : va_S (xA E) s.heap H locs) {r0 : Option Nat} (hr : r0 = some th) (hk : kd σ th = 1) {Qf : Int32 → XS → Prop} (hw : wX0_judgedBy th x1 x2 σ Qf) (hR : (({ frames := 2, cells := 0, slots := 0, locals := 80 } : Room)).frames + 1 ≤ R.frames ∧ 8 + (4 + 11) + (({ frames := 2, cells := 0, slots := 0, locals := 80 } : Room)).locals ≤ R.locals) (hrest : rest.length ≤ 4) (hsize : ls.size = nL) (hf : cells + 0 ≤ R.cells ∧ slots + 0 ≤ R.slots) (hdg : decode cc pc = .ok (.invokevirtual 376, 3))
    (kk : ∀ (r : Int32) (σ1 : XS) (H1 : Heap) (locs1 : List Loc), Qf r σ1 → xR E σ1 H1 → va_S (xA E) s.heap H1 locs1 → W p l e R s m args below meth c H1 locs1 (cells + 0) (slots + 0) Qz (F0 m (pc + 3) ls (.int r :: rest))) : W p l e R s m args below meth c H locs cells slots Qz (F0 m pc ls (.int x2 :: .int x1 :: xv E r0 :: rest)) := by
  subst hr
  obtain ⟨hx, hb, hml, hown, hts, hrt, hlk, hK, hZ⟩ := id cx
  exact x_goi (va_runV (As := [.int x1, .int x2]) (rest := rest) (x_fix cx) (MX0_judgedBy l E th x1 x2 σ Qf hw) (cwV 2 hts (lw_V q2204 q2206 qs59 q156 q2207) rfl rfl rfl (by decide +kernel) hR) (x_preV cx hR0 hS0 hk (by decide) (q := (RX0, TX0, 24)) rfl rfl [.int x1, .int x2]) rfl rfl hsize rfl (lv_room (xroom hrest)) hdg hf) hS0 kk
def wX0_judged (th : Nat) (x1 : Int32) (σ : XS) (Q : Int32 → XS → Prop) : Prop :=
  kd σ th = 1 ∧ (wX0_isCount th x1 σ (fun r1 s1 => if r1 = 0 then (Q (-1 : Int32) s1) else (kd s1 th = 1 ∧ (wX0_laysWon th x1 s1 (fun s3 => kd s3 th = 1 ∧ (oc s3 (fr s3 th 6) 3 (fun a6 => wX0_judgedBy th (fi s3 a6 7) (fi s3 a6 8) s3 (fun r7 s7 => Q r7 s7))))))))
set_option maxHeartbeats 4000000 in
theorem MX0_judged (l : Launch) (E : xx_E) (th : Nat) (x1 : Int32) (σ : XS) (Q : Int32 → XS → Prop) (hw : wX0_judged th x1 σ Q) : xx_Mi l yX0_judged (ws_ yX0_judged cX0_judged 2 (some .int)) ({ frames := 6, cells := 0, slots := 0, locals := 240 } : Room) E [xv E (some th), .int x1] σ Q 0 0 := by
  refine x_of (own := "StruckCounts") (by decide +kernel) rfl ?_
  intro p e s m args below meth c cx hR ha hnm
  refine x_entry [xv E (some th), .int x1] 2 [(0, xv E (some th)), (1, .int x1)] ha (by simp [lg_sl, xv_cat, vc_i, vc_j, vc_f]) (by simp [lv_args, xv_cat, vc_i, vc_j, vc_f]) (fun ls hl => ?_)
  have hS : va_S (xA E) s.heap s.heap [] := va_S.rf
  have hcb : 0 + 0 ≤ 0 := Nat.le_of_eq (Nat.zero_add _)
  have hsb : 0 + 0 ≤ 0 := Nat.le_of_eq (Nat.zero_add _)
  unfold wX0_judged at hw
  obtain ⟨hx, hb, hml, hown, hts, hrt, hlk, hMK, hZ⟩ := id cx
  refine x_aload_n cx dX0_judged_0 rfl (lv_at hl 0 rfl) ?_
  refine lv_iload_n hx hb dX0_judged_1 rfl (lv_at hl 1 rfl) ?_
  obtain ⟨hk2, hw⟩ := hw
  refine CX0_isCount_X0_290 cx hR hS rfl hk2 hw ⟨Nat.le_of_ble_eq_true rfl, Nat.le_of_ble_eq_true rfl⟩ (Nat.le_of_ble_eq_true rfl) hl.1 ⟨by dsimp only; omega, by dsimp only; omega⟩ dX0_judged_2 (fun r1 s1 H locs hw hR hS => ?_)
  refine lv_if_ne (tgt := 10) hx hb dX0_judged_5 (by decide) (fun hc => ?_) (fun hc => ?_)
  · have hw := mm_in hc hw
    refine x_aload_n cx dX0_judged_10 rfl (lv_at hl 0 rfl) ?_
    refine lv_iload_n hx hb dX0_judged_11 rfl (lv_at hl 1 rfl) ?_
    obtain ⟨hk4, hw⟩ := hw
    refine CX0_laysWon_X0_373 cx hR hS rfl hk4 hw ⟨Nat.le_of_ble_eq_true rfl, Nat.le_of_ble_eq_true rfl⟩ (Nat.le_of_ble_eq_true rfl) hl.1 ⟨by dsimp only; omega, by dsimp only; omega⟩ dX0_judged_12 (fun s3 H locs hw hR hS => ?_)
    refine x_aload_n cx dX0_judged_15 rfl (lv_at hl 0 rfl) ?_
    refine x_aload_n cx dX0_judged_16 rfl (lv_at hl 0 rfl) ?_
    obtain ⟨hk5, hw⟩ := hw
    refine xg_X0_31_1 cx hR rfl hk5 dX0_judged_17 ?_
    obtain ⟨a6, hr6, hk6, hw⟩ := hw
    refine xg_X0_149_3 cx hR hr6 hk6 dX0_judged_20 ?_
    refine x_aload_n cx dX0_judged_23 rfl (lv_at hl 0 rfl) ?_
    refine xg_X0_31_1 cx hR rfl hk5 dX0_judged_24 ?_
    refine xg_X0_152_3 cx hR hr6 hk6 dX0_judged_27 ?_
    refine CX0_judgedBy_X0_376 cx hR hS rfl hk5 hw ⟨Nat.le_of_ble_eq_true rfl, Nat.le_of_ble_eq_true rfl⟩ (Nat.le_of_ble_eq_true rfl) hl.1 ⟨by dsimp only; omega, by dsimp only; omega⟩ dX0_judged_30 (fun r7 s7 H locs hw hR hS => ?_)
    exact x_iret cx hR hS (xle hcb) (xle hsb) hw dX0_judged_33
  · have hw := mm_ip hc hw
    refine lv_iconst (v := (-1 : Int32)) hx hb dX0_judged_8 (by decide) ?_
    exact x_iret cx hR hS (xle hcb) (xle hsb) hw dX0_judged_9
-- X0_worst
theorem CX0_fewest_X0_379F {l : Launch} {p : Program} {e : Env} {R : Room} {s : State} {m : MethodId} {args : Array Value} {below : List Frame} {meth : Method} {c : Code} {H : Heap} {locs : List Loc} {cells slots : Nat} {Qz : State → Prop} {cc : ByteArray} {nL : Nat} {ret : Option FieldType} {E : xx_E} {σ : XS} {pc : Nat} {ls : Array Slot} {rest : List Value} {F : Nat → Int32 → Int32 → XS → (Int32 → XS → Prop) → Prop} (d : Nat) (hF : ∀ (th : Nat) (x1 : Int32) (x2 : Int32) (σ : XS) (Q : Int32 → XS → Prop), F th x1 x2 σ Q → xx_Mi l yX0_fewest (ws_ yX0_fewest cX0_fewest 6 (some .int)) ({ frames := (3 + 2 * d), cells := 0, slots := 0, locals := 40 * (3 + 2 * d) } : Room) E [xv E (some th), .int x1, .int x2] σ Q 0 0) {th : Nat} {x1 : Int32} {x2 : Int32} (cx : xx_X "StruckCounts" cc nL ret E p s m args meth c) (hR0 : xR E σ H) (hS0 : va_S (xA E) s.heap H locs) {r0 : Option Nat} (hr : r0 = some th) (hk : kd σ th = 1) {Qf : Int32 → XS → Prop} (hw : F th x1 x2 σ Qf) (hR : (({ frames := (3 + 2 * d), cells := 0, slots := 0, locals := 40 * (3 + 2 * d) } : Room)).frames + 1 ≤ R.frames ∧ 8 + (6 + 11) + (({ frames := (3 + 2 * d), cells := 0, slots := 0, locals := 40 * (3 + 2 * d) } : Room)).locals ≤ R.locals) (hrest : rest.length ≤ 4) (hsize : ls.size = nL) (hf : cells + 0 ≤ R.cells ∧ slots + 0 ≤ R.slots) (hdg : decode cc pc = .ok (.invokevirtual 379, 3))
    (kk : ∀ (r : Int32) (σ1 : XS) (H1 : Heap) (locs1 : List Loc), Qf r σ1 → xR E σ1 H1 → va_S (xA E) s.heap H1 locs1 → W p l e R s m args below meth c H1 locs1 (cells + 0) (slots + 0) Qz (F0 m (pc + 3) ls (.int r :: rest))) : W p l e R s m args below meth c H locs cells slots Qz (F0 m pc ls (.int x2 :: .int x1 :: xv E r0 :: rest)) := by
  subst hr
  obtain ⟨hx, hb, hml, hown, hts, hrt, hlk, hK, hZ⟩ := id cx
  exact x_goi (va_runV (As := [.int x1, .int x2]) (rest := rest) (x_fix cx) (hF th x1 x2 σ Qf hw) (cwV 2 hts (lw_V q2215 q2217 qs60 q156 q2218) rfl rfl rfl (by decide +kernel) hR) (x_preV cx hR0 hS0 hk (by decide) (q := (RX0, TX0, 24)) rfl rfl [.int x1, .int x2]) rfl rfl hsize rfl (lv_room (xroom hrest)) hdg hf) hS0 kk
def wX0_worst_52 (F : Nat → Int32 → Int32 → XS → (Int32 → XS → Prop) → Prop) (Q : Int32 → XS → Prop) (K6 : Nat → Int32 → Int32 → Int32 → Int32 → Int32 → XS → Prop) (th : Nat) (x1 : Int32) (x2 : Int32) (x3 : Int32) (x4 : Int32) (x5 : Int32) (σ : XS) : Prop :=
  ∀ v1 : Int32, v1 = x5 + (1 : Int32) → K6 th x1 x2 x3 x4 v1 σ
set_option maxHeartbeats 4000000 in
theorem BX0_worst_52 {l : Launch} {p : Program} {e : Env} {s : State} {m : MethodId} {args : Array Value} {below : List Frame} {meth : Method} {c : Code} {E : xx_E} {F : Nat → Int32 → Int32 → XS → (Int32 → XS → Prop) → Prop} {Q : Int32 → XS → Prop} {K6 : Nat → Int32 → Int32 → Int32 → Int32 → Int32 → XS → Prop} (d : Nat) (hF : ∀ (th : Nat) (x1 : Int32) (x2 : Int32) (σ : XS) (Q : Int32 → XS → Prop), F th x1 x2 σ Q → xx_Mi l yX0_fewest (ws_ yX0_fewest cX0_fewest 6 (some .int)) ({ frames := (3 + 2 * d), cells := 0, slots := 0, locals := 40 * (3 + 2 * d) } : Room) E [xv E (some th), .int x1, .int x2] σ Q 0 0) (cx : xx_X "StruckCounts" cX0_worst 6 (some .int) E p s m args meth c) (hK6 : ∀ (th : Nat) (x1 : Int32) (x2 : Int32) (x3 : Int32) (x4 : Int32) (x5 : Int32) (σ : XS), K6 th x1 x2 x3 x4 x5 σ → x_T p l e ({ frames := (4 + 2 * d), cells := 0, slots := 0, locals := 40 * (4 + 2 * d) } : Room) s m args below meth c E (va_Qi Q (fun σ' t => xW E σ' t) (xA E)) 0 0 6 6 0 0 σ [(0, xv E (some th)), (1, .int x1), (2, .int x2), (3, .int x3), (4, .int x4), (5, .int x5)] []) : ∀ (th : Nat) (x1 : Int32) (x2 : Int32) (x3 : Int32) (x4 : Int32) (x5 : Int32) (σ : XS), wX0_worst_52 F Q K6 th x1 x2 x3 x4 x5 σ → x_T p l e ({ frames := (4 + 2 * d), cells := 0, slots := 0, locals := 40 * (4 + 2 * d) } : Room) s m args below meth c E (va_Qi Q (fun σ' t => xW E σ' t) (xA E)) 0 0 6 52 0 0 σ [(0, xv E (some th)), (1, .int x1), (2, .int x2), (3, .int x3), (4, .int x4), (5, .int x5)] [] := by
  intro th x1 x2 x3 x4 x5 σ hw H locs ls cells slots hR hS hl hcb hsb
  unfold wX0_worst_52 at hw
  obtain ⟨hx, hb, hml, hown, hts, hrt, hlk, hMK, hZ⟩ := id cx
  obtain ⟨v1, hv1⟩ : ∃ v : Int32, v = x5 + (1 : Int32) := ⟨_, rfl⟩
  have hw := hw v1 hv1
  refine lv_iinc (v := v1) (lv' := [(5, .int v1), (0, xv E (some th)), (1, .int x1), (2, .int x2), (3, .int x3), (4, .int x4)]) hx hb dX0_worst_52 hl (k := 5) rfl (by rw [hv1]; rfl) (by decide) rfl (fun ls hl => ?_)
  refine lv_goto (tgt := 6) hx hb dX0_worst_55 (by decide) ?_
  exact hK6 _ _ _ _ _ _ _ hw _ _ _ _ _ hR hS (lv_sub hl [1, 2, 3, 4, 5, 0] rfl) hcb hsb
def wX0_worst_6 (F : Nat → Int32 → Int32 → XS → (Int32 → XS → Prop) → Prop) (Q : Int32 → XS → Prop) (K6 : Nat → Int32 → Int32 → Int32 → Int32 → Int32 → XS → Prop) (th : Nat) (x1 : Int32) (x2 : Int32) (x3 : Int32) (x4 : Int32) (x5 : Int32) (σ : XS) : Prop :=
  if (2 : Int32) ≤ x5 then (Q ((1 : Int32) + x4) σ) else (kd σ th = 1 ∧ (wX0_isLeft th (x1 ||| ((1 : Int32) <<< (x3 &&& 31))) (x2 ||| (x5 <<< (x3 &&& 31))) σ (fun r2 s2 => if r2 = 0 then (wX0_worst_52 F Q K6 th x1 x2 x3 x4 x5 s2) else (kd s2 th = 1 ∧ (F th (x1 ||| ((1 : Int32) <<< (x3 &&& 31))) (x2 ||| (x5 <<< (x3 &&& 31))) s2 (fun r4 s4 => ∀ v6 : Int32, v6 = (imax x4 r4) → wX0_worst_52 F Q K6 th x1 x2 x3 v6 x5 s4))))))
set_option maxHeartbeats 4000000 in
theorem BX0_worst_6 {l : Launch} {p : Program} {e : Env} {s : State} {m : MethodId} {args : Array Value} {below : List Frame} {meth : Method} {c : Code} {E : xx_E} {F : Nat → Int32 → Int32 → XS → (Int32 → XS → Prop) → Prop} {Q : Int32 → XS → Prop} {K6 : Nat → Int32 → Int32 → Int32 → Int32 → Int32 → XS → Prop} (d : Nat) (hF : ∀ (th : Nat) (x1 : Int32) (x2 : Int32) (σ : XS) (Q : Int32 → XS → Prop), F th x1 x2 σ Q → xx_Mi l yX0_fewest (ws_ yX0_fewest cX0_fewest 6 (some .int)) ({ frames := (3 + 2 * d), cells := 0, slots := 0, locals := 40 * (3 + 2 * d) } : Room) E [xv E (some th), .int x1, .int x2] σ Q 0 0) (cx : xx_X "StruckCounts" cX0_worst 6 (some .int) E p s m args meth c) (hK6 : ∀ (th : Nat) (x1 : Int32) (x2 : Int32) (x3 : Int32) (x4 : Int32) (x5 : Int32) (σ : XS), K6 th x1 x2 x3 x4 x5 σ → x_T p l e ({ frames := (4 + 2 * d), cells := 0, slots := 0, locals := 40 * (4 + 2 * d) } : Room) s m args below meth c E (va_Qi Q (fun σ' t => xW E σ' t) (xA E)) 0 0 6 6 0 0 σ [(0, xv E (some th)), (1, .int x1), (2, .int x2), (3, .int x3), (4, .int x4), (5, .int x5)] []) : ∀ (th : Nat) (x1 : Int32) (x2 : Int32) (x3 : Int32) (x4 : Int32) (x5 : Int32) (σ : XS), wX0_worst_6 F Q K6 th x1 x2 x3 x4 x5 σ → x_T p l e ({ frames := (4 + 2 * d), cells := 0, slots := 0, locals := 40 * (4 + 2 * d) } : Room) s m args below meth c E (va_Qi Q (fun σ' t => xW E σ' t) (xA E)) 0 0 6 6 0 0 σ [(0, xv E (some th)), (1, .int x1), (2, .int x2), (3, .int x3), (4, .int x4), (5, .int x5)] [] := by
  intro th x1 x2 x3 x4 x5 σ hw H locs ls cells slots hR hS hl hcb hsb
  unfold wX0_worst_6 at hw
  obtain ⟨hx, hb, hml, hown, hts, hrt, hlk, hMK, hZ⟩ := id cx
  refine lv_iload hx hb dX0_worst_6 (lv_at hl 5 rfl) ?_
  refine lv_iconst (v := (2 : Int32)) hx hb dX0_worst_8 (by decide) ?_
  refine lv_icmp_ge (tgt := 58) hx hb dX0_worst_9 (by decide) (fun hc => ?_) (fun hc => ?_)
  · have hw := mm_ip hc hw
    refine lv_iconst (v := (1 : Int32)) hx hb dX0_worst_58 (by decide) ?_
    refine lv_iload hx hb dX0_worst_59 (lv_at hl 4 rfl) ?_
    refine lv_iadd hx hb dX0_worst_61 ?_
    exact x_iret cx hR hS (xle hcb) (xle hsb) hw dX0_worst_62
  · have hw := mm_in hc hw
    refine x_aload_n cx dX0_worst_12 rfl (lv_at hl 0 rfl) ?_
    refine lv_iload_n hx hb dX0_worst_13 rfl (lv_at hl 1 rfl) ?_
    refine lv_iconst (v := (1 : Int32)) hx hb dX0_worst_14 (by decide) ?_
    refine lv_iload_n hx hb dX0_worst_15 rfl (lv_at hl 3 rfl) ?_
    refine lv_ishl hx hb dX0_worst_16 ?_
    refine lv_ior hx hb dX0_worst_17 ?_
    refine lv_iload_n hx hb dX0_worst_18 rfl (lv_at hl 2 rfl) ?_
    refine lv_iload hx hb dX0_worst_19 (lv_at hl 5 rfl) ?_
    refine lv_iload_n hx hb dX0_worst_21 rfl (lv_at hl 3 rfl) ?_
    refine lv_ishl hx hb dX0_worst_22 ?_
    refine lv_ior hx hb dX0_worst_23 ?_
    obtain ⟨hk3, hw⟩ := hw
    refine CX0_isLeft_X0_227 cx hR hS rfl hk3 hw (by constructor <;> dsimp only <;> omega) (Nat.le_of_ble_eq_true rfl) hl.1 ⟨by dsimp only; omega, by dsimp only; omega⟩ dX0_worst_24 (fun r2 s2 H locs hw hR hS => ?_)
    refine lv_if_eq (tgt := 52) hx hb dX0_worst_27 (by decide) (fun hc => ?_) (fun hc => ?_)
    · have hw := mm_ip hc hw
      exact BX0_worst_52 d hF cx hK6 _ _ _ _ _ _ _ hw _ _ _ _ _ hR hS (lv_sub hl [0, 1, 2, 3, 4, 5] rfl) hcb hsb
    · have hw := mm_in hc hw
      refine lv_iload hx hb dX0_worst_30 (lv_at hl 4 rfl) ?_
      refine x_aload_n cx dX0_worst_32 rfl (lv_at hl 0 rfl) ?_
      refine lv_iload_n hx hb dX0_worst_33 rfl (lv_at hl 1 rfl) ?_
      refine lv_iconst (v := (1 : Int32)) hx hb dX0_worst_34 (by decide) ?_
      refine lv_iload_n hx hb dX0_worst_35 rfl (lv_at hl 3 rfl) ?_
      refine lv_ishl hx hb dX0_worst_36 ?_
      refine lv_ior hx hb dX0_worst_37 ?_
      refine lv_iload_n hx hb dX0_worst_38 rfl (lv_at hl 2 rfl) ?_
      refine lv_iload hx hb dX0_worst_39 (lv_at hl 5 rfl) ?_
      refine lv_iload_n hx hb dX0_worst_41 rfl (lv_at hl 3 rfl) ?_
      refine lv_ishl hx hb dX0_worst_42 ?_
      refine lv_ior hx hb dX0_worst_43 ?_
      obtain ⟨hk5, hw⟩ := hw
      refine CX0_fewest_X0_379F d hF cx hR hS rfl hk5 hw (by constructor <;> dsimp only <;> omega) (Nat.le_of_ble_eq_true rfl) hl.1 ⟨by dsimp only; omega, by dsimp only; omega⟩ dX0_worst_44 (fun r4 s4 H locs hw hR hS => ?_)
      refine x_max cx hl.1 q1986 (by dsimp only; omega) (xroom13 (Nat.le_of_ble_eq_true rfl) (by dsimp only; omega)) (by dsimp only; omega) (by dsimp only; omega) dX0_worst_47 ?_
      refine lv_topi (fun v6 hv6 => ?_)
      have hw := hw v6 hv6
      refine lv_istore (i := 4) (lv' := [(4, .int v6), (0, xv E (some th)), (1, .int x1), (2, .int x2), (3, .int x3), (5, .int x5)]) hx hb dX0_worst_50 hl (by decide) rfl (fun ls hl => ?_)
      exact BX0_worst_52 d hF cx hK6 _ _ _ _ _ _ _ hw _ _ _ _ _ hR hS (lv_sub hl [1, 2, 3, 4, 0, 5] rfl) hcb hsb
theorem LX0_worst_6 {l : Launch} {p : Program} {e : Env} {s : State} {m : MethodId} {args : Array Value} {below : List Frame} {meth : Method} {c : Code} {E : xx_E} {F : Nat → Int32 → Int32 → XS → (Int32 → XS → Prop) → Prop} {Q : Int32 → XS → Prop} (d : Nat) (hF : ∀ (th : Nat) (x1 : Int32) (x2 : Int32) (σ : XS) (Q : Int32 → XS → Prop), F th x1 x2 σ Q → xx_Mi l yX0_fewest (ws_ yX0_fewest cX0_fewest 6 (some .int)) ({ frames := (3 + 2 * d), cells := 0, slots := 0, locals := 40 * (3 + 2 * d) } : Room) E [xv E (some th), .int x1, .int x2] σ Q 0 0) (cx : xx_X "StruckCounts" cX0_worst 6 (some .int) E p s m args meth c) : ∀ (th : Nat) (x1 : Int32) (x2 : Int32) (x3 : Int32) (x4 : Int32) (x5 : Int32) (σ : XS), lp7F (wX0_worst_6 F Q) th x1 x2 x3 x4 x5 σ → x_T p l e ({ frames := (4 + 2 * d), cells := 0, slots := 0, locals := 40 * (4 + 2 * d) } : Room) s m args below meth c E (va_Qi Q (fun σ' t => xW E σ' t) (xA E)) 0 0 6 6 0 0 σ [(0, xv E (some th)), (1, .int x1), (2, .int x2), (3, .int x3), (4, .int x4), (5, .int x5)] [] :=
  lp7F_of (fun K hK => BX0_worst_6 d hF cx hK)
def wX0_worst (F : Nat → Int32 → Int32 → XS → (Int32 → XS → Prop) → Prop) (th : Nat) (x1 : Int32) (x2 : Int32) (x3 : Int32) (σ : XS) (Q : Int32 → XS → Prop) : Prop :=
  lp7F (wX0_worst_6 F Q) th x1 x2 x3 (0 : Int32) (0 : Int32) σ
set_option maxHeartbeats 4000000 in
theorem MX0_worst (l : Launch) (E : xx_E) {F : Nat → Int32 → Int32 → XS → (Int32 → XS → Prop) → Prop} (d : Nat) (hF : ∀ (th : Nat) (x1 : Int32) (x2 : Int32) (σ : XS) (Q : Int32 → XS → Prop), F th x1 x2 σ Q → xx_Mi l yX0_fewest (ws_ yX0_fewest cX0_fewest 6 (some .int)) ({ frames := (3 + 2 * d), cells := 0, slots := 0, locals := 40 * (3 + 2 * d) } : Room) E [xv E (some th), .int x1, .int x2] σ Q 0 0) (th : Nat) (x1 : Int32) (x2 : Int32) (x3 : Int32) (σ : XS) (Q : Int32 → XS → Prop) (hw : wX0_worst F th x1 x2 x3 σ Q) : xx_Mi l yX0_worst (ws_ yX0_worst cX0_worst 6 (some .int)) ({ frames := (4 + 2 * d), cells := 0, slots := 0, locals := 40 * (4 + 2 * d) } : Room) E [xv E (some th), .int x1, .int x2, .int x3] σ Q 0 0 := by
  refine x_of (own := "StruckCounts") (by decide +kernel) rfl ?_
  intro p e s m args below meth c cx hR ha hnm
  refine x_entry [xv E (some th), .int x1, .int x2, .int x3] 6 [(0, xv E (some th)), (1, .int x1), (2, .int x2), (3, .int x3)] ha (by simp [lg_sl, xv_cat, vc_i, vc_j, vc_f]) (by simp [lv_args, xv_cat, vc_i, vc_j, vc_f]) (fun ls hl => ?_)
  have hS : va_S (xA E) s.heap s.heap [] := va_S.rf
  have hcb : 0 + 0 ≤ 0 := Nat.le_of_eq (Nat.zero_add _)
  have hsb : 0 + 0 ≤ 0 := Nat.le_of_eq (Nat.zero_add _)
  unfold wX0_worst at hw
  obtain ⟨hx, hb, hml, hown, hts, hrt, hlk, hMK, hZ⟩ := id cx
  refine lv_iconst (v := (0 : Int32)) hx hb dX0_worst_0 (by decide) ?_
  refine lv_istore (i := 4) (lv' := [(4, .int (0 : Int32)), (0, xv E (some th)), (1, .int x1), (2, .int x2), (3, .int x3)]) hx hb dX0_worst_1 hl (by decide) rfl (fun ls hl => ?_)
  refine lv_iconst (v := (0 : Int32)) hx hb dX0_worst_3 (by decide) ?_
  refine lv_istore (i := 5) (lv' := [(5, .int (0 : Int32)), (4, .int (0 : Int32)), (0, xv E (some th)), (1, .int x1), (2, .int x2), (3, .int x3)]) hx hb dX0_worst_4 hl (by decide) rfl (fun ls hl => ?_)
  exact LX0_worst_6 d hF cx _ _ _ _ _ _ _ hw _ _ _ _ _ hR hS (lv_sub hl [2, 3, 4, 5, 1, 0] rfl) hcb hsb
-- X0_fewest
theorem CX0_worst_X0_382 {l : Launch} {p : Program} {e : Env} {R : Room} {s : State} {m : MethodId} {args : Array Value} {below : List Frame} {meth : Method} {c : Code} {H : Heap} {locs : List Loc} {cells slots : Nat} {Qz : State → Prop} {cc : ByteArray} {nL : Nat} {ret : Option FieldType} {E : xx_E} {σ : XS} {pc : Nat} {ls : Array Slot} {rest : List Value} {F : Nat → Int32 → Int32 → XS → (Int32 → XS → Prop) → Prop} (d : Nat) (hF : ∀ (th : Nat) (x1 : Int32) (x2 : Int32) (σ : XS) (Q : Int32 → XS → Prop), F th x1 x2 σ Q → xx_Mi l yX0_fewest (ws_ yX0_fewest cX0_fewest 6 (some .int)) ({ frames := (3 + 2 * d), cells := 0, slots := 0, locals := 40 * (3 + 2 * d) } : Room) E [xv E (some th), .int x1, .int x2] σ Q 0 0) {th : Nat} {x1 : Int32} {x2 : Int32} {x3 : Int32} (cx : xx_X "StruckCounts" cc nL ret E p s m args meth c) (hR0 : xR E σ H) (hS0 : va_S (xA E) s.heap H locs) {r0 : Option Nat} (hr : r0 = some th) (hk : kd σ th = 1) {Qf : Int32 → XS → Prop} (hw : wX0_worst F th x1 x2 x3 σ Qf) (hR : (({ frames := (4 + 2 * d), cells := 0, slots := 0, locals := 40 * (4 + 2 * d) } : Room)).frames + 1 ≤ R.frames ∧ 8 + (6 + 11) + (({ frames := (4 + 2 * d), cells := 0, slots := 0, locals := 40 * (4 + 2 * d) } : Room)).locals ≤ R.locals) (hrest : rest.length ≤ 4) (hsize : ls.size = nL) (hf : cells + 0 ≤ R.cells ∧ slots + 0 ≤ R.slots) (hdg : decode cc pc = .ok (.invokevirtual 382, 3))
    (kk : ∀ (r : Int32) (σ1 : XS) (H1 : Heap) (locs1 : List Loc), Qf r σ1 → xR E σ1 H1 → va_S (xA E) s.heap H1 locs1 → W p l e R s m args below meth c H1 locs1 (cells + 0) (slots + 0) Qz (F0 m (pc + 3) ls (.int r :: rest))) : W p l e R s m args below meth c H locs cells slots Qz (F0 m pc ls (.int x3 :: .int x2 :: .int x1 :: xv E r0 :: rest)) := by
  subst hr
  obtain ⟨hx, hb, hml, hown, hts, hrt, hlk, hK, hZ⟩ := id cx
  exact x_goi (va_runV (As := [.int x1, .int x2, .int x3]) (rest := rest) (x_fix cx) (MX0_worst l E d hF th x1 x2 x3 σ Qf hw) (cwV 3 hts (lw_V q2219 q2221 qs61 q156 q2222) rfl rfl rfl (by decide +kernel) hR) (x_preV cx hR0 hS0 hk (by decide) (q := (RX0, TX0, 24)) rfl rfl [.int x1, .int x2, .int x3]) rfl rfl hsize rfl (lv_room (xroom hrest)) hdg hf) hS0 kk
def wX0_fewest_79 (F : Nat → Int32 → Int32 → XS → (Int32 → XS → Prop) → Prop) (Q : Int32 → XS → Prop) (K43 : Nat → Int32 → Int32 → Int32 → Int32 → Int32 → XS → Prop) (th : Nat) (x1 : Int32) (x2 : Int32) (x3 : Int32) (x4 : Int32) (x5 : Int32) (σ : XS) : Prop :=
  ∀ v1 : Int32, v1 = x5 + (1 : Int32) → K43 th x1 x2 x3 x4 v1 σ
set_option maxHeartbeats 4000000 in
theorem BX0_fewest_79 {l : Launch} {p : Program} {e : Env} {s : State} {m : MethodId} {args : Array Value} {below : List Frame} {meth : Method} {c : Code} {E : xx_E} {F : Nat → Int32 → Int32 → XS → (Int32 → XS → Prop) → Prop} {Q : Int32 → XS → Prop} {K43 : Nat → Int32 → Int32 → Int32 → Int32 → Int32 → XS → Prop} (d : Nat) (hF : ∀ (th : Nat) (x1 : Int32) (x2 : Int32) (σ : XS) (Q : Int32 → XS → Prop), F th x1 x2 σ Q → xx_Mi l yX0_fewest (ws_ yX0_fewest cX0_fewest 6 (some .int)) ({ frames := (3 + 2 * d), cells := 0, slots := 0, locals := 40 * (3 + 2 * d) } : Room) E [xv E (some th), .int x1, .int x2] σ Q 0 0) (cx : xx_X "StruckCounts" cX0_fewest 6 (some .int) E p s m args meth c) (hK43 : ∀ (th : Nat) (x1 : Int32) (x2 : Int32) (x3 : Int32) (x4 : Int32) (x5 : Int32) (σ : XS), K43 th x1 x2 x3 x4 x5 σ → x_T p l e ({ frames := (3 + 2 * (d + 1)), cells := 0, slots := 0, locals := 40 * (3 + 2 * (d + 1)) } : Room) s m args below meth c E (va_Qi Q (fun σ' t => xW E σ' t) (xA E)) 0 0 6 43 0 0 σ [(0, xv E (some th)), (1, .int x1), (2, .int x2), (3, .int x3), (4, .int x4), (5, .int x5)] []) : ∀ (th : Nat) (x1 : Int32) (x2 : Int32) (x3 : Int32) (x4 : Int32) (x5 : Int32) (σ : XS), wX0_fewest_79 F Q K43 th x1 x2 x3 x4 x5 σ → x_T p l e ({ frames := (3 + 2 * (d + 1)), cells := 0, slots := 0, locals := 40 * (3 + 2 * (d + 1)) } : Room) s m args below meth c E (va_Qi Q (fun σ' t => xW E σ' t) (xA E)) 0 0 6 79 0 0 σ [(0, xv E (some th)), (1, .int x1), (2, .int x2), (3, .int x3), (4, .int x4), (5, .int x5)] [] := by
  intro th x1 x2 x3 x4 x5 σ hw H locs ls cells slots hR hS hl hcb hsb
  unfold wX0_fewest_79 at hw
  obtain ⟨hx, hb, hml, hown, hts, hrt, hlk, hMK, hZ⟩ := id cx
  obtain ⟨v1, hv1⟩ : ∃ v : Int32, v = x5 + (1 : Int32) := ⟨_, rfl⟩
  have hw := hw v1 hv1
  refine lv_iinc (v := v1) (lv' := [(5, .int v1), (0, xv E (some th)), (1, .int x1), (2, .int x2), (3, .int x3), (4, .int x4)]) hx hb dX0_fewest_79 hl (k := 5) rfl (by rw [hv1]; rfl) (by decide) rfl (fun ls hl => ?_)
  refine lv_goto (tgt := 43) hx hb dX0_fewest_82 (by decide) ?_
  exact hK43 _ _ _ _ _ _ _ hw _ _ _ _ _ hR hS (lv_sub hl [1, 2, 3, 4, 5, 0] rfl) hcb hsb
def wX0_fewest_43 (F : Nat → Int32 → Int32 → XS → (Int32 → XS → Prop) → Prop) (Q : Int32 → XS → Prop) (K43 : Nat → Int32 → Int32 → Int32 → Int32 → Int32 → XS → Prop) (th : Nat) (x1 : Int32) (x2 : Int32) (x3 : Int32) (x4 : Int32) (x5 : Int32) (σ : XS) : Prop :=
  kd σ th = 1 ∧ (oc σ (fr σ th 5) 2 (fun a3 => if (fi σ a3 5) ≤ x5 then (oc σ (fr σ th 16) 100 (fun a4 => xK ≤ a4 ∧ (vp_in x3 (ln σ a4) ∧ (Q x4 (pai σ a4 x3.toNatClampNeg x4))))) else (wX0_has x1 x5 σ (fun r5 s5 => if r5 = 0 then (kd s5 th = 1 ∧ (wX0_worst F th x1 x2 x5 s5 (fun r6 s6 => ∀ v8 : Int32, v8 = (imin x4 r6) → wX0_fewest_79 F Q K43 th x1 x2 x3 v8 x5 s6))) else (wX0_fewest_79 F Q K43 th x1 x2 x3 x4 x5 s5)))))
set_option maxHeartbeats 4000000 in
theorem BX0_fewest_43 {l : Launch} {p : Program} {e : Env} {s : State} {m : MethodId} {args : Array Value} {below : List Frame} {meth : Method} {c : Code} {E : xx_E} {F : Nat → Int32 → Int32 → XS → (Int32 → XS → Prop) → Prop} {Q : Int32 → XS → Prop} {K43 : Nat → Int32 → Int32 → Int32 → Int32 → Int32 → XS → Prop} (d : Nat) (hF : ∀ (th : Nat) (x1 : Int32) (x2 : Int32) (σ : XS) (Q : Int32 → XS → Prop), F th x1 x2 σ Q → xx_Mi l yX0_fewest (ws_ yX0_fewest cX0_fewest 6 (some .int)) ({ frames := (3 + 2 * d), cells := 0, slots := 0, locals := 40 * (3 + 2 * d) } : Room) E [xv E (some th), .int x1, .int x2] σ Q 0 0) (cx : xx_X "StruckCounts" cX0_fewest 6 (some .int) E p s m args meth c) (hK43 : ∀ (th : Nat) (x1 : Int32) (x2 : Int32) (x3 : Int32) (x4 : Int32) (x5 : Int32) (σ : XS), K43 th x1 x2 x3 x4 x5 σ → x_T p l e ({ frames := (3 + 2 * (d + 1)), cells := 0, slots := 0, locals := 40 * (3 + 2 * (d + 1)) } : Room) s m args below meth c E (va_Qi Q (fun σ' t => xW E σ' t) (xA E)) 0 0 6 43 0 0 σ [(0, xv E (some th)), (1, .int x1), (2, .int x2), (3, .int x3), (4, .int x4), (5, .int x5)] []) : ∀ (th : Nat) (x1 : Int32) (x2 : Int32) (x3 : Int32) (x4 : Int32) (x5 : Int32) (σ : XS), wX0_fewest_43 F Q K43 th x1 x2 x3 x4 x5 σ → x_T p l e ({ frames := (3 + 2 * (d + 1)), cells := 0, slots := 0, locals := 40 * (3 + 2 * (d + 1)) } : Room) s m args below meth c E (va_Qi Q (fun σ' t => xW E σ' t) (xA E)) 0 0 6 43 0 0 σ [(0, xv E (some th)), (1, .int x1), (2, .int x2), (3, .int x3), (4, .int x4), (5, .int x5)] [] := by
  intro th x1 x2 x3 x4 x5 σ hw H locs ls cells slots hR hS hl hcb hsb
  unfold wX0_fewest_43 at hw
  obtain ⟨hx, hb, hml, hown, hts, hrt, hlk, hMK, hZ⟩ := id cx
  refine lv_iload hx hb dX0_fewest_43 (lv_at hl 5 rfl) ?_
  refine x_aload_n cx dX0_fewest_45 rfl (lv_at hl 0 rfl) ?_
  obtain ⟨hk2, hw⟩ := hw
  refine xg_X0_24_1 cx hR rfl hk2 dX0_fewest_46 ?_
  obtain ⟨a3, hr3, hk3, hw⟩ := hw
  refine xg_X0_133_2 cx hR hr3 hk3 dX0_fewest_49 ?_
  refine lv_icmp_ge (tgt := 85) hx hb dX0_fewest_52 (by decide) (fun hc => ?_) (fun hc => ?_)
  · have hw := mm_ip hc hw
    refine x_aload_n cx dX0_fewest_85 rfl (lv_at hl 0 rfl) ?_
    refine xg_X0_63_1 cx hR rfl hk2 dX0_fewest_86 ?_
    refine lv_iload_n hx hb dX0_fewest_89 rfl (lv_at hl 3 rfl) ?_
    refine lv_iload hx hb dX0_fewest_90 (lv_at hl 4 rfl) ?_
    obtain ⟨a4, hr4, hk4, hw⟩ := hw
    obtain ⟨hge_a4, hw⟩ := hw
    obtain ⟨hi, hw⟩ := hw
    refine x_iast cx hR hS hr4 hge_a4 hk4 (j := x3.toNatClampNeg) rfl hi dX0_fewest_92 (fun H locs hR hS => ?_)
    refine lv_iload hx hb dX0_fewest_93 (lv_at hl 4 rfl) ?_
    exact x_iret cx hR hS (xle hcb) (xle hsb) hw dX0_fewest_95
  · have hw := mm_in hc hw
    refine lv_iload_n hx hb dX0_fewest_55 rfl (lv_at hl 1 rfl) ?_
    refine lv_iload hx hb dX0_fewest_56 (lv_at hl 5 rfl) ?_
    refine CX0_has_X0_223 cx hR hS  hw (by constructor <;> dsimp only <;> omega) (Nat.le_of_ble_eq_true rfl) hl.1 ⟨by dsimp only; omega, by dsimp only; omega⟩ dX0_fewest_58 (fun r5 s5 H locs hw hR hS => ?_)
    refine lv_if_ne (tgt := 79) hx hb dX0_fewest_61 (by decide) (fun hc => ?_) (fun hc => ?_)
    · have hw := mm_in hc hw
      exact BX0_fewest_79 d hF cx hK43 _ _ _ _ _ _ _ hw _ _ _ _ _ hR hS (lv_sub hl [0, 1, 2, 3, 4, 5] rfl) hcb hsb
    · have hw := mm_ip hc hw
      refine lv_iload hx hb dX0_fewest_64 (lv_at hl 4 rfl) ?_
      refine x_aload_n cx dX0_fewest_66 rfl (lv_at hl 0 rfl) ?_
      refine lv_iload_n hx hb dX0_fewest_67 rfl (lv_at hl 1 rfl) ?_
      refine lv_iload_n hx hb dX0_fewest_68 rfl (lv_at hl 2 rfl) ?_
      refine lv_iload hx hb dX0_fewest_69 (lv_at hl 5 rfl) ?_
      obtain ⟨hk7, hw⟩ := hw
      refine CX0_worst_X0_382 d hF cx hR hS rfl hk7 hw (by constructor <;> dsimp only <;> omega) (Nat.le_of_ble_eq_true rfl) hl.1 ⟨by dsimp only; omega, by dsimp only; omega⟩ dX0_fewest_71 (fun r6 s6 H locs hw hR hS => ?_)
      refine x_min cx hl.1 q1932 (by dsimp only; omega) (xroom13 (Nat.le_of_ble_eq_true rfl) (by dsimp only; omega)) (by dsimp only; omega) (by dsimp only; omega) dX0_fewest_74 ?_
      refine lv_topi (fun v8 hv8 => ?_)
      have hw := hw v8 hv8
      refine lv_istore (i := 4) (lv' := [(4, .int v8), (0, xv E (some th)), (1, .int x1), (2, .int x2), (3, .int x3), (5, .int x5)]) hx hb dX0_fewest_77 hl (by decide) rfl (fun ls hl => ?_)
      exact BX0_fewest_79 d hF cx hK43 _ _ _ _ _ _ _ hw _ _ _ _ _ hR hS (lv_sub hl [1, 2, 3, 4, 0, 5] rfl) hcb hsb
theorem LX0_fewest_43 {l : Launch} {p : Program} {e : Env} {s : State} {m : MethodId} {args : Array Value} {below : List Frame} {meth : Method} {c : Code} {E : xx_E} {F : Nat → Int32 → Int32 → XS → (Int32 → XS → Prop) → Prop} {Q : Int32 → XS → Prop} (d : Nat) (hF : ∀ (th : Nat) (x1 : Int32) (x2 : Int32) (σ : XS) (Q : Int32 → XS → Prop), F th x1 x2 σ Q → xx_Mi l yX0_fewest (ws_ yX0_fewest cX0_fewest 6 (some .int)) ({ frames := (3 + 2 * d), cells := 0, slots := 0, locals := 40 * (3 + 2 * d) } : Room) E [xv E (some th), .int x1, .int x2] σ Q 0 0) (cx : xx_X "StruckCounts" cX0_fewest 6 (some .int) E p s m args meth c) : ∀ (th : Nat) (x1 : Int32) (x2 : Int32) (x3 : Int32) (x4 : Int32) (x5 : Int32) (σ : XS), lp7F (wX0_fewest_43 F Q) th x1 x2 x3 x4 x5 σ → x_T p l e ({ frames := (3 + 2 * (d + 1)), cells := 0, slots := 0, locals := 40 * (3 + 2 * (d + 1)) } : Room) s m args below meth c E (va_Qi Q (fun σ' t => xW E σ' t) (xA E)) 0 0 6 43 0 0 σ [(0, xv E (some th)), (1, .int x1), (2, .int x2), (3, .int x3), (4, .int x4), (5, .int x5)] [] :=
  lp7F_of (fun K hK => BX0_fewest_43 d hF cx hK)
def wX0_fewest_body (F : Nat → Int32 → Int32 → XS → (Int32 → XS → Prop) → Prop) (th : Nat) (x1 : Int32) (x2 : Int32) (σ : XS) (Q : Int32 → XS → Prop) : Prop :=
  kd σ th = 1 ∧ (wX0_judgedBy th x1 x2 σ (fun r9 s9 => if r9 = (2 : Int32) then (wX0_code x1 x2 s9 (fun r11 s11 => kd s11 th = 1 ∧ (oc s11 (fr s11 th 16) 100 (fun a13 => vp_in r11 (ln s11 a13) ∧ (if (ai s11 a13 r11.toNatClampNeg) = (-1 : Int32) then (lp7F (wX0_fewest_43 F Q) th x1 x2 r11 (999 : Int32) (0 : Int32) s11) else (vp_in r11 (ln s11 a13) ∧ (Q (ai s11 a13 r11.toNatClampNeg) s11))))))) else (Q (0 : Int32) s9)))
set_option maxHeartbeats 4000000 in
theorem MX0_fewest_body (l : Launch) (E : xx_E) {F : Nat → Int32 → Int32 → XS → (Int32 → XS → Prop) → Prop} (d : Nat) (hF : ∀ (th : Nat) (x1 : Int32) (x2 : Int32) (σ : XS) (Q : Int32 → XS → Prop), F th x1 x2 σ Q → xx_Mi l yX0_fewest (ws_ yX0_fewest cX0_fewest 6 (some .int)) ({ frames := (3 + 2 * d), cells := 0, slots := 0, locals := 40 * (3 + 2 * d) } : Room) E [xv E (some th), .int x1, .int x2] σ Q 0 0) (th : Nat) (x1 : Int32) (x2 : Int32) (σ : XS) (Q : Int32 → XS → Prop) (hw : wX0_fewest_body F th x1 x2 σ Q) : xx_Mi l yX0_fewest (ws_ yX0_fewest cX0_fewest 6 (some .int)) ({ frames := (3 + 2 * (d + 1)), cells := 0, slots := 0, locals := 40 * (3 + 2 * (d + 1)) } : Room) E [xv E (some th), .int x1, .int x2] σ Q 0 0 := by
  refine x_of (own := "StruckCounts") (by decide +kernel) rfl ?_
  intro p e s m args below meth c cx hR ha hnm
  refine x_entry [xv E (some th), .int x1, .int x2] 6 [(0, xv E (some th)), (1, .int x1), (2, .int x2)] ha (by simp [lg_sl, xv_cat, vc_i, vc_j, vc_f]) (by simp [lv_args, xv_cat, vc_i, vc_j, vc_f]) (fun ls hl => ?_)
  have hS : va_S (xA E) s.heap s.heap [] := va_S.rf
  have hcb : 0 + 0 ≤ 0 := Nat.le_of_eq (Nat.zero_add _)
  have hsb : 0 + 0 ≤ 0 := Nat.le_of_eq (Nat.zero_add _)
  unfold wX0_fewest_body at hw
  obtain ⟨hx, hb, hml, hown, hts, hrt, hlk, hMK, hZ⟩ := id cx
  refine x_aload_n cx dX0_fewest_0 rfl (lv_at hl 0 rfl) ?_
  refine lv_iload_n hx hb dX0_fewest_1 rfl (lv_at hl 1 rfl) ?_
  refine lv_iload_n hx hb dX0_fewest_2 rfl (lv_at hl 2 rfl) ?_
  obtain ⟨hk10, hw⟩ := hw
  refine CX0_judgedBy_X0_376 cx hR hS rfl hk10 hw (by constructor <;> dsimp only <;> omega) (Nat.le_of_ble_eq_true rfl) hl.1 ⟨by dsimp only; omega, by dsimp only; omega⟩ dX0_fewest_3 (fun r9 s9 H locs hw hR hS => ?_)
  refine lv_iconst (v := (2 : Int32)) hx hb dX0_fewest_6 (by decide) ?_
  refine lv_icmp_eq (tgt := 12) hx hb dX0_fewest_7 (by decide) (fun hc => ?_) (fun hc => ?_)
  · have hw := mm_ip hc hw
    refine lv_iload_n hx hb dX0_fewest_12 rfl (lv_at hl 1 rfl) ?_
    refine lv_iload_n hx hb dX0_fewest_13 rfl (lv_at hl 2 rfl) ?_
    refine CX0_code_X0_370 cx hR hS  hw (by constructor <;> dsimp only <;> omega) (Nat.le_of_ble_eq_true rfl) hl.1 ⟨by dsimp only; omega, by dsimp only; omega⟩ dX0_fewest_14 (fun r11 s11 H locs hw hR hS => ?_)
    refine lv_istore_n (i := 3) (lv' := [(3, .int r11), (0, xv E (some th)), (1, .int x1), (2, .int x2)]) hx hb dX0_fewest_17 rfl hl (by decide) rfl (fun ls hl => ?_)
    refine x_aload_n cx dX0_fewest_18 rfl (lv_at hl 1 rfl) ?_
    obtain ⟨hk12, hw⟩ := hw
    refine xg_X0_63_1 cx hR rfl hk12 dX0_fewest_19 ?_
    refine lv_iload_n hx hb dX0_fewest_22 rfl (lv_at hl 0 rfl) ?_
    obtain ⟨a13, hr13, hk13, hw⟩ := hw
    obtain ⟨hi, hw⟩ := hw
    refine x_iald cx hR hr13 hk13 (j := r11.toNatClampNeg) rfl hi dX0_fewest_23 ?_
    refine lv_iconst (v := (-1 : Int32)) hx hb dX0_fewest_24 (by decide) ?_
    refine lv_icmp_eq (tgt := 35) hx hb dX0_fewest_25 (by decide) (fun hc => ?_) (fun hc => ?_)
    · have hw := mm_ip hc hw
      refine lv_sipush (v := (999 : Int32)) hx hb dX0_fewest_35 (by decide) ?_
      refine lv_istore (i := 4) (lv' := [(4, .int (999 : Int32)), (3, .int r11), (0, xv E (some th)), (1, .int x1), (2, .int x2)]) hx hb dX0_fewest_38 hl (by decide) rfl (fun ls hl => ?_)
      refine lv_iconst (v := (0 : Int32)) hx hb dX0_fewest_40 (by decide) ?_
      refine lv_istore (i := 5) (lv' := [(5, .int (0 : Int32)), (4, .int (999 : Int32)), (3, .int r11), (0, xv E (some th)), (1, .int x1), (2, .int x2)]) hx hb dX0_fewest_41 hl (by decide) rfl (fun ls hl => ?_)
      exact LX0_fewest_43 d hF cx _ _ _ _ _ _ _ hw _ _ _ _ _ hR hS (lv_sub hl [3, 4, 5, 2, 1, 0] rfl) hcb hsb
    · have hw := mm_in hc hw
      refine x_aload_n cx dX0_fewest_28 rfl (lv_at hl 1 rfl) ?_
      refine xg_X0_63_1 cx hR rfl hk12 dX0_fewest_29 ?_
      refine lv_iload_n hx hb dX0_fewest_32 rfl (lv_at hl 0 rfl) ?_
      obtain ⟨hi, hw⟩ := hw
      refine x_iald cx hR hr13 hk13 (j := r11.toNatClampNeg) rfl hi dX0_fewest_33 ?_
      exact x_iret cx hR hS (xle hcb) (xle hsb) hw dX0_fewest_34
  · have hw := mm_in hc hw
    refine lv_iconst (v := (0 : Int32)) hx hb dX0_fewest_10 (by decide) ?_
    exact x_iret cx hR hS (xle hcb) (xle hsb) hw dX0_fewest_11
def wX0_fewest (d : Nat) : Nat → Int32 → Int32 → XS → (Int32 → XS → Prop) → Prop := Nat.rec (motive := fun _ => Nat → Int32 → Int32 → XS → (Int32 → XS → Prop) → Prop) (fun _ _ _ _ _ => False) (fun _ ih => wX0_fewest_body ih) d
theorem MX0_fewest (l : Launch) (E : xx_E) : ∀ (d : Nat), ∀ (th : Nat) (x1 : Int32) (x2 : Int32) (σ : XS) (Q : Int32 → XS → Prop), wX0_fewest d th x1 x2 σ Q → xx_Mi l yX0_fewest (ws_ yX0_fewest cX0_fewest 6 (some .int)) ({ frames := (3 + 2 * d), cells := 0, slots := 0, locals := 40 * (3 + 2 * d) } : Room) E [xv E (some th), .int x1, .int x2] σ Q 0 0 := by
  intro d
  induction d with
  | zero => exact fun th x1 x2 σ Q h => h.elim
  | succ d ih => exact fun th x1 x2 σ Q h => MX0_fewest_body l E d ih th x1 x2 σ Q h
-- X0_tries
theorem CX0_fewest_X0_379 {l : Launch} {p : Program} {e : Env} {R : Room} {s : State} {m : MethodId} {args : Array Value} {below : List Frame} {meth : Method} {c : Code} {H : Heap} {locs : List Loc} {cells slots : Nat} {Qz : State → Prop} {cc : ByteArray} {nL : Nat} {ret : Option FieldType} {E : xx_E} {σ : XS} {pc : Nat} {ls : Array Slot} {rest : List Value} (d : Nat) {th : Nat} {x1 : Int32} {x2 : Int32} (cx : xx_X "StruckCounts" cc nL ret E p s m args meth c) (hR0 : xR E σ H) (hS0 : va_S (xA E) s.heap H locs) {r0 : Option Nat} (hr : r0 = some th) (hk : kd σ th = 1) {Qf : Int32 → XS → Prop} (hw : wX0_fewest d th x1 x2 σ Qf) (hR : (({ frames := (3 + 2 * d), cells := 0, slots := 0, locals := 40 * (3 + 2 * d) } : Room)).frames + 1 ≤ R.frames ∧ 8 + (6 + 11) + (({ frames := (3 + 2 * d), cells := 0, slots := 0, locals := 40 * (3 + 2 * d) } : Room)).locals ≤ R.locals) (hrest : rest.length ≤ 4) (hsize : ls.size = nL) (hf : cells + 0 ≤ R.cells ∧ slots + 0 ≤ R.slots) (hdg : decode cc pc = .ok (.invokevirtual 379, 3))
    (kk : ∀ (r : Int32) (σ1 : XS) (H1 : Heap) (locs1 : List Loc), Qf r σ1 → xR E σ1 H1 → va_S (xA E) s.heap H1 locs1 → W p l e R s m args below meth c H1 locs1 (cells + 0) (slots + 0) Qz (F0 m (pc + 3) ls (.int r :: rest))) : W p l e R s m args below meth c H locs cells slots Qz (F0 m pc ls (.int x2 :: .int x1 :: xv E r0 :: rest)) := by
  subst hr
  obtain ⟨hx, hb, hml, hown, hts, hrt, hlk, hK, hZ⟩ := id cx
  exact x_goi (va_runV (As := [.int x1, .int x2]) (rest := rest) (x_fix cx) (MX0_fewest l E d th x1 x2 σ Qf hw) (cwV 2 hts (lw_V q2215 q2217 qs60 q156 q2218) rfl rfl rfl (by decide +kernel) hR) (x_preV cx hR0 hS0 hk (by decide) (q := (RX0, TX0, 24)) rfl rfl [.int x1, .int x2]) rfl rfl hsize rfl (lv_room (xroom hrest)) hdg hf) hS0 kk
def wX0_tries_98 (d : Nat) (Q : Int32 → XS → Prop) (K59 : Nat → Int32 → Int32 → XS → Prop) (th : Nat) (x3 : Int32) (x4 : Int32) (σ : XS) : Prop :=
  ∀ v1 : Int32, v1 = x4 + (1 : Int32) → K59 th x3 v1 σ
set_option maxHeartbeats 4000000 in
theorem BX0_tries_98 {l : Launch} {p : Program} {e : Env} {s : State} {m : MethodId} {args : Array Value} {below : List Frame} {meth : Method} {c : Code} {E : xx_E} {Q : Int32 → XS → Prop} {K59 : Nat → Int32 → Int32 → XS → Prop} (d : Nat) (cx : xx_X "StruckCounts" cX0_tries 5 (some .int) E p s m args meth c) (hK59 : ∀ (th : Nat) (x3 : Int32) (x4 : Int32) (σ : XS), K59 th x3 x4 σ → x_T p l e ({ frames := (6 + 2 * d), cells := 0, slots := 0, locals := 40 * (6 + 2 * d) } : Room) s m args below meth c E (va_Qi Q (fun σ' t => xW E σ' t) (xA E)) 0 0 5 59 0 0 σ [(0, xv E (some th)), (3, .int x3), (4, .int x4)] []) : ∀ (th : Nat) (x3 : Int32) (x4 : Int32) (σ : XS), wX0_tries_98 d Q K59 th x3 x4 σ → x_T p l e ({ frames := (6 + 2 * d), cells := 0, slots := 0, locals := 40 * (6 + 2 * d) } : Room) s m args below meth c E (va_Qi Q (fun σ' t => xW E σ' t) (xA E)) 0 0 5 98 0 0 σ [(0, xv E (some th)), (3, .int x3), (4, .int x4)] [] := by
  intro th x3 x4 σ hw H locs ls cells slots hR hS hl hcb hsb
  unfold wX0_tries_98 at hw
  obtain ⟨hx, hb, hml, hown, hts, hrt, hlk, hMK, hZ⟩ := id cx
  obtain ⟨v1, hv1⟩ : ∃ v : Int32, v = x4 + (1 : Int32) := ⟨_, rfl⟩
  have hw := hw v1 hv1
  refine lv_iinc (v := v1) (lv' := [(4, .int v1), (0, xv E (some th)), (3, .int x3)]) hx hb dX0_tries_98 hl (k := 2) rfl (by rw [hv1]; rfl) (by decide) rfl (fun ls hl => ?_)
  refine lv_goto (tgt := 59) hx hb dX0_tries_101 (by decide) ?_
  exact hK59 _ _ _ _ hw _ _ _ _ _ hR hS (lv_sub hl [1, 2, 0] rfl) hcb hsb
def wX0_tries_59 (d : Nat) (Q : Int32 → XS → Prop) (K59 : Nat → Int32 → Int32 → XS → Prop) (th : Nat) (x3 : Int32) (x4 : Int32) (σ : XS) : Prop :=
  kd σ th = 1 ∧ (oc σ (fr σ th 6) 3 (fun a3 => wX0_has (fi σ a3 7) x4 σ (fun r4 s4 => if r4 = 0 then (kd s4 th = 1 ∧ (oc s4 (fr s4 th 6) 3 (fun a6 => wX0_worst (wX0_fewest d) th (fi s4 a6 7) (fi s4 a6 8) x4 s4 (fun r7 s7 => if r7 = x3 then (Q x4 s7) else (wX0_tries_98 d Q K59 th x3 x4 s7))))) else (wX0_tries_98 d Q K59 th x3 x4 s4))))
set_option maxHeartbeats 4000000 in
theorem BX0_tries_59 {l : Launch} {p : Program} {e : Env} {s : State} {m : MethodId} {args : Array Value} {below : List Frame} {meth : Method} {c : Code} {E : xx_E} {Q : Int32 → XS → Prop} {K59 : Nat → Int32 → Int32 → XS → Prop} (d : Nat) (cx : xx_X "StruckCounts" cX0_tries 5 (some .int) E p s m args meth c) (hK59 : ∀ (th : Nat) (x3 : Int32) (x4 : Int32) (σ : XS), K59 th x3 x4 σ → x_T p l e ({ frames := (6 + 2 * d), cells := 0, slots := 0, locals := 40 * (6 + 2 * d) } : Room) s m args below meth c E (va_Qi Q (fun σ' t => xW E σ' t) (xA E)) 0 0 5 59 0 0 σ [(0, xv E (some th)), (3, .int x3), (4, .int x4)] []) : ∀ (th : Nat) (x3 : Int32) (x4 : Int32) (σ : XS), wX0_tries_59 d Q K59 th x3 x4 σ → x_T p l e ({ frames := (6 + 2 * d), cells := 0, slots := 0, locals := 40 * (6 + 2 * d) } : Room) s m args below meth c E (va_Qi Q (fun σ' t => xW E σ' t) (xA E)) 0 0 5 59 0 0 σ [(0, xv E (some th)), (3, .int x3), (4, .int x4)] [] := by
  intro th x3 x4 σ hw H locs ls cells slots hR hS hl hcb hsb
  unfold wX0_tries_59 at hw
  obtain ⟨hx, hb, hml, hown, hts, hrt, hlk, hMK, hZ⟩ := id cx
  refine x_aload_n cx dX0_tries_59 rfl (lv_at hl 0 rfl) ?_
  obtain ⟨hk2, hw⟩ := hw
  refine xg_X0_31_1 cx hR rfl hk2 dX0_tries_60 ?_
  obtain ⟨a3, hr3, hk3, hw⟩ := hw
  refine xg_X0_149_3 cx hR hr3 hk3 dX0_tries_63 ?_
  refine lv_iload hx hb dX0_tries_66 (lv_at hl 2 rfl) ?_
  refine CX0_has_X0_223 cx hR hS  hw (by constructor <;> dsimp only <;> omega) (Nat.le_of_ble_eq_true rfl) hl.1 ⟨by dsimp only; omega, by dsimp only; omega⟩ dX0_tries_68 (fun r4 s4 H locs hw hR hS => ?_)
  refine lv_if_ne (tgt := 98) hx hb dX0_tries_71 (by decide) (fun hc => ?_) (fun hc => ?_)
  · have hw := mm_in hc hw
    exact BX0_tries_98 d cx hK59 _ _ _ _ hw _ _ _ _ _ hR hS (lv_sub hl [0, 1, 2] rfl) hcb hsb
  · have hw := mm_ip hc hw
    refine x_aload_n cx dX0_tries_74 rfl (lv_at hl 0 rfl) ?_
    refine x_aload_n cx dX0_tries_75 rfl (lv_at hl 0 rfl) ?_
    obtain ⟨hk5, hw⟩ := hw
    refine xg_X0_31_1 cx hR rfl hk5 dX0_tries_76 ?_
    obtain ⟨a6, hr6, hk6, hw⟩ := hw
    refine xg_X0_149_3 cx hR hr6 hk6 dX0_tries_79 ?_
    refine x_aload_n cx dX0_tries_82 rfl (lv_at hl 0 rfl) ?_
    refine xg_X0_31_1 cx hR rfl hk5 dX0_tries_83 ?_
    refine xg_X0_152_3 cx hR hr6 hk6 dX0_tries_86 ?_
    refine lv_iload hx hb dX0_tries_89 (lv_at hl 2 rfl) ?_
    refine CX0_worst_X0_382 d (MX0_fewest l E d) cx hR hS rfl hk5 hw (by constructor <;> dsimp only <;> omega) (Nat.le_of_ble_eq_true rfl) hl.1 ⟨by dsimp only; omega, by dsimp only; omega⟩ dX0_tries_91 (fun r7 s7 H locs hw hR hS => ?_)
    refine lv_iload_n hx hb dX0_tries_94 rfl (lv_at hl 1 rfl) ?_
    refine lv_icmp_eq (tgt := 104) hx hb dX0_tries_95 (by decide) (fun hc => ?_) (fun hc => ?_)
    · have hw := mm_ip hc hw
      refine lv_iload hx hb dX0_tries_104 (lv_at hl 2 rfl) ?_
      exact x_iret cx hR hS (xle hcb) (xle hsb) hw dX0_tries_106
    · have hw := mm_in hc hw
      exact BX0_tries_98 d cx hK59 _ _ _ _ hw _ _ _ _ _ hR hS (lv_sub hl [0, 1, 2] rfl) hcb hsb
theorem LX0_tries_59 {l : Launch} {p : Program} {e : Env} {s : State} {m : MethodId} {args : Array Value} {below : List Frame} {meth : Method} {c : Code} {E : xx_E} {Q : Int32 → XS → Prop} (d : Nat) (cx : xx_X "StruckCounts" cX0_tries 5 (some .int) E p s m args meth c) : ∀ (th : Nat) (x3 : Int32) (x4 : Int32) (σ : XS), lp4F (wX0_tries_59 d Q) th x3 x4 σ → x_T p l e ({ frames := (6 + 2 * d), cells := 0, slots := 0, locals := 40 * (6 + 2 * d) } : Room) s m args below meth c E (va_Qi Q (fun σ' t => xW E σ' t) (xA E)) 0 0 5 59 0 0 σ [(0, xv E (some th)), (3, .int x3), (4, .int x4)] [] :=
  lp4F_of (fun K hK => BX0_tries_59 d cx hK)
def wX0_tries (d : Nat) (th : Nat) (x1 : Int32) (x2 : Int32) (σ : XS) (Q : Int32 → XS → Prop) : Prop :=
  kd σ th = 1 ∧ (wX0_isCount th x1 σ (fun r8 s8 => if r8 = 0 then (Q (-1 : Int32) s8) else (wX0_in x2 (0 : Int32) (1 : Int32) s8 (fun r10 s10 => if r10 = 0 then (Q (-1 : Int32) s10) else (kd s10 th = 1 ∧ (wX0_laysWon th x1 s10 (fun s11 => kd s11 th = 1 ∧ (oc s11 (fr s11 th 6) 3 (fun a14 => wX0_fewest d th (fi s11 a14 7) (fi s11 a14 8) s11 (fun r15 s15 => if x2 = 0 then (Q r15 s15) else (if r15 = 0 then (Q (-2 : Int32) s15) else (lp4F (wX0_tries_59 d Q) th r15 (0 : Int32) s15))))))))))))
set_option maxHeartbeats 4000000 in
theorem MX0_tries (l : Launch) (E : xx_E) (d : Nat) (th : Nat) (x1 : Int32) (x2 : Int32) (σ : XS) (Q : Int32 → XS → Prop) (hw : wX0_tries d th x1 x2 σ Q) : xx_Mi l yX0_tries (ws_ yX0_tries cX0_tries 5 (some .int)) ({ frames := (6 + 2 * d), cells := 0, slots := 0, locals := 40 * (6 + 2 * d) } : Room) E [xv E (some th), .int x1, .int x2] σ Q 0 0 := by
  refine x_of (own := "StruckCounts") (by decide +kernel) rfl ?_
  intro p e s m args below meth c cx hR ha hnm
  refine x_entry [xv E (some th), .int x1, .int x2] 5 [(0, xv E (some th)), (1, .int x1), (2, .int x2)] ha (by simp [lg_sl, xv_cat, vc_i, vc_j, vc_f]) (by simp [lv_args, xv_cat, vc_i, vc_j, vc_f]) (fun ls hl => ?_)
  have hS : va_S (xA E) s.heap s.heap [] := va_S.rf
  have hcb : 0 + 0 ≤ 0 := Nat.le_of_eq (Nat.zero_add _)
  have hsb : 0 + 0 ≤ 0 := Nat.le_of_eq (Nat.zero_add _)
  unfold wX0_tries at hw
  obtain ⟨hx, hb, hml, hown, hts, hrt, hlk, hMK, hZ⟩ := id cx
  refine x_aload_n cx dX0_tries_0 rfl (lv_at hl 0 rfl) ?_
  refine lv_iload_n hx hb dX0_tries_1 rfl (lv_at hl 1 rfl) ?_
  obtain ⟨hk9, hw⟩ := hw
  refine CX0_isCount_X0_290 cx hR hS rfl hk9 hw (by constructor <;> dsimp only <;> omega) (Nat.le_of_ble_eq_true rfl) hl.1 ⟨by dsimp only; omega, by dsimp only; omega⟩ dX0_tries_2 (fun r8 s8 H locs hw hR hS => ?_)
  refine lv_if_eq (tgt := 17) hx hb dX0_tries_5 (by decide) (fun hc => ?_) (fun hc => ?_)
  · have hw := mm_ip hc hw
    refine lv_iconst (v := (-1 : Int32)) hx hb dX0_tries_17 (by decide) ?_
    exact x_iret cx hR hS (xle hcb) (xle hsb) hw dX0_tries_18
  · have hw := mm_in hc hw
    refine lv_iload_n hx hb dX0_tries_8 rfl (lv_at hl 2 rfl) ?_
    refine lv_iconst (v := (0 : Int32)) hx hb dX0_tries_9 (by decide) ?_
    refine lv_iconst (v := (1 : Int32)) hx hb dX0_tries_10 (by decide) ?_
    refine CX0_in_X0_96 cx hR hS  hw (by constructor <;> dsimp only <;> omega) (Nat.le_of_ble_eq_true rfl) hl.1 ⟨by dsimp only; omega, by dsimp only; omega⟩ dX0_tries_11 (fun r10 s10 H locs hw hR hS => ?_)
    refine lv_if_ne (tgt := 19) hx hb dX0_tries_14 (by decide) (fun hc => ?_) (fun hc => ?_)
    · have hw := mm_in hc hw
      refine x_aload_n cx dX0_tries_19 rfl (lv_at hl 0 rfl) ?_
      refine lv_iload_n hx hb dX0_tries_20 rfl (lv_at hl 1 rfl) ?_
      obtain ⟨hk12, hw⟩ := hw
      refine CX0_laysWon_X0_373 cx hR hS rfl hk12 hw (by constructor <;> dsimp only <;> omega) (Nat.le_of_ble_eq_true rfl) hl.1 ⟨by dsimp only; omega, by dsimp only; omega⟩ dX0_tries_21 (fun s11 H locs hw hR hS => ?_)
      refine x_aload_n cx dX0_tries_24 rfl (lv_at hl 0 rfl) ?_
      refine x_aload_n cx dX0_tries_25 rfl (lv_at hl 0 rfl) ?_
      obtain ⟨hk13, hw⟩ := hw
      refine xg_X0_31_1 cx hR rfl hk13 dX0_tries_26 ?_
      obtain ⟨a14, hr14, hk14, hw⟩ := hw
      refine xg_X0_149_3 cx hR hr14 hk14 dX0_tries_29 ?_
      refine x_aload_n cx dX0_tries_32 rfl (lv_at hl 0 rfl) ?_
      refine xg_X0_31_1 cx hR rfl hk13 dX0_tries_33 ?_
      refine xg_X0_152_3 cx hR hr14 hk14 dX0_tries_36 ?_
      refine CX0_fewest_X0_379 d cx hR hS rfl hk13 hw (by constructor <;> dsimp only <;> omega) (Nat.le_of_ble_eq_true rfl) hl.1 ⟨by dsimp only; omega, by dsimp only; omega⟩ dX0_tries_39 (fun r15 s15 H locs hw hR hS => ?_)
      refine lv_istore_n (i := 3) (lv' := [(3, .int r15), (0, xv E (some th)), (1, .int x1), (2, .int x2)]) hx hb dX0_tries_42 rfl hl (by decide) rfl (fun ls hl => ?_)
      refine lv_iload_n hx hb dX0_tries_43 rfl (lv_at hl 3 rfl) ?_
      refine lv_if_ne (tgt := 49) hx hb dX0_tries_44 (by decide) (fun hc => ?_) (fun hc => ?_)
      · have hw := mm_in hc hw
        refine lv_iload_n hx hb dX0_tries_49 rfl (lv_at hl 0 rfl) ?_
        refine lv_if_ne (tgt := 56) hx hb dX0_tries_50 (by decide) (fun hc => ?_) (fun hc => ?_)
        · have hw := mm_in hc hw
          refine lv_iconst (v := (0 : Int32)) hx hb dX0_tries_56 (by decide) ?_
          refine lv_istore (i := 4) (lv' := [(4, .int (0 : Int32)), (3, .int r15), (0, xv E (some th)), (1, .int x1), (2, .int x2)]) hx hb dX0_tries_57 hl (by decide) rfl (fun ls hl => ?_)
          exact LX0_tries_59 d cx _ _ _ _ hw _ _ _ _ _ hR hS (lv_sub hl [2, 1, 0] rfl) hcb hsb
        · have hw := mm_ip hc hw
          refine lv_bipush (v := (-2 : Int32)) hx hb dX0_tries_53 (by decide) ?_
          exact x_iret cx hR hS (xle hcb) (xle hsb) hw dX0_tries_55
      · have hw := mm_ip hc hw
        refine lv_iload_n hx hb dX0_tries_47 rfl (lv_at hl 0 rfl) ?_
        exact x_iret cx hR hS (xle hcb) (xle hsb) hw dX0_tries_48
    · have hw := mm_ip hc hw
      refine lv_iconst (v := (-1 : Int32)) hx hb dX0_tries_17 (by decide) ?_
      exact x_iret cx hR hS (xle hcb) (xle hsb) hw dX0_tries_18
-- X0_weightOf
theorem xg_X0_389_2 {l : Launch} {p : Program} {e : Env} {R : Room} {s : State} {m : MethodId} {args : Array Value} {below : List Frame} {meth : Method} {c : Code} {H : Heap} {locs : List Loc} {cells slots : Nat} {Qz : State → Prop} {cc : ByteArray} {nL : Nat} {ret : Option FieldType} {E : xx_E} {σ : XS} {pc : Nat} {ls : Array Slot} {rest : List Value} (cx : xx_X "StruckCounts" cc nL ret E p s m args meth c) (hR : xR E σ H) {a : Nat} {r : Option Nat} (hr : r = some a) (hk : kd σ a = 2) (hdg : decode cc pc = .ok (.getfield 389, 3)) (kk : W p l e R s m args below meth c H locs cells slots Qz (F0 m (pc + 3) ls (xv E (fr σ a 11) :: rest))) : W p l e R s m args below meth c H locs cells slots Qz (F0 m pc ls (xv E r :: rest)) :=
  x_getN (ci := 1) cx hR hr hk (by decide) rfl in_X1 11 (by decide) (xx_nf_mem (i := 7) rfl) (fun _ h => h) (v := xv E (fr σ a 11)) rfl hdg kk
def wX0_weightOf_41 (Q : Int32 → XS → Prop) (K4 : Nat → Option Nat → Int32 → Int32 → XS → Prop) (th : Nat) (x1 : Option Nat) (x2 : Int32) (x3 : Int32) (σ : XS) : Prop :=
  ∀ v1 : Int32, v1 = x3 + (1 : Int32) → K4 th x1 x2 v1 σ
set_option maxHeartbeats 4000000 in
theorem BX0_weightOf_41 {l : Launch} {p : Program} {e : Env} {s : State} {m : MethodId} {args : Array Value} {below : List Frame} {meth : Method} {c : Code} {E : xx_E} {Q : Int32 → XS → Prop} {K4 : Nat → Option Nat → Int32 → Int32 → XS → Prop} (cx : xx_X "StruckCounts" cX0_weightOf 4 (some .int) E p s m args meth c) (hK4 : ∀ (th : Nat) (x1 : Option Nat) (x2 : Int32) (x3 : Int32) (σ : XS), K4 th x1 x2 x3 σ → x_T p l e ({ frames := 2, cells := 0, slots := 0, locals := 80 } : Room) s m args below meth c E (va_Qi Q (fun σ' t => xW E σ' t) (xA E)) 0 0 4 4 0 0 σ [(0, xv E (some th)), (1, xv E x1), (2, .int x2), (3, .int x3)] []) : ∀ (th : Nat) (x1 : Option Nat) (x2 : Int32) (x3 : Int32) (σ : XS), wX0_weightOf_41 Q K4 th x1 x2 x3 σ → x_T p l e ({ frames := 2, cells := 0, slots := 0, locals := 80 } : Room) s m args below meth c E (va_Qi Q (fun σ' t => xW E σ' t) (xA E)) 0 0 4 41 0 0 σ [(0, xv E (some th)), (1, xv E x1), (2, .int x2), (3, .int x3)] [] := by
  intro th x1 x2 x3 σ hw H locs ls cells slots hR hS hl hcb hsb
  unfold wX0_weightOf_41 at hw
  obtain ⟨hx, hb, hml, hown, hts, hrt, hlk, hMK, hZ⟩ := id cx
  obtain ⟨v1, hv1⟩ : ∃ v : Int32, v = x3 + (1 : Int32) := ⟨_, rfl⟩
  have hw := hw v1 hv1
  refine lv_iinc (v := v1) (lv' := [(3, .int v1), (0, xv E (some th)), (1, xv E x1), (2, .int x2)]) hx hb dX0_weightOf_41 hl (k := 3) rfl (by rw [hv1]; rfl) (by decide) rfl (fun ls hl => ?_)
  refine lv_goto (tgt := 4) hx hb dX0_weightOf_44 (by decide) ?_
  exact hK4 _ _ _ _ _ hw _ _ _ _ _ hR hS (lv_sub hl [1, 2, 3, 0] rfl) hcb hsb
def wX0_weightOf_4 (Q : Int32 → XS → Prop) (K4 : Nat → Option Nat → Int32 → Int32 → XS → Prop) (th : Nat) (x1 : Option Nat) (x2 : Int32) (x3 : Int32) (σ : XS) : Prop :=
  kd σ th = 1 ∧ (oc σ (fr σ th 5) 2 (fun a4 => wX1_sets a4 σ (fun r3 s3 => if r3 ≤ x3 then (Q x2 s3) else (kd s3 th = 1 ∧ (wX0_isNow th x3 s3 (fun r5 s5 => if r5 = 0 then (wX0_weightOf_41 Q K4 th x1 x2 x3 s5) else (oc s5 x1 101 (fun a7 => vp_in x3 (ln s5 a7) ∧ (if (ai s5 a7 x3.toNatClampNeg) = 0 then (wX0_weightOf_41 Q K4 th x1 x2 x3 s5) else (kd s5 th = 1 ∧ (oc s5 (fr s5 th 5) 2 (fun a9 => oc s5 (fr s5 a9 11) 100 (fun a10 => vp_in x3 (ln s5 a10) ∧ (∀ v11 : Int32, v11 = (x2 + (ai s5 a10 x3.toNatClampNeg)) → wX0_weightOf_41 Q K4 th x1 v11 x3 s5))))))))))))))
set_option maxHeartbeats 4000000 in
theorem BX0_weightOf_4 {l : Launch} {p : Program} {e : Env} {s : State} {m : MethodId} {args : Array Value} {below : List Frame} {meth : Method} {c : Code} {E : xx_E} {Q : Int32 → XS → Prop} {K4 : Nat → Option Nat → Int32 → Int32 → XS → Prop} (cx : xx_X "StruckCounts" cX0_weightOf 4 (some .int) E p s m args meth c) (hK4 : ∀ (th : Nat) (x1 : Option Nat) (x2 : Int32) (x3 : Int32) (σ : XS), K4 th x1 x2 x3 σ → x_T p l e ({ frames := 2, cells := 0, slots := 0, locals := 80 } : Room) s m args below meth c E (va_Qi Q (fun σ' t => xW E σ' t) (xA E)) 0 0 4 4 0 0 σ [(0, xv E (some th)), (1, xv E x1), (2, .int x2), (3, .int x3)] []) : ∀ (th : Nat) (x1 : Option Nat) (x2 : Int32) (x3 : Int32) (σ : XS), wX0_weightOf_4 Q K4 th x1 x2 x3 σ → x_T p l e ({ frames := 2, cells := 0, slots := 0, locals := 80 } : Room) s m args below meth c E (va_Qi Q (fun σ' t => xW E σ' t) (xA E)) 0 0 4 4 0 0 σ [(0, xv E (some th)), (1, xv E x1), (2, .int x2), (3, .int x3)] [] := by
  intro th x1 x2 x3 σ hw H locs ls cells slots hR hS hl hcb hsb
  unfold wX0_weightOf_4 at hw
  obtain ⟨hx, hb, hml, hown, hts, hrt, hlk, hMK, hZ⟩ := id cx
  refine lv_iload_n hx hb dX0_weightOf_4 rfl (lv_at hl 3 rfl) ?_
  refine x_aload_n cx dX0_weightOf_5 rfl (lv_at hl 0 rfl) ?_
  obtain ⟨hk2, hw⟩ := hw
  refine xg_X0_24_1 cx hR rfl hk2 dX0_weightOf_6 ?_
  obtain ⟨a4, hr4, hk4, hw⟩ := hw
  refine CX1_sets_X0_142 cx hR hS hr4 hk4 hw ⟨Nat.le_of_ble_eq_true rfl, Nat.le_of_ble_eq_true rfl⟩ (Nat.le_of_ble_eq_true rfl) hl.1 ⟨by dsimp only; omega, by dsimp only; omega⟩ dX0_weightOf_9 (fun r3 s3 H locs hw hR hS => ?_)
  refine lv_icmp_ge (tgt := 47) hx hb dX0_weightOf_12 (by decide) (fun hc => ?_) (fun hc => ?_)
  · have hw := mm_ip hc hw
    refine lv_iload_n hx hb dX0_weightOf_47 rfl (lv_at hl 2 rfl) ?_
    exact x_iret cx hR hS (xle hcb) (xle hsb) hw dX0_weightOf_48
  · have hw := mm_in hc hw
    refine x_aload_n cx dX0_weightOf_15 rfl (lv_at hl 0 rfl) ?_
    refine lv_iload_n hx hb dX0_weightOf_16 rfl (lv_at hl 3 rfl) ?_
    obtain ⟨hk6, hw⟩ := hw
    refine CX0_isNow_X0_347 cx hR hS rfl hk6 hw ⟨Nat.le_of_ble_eq_true rfl, Nat.le_of_ble_eq_true rfl⟩ (Nat.le_of_ble_eq_true rfl) hl.1 ⟨by dsimp only; omega, by dsimp only; omega⟩ dX0_weightOf_17 (fun r5 s5 H locs hw hR hS => ?_)
    refine lv_if_eq (tgt := 41) hx hb dX0_weightOf_20 (by decide) (fun hc => ?_) (fun hc => ?_)
    · have hw := mm_ip hc hw
      exact BX0_weightOf_41 cx hK4 _ _ _ _ _ hw _ _ _ _ _ hR hS (lv_sub hl [0, 1, 2, 3] rfl) hcb hsb
    · have hw := mm_in hc hw
      refine x_aload_n cx dX0_weightOf_23 rfl (lv_at hl 1 rfl) ?_
      refine lv_iload_n hx hb dX0_weightOf_24 rfl (lv_at hl 3 rfl) ?_
      obtain ⟨a7, hr7, hk7, hw⟩ := hw
      obtain ⟨hi, hw⟩ := hw
      refine x_zald cx hR hr7 hk7 (j := x3.toNatClampNeg) rfl hi dX0_weightOf_25 ?_
      refine lv_if_eq (tgt := 41) hx hb dX0_weightOf_26 (by decide) (fun hc => ?_) (fun hc => ?_)
      · have hw := mm_ip hc hw
        exact BX0_weightOf_41 cx hK4 _ _ _ _ _ hw _ _ _ _ _ hR hS (lv_sub hl [0, 1, 2, 3] rfl) hcb hsb
      · have hw := mm_in hc hw
        refine lv_iload_n hx hb dX0_weightOf_29 rfl (lv_at hl 2 rfl) ?_
        refine x_aload_n cx dX0_weightOf_30 rfl (lv_at hl 0 rfl) ?_
        obtain ⟨hk8, hw⟩ := hw
        refine xg_X0_24_1 cx hR rfl hk8 dX0_weightOf_31 ?_
        obtain ⟨a9, hr9, hk9, hw⟩ := hw
        refine xg_X0_389_2 cx hR hr9 hk9 dX0_weightOf_34 ?_
        refine lv_iload_n hx hb dX0_weightOf_37 rfl (lv_at hl 3 rfl) ?_
        obtain ⟨a10, hr10, hk10, hw⟩ := hw
        obtain ⟨hi, hw⟩ := hw
        refine x_iald cx hR hr10 hk10 (j := x3.toNatClampNeg) rfl hi dX0_weightOf_38 ?_
        refine lv_iadd hx hb dX0_weightOf_39 ?_
        refine lv_topi (fun v11 hv11 => ?_)
        have hw := hw v11 hv11
        refine lv_istore_n (i := 2) (lv' := [(2, .int v11), (0, xv E (some th)), (1, xv E x1), (3, .int x3)]) hx hb dX0_weightOf_40 rfl hl (by decide) (by simp [xv_cat]) (fun ls hl => ?_)
        exact BX0_weightOf_41 cx hK4 _ _ _ _ _ hw _ _ _ _ _ hR hS (lv_sub hl [1, 2, 0, 3] rfl) hcb hsb
theorem LX0_weightOf_4 {l : Launch} {p : Program} {e : Env} {s : State} {m : MethodId} {args : Array Value} {below : List Frame} {meth : Method} {c : Code} {E : xx_E} {Q : Int32 → XS → Prop} (cx : xx_X "StruckCounts" cX0_weightOf 4 (some .int) E p s m args meth c) : ∀ (th : Nat) (x1 : Option Nat) (x2 : Int32) (x3 : Int32) (σ : XS), lp5F (wX0_weightOf_4 Q) th x1 x2 x3 σ → x_T p l e ({ frames := 2, cells := 0, slots := 0, locals := 80 } : Room) s m args below meth c E (va_Qi Q (fun σ' t => xW E σ' t) (xA E)) 0 0 4 4 0 0 σ [(0, xv E (some th)), (1, xv E x1), (2, .int x2), (3, .int x3)] [] :=
  lp5F_of (fun K hK => BX0_weightOf_4 cx hK)
def wX0_weightOf (th : Nat) (x1 : Option Nat) (σ : XS) (Q : Int32 → XS → Prop) : Prop :=
  lp5F (wX0_weightOf_4 Q) th x1 (0 : Int32) (0 : Int32) σ
set_option maxHeartbeats 4000000 in
theorem MX0_weightOf (l : Launch) (E : xx_E) (th : Nat) (x1 : Option Nat) (σ : XS) (Q : Int32 → XS → Prop) (hw : wX0_weightOf th x1 σ Q) : xx_Mi l yX0_weightOf (ws_ yX0_weightOf cX0_weightOf 4 (some .int)) ({ frames := 2, cells := 0, slots := 0, locals := 80 } : Room) E [xv E (some th), xv E x1] σ Q 0 0 := by
  refine x_of (own := "StruckCounts") (by decide +kernel) rfl ?_
  intro p e s m args below meth c cx hR ha hnm
  refine x_entry [xv E (some th), xv E x1] 4 [(0, xv E (some th)), (1, xv E x1)] ha (by simp [lg_sl, xv_cat, vc_i, vc_j, vc_f]) (by simp [lv_args, xv_cat, vc_i, vc_j, vc_f]) (fun ls hl => ?_)
  have hS : va_S (xA E) s.heap s.heap [] := va_S.rf
  have hcb : 0 + 0 ≤ 0 := Nat.le_of_eq (Nat.zero_add _)
  have hsb : 0 + 0 ≤ 0 := Nat.le_of_eq (Nat.zero_add _)
  unfold wX0_weightOf at hw
  obtain ⟨hx, hb, hml, hown, hts, hrt, hlk, hMK, hZ⟩ := id cx
  refine lv_iconst (v := (0 : Int32)) hx hb dX0_weightOf_0 (by decide) ?_
  refine lv_istore_n (i := 2) (lv' := [(2, .int (0 : Int32)), (0, xv E (some th)), (1, xv E x1)]) hx hb dX0_weightOf_1 rfl hl (by decide) (by simp [xv_cat]) (fun ls hl => ?_)
  refine lv_iconst (v := (0 : Int32)) hx hb dX0_weightOf_2 (by decide) ?_
  refine lv_istore_n (i := 3) (lv' := [(3, .int (0 : Int32)), (2, .int (0 : Int32)), (0, xv E (some th)), (1, xv E x1)]) hx hb dX0_weightOf_3 rfl hl (by decide) rfl (fun ls hl => ?_)
  exact LX0_weightOf_4 cx _ _ _ _ _ hw _ _ _ _ _ hR hS (lv_sub hl [2, 3, 1, 0] rfl) hcb hsb
-- X0_weightOfAll
theorem CX0_weightOf_X0_392 {l : Launch} {p : Program} {e : Env} {R : Room} {s : State} {m : MethodId} {args : Array Value} {below : List Frame} {meth : Method} {c : Code} {H : Heap} {locs : List Loc} {cells slots : Nat} {Qz : State → Prop} {cc : ByteArray} {nL : Nat} {ret : Option FieldType} {E : xx_E} {σ : XS} {pc : Nat} {ls : Array Slot} {rest : List Value} {th : Nat} {x1 : Option Nat} (cx : xx_X "StruckCounts" cc nL ret E p s m args meth c) (hR0 : xR E σ H) (hS0 : va_S (xA E) s.heap H locs) {r0 : Option Nat} (hr : r0 = some th) (hk : kd σ th = 1) {Qf : Int32 → XS → Prop} (hw : wX0_weightOf th x1 σ Qf) (hR : (({ frames := 2, cells := 0, slots := 0, locals := 80 } : Room)).frames + 1 ≤ R.frames ∧ 8 + (4 + 11) + (({ frames := 2, cells := 0, slots := 0, locals := 80 } : Room)).locals ≤ R.locals) (hrest : rest.length ≤ 4) (hsize : ls.size = nL) (hf : cells + 0 ≤ R.cells ∧ slots + 0 ≤ R.slots) (hdg : decode cc pc = .ok (.invokevirtual 392, 3))
    (kk : ∀ (r : Int32) (σ1 : XS) (H1 : Heap) (locs1 : List Loc), Qf r σ1 → xR E σ1 H1 → va_S (xA E) s.heap H1 locs1 → W p l e R s m args below meth c H1 locs1 (cells + 0) (slots + 0) Qz (F0 m (pc + 3) ls (.int r :: rest))) : W p l e R s m args below meth c H locs cells slots Qz (F0 m pc ls (xv E x1 :: xv E r0 :: rest)) := by
  subst hr
  obtain ⟨hx, hb, hml, hown, hts, hrt, hlk, hK, hZ⟩ := id cx
  exact x_goi (va_runV (As := [xv E x1]) (rest := rest) (x_fix cx) (MX0_weightOf l E th x1 σ Qf hw) (cwV 1 hts (lw_V q2227 q2229 qs62 q156 q2230) rfl rfl rfl (by decide +kernel) hR) (x_preV cx hR0 hS0 hk (by decide) (q := (RX0, TX0, 24)) rfl rfl [xv E x1]) rfl rfl hsize rfl (lv_room (xroom hrest)) hdg hf) hS0 kk
def wX0_weightOfAll (th : Nat) (σ : XS) (Q : Int32 → XS → Prop) : Prop :=
  kd σ th = 1 ∧ (oc σ (fr σ th 5) 2 (fun a2 => wX0_weightOf th (fr σ a2 10) σ (fun r3 s3 => Q r3 s3)))
set_option maxHeartbeats 4000000 in
theorem MX0_weightOfAll (l : Launch) (E : xx_E) (th : Nat) (σ : XS) (Q : Int32 → XS → Prop) (hw : wX0_weightOfAll th σ Q) : xx_Mi l yX0_weightOfAll (ws_ yX0_weightOfAll cX0_weightOfAll 1 (some .int)) ({ frames := 3, cells := 0, slots := 0, locals := 120 } : Room) E [xv E (some th)] σ Q 0 0 := by
  refine x_of (own := "StruckCounts") (by decide +kernel) rfl ?_
  intro p e s m args below meth c cx hR ha hnm
  refine x_entry [xv E (some th)] 1 [(0, xv E (some th))] ha (by simp [lg_sl, xv_cat, vc_i, vc_j, vc_f]) (by simp [lv_args, xv_cat, vc_i, vc_j, vc_f]) (fun ls hl => ?_)
  have hS : va_S (xA E) s.heap s.heap [] := va_S.rf
  have hcb : 0 + 0 ≤ 0 := Nat.le_of_eq (Nat.zero_add _)
  have hsb : 0 + 0 ≤ 0 := Nat.le_of_eq (Nat.zero_add _)
  unfold wX0_weightOfAll at hw
  obtain ⟨hx, hb, hml, hown, hts, hrt, hlk, hMK, hZ⟩ := id cx
  refine x_aload_n cx dX0_weightOfAll_0 rfl (lv_at hl 0 rfl) ?_
  refine x_aload_n cx dX0_weightOfAll_1 rfl (lv_at hl 0 rfl) ?_
  obtain ⟨hk1, hw⟩ := hw
  refine xg_X0_24_1 cx hR rfl hk1 dX0_weightOfAll_2 ?_
  obtain ⟨a2, hr2, hk2, hw⟩ := hw
  refine xg_X0_139_2 cx hR hr2 hk2 dX0_weightOfAll_5 ?_
  refine CX0_weightOf_X0_392 cx hR hS rfl hk1 hw ⟨Nat.le_of_ble_eq_true rfl, Nat.le_of_ble_eq_true rfl⟩ (Nat.le_of_ble_eq_true rfl) hl.1 ⟨by dsimp only; omega, by dsimp only; omega⟩ dX0_weightOfAll_8 (fun r3 s3 H locs hw hR hS => ?_)
  exact x_iret cx hR hS (xle hcb) (xle hsb) hw dX0_weightOfAll_11
-- X0_common
theorem CX0_common_X0_385F {l : Launch} {p : Program} {e : Env} {R : Room} {s : State} {m : MethodId} {args : Array Value} {below : List Frame} {meth : Method} {c : Code} {H : Heap} {locs : List Loc} {cells slots : Nat} {Qz : State → Prop} {cc : ByteArray} {nL : Nat} {ret : Option FieldType} {E : xx_E} {σ : XS} {pc : Nat} {ls : Array Slot} {rest : List Value} {F : Int64 → Int64 → XS → (Int64 → XS → Prop) → Prop} (d : Nat) (hF : ∀ (x0 : Int64) (x2 : Int64) (σ : XS) (Q : Int64 → XS → Prop), F x0 x2 σ Q → xx_Ml l yX0_common (ws_ yX0_common cX0_common 4 (some .long)) ({ frames := (0 + 1 * d), cells := 0, slots := 0, locals := 40 * (0 + 1 * d) } : Room) E [.long x0, .long x2] σ Q 0 0) {x0 : Int64} {x2 : Int64} (cx : xx_X "StruckCounts" cc nL ret E p s m args meth c) (hR0 : xR E σ H) (hS0 : va_S (xA E) s.heap H locs) {Qf : Int64 → XS → Prop} (hw : F x0 x2 σ Qf) (hR : (({ frames := (0 + 1 * d), cells := 0, slots := 0, locals := 40 * (0 + 1 * d) } : Room)).frames + 1 ≤ R.frames ∧ 8 + (4 + 11) + (({ frames := (0 + 1 * d), cells := 0, slots := 0, locals := 40 * (0 + 1 * d) } : Room)).locals ≤ R.locals) (hrest : rest.length ≤ 4) (hsize : ls.size = nL) (hf : cells + 0 ≤ R.cells ∧ slots + 0 ≤ R.slots) (hdg : decode cc pc = .ok (.invokestatic 385, 3))
    (kk : ∀ (r : Int64) (σ1 : XS) (H1 : Heap) (locs1 : List Loc), Qf r σ1 → xR E σ1 H1 → va_S (xA E) s.heap H1 locs1 → W p l e R s m args below meth c H1 locs1 (cells + 0) (slots + 0) Qz (F0 m (pc + 3) ls (.long r :: rest))) : W p l e R s m args below meth c H locs cells slots Qz (F0 m pc ls (.long x2 :: .long x0 :: rest)) := by
  obtain ⟨hx, hb, hml, hown, hts, hrt, hlk, hK, hZ⟩ := id cx
  exact x_gol (va_runS (As := [.long x0, .long x2]) (rest := rest) (x_fix cx) (hF x0 x2 σ Qf hw) (va_cwS 2 hts (lw_S q2238 q2239 q156 q2240) rfl rfl rfl (by decide +kernel) hR) ⟨xblind, x_pre cx hR0 hS0 [.long x0, .long x2]⟩ rfl rfl hsize rfl (lv_room (xroom hrest)) hdg hf) hS0 kk
def wX0_common_body (F : Int64 → Int64 → XS → (Int64 → XS → Prop) → Prop) (x0 : Int64) (x2 : Int64) (σ : XS) (Q : Int64 → XS → Prop) : Prop :=
  if (lg_cmp x2 (0 : Int64)) = 0 then (Q x0 σ) else (¬ x2 = 0 ∧ (F x2 (x0 - x0 / x2 * x2) σ (fun r1 s1 => Q r1 s1)))
set_option maxHeartbeats 4000000 in
theorem MX0_common_body (l : Launch) (E : xx_E) {F : Int64 → Int64 → XS → (Int64 → XS → Prop) → Prop} (d : Nat) (hF : ∀ (x0 : Int64) (x2 : Int64) (σ : XS) (Q : Int64 → XS → Prop), F x0 x2 σ Q → xx_Ml l yX0_common (ws_ yX0_common cX0_common 4 (some .long)) ({ frames := (0 + 1 * d), cells := 0, slots := 0, locals := 40 * (0 + 1 * d) } : Room) E [.long x0, .long x2] σ Q 0 0) (x0 : Int64) (x2 : Int64) (σ : XS) (Q : Int64 → XS → Prop) (hw : wX0_common_body F x0 x2 σ Q) : xx_Ml l yX0_common (ws_ yX0_common cX0_common 4 (some .long)) ({ frames := (0 + 1 * (d + 1)), cells := 0, slots := 0, locals := 40 * (0 + 1 * (d + 1)) } : Room) E [.long x0, .long x2] σ Q 0 0 := by
  refine x_of (own := "StruckCounts") (by decide +kernel) rfl ?_
  intro p e s m args below meth c cx hR ha hnm
  refine x_entry [.long x0, .long x2] 4 [(0, .long x0), (2, .long x2)] ha (Nat.le_of_ble_eq_true rfl) rfl (fun ls hl => ?_)
  have hS : va_S (xA E) s.heap s.heap [] := va_S.rf
  have hcb : 0 + 0 ≤ 0 := Nat.le_of_eq (Nat.zero_add _)
  have hsb : 0 + 0 ≤ 0 := Nat.le_of_eq (Nat.zero_add _)
  unfold wX0_common_body at hw
  obtain ⟨hx, hb, hml, hown, hts, hrt, hlk, hMK, hZ⟩ := id cx
  refine lv_lload_n hx hb dX0_common_0 rfl (lv_at hl 1 rfl) ?_
  refine lv_lconst (v := (0 : Int64)) hx hb dX0_common_1 rfl ?_
  refine W.lcmp hx hb dX0_common_2 ?_
  refine lv_if_ne (tgt := 10) hx hb dX0_common_3 (by decide) (fun hc => ?_) (fun hc => ?_)
  · have hw := mm_in hc hw
    refine lv_lload_n hx hb dX0_common_10 rfl (lv_at hl 1 rfl) ?_
    refine lv_lload_n hx hb dX0_common_11 rfl (lv_at hl 0 rfl) ?_
    refine lv_lload_n hx hb dX0_common_12 rfl (lv_at hl 1 rfl) ?_
    obtain ⟨hz, hw⟩ := hw
    refine lv_lrem hx hb dX0_common_13 hz ?_
    refine CX0_common_X0_385F d hF cx hR hS  hw (by constructor <;> dsimp only <;> omega) (Nat.le_of_ble_eq_true rfl) hl.1 ⟨by dsimp only; omega, by dsimp only; omega⟩ dX0_common_14 (fun r1 s1 H locs hw hR hS => ?_)
    exact x_lret cx hR hS (xle hcb) (xle hsb) hw dX0_common_17
  · have hw := mm_ip hc hw
    refine lv_lload_n hx hb dX0_common_6 rfl (lv_at hl 0 rfl) ?_
    refine lv_goto (tgt := 17) hx hb dX0_common_7 (by decide) ?_
    exact x_lret cx hR hS (xle hcb) (xle hsb) hw dX0_common_17
def wX0_common (d : Nat) : Int64 → Int64 → XS → (Int64 → XS → Prop) → Prop := Nat.rec (motive := fun _ => Int64 → Int64 → XS → (Int64 → XS → Prop) → Prop) (fun _ _ _ _ => False) (fun _ ih => wX0_common_body ih) d
theorem MX0_common (l : Launch) (E : xx_E) : ∀ (d : Nat), ∀ (x0 : Int64) (x2 : Int64) (σ : XS) (Q : Int64 → XS → Prop), wX0_common d x0 x2 σ Q → xx_Ml l yX0_common (ws_ yX0_common cX0_common 4 (some .long)) ({ frames := (0 + 1 * d), cells := 0, slots := 0, locals := 40 * (0 + 1 * d) } : Room) E [.long x0, .long x2] σ Q 0 0 := by
  intro d
  induction d with
  | zero => exact fun x0 x2 σ Q h => h.elim
  | succ d ih => exact fun x0 x2 σ Q h => MX0_common_body l E d ih x0 x2 σ Q h
-- X0_lowest
theorem CX0_common_X0_385 {l : Launch} {p : Program} {e : Env} {R : Room} {s : State} {m : MethodId} {args : Array Value} {below : List Frame} {meth : Method} {c : Code} {H : Heap} {locs : List Loc} {cells slots : Nat} {Qz : State → Prop} {cc : ByteArray} {nL : Nat} {ret : Option FieldType} {E : xx_E} {σ : XS} {pc : Nat} {ls : Array Slot} {rest : List Value} (d : Nat) {x0 : Int64} {x2 : Int64} (cx : xx_X "StruckCounts" cc nL ret E p s m args meth c) (hR0 : xR E σ H) (hS0 : va_S (xA E) s.heap H locs) {Qf : Int64 → XS → Prop} (hw : wX0_common d x0 x2 σ Qf) (hR : (({ frames := (0 + 1 * d), cells := 0, slots := 0, locals := 40 * (0 + 1 * d) } : Room)).frames + 1 ≤ R.frames ∧ 8 + (4 + 11) + (({ frames := (0 + 1 * d), cells := 0, slots := 0, locals := 40 * (0 + 1 * d) } : Room)).locals ≤ R.locals) (hrest : rest.length ≤ 4) (hsize : ls.size = nL) (hf : cells + 0 ≤ R.cells ∧ slots + 0 ≤ R.slots) (hdg : decode cc pc = .ok (.invokestatic 385, 3))
    (kk : ∀ (r : Int64) (σ1 : XS) (H1 : Heap) (locs1 : List Loc), Qf r σ1 → xR E σ1 H1 → va_S (xA E) s.heap H1 locs1 → W p l e R s m args below meth c H1 locs1 (cells + 0) (slots + 0) Qz (F0 m (pc + 3) ls (.long r :: rest))) : W p l e R s m args below meth c H locs cells slots Qz (F0 m pc ls (.long x2 :: .long x0 :: rest)) := by
  obtain ⟨hx, hb, hml, hown, hts, hrt, hlk, hK, hZ⟩ := id cx
  exact x_gol (va_runS (As := [.long x0, .long x2]) (rest := rest) (x_fix cx) (MX0_common l E d x0 x2 σ Qf hw) (va_cwS 2 hts (lw_S q2238 q2239 q156 q2240) rfl rfl rfl (by decide +kernel) hR) ⟨xblind, x_pre cx hR0 hS0 [.long x0, .long x2]⟩ rfl rfl hsize rfl (lv_room (xroom hrest)) hdg hf) hS0 kk
def wX0_lowest (d : Nat) (x0 : Int64) (x2 : Int64) (x4 : Int32) (σ : XS) (Q : Int64 → XS → Prop) : Prop :=
  wX0_common d x0 x2 σ (fun r1 s1 => if x4 = 0 then (¬ r1 = 0 ∧ (Q (x0 / r1) s1)) else (¬ r1 = 0 ∧ (Q (x2 / r1) s1)))
set_option maxHeartbeats 4000000 in
theorem MX0_lowest (l : Launch) (E : xx_E) (d : Nat) (x0 : Int64) (x2 : Int64) (x4 : Int32) (σ : XS) (Q : Int64 → XS → Prop) (hw : wX0_lowest d x0 x2 x4 σ Q) : xx_Ml l yX0_lowest (ws_ yX0_lowest cX0_lowest 7 (some .long)) ({ frames := (1 + 1 * d), cells := 0, slots := 0, locals := 40 * (1 + 1 * d) } : Room) E [.long x0, .long x2, .int x4] σ Q 0 0 := by
  refine x_of (own := "StruckCounts") (by decide +kernel) rfl ?_
  intro p e s m args below meth c cx hR ha hnm
  refine x_entry [.long x0, .long x2, .int x4] 7 [(0, .long x0), (2, .long x2), (4, .int x4)] ha (Nat.le_of_ble_eq_true rfl) rfl (fun ls hl => ?_)
  have hS : va_S (xA E) s.heap s.heap [] := va_S.rf
  have hcb : 0 + 0 ≤ 0 := Nat.le_of_eq (Nat.zero_add _)
  have hsb : 0 + 0 ≤ 0 := Nat.le_of_eq (Nat.zero_add _)
  unfold wX0_lowest at hw
  obtain ⟨hx, hb, hml, hown, hts, hrt, hlk, hMK, hZ⟩ := id cx
  refine lv_lload_n hx hb dX0_lowest_0 rfl (lv_at hl 0 rfl) ?_
  refine lv_lload_n hx hb dX0_lowest_1 rfl (lv_at hl 1 rfl) ?_
  refine CX0_common_X0_385 d cx hR hS  hw (by constructor <;> dsimp only <;> omega) (Nat.le_of_ble_eq_true rfl) hl.1 ⟨by dsimp only; omega, by dsimp only; omega⟩ dX0_lowest_2 (fun r1 s1 H locs hw hR hS => ?_)
  refine lv_lstore (i := 5) (lv' := [(5, .long r1), (0, .long x0), (2, .long x2), (4, .int x4)]) hx hb dX0_lowest_5 hl (by decide) rfl (fun ls hl => ?_)
  refine lv_iload hx hb dX0_lowest_7 (lv_at hl 3 rfl) ?_
  refine lv_if_ne (tgt := 19) hx hb dX0_lowest_9 (by decide) (fun hc => ?_) (fun hc => ?_)
  · have hw := mm_in hc hw
    refine lv_lload_n hx hb dX0_lowest_19 rfl (lv_at hl 2 rfl) ?_
    refine lv_lload hx hb dX0_lowest_20 (lv_at hl 0 rfl) ?_
    obtain ⟨hz, hw⟩ := hw
    refine lv_ldiv hx hb dX0_lowest_22 hz ?_
    exact x_lret cx hR hS (xle hcb) (xle hsb) hw dX0_lowest_23
  · have hw := mm_ip hc hw
    refine lv_lload_n hx hb dX0_lowest_12 rfl (lv_at hl 1 rfl) ?_
    refine lv_lload hx hb dX0_lowest_13 (lv_at hl 0 rfl) ?_
    obtain ⟨hz, hw⟩ := hw
    refine lv_ldiv hx hb dX0_lowest_15 hz ?_
    refine lv_goto (tgt := 23) hx hb dX0_lowest_16 (by decide) ?_
    exact x_lret cx hR hS (xle hcb) (xle hsb) hw dX0_lowest_23
-- X0_chance
theorem CX0_weightOfAll_X0_396 {l : Launch} {p : Program} {e : Env} {R : Room} {s : State} {m : MethodId} {args : Array Value} {below : List Frame} {meth : Method} {c : Code} {H : Heap} {locs : List Loc} {cells slots : Nat} {Qz : State → Prop} {cc : ByteArray} {nL : Nat} {ret : Option FieldType} {E : xx_E} {σ : XS} {pc : Nat} {ls : Array Slot} {rest : List Value} {th : Nat} (cx : xx_X "StruckCounts" cc nL ret E p s m args meth c) (hR0 : xR E σ H) (hS0 : va_S (xA E) s.heap H locs) {r0 : Option Nat} (hr : r0 = some th) (hk : kd σ th = 1) {Qf : Int32 → XS → Prop} (hw : wX0_weightOfAll th σ Qf) (hR : (({ frames := 3, cells := 0, slots := 0, locals := 120 } : Room)).frames + 1 ≤ R.frames ∧ 8 + (1 + 11) + (({ frames := 3, cells := 0, slots := 0, locals := 120 } : Room)).locals ≤ R.locals) (hrest : rest.length ≤ 4) (hsize : ls.size = nL) (hf : cells + 0 ≤ R.cells ∧ slots + 0 ≤ R.slots) (hdg : decode cc pc = .ok (.invokevirtual 396, 3))
    (kk : ∀ (r : Int32) (σ1 : XS) (H1 : Heap) (locs1 : List Loc), Qf r σ1 → xR E σ1 H1 → va_S (xA E) s.heap H1 locs1 → W p l e R s m args below meth c H1 locs1 (cells + 0) (slots + 0) Qz (F0 m (pc + 3) ls (.int r :: rest))) : W p l e R s m args below meth c H locs cells slots Qz (F0 m pc ls (xv E r0 :: rest)) := by
  subst hr
  obtain ⟨hx, hb, hml, hown, hts, hrt, hlk, hK, hZ⟩ := id cx
  exact x_goi (va_runV (As := []) (rest := rest) (x_fix cx) (MX0_weightOfAll l E th σ Qf hw) (cwV 0 hts (lw_V q2231 q2233 qs63 q156 q2234) rfl rfl rfl (by decide +kernel) hR) (x_preV cx hR0 hS0 hk (by decide) (q := (RX0, TX0, 24)) rfl rfl []) rfl rfl hsize rfl (lv_room (xroom hrest)) hdg hf) hS0 kk
theorem CX0_lowest_X0_399 {l : Launch} {p : Program} {e : Env} {R : Room} {s : State} {m : MethodId} {args : Array Value} {below : List Frame} {meth : Method} {c : Code} {H : Heap} {locs : List Loc} {cells slots : Nat} {Qz : State → Prop} {cc : ByteArray} {nL : Nat} {ret : Option FieldType} {E : xx_E} {σ : XS} {pc : Nat} {ls : Array Slot} {rest : List Value} (d : Nat) {x0 : Int64} {x2 : Int64} {x4 : Int32} (cx : xx_X "StruckCounts" cc nL ret E p s m args meth c) (hR0 : xR E σ H) (hS0 : va_S (xA E) s.heap H locs) {Qf : Int64 → XS → Prop} (hw : wX0_lowest d x0 x2 x4 σ Qf) (hR : (({ frames := (1 + 1 * d), cells := 0, slots := 0, locals := 40 * (1 + 1 * d) } : Room)).frames + 1 ≤ R.frames ∧ 8 + (7 + 11) + (({ frames := (1 + 1 * d), cells := 0, slots := 0, locals := 40 * (1 + 1 * d) } : Room)).locals ≤ R.locals) (hrest : rest.length ≤ 4) (hsize : ls.size = nL) (hf : cells + 0 ≤ R.cells ∧ slots + 0 ≤ R.slots) (hdg : decode cc pc = .ok (.invokestatic 399, 3))
    (kk : ∀ (r : Int64) (σ1 : XS) (H1 : Heap) (locs1 : List Loc), Qf r σ1 → xR E σ1 H1 → va_S (xA E) s.heap H1 locs1 → W p l e R s m args below meth c H1 locs1 (cells + 0) (slots + 0) Qz (F0 m (pc + 3) ls (.long r :: rest))) : W p l e R s m args below meth c H locs cells slots Qz (F0 m pc ls (.int x4 :: .long x2 :: .long x0 :: rest)) := by
  obtain ⟨hx, hb, hml, hown, hts, hrt, hlk, hK, hZ⟩ := id cx
  exact x_gol (va_runS (As := [.long x0, .long x2, .int x4]) (rest := rest) (x_fix cx) (MX0_lowest l E d x0 x2 x4 σ Qf hw) (va_cwS 3 hts (lw_S q2235 q2236 q156 q2237) rfl rfl rfl (by decide +kernel) hR) ⟨xblind, x_pre cx hR0 hS0 [.long x0, .long x2, .int x4]⟩ rfl rfl hsize rfl (lv_room (xroom hrest)) hdg hf) hS0 kk
def wX0_chance (d : Nat) (th : Nat) (x1 : Int32) (x2 : Int32) (σ : XS) (Q : Int32 → XS → Prop) : Prop :=
  kd σ th = 1 ∧ (wX0_isCount th x1 σ (fun r1 s1 => if r1 = 0 then (Q (-1 : Int32) s1) else (wX0_in x2 (0 : Int32) (1 : Int32) s1 (fun r3 s3 => if r3 = 0 then (Q (-1 : Int32) s3) else (kd s3 th = 1 ∧ (wX0_laysWon th x1 s3 (fun s4 => kd s4 th = 1 ∧ (wX0_weightOf th (fr s4 th 15) s4 (fun r7 s7 => kd s7 th = 1 ∧ (wX0_weightOfAll th s7 (fun r8 s8 => wX0_lowest d ((r7).toInt64) ((r8).toInt64) x2 s8 (fun r10 s10 => Q ((r10).toInt32) s10))))))))))))
set_option maxHeartbeats 4000000 in
theorem MX0_chance (l : Launch) (E : xx_E) (d : Nat) (th : Nat) (x1 : Int32) (x2 : Int32) (σ : XS) (Q : Int32 → XS → Prop) (hw : wX0_chance d th x1 x2 σ Q) : xx_Mi l yX0_chance (ws_ yX0_chance cX0_chance 3 (some .int)) ({ frames := (6 + 1 * d), cells := 0, slots := 0, locals := 40 * (6 + 1 * d) } : Room) E [xv E (some th), .int x1, .int x2] σ Q 0 0 := by
  refine x_of (own := "StruckCounts") (by decide +kernel) rfl ?_
  intro p e s m args below meth c cx hR ha hnm
  refine x_entry [xv E (some th), .int x1, .int x2] 3 [(0, xv E (some th)), (1, .int x1), (2, .int x2)] ha (by simp [lg_sl, xv_cat, vc_i, vc_j, vc_f]) (by simp [lv_args, xv_cat, vc_i, vc_j, vc_f]) (fun ls hl => ?_)
  have hS : va_S (xA E) s.heap s.heap [] := va_S.rf
  have hcb : 0 + 0 ≤ 0 := Nat.le_of_eq (Nat.zero_add _)
  have hsb : 0 + 0 ≤ 0 := Nat.le_of_eq (Nat.zero_add _)
  unfold wX0_chance at hw
  obtain ⟨hx, hb, hml, hown, hts, hrt, hlk, hMK, hZ⟩ := id cx
  refine x_aload_n cx dX0_chance_0 rfl (lv_at hl 0 rfl) ?_
  refine lv_iload_n hx hb dX0_chance_1 rfl (lv_at hl 1 rfl) ?_
  obtain ⟨hk2, hw⟩ := hw
  refine CX0_isCount_X0_290 cx hR hS rfl hk2 hw (by constructor <;> dsimp only <;> omega) (Nat.le_of_ble_eq_true rfl) hl.1 ⟨by dsimp only; omega, by dsimp only; omega⟩ dX0_chance_2 (fun r1 s1 H locs hw hR hS => ?_)
  refine lv_if_eq (tgt := 17) hx hb dX0_chance_5 (by decide) (fun hc => ?_) (fun hc => ?_)
  · have hw := mm_ip hc hw
    refine lv_iconst (v := (-1 : Int32)) hx hb dX0_chance_17 (by decide) ?_
    exact x_iret cx hR hS (xle hcb) (xle hsb) hw dX0_chance_18
  · have hw := mm_in hc hw
    refine lv_iload_n hx hb dX0_chance_8 rfl (lv_at hl 2 rfl) ?_
    refine lv_iconst (v := (0 : Int32)) hx hb dX0_chance_9 (by decide) ?_
    refine lv_iconst (v := (1 : Int32)) hx hb dX0_chance_10 (by decide) ?_
    refine CX0_in_X0_96 cx hR hS  hw (by constructor <;> dsimp only <;> omega) (Nat.le_of_ble_eq_true rfl) hl.1 ⟨by dsimp only; omega, by dsimp only; omega⟩ dX0_chance_11 (fun r3 s3 H locs hw hR hS => ?_)
    refine lv_if_ne (tgt := 19) hx hb dX0_chance_14 (by decide) (fun hc => ?_) (fun hc => ?_)
    · have hw := mm_in hc hw
      refine x_aload_n cx dX0_chance_19 rfl (lv_at hl 0 rfl) ?_
      refine lv_iload_n hx hb dX0_chance_20 rfl (lv_at hl 1 rfl) ?_
      obtain ⟨hk5, hw⟩ := hw
      refine CX0_laysWon_X0_373 cx hR hS rfl hk5 hw (by constructor <;> dsimp only <;> omega) (Nat.le_of_ble_eq_true rfl) hl.1 ⟨by dsimp only; omega, by dsimp only; omega⟩ dX0_chance_21 (fun s4 H locs hw hR hS => ?_)
      refine x_aload_n cx dX0_chance_24 rfl (lv_at hl 0 rfl) ?_
      refine x_aload_n cx dX0_chance_25 rfl (lv_at hl 0 rfl) ?_
      obtain ⟨hk6, hw⟩ := hw
      refine xg_X0_60_1 cx hR rfl hk6 dX0_chance_26 ?_
      refine CX0_weightOf_X0_392 cx hR hS rfl hk6 hw (by constructor <;> dsimp only <;> omega) (Nat.le_of_ble_eq_true rfl) hl.1 ⟨by dsimp only; omega, by dsimp only; omega⟩ dX0_chance_29 (fun r7 s7 H locs hw hR hS => ?_)
      refine lv_i2l hx hb dX0_chance_32 rfl ?_
      refine x_aload_n cx dX0_chance_33 rfl (lv_at hl 0 rfl) ?_
      obtain ⟨hk9, hw⟩ := hw
      refine CX0_weightOfAll_X0_396 cx hR hS rfl hk9 hw (by constructor <;> dsimp only <;> omega) (Nat.le_of_ble_eq_true rfl) hl.1 ⟨by dsimp only; omega, by dsimp only; omega⟩ dX0_chance_34 (fun r8 s8 H locs hw hR hS => ?_)
      refine lv_i2l hx hb dX0_chance_37 rfl ?_
      refine lv_iload_n hx hb dX0_chance_38 rfl (lv_at hl 2 rfl) ?_
      refine CX0_lowest_X0_399 d cx hR hS  hw (by constructor <;> dsimp only <;> omega) (Nat.le_of_ble_eq_true rfl) hl.1 ⟨by dsimp only; omega, by dsimp only; omega⟩ dX0_chance_39 (fun r10 s10 H locs hw hR hS => ?_)
      refine lv_l2i hx hb dX0_chance_42 rfl ?_
      exact x_iret cx hR hS (xle hcb) (xle hsb) hw dX0_chance_43
    · have hw := mm_ip hc hw
      refine lv_iconst (v := (-1 : Int32)) hx hb dX0_chance_17 (by decide) ?_
      exact x_iret cx hR hS (xle hcb) (xle hsb) hw dX0_chance_18
-- X0_standing
def wX0_standing_31 (d : Nat) (Q : Int32 → XS → Prop) (K4 : Nat → Int32 → Int32 → XS → Prop) (th : Nat) (x2 : Int32) (t0 : Int32) (t1 : Int32) (σ : XS) : Prop :=
  ∀ v1 : Int32, v1 = (t0 ||| t1) → ∀ v2 : Int32, v2 = x2 + (1 : Int32) → K4 th v1 v2 σ
set_option maxHeartbeats 4000000 in
theorem BX0_standing_31 {l : Launch} {p : Program} {e : Env} {s : State} {m : MethodId} {args : Array Value} {below : List Frame} {meth : Method} {c : Code} {E : xx_E} {Q : Int32 → XS → Prop} {K4 : Nat → Int32 → Int32 → XS → Prop} (d : Nat) (cx : xx_X "StruckCounts" cX0_standing 3 (some .int) E p s m args meth c) (hK4 : ∀ (th : Nat) (x1 : Int32) (x2 : Int32) (σ : XS), K4 th x1 x2 σ → x_T p l e ({ frames := (6 + 1 * d), cells := 0, slots := 0, locals := 40 * (6 + 1 * d) } : Room) s m args below meth c E (va_Qi Q (fun σ' t => xW E σ' t) (xA E)) 0 0 3 4 0 0 σ [(0, xv E (some th)), (1, .int x1), (2, .int x2)] []) : ∀ (th : Nat) (x2 : Int32) (t0 : Int32) (t1 : Int32) (σ : XS), wX0_standing_31 d Q K4 th x2 t0 t1 σ → x_T p l e ({ frames := (6 + 1 * d), cells := 0, slots := 0, locals := 40 * (6 + 1 * d) } : Room) s m args below meth c E (va_Qi Q (fun σ' t => xW E σ' t) (xA E)) 0 0 3 31 0 0 σ [(0, xv E (some th)), (2, .int x2)] [.int t1, .int t0] := by
  intro th x2 t0 t1 σ hw H locs ls cells slots hR hS hl hcb hsb
  unfold wX0_standing_31 at hw
  obtain ⟨hx, hb, hml, hown, hts, hrt, hlk, hMK, hZ⟩ := id cx
  refine lv_ior hx hb dX0_standing_31 ?_
  refine lv_topi (fun v1 hv1 => ?_)
  have hw := hw v1 hv1
  refine lv_istore_n (i := 1) (lv' := [(1, .int v1), (0, xv E (some th)), (2, .int x2)]) hx hb dX0_standing_32 rfl hl (by decide) (by simp [xv_cat]) (fun ls hl => ?_)
  obtain ⟨v2, hv2⟩ : ∃ v : Int32, v = x2 + (1 : Int32) := ⟨_, rfl⟩
  have hw := hw v2 hv2
  refine lv_iinc (v := v2) (lv' := [(2, .int v2), (1, .int v1), (0, xv E (some th))]) hx hb dX0_standing_33 hl (k := 2) rfl (by rw [hv2]; rfl) (by decide) rfl (fun ls hl => ?_)
  refine lv_goto (tgt := 4) hx hb dX0_standing_36 (by decide) ?_
  exact hK4 _ _ _ _ hw _ _ _ _ _ hR hS (lv_sub hl [2, 1, 0] rfl) hcb hsb
def wX0_standing_4 (d : Nat) (Q : Int32 → XS → Prop) (K4 : Nat → Int32 → Int32 → XS → Prop) (th : Nat) (x1 : Int32) (x2 : Int32) (σ : XS) : Prop :=
  kd σ th = 1 ∧ (oc σ (fr σ th 6) 3 (fun a4 => if (fi σ a4 9) ≤ x2 then (Q x1 σ) else (wX0_failing d th x2 σ (fun r5 s5 => if r5 = 0 then (wX0_standing_31 d Q K4 th x2 x1 ((1 : Int32) <<< (x2 &&& 31)) s5) else (wX0_standing_31 d Q K4 th x2 x1 (0 : Int32) s5)))))
set_option maxHeartbeats 4000000 in
theorem BX0_standing_4 {l : Launch} {p : Program} {e : Env} {s : State} {m : MethodId} {args : Array Value} {below : List Frame} {meth : Method} {c : Code} {E : xx_E} {Q : Int32 → XS → Prop} {K4 : Nat → Int32 → Int32 → XS → Prop} (d : Nat) (cx : xx_X "StruckCounts" cX0_standing 3 (some .int) E p s m args meth c) (hK4 : ∀ (th : Nat) (x1 : Int32) (x2 : Int32) (σ : XS), K4 th x1 x2 σ → x_T p l e ({ frames := (6 + 1 * d), cells := 0, slots := 0, locals := 40 * (6 + 1 * d) } : Room) s m args below meth c E (va_Qi Q (fun σ' t => xW E σ' t) (xA E)) 0 0 3 4 0 0 σ [(0, xv E (some th)), (1, .int x1), (2, .int x2)] []) : ∀ (th : Nat) (x1 : Int32) (x2 : Int32) (σ : XS), wX0_standing_4 d Q K4 th x1 x2 σ → x_T p l e ({ frames := (6 + 1 * d), cells := 0, slots := 0, locals := 40 * (6 + 1 * d) } : Room) s m args below meth c E (va_Qi Q (fun σ' t => xW E σ' t) (xA E)) 0 0 3 4 0 0 σ [(0, xv E (some th)), (1, .int x1), (2, .int x2)] [] := by
  intro th x1 x2 σ hw H locs ls cells slots hR hS hl hcb hsb
  unfold wX0_standing_4 at hw
  obtain ⟨hx, hb, hml, hown, hts, hrt, hlk, hMK, hZ⟩ := id cx
  refine lv_iload_n hx hb dX0_standing_4 rfl (lv_at hl 2 rfl) ?_
  refine x_aload_n cx dX0_standing_5 rfl (lv_at hl 0 rfl) ?_
  obtain ⟨hk3, hw⟩ := hw
  refine xg_X0_31_1 cx hR rfl hk3 dX0_standing_6 ?_
  obtain ⟨a4, hr4, hk4, hw⟩ := hw
  refine xg_X0_136_3 cx hR hr4 hk4 dX0_standing_9 ?_
  refine lv_icmp_ge (tgt := 39) hx hb dX0_standing_12 (by decide) (fun hc => ?_) (fun hc => ?_)
  · have hw := mm_ip hc hw
    refine lv_iload_n hx hb dX0_standing_39 rfl (lv_at hl 1 rfl) ?_
    exact x_iret cx hR hS (xle hcb) (xle hsb) hw dX0_standing_40
  · have hw := mm_in hc hw
    refine lv_iload_n hx hb dX0_standing_15 rfl (lv_at hl 1 rfl) ?_
    refine x_aload_n cx dX0_standing_16 rfl (lv_at hl 0 rfl) ?_
    refine lv_iload_n hx hb dX0_standing_17 rfl (lv_at hl 2 rfl) ?_
    refine CX0_failing_X0_254 d cx hR hS rfl hk3 hw (by constructor <;> dsimp only <;> omega) (Nat.le_of_ble_eq_true rfl) hl.1 ⟨by dsimp only; omega, by dsimp only; omega⟩ dX0_standing_18 (fun r5 s5 H locs hw hR hS => ?_)
    refine lv_if_ne (tgt := 30) hx hb dX0_standing_21 (by decide) (fun hc => ?_) (fun hc => ?_)
    · have hw := mm_in hc hw
      refine lv_iconst (v := (0 : Int32)) hx hb dX0_standing_30 (by decide) ?_
      exact BX0_standing_31 d cx hK4 _ _ _ _ _ hw _ _ _ _ _ hR hS (lv_sub hl [0, 2] rfl) hcb hsb
    · have hw := mm_ip hc hw
      refine lv_iconst (v := (1 : Int32)) hx hb dX0_standing_24 (by decide) ?_
      refine lv_iload_n hx hb dX0_standing_25 rfl (lv_at hl 2 rfl) ?_
      refine lv_ishl hx hb dX0_standing_26 ?_
      refine lv_goto (tgt := 31) hx hb dX0_standing_27 (by decide) ?_
      exact BX0_standing_31 d cx hK4 _ _ _ _ _ hw _ _ _ _ _ hR hS (lv_sub hl [0, 2] rfl) hcb hsb
theorem LX0_standing_4 {l : Launch} {p : Program} {e : Env} {s : State} {m : MethodId} {args : Array Value} {below : List Frame} {meth : Method} {c : Code} {E : xx_E} {Q : Int32 → XS → Prop} (d : Nat) (cx : xx_X "StruckCounts" cX0_standing 3 (some .int) E p s m args meth c) : ∀ (th : Nat) (x1 : Int32) (x2 : Int32) (σ : XS), lp4F (wX0_standing_4 d Q) th x1 x2 σ → x_T p l e ({ frames := (6 + 1 * d), cells := 0, slots := 0, locals := 40 * (6 + 1 * d) } : Room) s m args below meth c E (va_Qi Q (fun σ' t => xW E σ' t) (xA E)) 0 0 3 4 0 0 σ [(0, xv E (some th)), (1, .int x1), (2, .int x2)] [] :=
  lp4F_of (fun K hK => BX0_standing_4 d cx hK)
def wX0_standing (d : Nat) (th : Nat) (σ : XS) (Q : Int32 → XS → Prop) : Prop :=
  lp4F (wX0_standing_4 d Q) th (0 : Int32) (0 : Int32) σ
set_option maxHeartbeats 4000000 in
theorem MX0_standing (l : Launch) (E : xx_E) (d : Nat) (th : Nat) (σ : XS) (Q : Int32 → XS → Prop) (hw : wX0_standing d th σ Q) : xx_Mi l yX0_standing (ws_ yX0_standing cX0_standing 3 (some .int)) ({ frames := (6 + 1 * d), cells := 0, slots := 0, locals := 40 * (6 + 1 * d) } : Room) E [xv E (some th)] σ Q 0 0 := by
  refine x_of (own := "StruckCounts") (by decide +kernel) rfl ?_
  intro p e s m args below meth c cx hR ha hnm
  refine x_entry [xv E (some th)] 3 [(0, xv E (some th))] ha (by simp [lg_sl, xv_cat, vc_i, vc_j, vc_f]) (by simp [lv_args, xv_cat, vc_i, vc_j, vc_f]) (fun ls hl => ?_)
  have hS : va_S (xA E) s.heap s.heap [] := va_S.rf
  have hcb : 0 + 0 ≤ 0 := Nat.le_of_eq (Nat.zero_add _)
  have hsb : 0 + 0 ≤ 0 := Nat.le_of_eq (Nat.zero_add _)
  unfold wX0_standing at hw
  obtain ⟨hx, hb, hml, hown, hts, hrt, hlk, hMK, hZ⟩ := id cx
  refine lv_iconst (v := (0 : Int32)) hx hb dX0_standing_0 (by decide) ?_
  refine lv_istore_n (i := 1) (lv' := [(1, .int (0 : Int32)), (0, xv E (some th))]) hx hb dX0_standing_1 rfl hl (by decide) (by simp [xv_cat]) (fun ls hl => ?_)
  refine lv_iconst (v := (0 : Int32)) hx hb dX0_standing_2 (by decide) ?_
  refine lv_istore_n (i := 2) (lv' := [(2, .int (0 : Int32)), (1, .int (0 : Int32)), (0, xv E (some th))]) hx hb dX0_standing_3 rfl hl (by decide) rfl (fun ls hl => ?_)
  exact LX0_standing_4 d cx _ _ _ _ hw _ _ _ _ _ hR hS (lv_sub hl [2, 1, 0] rfl) hcb hsb
-- X0_wonOf
def wX0_wonOf_45 (Q : Int32 → XS → Prop) (K5 : Nat → Int32 → Int32 → Int32 → Int32 → XS → Prop) (th : Nat) (x1 : Int32) (x2 : Int32) (x4 : Int32) (t0 : Int32) (t1 : Int32) (σ : XS) : Prop :=
  ∀ v1 : Int32, v1 = (t0 ||| t1) → ∀ v2 : Int32, v2 = x4 + (1 : Int32) → K5 th x1 x2 v1 v2 σ
set_option maxHeartbeats 4000000 in
theorem BX0_wonOf_45 {l : Launch} {p : Program} {e : Env} {s : State} {m : MethodId} {args : Array Value} {below : List Frame} {meth : Method} {c : Code} {E : xx_E} {Q : Int32 → XS → Prop} {K5 : Nat → Int32 → Int32 → Int32 → Int32 → XS → Prop} (cx : xx_X "StruckCounts" cX0_wonOf 5 (some .int) E p s m args meth c) (hK5 : ∀ (th : Nat) (x1 : Int32) (x2 : Int32) (x3 : Int32) (x4 : Int32) (σ : XS), K5 th x1 x2 x3 x4 σ → x_T p l e ({ frames := 5, cells := 0, slots := 0, locals := 200 } : Room) s m args below meth c E (va_Qi Q (fun σ' t => xW E σ' t) (xA E)) 0 0 5 5 0 0 σ [(0, xv E (some th)), (1, .int x1), (2, .int x2), (3, .int x3), (4, .int x4)] []) : ∀ (th : Nat) (x1 : Int32) (x2 : Int32) (x4 : Int32) (t0 : Int32) (t1 : Int32) (σ : XS), wX0_wonOf_45 Q K5 th x1 x2 x4 t0 t1 σ → x_T p l e ({ frames := 5, cells := 0, slots := 0, locals := 200 } : Room) s m args below meth c E (va_Qi Q (fun σ' t => xW E σ' t) (xA E)) 0 0 5 45 0 0 σ [(0, xv E (some th)), (1, .int x1), (2, .int x2), (4, .int x4)] [.int t1, .int t0] := by
  intro th x1 x2 x4 t0 t1 σ hw H locs ls cells slots hR hS hl hcb hsb
  unfold wX0_wonOf_45 at hw
  obtain ⟨hx, hb, hml, hown, hts, hrt, hlk, hMK, hZ⟩ := id cx
  refine lv_ior hx hb dX0_wonOf_45 ?_
  refine lv_topi (fun v1 hv1 => ?_)
  have hw := hw v1 hv1
  refine lv_istore_n (i := 3) (lv' := [(3, .int v1), (0, xv E (some th)), (1, .int x1), (2, .int x2), (4, .int x4)]) hx hb dX0_wonOf_46 rfl hl (by decide) rfl (fun ls hl => ?_)
  obtain ⟨v2, hv2⟩ : ∃ v : Int32, v = x4 + (1 : Int32) := ⟨_, rfl⟩
  have hw := hw v2 hv2
  refine lv_iinc (v := v2) (lv' := [(4, .int v2), (3, .int v1), (0, xv E (some th)), (1, .int x1), (2, .int x2)]) hx hb dX0_wonOf_47 hl (k := 4) rfl (by rw [hv2]; rfl) (by decide) rfl (fun ls hl => ?_)
  refine lv_goto (tgt := 5) hx hb dX0_wonOf_50 (by decide) ?_
  exact hK5 _ _ _ _ _ _ hw _ _ _ _ _ hR hS (lv_sub hl [2, 3, 4, 1, 0] rfl) hcb hsb
def wX0_wonOf_44 (Q : Int32 → XS → Prop) (K5 : Nat → Int32 → Int32 → Int32 → Int32 → XS → Prop) (th : Nat) (x1 : Int32) (x2 : Int32) (x4 : Int32) (t0 : Int32) (σ : XS) : Prop :=
  wX0_wonOf_45 Q K5 th x1 x2 x4 t0 (0 : Int32) σ
set_option maxHeartbeats 4000000 in
theorem BX0_wonOf_44 {l : Launch} {p : Program} {e : Env} {s : State} {m : MethodId} {args : Array Value} {below : List Frame} {meth : Method} {c : Code} {E : xx_E} {Q : Int32 → XS → Prop} {K5 : Nat → Int32 → Int32 → Int32 → Int32 → XS → Prop} (cx : xx_X "StruckCounts" cX0_wonOf 5 (some .int) E p s m args meth c) (hK5 : ∀ (th : Nat) (x1 : Int32) (x2 : Int32) (x3 : Int32) (x4 : Int32) (σ : XS), K5 th x1 x2 x3 x4 σ → x_T p l e ({ frames := 5, cells := 0, slots := 0, locals := 200 } : Room) s m args below meth c E (va_Qi Q (fun σ' t => xW E σ' t) (xA E)) 0 0 5 5 0 0 σ [(0, xv E (some th)), (1, .int x1), (2, .int x2), (3, .int x3), (4, .int x4)] []) : ∀ (th : Nat) (x1 : Int32) (x2 : Int32) (x4 : Int32) (t0 : Int32) (σ : XS), wX0_wonOf_44 Q K5 th x1 x2 x4 t0 σ → x_T p l e ({ frames := 5, cells := 0, slots := 0, locals := 200 } : Room) s m args below meth c E (va_Qi Q (fun σ' t => xW E σ' t) (xA E)) 0 0 5 44 0 0 σ [(0, xv E (some th)), (1, .int x1), (2, .int x2), (4, .int x4)] [.int t0] := by
  intro th x1 x2 x4 t0 σ hw H locs ls cells slots hR hS hl hcb hsb
  unfold wX0_wonOf_44 at hw
  obtain ⟨hx, hb, hml, hown, hts, hrt, hlk, hMK, hZ⟩ := id cx
  refine lv_iconst (v := (0 : Int32)) hx hb dX0_wonOf_44 (by decide) ?_
  exact BX0_wonOf_45 cx hK5 _ _ _ _ _ _ _ hw _ _ _ _ _ hR hS (lv_sub hl [0, 1, 2, 3] rfl) hcb hsb
def wX0_wonOf_5 (Q : Int32 → XS → Prop) (K5 : Nat → Int32 → Int32 → Int32 → Int32 → XS → Prop) (th : Nat) (x1 : Int32) (x2 : Int32) (x3 : Int32) (x4 : Int32) (σ : XS) : Prop :=
  kd σ th = 1 ∧ (oc σ (fr σ th 6) 3 (fun a4 => if (fi σ a4 9) ≤ x4 then (Q x3 σ) else (wX0_has x1 x4 σ (fun r5 s5 => if r5 = 0 then (wX0_wonOf_44 Q K5 th x1 x2 x4 x3 s5) else (kd s5 th = 1 ∧ (wX0_isWon th x4 x2 s5 (fun r6 s6 => if r6 = 0 then (wX0_wonOf_44 Q K5 th x1 x2 x4 x3 s6) else (wX0_wonOf_45 Q K5 th x1 x2 x4 x3 ((1 : Int32) <<< (x4 &&& 31)) s6))))))))
set_option maxHeartbeats 4000000 in
theorem BX0_wonOf_5 {l : Launch} {p : Program} {e : Env} {s : State} {m : MethodId} {args : Array Value} {below : List Frame} {meth : Method} {c : Code} {E : xx_E} {Q : Int32 → XS → Prop} {K5 : Nat → Int32 → Int32 → Int32 → Int32 → XS → Prop} (cx : xx_X "StruckCounts" cX0_wonOf 5 (some .int) E p s m args meth c) (hK5 : ∀ (th : Nat) (x1 : Int32) (x2 : Int32) (x3 : Int32) (x4 : Int32) (σ : XS), K5 th x1 x2 x3 x4 σ → x_T p l e ({ frames := 5, cells := 0, slots := 0, locals := 200 } : Room) s m args below meth c E (va_Qi Q (fun σ' t => xW E σ' t) (xA E)) 0 0 5 5 0 0 σ [(0, xv E (some th)), (1, .int x1), (2, .int x2), (3, .int x3), (4, .int x4)] []) : ∀ (th : Nat) (x1 : Int32) (x2 : Int32) (x3 : Int32) (x4 : Int32) (σ : XS), wX0_wonOf_5 Q K5 th x1 x2 x3 x4 σ → x_T p l e ({ frames := 5, cells := 0, slots := 0, locals := 200 } : Room) s m args below meth c E (va_Qi Q (fun σ' t => xW E σ' t) (xA E)) 0 0 5 5 0 0 σ [(0, xv E (some th)), (1, .int x1), (2, .int x2), (3, .int x3), (4, .int x4)] [] := by
  intro th x1 x2 x3 x4 σ hw H locs ls cells slots hR hS hl hcb hsb
  unfold wX0_wonOf_5 at hw
  obtain ⟨hx, hb, hml, hown, hts, hrt, hlk, hMK, hZ⟩ := id cx
  refine lv_iload hx hb dX0_wonOf_5 (lv_at hl 4 rfl) ?_
  refine x_aload_n cx dX0_wonOf_7 rfl (lv_at hl 0 rfl) ?_
  obtain ⟨hk3, hw⟩ := hw
  refine xg_X0_31_1 cx hR rfl hk3 dX0_wonOf_8 ?_
  obtain ⟨a4, hr4, hk4, hw⟩ := hw
  refine xg_X0_136_3 cx hR hr4 hk4 dX0_wonOf_11 ?_
  refine lv_icmp_ge (tgt := 53) hx hb dX0_wonOf_14 (by decide) (fun hc => ?_) (fun hc => ?_)
  · have hw := mm_ip hc hw
    refine lv_iload_n hx hb dX0_wonOf_53 rfl (lv_at hl 3 rfl) ?_
    exact x_iret cx hR hS (xle hcb) (xle hsb) hw dX0_wonOf_54
  · have hw := mm_in hc hw
    refine lv_iload_n hx hb dX0_wonOf_17 rfl (lv_at hl 3 rfl) ?_
    refine lv_iload_n hx hb dX0_wonOf_18 rfl (lv_at hl 1 rfl) ?_
    refine lv_iload hx hb dX0_wonOf_19 (lv_at hl 4 rfl) ?_
    refine CX0_has_X0_223 cx hR hS  hw ⟨Nat.le_of_ble_eq_true rfl, Nat.le_of_ble_eq_true rfl⟩ (Nat.le_of_ble_eq_true rfl) hl.1 ⟨by dsimp only; omega, by dsimp only; omega⟩ dX0_wonOf_21 (fun r5 s5 H locs hw hR hS => ?_)
    refine lv_if_eq (tgt := 44) hx hb dX0_wonOf_24 (by decide) (fun hc => ?_) (fun hc => ?_)
    · have hw := mm_ip hc hw
      exact BX0_wonOf_44 cx hK5 _ _ _ _ _ _ hw _ _ _ _ _ hR hS (lv_sub hl [0, 1, 2, 4] rfl) hcb hsb
    · have hw := mm_in hc hw
      refine x_aload_n cx dX0_wonOf_27 rfl (lv_at hl 0 rfl) ?_
      refine lv_iload hx hb dX0_wonOf_28 (lv_at hl 4 rfl) ?_
      refine lv_iload_n hx hb dX0_wonOf_30 rfl (lv_at hl 2 rfl) ?_
      obtain ⟨hk7, hw⟩ := hw
      refine CX0_isWon_X0_350 cx hR hS rfl hk7 hw ⟨Nat.le_of_ble_eq_true rfl, Nat.le_of_ble_eq_true rfl⟩ (Nat.le_of_ble_eq_true rfl) hl.1 ⟨by dsimp only; omega, by dsimp only; omega⟩ dX0_wonOf_31 (fun r6 s6 H locs hw hR hS => ?_)
      refine lv_if_eq (tgt := 44) hx hb dX0_wonOf_34 (by decide) (fun hc => ?_) (fun hc => ?_)
      · have hw := mm_ip hc hw
        exact BX0_wonOf_44 cx hK5 _ _ _ _ _ _ hw _ _ _ _ _ hR hS (lv_sub hl [0, 1, 2, 4] rfl) hcb hsb
      · have hw := mm_in hc hw
        refine lv_iconst (v := (1 : Int32)) hx hb dX0_wonOf_37 (by decide) ?_
        refine lv_iload hx hb dX0_wonOf_38 (lv_at hl 4 rfl) ?_
        refine lv_ishl hx hb dX0_wonOf_40 ?_
        refine lv_goto (tgt := 45) hx hb dX0_wonOf_41 (by decide) ?_
        exact BX0_wonOf_45 cx hK5 _ _ _ _ _ _ _ hw _ _ _ _ _ hR hS (lv_sub hl [0, 1, 2, 4] rfl) hcb hsb
theorem LX0_wonOf_5 {l : Launch} {p : Program} {e : Env} {s : State} {m : MethodId} {args : Array Value} {below : List Frame} {meth : Method} {c : Code} {E : xx_E} {Q : Int32 → XS → Prop} (cx : xx_X "StruckCounts" cX0_wonOf 5 (some .int) E p s m args meth c) : ∀ (th : Nat) (x1 : Int32) (x2 : Int32) (x3 : Int32) (x4 : Int32) (σ : XS), lp6F (wX0_wonOf_5 Q) th x1 x2 x3 x4 σ → x_T p l e ({ frames := 5, cells := 0, slots := 0, locals := 200 } : Room) s m args below meth c E (va_Qi Q (fun σ' t => xW E σ' t) (xA E)) 0 0 5 5 0 0 σ [(0, xv E (some th)), (1, .int x1), (2, .int x2), (3, .int x3), (4, .int x4)] [] :=
  lp6F_of (fun K hK => BX0_wonOf_5 cx hK)
def wX0_wonOf (th : Nat) (x1 : Int32) (x2 : Int32) (σ : XS) (Q : Int32 → XS → Prop) : Prop :=
  lp6F (wX0_wonOf_5 Q) th x1 x2 (0 : Int32) (0 : Int32) σ
set_option maxHeartbeats 4000000 in
theorem MX0_wonOf (l : Launch) (E : xx_E) (th : Nat) (x1 : Int32) (x2 : Int32) (σ : XS) (Q : Int32 → XS → Prop) (hw : wX0_wonOf th x1 x2 σ Q) : xx_Mi l yX0_wonOf (ws_ yX0_wonOf cX0_wonOf 5 (some .int)) ({ frames := 5, cells := 0, slots := 0, locals := 200 } : Room) E [xv E (some th), .int x1, .int x2] σ Q 0 0 := by
  refine x_of (own := "StruckCounts") (by decide +kernel) rfl ?_
  intro p e s m args below meth c cx hR ha hnm
  refine x_entry [xv E (some th), .int x1, .int x2] 5 [(0, xv E (some th)), (1, .int x1), (2, .int x2)] ha (by simp [lg_sl, xv_cat, vc_i, vc_j, vc_f]) (by simp [lv_args, xv_cat, vc_i, vc_j, vc_f]) (fun ls hl => ?_)
  have hS : va_S (xA E) s.heap s.heap [] := va_S.rf
  have hcb : 0 + 0 ≤ 0 := Nat.le_of_eq (Nat.zero_add _)
  have hsb : 0 + 0 ≤ 0 := Nat.le_of_eq (Nat.zero_add _)
  unfold wX0_wonOf at hw
  obtain ⟨hx, hb, hml, hown, hts, hrt, hlk, hMK, hZ⟩ := id cx
  refine lv_iconst (v := (0 : Int32)) hx hb dX0_wonOf_0 (by decide) ?_
  refine lv_istore_n (i := 3) (lv' := [(3, .int (0 : Int32)), (0, xv E (some th)), (1, .int x1), (2, .int x2)]) hx hb dX0_wonOf_1 rfl hl (by decide) rfl (fun ls hl => ?_)
  refine lv_iconst (v := (0 : Int32)) hx hb dX0_wonOf_2 (by decide) ?_
  refine lv_istore (i := 4) (lv' := [(4, .int (0 : Int32)), (3, .int (0 : Int32)), (0, xv E (some th)), (1, .int x1), (2, .int x2)]) hx hb dX0_wonOf_3 hl (by decide) rfl (fun ls hl => ?_)
  exact LX0_wonOf_5 cx _ _ _ _ _ _ hw _ _ _ _ _ hR hS (lv_sub hl [2, 3, 4, 1, 0] rfl) hcb hsb
-- X0_awardIn
theorem xg_X0_69_1 {l : Launch} {p : Program} {e : Env} {R : Room} {s : State} {m : MethodId} {args : Array Value} {below : List Frame} {meth : Method} {c : Code} {H : Heap} {locs : List Loc} {cells slots : Nat} {Qz : State → Prop} {cc : ByteArray} {nL : Nat} {ret : Option FieldType} {E : xx_E} {σ : XS} {pc : Nat} {ls : Array Slot} {rest : List Value} (cx : xx_X "StruckCounts" cc nL ret E p s m args meth c) (hR : xR E σ H) {a : Nat} {r : Option Nat} (hr : r = some a) (hk : kd σ a = 1) (hdg : decode cc pc = .ok (.getfield 69, 3)) (kk : W p l e R s m args below meth c H locs cells slots Qz (F0 m (pc + 3) ls (xv E (fr σ a 18) :: rest))) : W p l e R s m args below meth c H locs cells slots Qz (F0 m pc ls (xv E r :: rest)) :=
  x_get (ci := 0) cx hR hr hk (by decide) rfl in_X0 18 (by decide) q589 (fun _ h => h) (v := xv E (fr σ a 18)) rfl hdg kk
theorem CX0_wonOf_X0_403 {l : Launch} {p : Program} {e : Env} {R : Room} {s : State} {m : MethodId} {args : Array Value} {below : List Frame} {meth : Method} {c : Code} {H : Heap} {locs : List Loc} {cells slots : Nat} {Qz : State → Prop} {cc : ByteArray} {nL : Nat} {ret : Option FieldType} {E : xx_E} {σ : XS} {pc : Nat} {ls : Array Slot} {rest : List Value} {th : Nat} {x1 : Int32} {x2 : Int32} (cx : xx_X "StruckCounts" cc nL ret E p s m args meth c) (hR0 : xR E σ H) (hS0 : va_S (xA E) s.heap H locs) {r0 : Option Nat} (hr : r0 = some th) (hk : kd σ th = 1) {Qf : Int32 → XS → Prop} (hw : wX0_wonOf th x1 x2 σ Qf) (hR : (({ frames := 5, cells := 0, slots := 0, locals := 200 } : Room)).frames + 1 ≤ R.frames ∧ 8 + (5 + 11) + (({ frames := 5, cells := 0, slots := 0, locals := 200 } : Room)).locals ≤ R.locals) (hrest : rest.length ≤ 4) (hsize : ls.size = nL) (hf : cells + 0 ≤ R.cells ∧ slots + 0 ≤ R.slots) (hdg : decode cc pc = .ok (.invokevirtual 403, 3))
    (kk : ∀ (r : Int32) (σ1 : XS) (H1 : Heap) (locs1 : List Loc), Qf r σ1 → xR E σ1 H1 → va_S (xA E) s.heap H1 locs1 → W p l e R s m args below meth c H1 locs1 (cells + 0) (slots + 0) Qz (F0 m (pc + 3) ls (.int r :: rest))) : W p l e R s m args below meth c H locs cells slots Qz (F0 m pc ls (.int x2 :: .int x1 :: xv E r0 :: rest)) := by
  subst hr
  obtain ⟨hx, hb, hml, hown, hts, hrt, hlk, hK, hZ⟩ := id cx
  exact x_goi (va_runV (As := [.int x1, .int x2]) (rest := rest) (x_fix cx) (MX0_wonOf l E th x1 x2 σ Qf hw) (cwV 2 hts (lw_V q2253 q2255 qs66 q156 q2256) rfl rfl rfl (by decide +kernel) hR) (x_preV cx hR0 hS0 hk (by decide) (q := (RX0, TX0, 24)) rfl rfl [.int x1, .int x2]) rfl rfl hsize rfl (lv_room (xroom hrest)) hdg hf) hS0 kk
def wX0_awardIn_109 (Q : Int32 → XS → Prop) (K109 : Nat → Int32 → Int32 → XS → Prop) (th : Nat) (x4 : Int32) (x5 : Int32) (σ : XS) : Prop :=
  kd σ th = 1 ∧ (oc σ (fr σ th 6) 3 (fun a2 => if (fi σ a2 9) ≤ x5 then (Q x4 σ) else (oc σ (fr σ th 18) 100 (fun a3 => vp_in x5 (ln σ a3) ∧ (∀ v4 : Int32, v4 = (x4 + (ai σ a3 x5.toNatClampNeg)) → ∀ v5 : Int32, v5 = x5 + (1 : Int32) → K109 th v4 v5 σ)))))
set_option maxHeartbeats 4000000 in
theorem BX0_awardIn_109 {l : Launch} {p : Program} {e : Env} {s : State} {m : MethodId} {args : Array Value} {below : List Frame} {meth : Method} {c : Code} {E : xx_E} {Q : Int32 → XS → Prop} {K109 : Nat → Int32 → Int32 → XS → Prop} (cx : xx_X "StruckCounts" cX0_awardIn 6 (some .int) E p s m args meth c) (hK109 : ∀ (th : Nat) (x4 : Int32) (x5 : Int32) (σ : XS), K109 th x4 x5 σ → x_T p l e ({ frames := 6, cells := 0, slots := 0, locals := 240 } : Room) s m args below meth c E (va_Qi Q (fun σ' t => xW E σ' t) (xA E)) 0 0 6 109 0 0 σ [(0, xv E (some th)), (4, .int x4), (5, .int x5)] []) : ∀ (th : Nat) (x4 : Int32) (x5 : Int32) (σ : XS), wX0_awardIn_109 Q K109 th x4 x5 σ → x_T p l e ({ frames := 6, cells := 0, slots := 0, locals := 240 } : Room) s m args below meth c E (va_Qi Q (fun σ' t => xW E σ' t) (xA E)) 0 0 6 109 0 0 σ [(0, xv E (some th)), (4, .int x4), (5, .int x5)] [] := by
  intro th x4 x5 σ hw H locs ls cells slots hR hS hl hcb hsb
  unfold wX0_awardIn_109 at hw
  obtain ⟨hx, hb, hml, hown, hts, hrt, hlk, hMK, hZ⟩ := id cx
  refine lv_iload hx hb dX0_awardIn_109 (lv_at hl 2 rfl) ?_
  refine x_aload_n cx dX0_awardIn_111 rfl (lv_at hl 0 rfl) ?_
  obtain ⟨hk1, hw⟩ := hw
  refine xg_X0_31_1 cx hR rfl hk1 dX0_awardIn_112 ?_
  obtain ⟨a2, hr2, hk2, hw⟩ := hw
  refine xg_X0_136_3 cx hR hr2 hk2 dX0_awardIn_115 ?_
  refine lv_icmp_ge (tgt := 139) hx hb dX0_awardIn_118 (by decide) (fun hc => ?_) (fun hc => ?_)
  · have hw := mm_ip hc hw
    refine lv_iload hx hb dX0_awardIn_139 (lv_at hl 1 rfl) ?_
    exact x_iret cx hR hS (xle hcb) (xle hsb) hw dX0_awardIn_141
  · have hw := mm_in hc hw
    refine lv_iload hx hb dX0_awardIn_121 (lv_at hl 1 rfl) ?_
    refine x_aload_n cx dX0_awardIn_123 rfl (lv_at hl 0 rfl) ?_
    refine xg_X0_69_1 cx hR rfl hk1 dX0_awardIn_124 ?_
    refine lv_iload hx hb dX0_awardIn_127 (lv_at hl 2 rfl) ?_
    obtain ⟨a3, hr3, hk3, hw⟩ := hw
    obtain ⟨hi, hw⟩ := hw
    refine x_iald cx hR hr3 hk3 (j := x5.toNatClampNeg) rfl hi dX0_awardIn_129 ?_
    refine lv_iadd hx hb dX0_awardIn_130 ?_
    refine lv_topi (fun v4 hv4 => ?_)
    have hw := hw v4 hv4
    refine lv_istore (i := 4) (lv' := [(4, .int v4), (0, xv E (some th)), (5, .int x5)]) hx hb dX0_awardIn_131 hl (by decide) rfl (fun ls hl => ?_)
    obtain ⟨v5, hv5⟩ : ∃ v : Int32, v = x5 + (1 : Int32) := ⟨_, rfl⟩
    have hw := hw v5 hv5
    refine lv_iinc (v := v5) (lv' := [(5, .int v5), (4, .int v4), (0, xv E (some th))]) hx hb dX0_awardIn_133 hl (k := 2) rfl (by rw [hv5]; rfl) (by decide) rfl (fun ls hl => ?_)
    refine lv_goto (tgt := 109) hx hb dX0_awardIn_136 (by decide) ?_
    exact hK109 _ _ _ _ hw _ _ _ _ _ hR hS (lv_sub hl [2, 1, 0] rfl) hcb hsb
theorem LX0_awardIn_109 {l : Launch} {p : Program} {e : Env} {s : State} {m : MethodId} {args : Array Value} {below : List Frame} {meth : Method} {c : Code} {E : xx_E} {Q : Int32 → XS → Prop} (cx : xx_X "StruckCounts" cX0_awardIn 6 (some .int) E p s m args meth c) : ∀ (th : Nat) (x4 : Int32) (x5 : Int32) (σ : XS), lp4F (wX0_awardIn_109 Q) th x4 x5 σ → x_T p l e ({ frames := 6, cells := 0, slots := 0, locals := 240 } : Room) s m args below meth c E (va_Qi Q (fun σ' t => xW E σ' t) (xA E)) 0 0 6 109 0 0 σ [(0, xv E (some th)), (4, .int x4), (5, .int x5)] [] :=
  lp4F_of (fun K hK => BX0_awardIn_109 cx hK)
def wX0_awardIn_97 (Q : Int32 → XS → Prop) (K39 : Nat → Int32 → Int32 → XS → Prop) (th : Nat) (x3 : Int32) (x4 : Int32) (σ : XS) : Prop :=
  ∀ v6 : Int32, v6 = x4 + (1 : Int32) → K39 th x3 v6 σ
set_option maxHeartbeats 4000000 in
theorem BX0_awardIn_97 {l : Launch} {p : Program} {e : Env} {s : State} {m : MethodId} {args : Array Value} {below : List Frame} {meth : Method} {c : Code} {E : xx_E} {Q : Int32 → XS → Prop} {K39 : Nat → Int32 → Int32 → XS → Prop} (cx : xx_X "StruckCounts" cX0_awardIn 6 (some .int) E p s m args meth c) (hK39 : ∀ (th : Nat) (x3 : Int32) (x4 : Int32) (σ : XS), K39 th x3 x4 σ → x_T p l e ({ frames := 6, cells := 0, slots := 0, locals := 240 } : Room) s m args below meth c E (va_Qi Q (fun σ' t => xW E σ' t) (xA E)) 0 0 6 39 0 0 σ [(0, xv E (some th)), (3, .int x3), (4, .int x4)] []) : ∀ (th : Nat) (x3 : Int32) (x4 : Int32) (σ : XS), wX0_awardIn_97 Q K39 th x3 x4 σ → x_T p l e ({ frames := 6, cells := 0, slots := 0, locals := 240 } : Room) s m args below meth c E (va_Qi Q (fun σ' t => xW E σ' t) (xA E)) 0 0 6 97 0 0 σ [(0, xv E (some th)), (3, .int x3), (4, .int x4)] [] := by
  intro th x3 x4 σ hw H locs ls cells slots hR hS hl hcb hsb
  unfold wX0_awardIn_97 at hw
  obtain ⟨hx, hb, hml, hown, hts, hrt, hlk, hMK, hZ⟩ := id cx
  obtain ⟨v6, hv6⟩ : ∃ v : Int32, v = x4 + (1 : Int32) := ⟨_, rfl⟩
  have hw := hw v6 hv6
  refine lv_iinc (v := v6) (lv' := [(4, .int v6), (0, xv E (some th)), (3, .int x3)]) hx hb dX0_awardIn_97 hl (k := 2) rfl (by rw [hv6]; rfl) (by decide) rfl (fun ls hl => ?_)
  refine lv_goto (tgt := 39) hx hb dX0_awardIn_100 (by decide) ?_
  exact hK39 _ _ _ _ hw _ _ _ _ _ hR hS (lv_sub hl [1, 2, 0] rfl) hcb hsb
def wX0_awardIn_39 (Q : Int32 → XS → Prop) (K39 : Nat → Int32 → Int32 → XS → Prop) (th : Nat) (x3 : Int32) (x4 : Int32) (σ : XS) : Prop :=
  kd σ th = 1 ∧ (oc σ (fr σ th 6) 3 (fun a8 => if (fi σ a8 9) ≤ x4 then (lp4F (wX0_awardIn_109 Q) th (0 : Int32) (0 : Int32) σ) else (wX0_has x3 x4 σ (fun r9 s9 => if r9 = 0 then (wX0_awardIn_97 Q K39 th x3 x4 s9) else (kd s9 th = 1 ∧ (oc s9 (fr s9 th 12) 100 (fun a11 => vp_in x4 (ln s9 a11) ∧ (vp_in x4 (ln s9 a11) ∧ (oc s9 (fr s9 th 18) 100 (fun a12 => vp_in (ai s9 a11 x4.toNatClampNeg) (ln s9 a12) ∧ (oc s9 (fr s9 th 6) 3 (fun a13 => oc s9 (fr s9 a13 2) 100 (fun a14 => vp_in x4 (ln s9 a14) ∧ (xK ≤ a12 ∧ (vp_in (ai s9 a11 x4.toNatClampNeg) (ln s9 a12) ∧ (wX0_awardIn_97 Q K39 th x3 x4 (pai s9 a12 ((ai s9 a11 x4.toNatClampNeg).toNatClampNeg) (imax (ai s9 a12 ((ai s9 a11 x4.toNatClampNeg).toNatClampNeg)) (ai s9 a14 x4.toNatClampNeg)))))))))))))))))))
set_option maxHeartbeats 4000000 in
theorem BX0_awardIn_39 {l : Launch} {p : Program} {e : Env} {s : State} {m : MethodId} {args : Array Value} {below : List Frame} {meth : Method} {c : Code} {E : xx_E} {Q : Int32 → XS → Prop} {K39 : Nat → Int32 → Int32 → XS → Prop} (cx : xx_X "StruckCounts" cX0_awardIn 6 (some .int) E p s m args meth c) (hK39 : ∀ (th : Nat) (x3 : Int32) (x4 : Int32) (σ : XS), K39 th x3 x4 σ → x_T p l e ({ frames := 6, cells := 0, slots := 0, locals := 240 } : Room) s m args below meth c E (va_Qi Q (fun σ' t => xW E σ' t) (xA E)) 0 0 6 39 0 0 σ [(0, xv E (some th)), (3, .int x3), (4, .int x4)] []) : ∀ (th : Nat) (x3 : Int32) (x4 : Int32) (σ : XS), wX0_awardIn_39 Q K39 th x3 x4 σ → x_T p l e ({ frames := 6, cells := 0, slots := 0, locals := 240 } : Room) s m args below meth c E (va_Qi Q (fun σ' t => xW E σ' t) (xA E)) 0 0 6 39 0 0 σ [(0, xv E (some th)), (3, .int x3), (4, .int x4)] [] := by
  intro th x3 x4 σ hw H locs ls cells slots hR hS hl hcb hsb
  unfold wX0_awardIn_39 at hw
  obtain ⟨hx, hb, hml, hown, hts, hrt, hlk, hMK, hZ⟩ := id cx
  refine lv_iload hx hb dX0_awardIn_39 (lv_at hl 2 rfl) ?_
  refine x_aload_n cx dX0_awardIn_41 rfl (lv_at hl 0 rfl) ?_
  obtain ⟨hk7, hw⟩ := hw
  refine xg_X0_31_1 cx hR rfl hk7 dX0_awardIn_42 ?_
  obtain ⟨a8, hr8, hk8, hw⟩ := hw
  refine xg_X0_136_3 cx hR hr8 hk8 dX0_awardIn_45 ?_
  refine lv_icmp_ge (tgt := 103) hx hb dX0_awardIn_48 (by decide) (fun hc => ?_) (fun hc => ?_)
  · have hw := mm_ip hc hw
    refine lv_iconst (v := (0 : Int32)) hx hb dX0_awardIn_103 (by decide) ?_
    refine lv_istore (i := 4) (lv' := [(4, .int (0 : Int32)), (0, xv E (some th)), (3, .int x3)]) hx hb dX0_awardIn_104 hl (by decide) rfl (fun ls hl => ?_)
    refine lv_iconst (v := (0 : Int32)) hx hb dX0_awardIn_106 (by decide) ?_
    refine lv_istore (i := 5) (lv' := [(5, .int (0 : Int32)), (4, .int (0 : Int32)), (0, xv E (some th)), (3, .int x3)]) hx hb dX0_awardIn_107 hl (by decide) rfl (fun ls hl => ?_)
    exact LX0_awardIn_109 cx _ _ _ _ hw _ _ _ _ _ hR hS (lv_sub hl [2, 1, 0] rfl) hcb hsb
  · have hw := mm_in hc hw
    refine lv_iload_n hx hb dX0_awardIn_51 rfl (lv_at hl 1 rfl) ?_
    refine lv_iload hx hb dX0_awardIn_52 (lv_at hl 2 rfl) ?_
    refine CX0_has_X0_223 cx hR hS  hw ⟨Nat.le_of_ble_eq_true rfl, Nat.le_of_ble_eq_true rfl⟩ (Nat.le_of_ble_eq_true rfl) hl.1 ⟨by dsimp only; omega, by dsimp only; omega⟩ dX0_awardIn_54 (fun r9 s9 H locs hw hR hS => ?_)
    refine lv_if_eq (tgt := 97) hx hb dX0_awardIn_57 (by decide) (fun hc => ?_) (fun hc => ?_)
    · have hw := mm_ip hc hw
      exact BX0_awardIn_97 cx hK39 _ _ _ _ hw _ _ _ _ _ hR hS (lv_sub hl [0, 1, 2] rfl) hcb hsb
    · have hw := mm_in hc hw
      refine x_aload_n cx dX0_awardIn_60 rfl (lv_at hl 0 rfl) ?_
      obtain ⟨hk10, hw⟩ := hw
      refine xg_X0_69_1 cx hR rfl hk10 dX0_awardIn_61 ?_
      refine x_aload_n cx dX0_awardIn_64 rfl (lv_at hl 0 rfl) ?_
      refine xg_X0_56_1 cx hR rfl hk10 dX0_awardIn_65 ?_
      refine lv_iload hx hb dX0_awardIn_68 (lv_at hl 2 rfl) ?_
      obtain ⟨a11, hr11, hk11, hw⟩ := hw
      obtain ⟨hi, hw⟩ := hw
      refine x_iald cx hR hr11 hk11 (j := x4.toNatClampNeg) rfl hi dX0_awardIn_70 ?_
      refine x_aload_n cx dX0_awardIn_71 rfl (lv_at hl 0 rfl) ?_
      refine xg_X0_69_1 cx hR rfl hk10 dX0_awardIn_72 ?_
      refine x_aload_n cx dX0_awardIn_75 rfl (lv_at hl 0 rfl) ?_
      refine xg_X0_56_1 cx hR rfl hk10 dX0_awardIn_76 ?_
      refine lv_iload hx hb dX0_awardIn_79 (lv_at hl 2 rfl) ?_
      obtain ⟨hi, hw⟩ := hw
      refine x_iald cx hR hr11 hk11 (j := x4.toNatClampNeg) rfl hi dX0_awardIn_81 ?_
      obtain ⟨a12, hr12, hk12, hw⟩ := hw
      obtain ⟨hi, hw⟩ := hw
      refine x_iald cx hR hr12 hk12 (j := (ai s9 a11 x4.toNatClampNeg).toNatClampNeg) rfl hi dX0_awardIn_82 ?_
      refine x_aload_n cx dX0_awardIn_83 rfl (lv_at hl 0 rfl) ?_
      refine xg_X0_31_1 cx hR rfl hk10 dX0_awardIn_84 ?_
      obtain ⟨a13, hr13, hk13, hw⟩ := hw
      refine xg_X0_293_3 cx hR hr13 hk13 dX0_awardIn_87 ?_
      refine lv_iload hx hb dX0_awardIn_90 (lv_at hl 2 rfl) ?_
      obtain ⟨a14, hr14, hk14, hw⟩ := hw
      obtain ⟨hi, hw⟩ := hw
      refine x_iald cx hR hr14 hk14 (j := x4.toNatClampNeg) rfl hi dX0_awardIn_92 ?_
      refine x_max cx hl.1 q1986 (by dsimp only; omega) (xroom13 (Nat.le_of_ble_eq_true rfl) (by dsimp only; omega)) (by dsimp only; omega) (by dsimp only; omega) dX0_awardIn_93 ?_
      obtain ⟨hge_a12, hw⟩ := hw
      obtain ⟨hi, hw⟩ := hw
      refine x_iast cx hR hS hr12 hge_a12 hk12 (j := (ai s9 a11 x4.toNatClampNeg).toNatClampNeg) rfl hi dX0_awardIn_96 (fun H locs hR hS => ?_)
      exact BX0_awardIn_97 cx hK39 _ _ _ _ hw _ _ _ _ _ hR hS (lv_sub hl [0, 1, 2] rfl) hcb hsb
theorem LX0_awardIn_39 {l : Launch} {p : Program} {e : Env} {s : State} {m : MethodId} {args : Array Value} {below : List Frame} {meth : Method} {c : Code} {E : xx_E} {Q : Int32 → XS → Prop} (cx : xx_X "StruckCounts" cX0_awardIn 6 (some .int) E p s m args meth c) : ∀ (th : Nat) (x3 : Int32) (x4 : Int32) (σ : XS), lp4F (wX0_awardIn_39 Q) th x3 x4 σ → x_T p l e ({ frames := 6, cells := 0, slots := 0, locals := 240 } : Room) s m args below meth c E (va_Qi Q (fun σ' t => xW E σ' t) (xA E)) 0 0 6 39 0 0 σ [(0, xv E (some th)), (3, .int x3), (4, .int x4)] [] :=
  lp4F_of (fun K hK => BX0_awardIn_39 cx hK)
def wX0_awardIn_10 (Q : Int32 → XS → Prop) (K10 : Nat → Int32 → Int32 → XS → Prop) (th : Nat) (x3 : Int32) (x4 : Int32) (σ : XS) : Prop :=
  kd σ th = 1 ∧ (oc σ (fr σ th 6) 3 (fun a16 => if (fi σ a16 9) ≤ x4 then (lp4F (wX0_awardIn_39 Q) th x3 (0 : Int32) σ) else (oc σ (fr σ th 18) 100 (fun a17 => xK ≤ a17 ∧ (vp_in x4 (ln σ a17) ∧ (∀ v18 : Int32, v18 = x4 + (1 : Int32) → K10 th x3 v18 (pai σ a17 x4.toNatClampNeg (0 : Int32))))))))
set_option maxHeartbeats 4000000 in
theorem BX0_awardIn_10 {l : Launch} {p : Program} {e : Env} {s : State} {m : MethodId} {args : Array Value} {below : List Frame} {meth : Method} {c : Code} {E : xx_E} {Q : Int32 → XS → Prop} {K10 : Nat → Int32 → Int32 → XS → Prop} (cx : xx_X "StruckCounts" cX0_awardIn 6 (some .int) E p s m args meth c) (hK10 : ∀ (th : Nat) (x3 : Int32) (x4 : Int32) (σ : XS), K10 th x3 x4 σ → x_T p l e ({ frames := 6, cells := 0, slots := 0, locals := 240 } : Room) s m args below meth c E (va_Qi Q (fun σ' t => xW E σ' t) (xA E)) 0 0 6 10 0 0 σ [(0, xv E (some th)), (3, .int x3), (4, .int x4)] []) : ∀ (th : Nat) (x3 : Int32) (x4 : Int32) (σ : XS), wX0_awardIn_10 Q K10 th x3 x4 σ → x_T p l e ({ frames := 6, cells := 0, slots := 0, locals := 240 } : Room) s m args below meth c E (va_Qi Q (fun σ' t => xW E σ' t) (xA E)) 0 0 6 10 0 0 σ [(0, xv E (some th)), (3, .int x3), (4, .int x4)] [] := by
  intro th x3 x4 σ hw H locs ls cells slots hR hS hl hcb hsb
  unfold wX0_awardIn_10 at hw
  obtain ⟨hx, hb, hml, hown, hts, hrt, hlk, hMK, hZ⟩ := id cx
  refine lv_iload hx hb dX0_awardIn_10 (lv_at hl 2 rfl) ?_
  refine x_aload_n cx dX0_awardIn_12 rfl (lv_at hl 0 rfl) ?_
  obtain ⟨hk15, hw⟩ := hw
  refine xg_X0_31_1 cx hR rfl hk15 dX0_awardIn_13 ?_
  obtain ⟨a16, hr16, hk16, hw⟩ := hw
  refine xg_X0_136_3 cx hR hr16 hk16 dX0_awardIn_16 ?_
  refine lv_icmp_ge (tgt := 36) hx hb dX0_awardIn_19 (by decide) (fun hc => ?_) (fun hc => ?_)
  · have hw := mm_ip hc hw
    refine lv_iconst (v := (0 : Int32)) hx hb dX0_awardIn_36 (by decide) ?_
    refine lv_istore (i := 4) (lv' := [(4, .int (0 : Int32)), (0, xv E (some th)), (3, .int x3)]) hx hb dX0_awardIn_37 hl (by decide) rfl (fun ls hl => ?_)
    exact LX0_awardIn_39 cx _ _ _ _ hw _ _ _ _ _ hR hS (lv_sub hl [1, 2, 0] rfl) hcb hsb
  · have hw := mm_in hc hw
    refine x_aload_n cx dX0_awardIn_22 rfl (lv_at hl 0 rfl) ?_
    refine xg_X0_69_1 cx hR rfl hk15 dX0_awardIn_23 ?_
    refine lv_iload hx hb dX0_awardIn_26 (lv_at hl 2 rfl) ?_
    refine lv_iconst (v := (0 : Int32)) hx hb dX0_awardIn_28 (by decide) ?_
    obtain ⟨a17, hr17, hk17, hw⟩ := hw
    obtain ⟨hge_a17, hw⟩ := hw
    obtain ⟨hi, hw⟩ := hw
    refine x_iast cx hR hS hr17 hge_a17 hk17 (j := x4.toNatClampNeg) rfl hi dX0_awardIn_29 (fun H locs hR hS => ?_)
    obtain ⟨v18, hv18⟩ : ∃ v : Int32, v = x4 + (1 : Int32) := ⟨_, rfl⟩
    have hw := hw v18 hv18
    refine lv_iinc (v := v18) (lv' := [(4, .int v18), (0, xv E (some th)), (3, .int x3)]) hx hb dX0_awardIn_30 hl (k := 2) rfl (by rw [hv18]; rfl) (by decide) rfl (fun ls hl => ?_)
    refine lv_goto (tgt := 10) hx hb dX0_awardIn_33 (by decide) ?_
    exact hK10 _ _ _ _ hw _ _ _ _ _ hR hS (lv_sub hl [1, 2, 0] rfl) hcb hsb
theorem LX0_awardIn_10 {l : Launch} {p : Program} {e : Env} {s : State} {m : MethodId} {args : Array Value} {below : List Frame} {meth : Method} {c : Code} {E : xx_E} {Q : Int32 → XS → Prop} (cx : xx_X "StruckCounts" cX0_awardIn 6 (some .int) E p s m args meth c) : ∀ (th : Nat) (x3 : Int32) (x4 : Int32) (σ : XS), lp4F (wX0_awardIn_10 Q) th x3 x4 σ → x_T p l e ({ frames := 6, cells := 0, slots := 0, locals := 240 } : Room) s m args below meth c E (va_Qi Q (fun σ' t => xW E σ' t) (xA E)) 0 0 6 10 0 0 σ [(0, xv E (some th)), (3, .int x3), (4, .int x4)] [] :=
  lp4F_of (fun K hK => BX0_awardIn_10 cx hK)
def wX0_awardIn (th : Nat) (x1 : Int32) (x2 : Int32) (σ : XS) (Q : Int32 → XS → Prop) : Prop :=
  kd σ th = 1 ∧ (wX0_wonOf th x1 x2 σ (fun r19 s19 => lp4F (wX0_awardIn_10 Q) th r19 (0 : Int32) s19))
set_option maxHeartbeats 4000000 in
theorem MX0_awardIn (l : Launch) (E : xx_E) (th : Nat) (x1 : Int32) (x2 : Int32) (σ : XS) (Q : Int32 → XS → Prop) (hw : wX0_awardIn th x1 x2 σ Q) : xx_Mi l yX0_awardIn (ws_ yX0_awardIn cX0_awardIn 6 (some .int)) ({ frames := 6, cells := 0, slots := 0, locals := 240 } : Room) E [xv E (some th), .int x1, .int x2] σ Q 0 0 := by
  refine x_of (own := "StruckCounts") (by decide +kernel) rfl ?_
  intro p e s m args below meth c cx hR ha hnm
  refine x_entry [xv E (some th), .int x1, .int x2] 6 [(0, xv E (some th)), (1, .int x1), (2, .int x2)] ha (by simp [lg_sl, xv_cat, vc_i, vc_j, vc_f]) (by simp [lv_args, xv_cat, vc_i, vc_j, vc_f]) (fun ls hl => ?_)
  have hS : va_S (xA E) s.heap s.heap [] := va_S.rf
  have hcb : 0 + 0 ≤ 0 := Nat.le_of_eq (Nat.zero_add _)
  have hsb : 0 + 0 ≤ 0 := Nat.le_of_eq (Nat.zero_add _)
  unfold wX0_awardIn at hw
  obtain ⟨hx, hb, hml, hown, hts, hrt, hlk, hMK, hZ⟩ := id cx
  refine x_aload_n cx dX0_awardIn_0 rfl (lv_at hl 0 rfl) ?_
  refine lv_iload_n hx hb dX0_awardIn_1 rfl (lv_at hl 1 rfl) ?_
  refine lv_iload_n hx hb dX0_awardIn_2 rfl (lv_at hl 2 rfl) ?_
  obtain ⟨hk20, hw⟩ := hw
  refine CX0_wonOf_X0_403 cx hR hS rfl hk20 hw ⟨Nat.le_of_ble_eq_true rfl, Nat.le_of_ble_eq_true rfl⟩ (Nat.le_of_ble_eq_true rfl) hl.1 ⟨by dsimp only; omega, by dsimp only; omega⟩ dX0_awardIn_3 (fun r19 s19 H locs hw hR hS => ?_)
  refine lv_istore_n (i := 3) (lv' := [(3, .int r19), (0, xv E (some th)), (1, .int x1), (2, .int x2)]) hx hb dX0_awardIn_6 rfl hl (by decide) rfl (fun ls hl => ?_)
  refine lv_iconst (v := (0 : Int32)) hx hb dX0_awardIn_7 (by decide) ?_
  refine lv_istore (i := 4) (lv' := [(4, .int (0 : Int32)), (3, .int r19), (0, xv E (some th)), (1, .int x1), (2, .int x2)]) hx hb dX0_awardIn_8 hl (by decide) rfl (fun ls hl => ?_)
  exact LX0_awardIn_10 cx _ _ _ _ hw _ _ _ _ _ hR hS (lv_sub hl [2, 1, 0] rfl) hcb hsb
-- X0_award
theorem CX0_standing_X0_406 {l : Launch} {p : Program} {e : Env} {R : Room} {s : State} {m : MethodId} {args : Array Value} {below : List Frame} {meth : Method} {c : Code} {H : Heap} {locs : List Loc} {cells slots : Nat} {Qz : State → Prop} {cc : ByteArray} {nL : Nat} {ret : Option FieldType} {E : xx_E} {σ : XS} {pc : Nat} {ls : Array Slot} {rest : List Value} (d : Nat) {th : Nat} (cx : xx_X "StruckCounts" cc nL ret E p s m args meth c) (hR0 : xR E σ H) (hS0 : va_S (xA E) s.heap H locs) {r0 : Option Nat} (hr : r0 = some th) (hk : kd σ th = 1) {Qf : Int32 → XS → Prop} (hw : wX0_standing d th σ Qf) (hR : (({ frames := (6 + 1 * d), cells := 0, slots := 0, locals := 40 * (6 + 1 * d) } : Room)).frames + 1 ≤ R.frames ∧ 8 + (3 + 11) + (({ frames := (6 + 1 * d), cells := 0, slots := 0, locals := 40 * (6 + 1 * d) } : Room)).locals ≤ R.locals) (hrest : rest.length ≤ 4) (hsize : ls.size = nL) (hf : cells + 0 ≤ R.cells ∧ slots + 0 ≤ R.slots) (hdg : decode cc pc = .ok (.invokevirtual 406, 3))
    (kk : ∀ (r : Int32) (σ1 : XS) (H1 : Heap) (locs1 : List Loc), Qf r σ1 → xR E σ1 H1 → va_S (xA E) s.heap H1 locs1 → W p l e R s m args below meth c H1 locs1 (cells + 0) (slots + 0) Qz (F0 m (pc + 3) ls (.int r :: rest))) : W p l e R s m args below meth c H locs cells slots Qz (F0 m pc ls (xv E r0 :: rest)) := by
  subst hr
  obtain ⟨hx, hb, hml, hown, hts, hrt, hlk, hK, hZ⟩ := id cx
  exact x_goi (va_runV (As := []) (rest := rest) (x_fix cx) (MX0_standing l E d th σ Qf hw) (cwV 0 hts (lw_V q2245 q2247 qs64 q156 q2248) rfl rfl rfl (by decide +kernel) hR) (x_preV cx hR0 hS0 hk (by decide) (q := (RX0, TX0, 24)) rfl rfl []) rfl rfl hsize rfl (lv_room (xroom hrest)) hdg hf) hS0 kk
theorem CX0_awardIn_X0_409 {l : Launch} {p : Program} {e : Env} {R : Room} {s : State} {m : MethodId} {args : Array Value} {below : List Frame} {meth : Method} {c : Code} {H : Heap} {locs : List Loc} {cells slots : Nat} {Qz : State → Prop} {cc : ByteArray} {nL : Nat} {ret : Option FieldType} {E : xx_E} {σ : XS} {pc : Nat} {ls : Array Slot} {rest : List Value} {th : Nat} {x1 : Int32} {x2 : Int32} (cx : xx_X "StruckCounts" cc nL ret E p s m args meth c) (hR0 : xR E σ H) (hS0 : va_S (xA E) s.heap H locs) {r0 : Option Nat} (hr : r0 = some th) (hk : kd σ th = 1) {Qf : Int32 → XS → Prop} (hw : wX0_awardIn th x1 x2 σ Qf) (hR : (({ frames := 6, cells := 0, slots := 0, locals := 240 } : Room)).frames + 1 ≤ R.frames ∧ 8 + (6 + 11) + (({ frames := 6, cells := 0, slots := 0, locals := 240 } : Room)).locals ≤ R.locals) (hrest : rest.length ≤ 4) (hsize : ls.size = nL) (hf : cells + 0 ≤ R.cells ∧ slots + 0 ≤ R.slots) (hdg : decode cc pc = .ok (.invokevirtual 409, 3))
    (kk : ∀ (r : Int32) (σ1 : XS) (H1 : Heap) (locs1 : List Loc), Qf r σ1 → xR E σ1 H1 → va_S (xA E) s.heap H1 locs1 → W p l e R s m args below meth c H1 locs1 (cells + 0) (slots + 0) Qz (F0 m (pc + 3) ls (.int r :: rest))) : W p l e R s m args below meth c H locs cells slots Qz (F0 m pc ls (.int x2 :: .int x1 :: xv E r0 :: rest)) := by
  subst hr
  obtain ⟨hx, hb, hml, hown, hts, hrt, hlk, hK, hZ⟩ := id cx
  exact x_goi (va_runV (As := [.int x1, .int x2]) (rest := rest) (x_fix cx) (MX0_awardIn l E th x1 x2 σ Qf hw) (cwV 2 hts (lw_V q2249 q2251 qs65 q156 q2252) rfl rfl rfl (by decide +kernel) hR) (x_preV cx hR0 hS0 hk (by decide) (q := (RX0, TX0, 24)) rfl rfl [.int x1, .int x2]) rfl rfl hsize rfl (lv_room (xroom hrest)) hdg hf) hS0 kk
def wX0_award_99 (d : Nat) (Q : Int32 → XS → Prop) (K31 : Nat → Int32 → Int32 → Int32 → Int32 → Int32 → Int32 → Nat → Nat → XS → Prop) (th : Nat) (x1 : Int32) (x2 : Int32) (x3 : Int32) (x4 : Int32) (x5 : Int32) (x6 : Int32) (bc : Nat) (bs : Nat) (σ : XS) : Prop :=
  ∀ v1 : Int32, v1 = x6 + (1 : Int32) → K31 th x1 x2 x3 x4 x5 v1 bc bs σ
set_option maxHeartbeats 4000000 in
theorem BX0_award_99 {l : Launch} {p : Program} {e : Env} {s : State} {m : MethodId} {args : Array Value} {below : List Frame} {meth : Method} {c : Code} {E : xx_E} {mc ms : Nat} {Q : Int32 → XS → Prop} {K31 : Nat → Int32 → Int32 → Int32 → Int32 → Int32 → Int32 → Nat → Nat → XS → Prop} (d : Nat) (cx : xx_X "StruckCounts" cX0_award 8 (some .int) E p s m args meth c) (hK31 : ∀ (th : Nat) (x1 : Int32) (x2 : Int32) (x3 : Int32) (x4 : Int32) (x5 : Int32) (x6 : Int32) (bc : Nat) (bs : Nat) (σ : XS), K31 th x1 x2 x3 x4 x5 x6 bc bs σ → x_T p l e ({ frames := (14 + 1 * d), cells := mc, slots := ms, locals := 40 * (14 + 1 * d) } : Room) s m args below meth c E (va_Qi Q (fun σ' t => xW E σ' t) (xA E)) mc ms 8 31 bc bs σ [(0, xv E (some th)), (1, .int x1), (2, .int x2), (3, .int x3), (4, .int x4), (5, .int x5), (6, .int x6)] []) : ∀ (th : Nat) (x1 : Int32) (x2 : Int32) (x3 : Int32) (x4 : Int32) (x5 : Int32) (x6 : Int32) (bc : Nat) (bs : Nat) (σ : XS), wX0_award_99 d Q K31 th x1 x2 x3 x4 x5 x6 bc bs σ → x_T p l e ({ frames := (14 + 1 * d), cells := mc, slots := ms, locals := 40 * (14 + 1 * d) } : Room) s m args below meth c E (va_Qi Q (fun σ' t => xW E σ' t) (xA E)) mc ms 8 99 bc bs σ [(0, xv E (some th)), (1, .int x1), (2, .int x2), (3, .int x3), (4, .int x4), (5, .int x5), (6, .int x6)] [] := by
  intro th x1 x2 x3 x4 x5 x6 bc bs σ hw H locs ls cells slots hR hS hl hcb hsb
  unfold wX0_award_99 at hw
  obtain ⟨hx, hb, hml, hown, hts, hrt, hlk, hMK, hZ⟩ := id cx
  obtain ⟨v1, hv1⟩ : ∃ v : Int32, v = x6 + (1 : Int32) := ⟨_, rfl⟩
  have hw := hw v1 hv1
  refine lv_iinc (v := v1) (lv' := [(6, .int v1), (0, xv E (some th)), (1, .int x1), (2, .int x2), (3, .int x3), (4, .int x4), (5, .int x5)]) hx hb dX0_award_99 hl (k := 6) rfl (by rw [hv1]; rfl) (by decide) rfl (fun ls hl => ?_)
  refine lv_goto (tgt := 31) hx hb dX0_award_102 (by decide) ?_
  exact hK31 _ _ _ _ _ _ _ _ _ _ hw _ _ _ _ _ hR hS (lv_sub hl [1, 2, 3, 4, 5, 6, 0] rfl) hcb hsb
def wX0_award_80 (d : Nat) (Q : Int32 → XS → Prop) (K31 : Nat → Int32 → Int32 → Int32 → Int32 → Int32 → Int32 → Nat → Nat → XS → Prop) (th : Nat) (x1 : Int32) (x2 : Int32) (x4 : Int32) (x5 : Int32) (x6 : Int32) (x7 : Int32) (t0 : Int32) (bc : Nat) (bs : Nat) (σ : XS) : Prop :=
  if x4 < x7 then (wX0_award_99 d Q K31 th x1 x2 t0 x7 x6 x6 bc bs σ) else (wX0_award_99 d Q K31 th x1 x2 t0 x4 x5 x6 bc bs σ)
set_option maxHeartbeats 4000000 in
theorem BX0_award_80 {l : Launch} {p : Program} {e : Env} {s : State} {m : MethodId} {args : Array Value} {below : List Frame} {meth : Method} {c : Code} {E : xx_E} {mc ms : Nat} {Q : Int32 → XS → Prop} {K31 : Nat → Int32 → Int32 → Int32 → Int32 → Int32 → Int32 → Nat → Nat → XS → Prop} (d : Nat) (cx : xx_X "StruckCounts" cX0_award 8 (some .int) E p s m args meth c) (hK31 : ∀ (th : Nat) (x1 : Int32) (x2 : Int32) (x3 : Int32) (x4 : Int32) (x5 : Int32) (x6 : Int32) (bc : Nat) (bs : Nat) (σ : XS), K31 th x1 x2 x3 x4 x5 x6 bc bs σ → x_T p l e ({ frames := (14 + 1 * d), cells := mc, slots := ms, locals := 40 * (14 + 1 * d) } : Room) s m args below meth c E (va_Qi Q (fun σ' t => xW E σ' t) (xA E)) mc ms 8 31 bc bs σ [(0, xv E (some th)), (1, .int x1), (2, .int x2), (3, .int x3), (4, .int x4), (5, .int x5), (6, .int x6)] []) : ∀ (th : Nat) (x1 : Int32) (x2 : Int32) (x4 : Int32) (x5 : Int32) (x6 : Int32) (x7 : Int32) (t0 : Int32) (bc : Nat) (bs : Nat) (σ : XS), wX0_award_80 d Q K31 th x1 x2 x4 x5 x6 x7 t0 bc bs σ → x_T p l e ({ frames := (14 + 1 * d), cells := mc, slots := ms, locals := 40 * (14 + 1 * d) } : Room) s m args below meth c E (va_Qi Q (fun σ' t => xW E σ' t) (xA E)) mc ms 8 80 bc bs σ [(0, xv E (some th)), (1, .int x1), (2, .int x2), (4, .int x4), (5, .int x5), (6, .int x6), (7, .int x7)] [.int t0] := by
  intro th x1 x2 x4 x5 x6 x7 t0 bc bs σ hw H locs ls cells slots hR hS hl hcb hsb
  unfold wX0_award_80 at hw
  obtain ⟨hx, hb, hml, hown, hts, hrt, hlk, hMK, hZ⟩ := id cx
  refine lv_istore_n (i := 3) (lv' := [(3, .int t0), (0, xv E (some th)), (1, .int x1), (2, .int x2), (4, .int x4), (5, .int x5), (6, .int x6), (7, .int x7)]) hx hb dX0_award_80 rfl hl (by decide) rfl (fun ls hl => ?_)
  refine lv_iload hx hb dX0_award_81 (lv_at hl 7 rfl) ?_
  refine lv_iload hx hb dX0_award_83 (lv_at hl 4 rfl) ?_
  refine lv_icmp_gt (tgt := 91) hx hb dX0_award_85 (by decide) (fun hc => ?_) (fun hc => ?_)
  · have hw := mm_ip hc hw
    refine lv_iload hx hb dX0_award_91 (lv_at hl 7 rfl) ?_
    refine lv_istore (i := 4) (lv' := [(4, .int x7), (3, .int t0), (0, xv E (some th)), (1, .int x1), (2, .int x2), (5, .int x5), (6, .int x6), (7, .int x7)]) hx hb dX0_award_93 hl (by decide) rfl (fun ls hl => ?_)
    refine lv_iload hx hb dX0_award_95 (lv_at hl 6 rfl) ?_
    refine lv_istore (i := 5) (lv' := [(5, .int x6), (4, .int x7), (3, .int t0), (0, xv E (some th)), (1, .int x1), (2, .int x2), (6, .int x6), (7, .int x7)]) hx hb dX0_award_97 hl (by decide) rfl (fun ls hl => ?_)
    exact BX0_award_99 d cx hK31 _ _ _ _ _ _ _ _ _ _ hw _ _ _ _ _ hR hS (lv_sub hl [3, 4, 5, 2, 1, 0, 6] rfl) hcb hsb
  · have hw := mm_in hc hw
    refine lv_goto (tgt := 99) hx hb dX0_award_88 (by decide) ?_
    exact BX0_award_99 d cx hK31 _ _ _ _ _ _ _ _ _ _ hw _ _ _ _ _ hR hS (lv_sub hl [1, 2, 3, 0, 4, 5, 6] rfl) hcb hsb
def wX0_award_31 (d : Nat) (Q : Int32 → XS → Prop) (K31 : Nat → Int32 → Int32 → Int32 → Int32 → Int32 → Int32 → Nat → Nat → XS → Prop) (th : Nat) (x1 : Int32) (x2 : Int32) (x3 : Int32) (x4 : Int32) (x5 : Int32) (x6 : Int32) (bc : Nat) (bs : Nat) (σ : XS) : Prop :=
  kd σ th = 1 ∧ (oc σ (fr σ th 5) 2 (fun a4 => wX1_sets a4 σ (fun r3 s3 => if r3 ≤ x6 then (if x1 = 0 then (Q x3 s3) else (if x1 = (1 : Int32) then (Q x4 s3) else (Q x5 s3))) else (kd s3 th = 1 ∧ (wX0_isNow th x6 s3 (fun r5 s5 => if r5 = 0 then (wX0_award_99 d Q K31 th x1 x2 x3 x4 x5 x6 bc bs s5) else (kd s5 th = 1 ∧ (wX0_awardIn th x2 x6 s5 (fun r7 s7 => if x3 = (-1 : Int32) then (wX0_award_80 d Q K31 th x1 x2 x4 x5 x6 r7 r7 bc bs s7) else (wX0_award_80 d Q K31 th x1 x2 x4 x5 x6 r7 (imin x3 r7) bc bs s7))))))))))
set_option maxHeartbeats 4000000 in
theorem BX0_award_31 {l : Launch} {p : Program} {e : Env} {s : State} {m : MethodId} {args : Array Value} {below : List Frame} {meth : Method} {c : Code} {E : xx_E} {mc ms : Nat} {Q : Int32 → XS → Prop} {K31 : Nat → Int32 → Int32 → Int32 → Int32 → Int32 → Int32 → Nat → Nat → XS → Prop} (d : Nat) (cx : xx_X "StruckCounts" cX0_award 8 (some .int) E p s m args meth c) (hK31 : ∀ (th : Nat) (x1 : Int32) (x2 : Int32) (x3 : Int32) (x4 : Int32) (x5 : Int32) (x6 : Int32) (bc : Nat) (bs : Nat) (σ : XS), K31 th x1 x2 x3 x4 x5 x6 bc bs σ → x_T p l e ({ frames := (14 + 1 * d), cells := mc, slots := ms, locals := 40 * (14 + 1 * d) } : Room) s m args below meth c E (va_Qi Q (fun σ' t => xW E σ' t) (xA E)) mc ms 8 31 bc bs σ [(0, xv E (some th)), (1, .int x1), (2, .int x2), (3, .int x3), (4, .int x4), (5, .int x5), (6, .int x6)] []) : ∀ (th : Nat) (x1 : Int32) (x2 : Int32) (x3 : Int32) (x4 : Int32) (x5 : Int32) (x6 : Int32) (bc : Nat) (bs : Nat) (σ : XS), wX0_award_31 d Q K31 th x1 x2 x3 x4 x5 x6 bc bs σ → x_T p l e ({ frames := (14 + 1 * d), cells := mc, slots := ms, locals := 40 * (14 + 1 * d) } : Room) s m args below meth c E (va_Qi Q (fun σ' t => xW E σ' t) (xA E)) mc ms 8 31 bc bs σ [(0, xv E (some th)), (1, .int x1), (2, .int x2), (3, .int x3), (4, .int x4), (5, .int x5), (6, .int x6)] [] := by
  intro th x1 x2 x3 x4 x5 x6 bc bs σ hw H locs ls cells slots hR hS hl hcb hsb
  unfold wX0_award_31 at hw
  obtain ⟨hx, hb, hml, hown, hts, hrt, hlk, hMK, hZ⟩ := id cx
  refine lv_iload hx hb dX0_award_31 (lv_at hl 6 rfl) ?_
  refine x_aload_n cx dX0_award_33 rfl (lv_at hl 0 rfl) ?_
  obtain ⟨hk2, hw⟩ := hw
  refine xg_X0_24_1 cx hR rfl hk2 dX0_award_34 ?_
  obtain ⟨a4, hr4, hk4, hw⟩ := hw
  refine CX1_sets_X0_142 cx hR hS hr4 hk4 hw (by constructor <;> dsimp only <;> omega) (Nat.le_of_ble_eq_true rfl) hl.1 ⟨by dsimp only; omega, by dsimp only; omega⟩ dX0_award_37 (fun r3 s3 H locs hw hR hS => ?_)
  refine lv_icmp_ge (tgt := 105) hx hb dX0_award_40 (by decide) (fun hc => ?_) (fun hc => ?_)
  · have hw := mm_ip hc hw
    refine lv_iload_n hx hb dX0_award_105 rfl (lv_at hl 1 rfl) ?_
    refine lv_if_ne (tgt := 113) hx hb dX0_award_106 (by decide) (fun hc => ?_) (fun hc => ?_)
    · have hw := mm_in hc hw
      refine lv_iload_n hx hb dX0_award_113 rfl (lv_at hl 1 rfl) ?_
      refine lv_iconst (v := (1 : Int32)) hx hb dX0_award_114 (by decide) ?_
      refine lv_icmp_ne (tgt := 123) hx hb dX0_award_115 (by decide) (fun hc => ?_) (fun hc => ?_)
      · have hw := mm_in hc hw
        refine lv_iload hx hb dX0_award_123 (lv_at hl 5 rfl) ?_
        exact x_iret cx hR hS (xle hcb) (xle hsb) hw dX0_award_125
      · have hw := mm_ip hc hw
        refine lv_iload hx hb dX0_award_118 (lv_at hl 4 rfl) ?_
        refine lv_goto (tgt := 125) hx hb dX0_award_120 (by decide) ?_
        exact x_iret cx hR hS (xle hcb) (xle hsb) hw dX0_award_125
    · have hw := mm_ip hc hw
      refine lv_iload_n hx hb dX0_award_109 rfl (lv_at hl 3 rfl) ?_
      refine lv_goto (tgt := 125) hx hb dX0_award_110 (by decide) ?_
      exact x_iret cx hR hS (xle hcb) (xle hsb) hw dX0_award_125
  · have hw := mm_in hc hw
    refine x_aload_n cx dX0_award_43 rfl (lv_at hl 0 rfl) ?_
    refine lv_iload hx hb dX0_award_44 (lv_at hl 6 rfl) ?_
    obtain ⟨hk6, hw⟩ := hw
    refine CX0_isNow_X0_347 cx hR hS rfl hk6 hw (by constructor <;> dsimp only <;> omega) (Nat.le_of_ble_eq_true rfl) hl.1 ⟨by dsimp only; omega, by dsimp only; omega⟩ dX0_award_46 (fun r5 s5 H locs hw hR hS => ?_)
    refine lv_if_ne (tgt := 55) hx hb dX0_award_49 (by decide) (fun hc => ?_) (fun hc => ?_)
    · have hw := mm_in hc hw
      refine x_aload_n cx dX0_award_55 rfl (lv_at hl 0 rfl) ?_
      refine lv_iload_n hx hb dX0_award_56 rfl (lv_at hl 2 rfl) ?_
      refine lv_iload hx hb dX0_award_57 (lv_at hl 6 rfl) ?_
      obtain ⟨hk8, hw⟩ := hw
      refine CX0_awardIn_X0_409 cx hR hS rfl hk8 hw (by constructor <;> dsimp only <;> omega) (Nat.le_of_ble_eq_true rfl) hl.1 ⟨by dsimp only; omega, by dsimp only; omega⟩ dX0_award_59 (fun r7 s7 H locs hw hR hS => ?_)
      refine lv_istore (i := 7) (lv' := [(7, .int r7), (0, xv E (some th)), (1, .int x1), (2, .int x2), (3, .int x3), (4, .int x4), (5, .int x5), (6, .int x6)]) hx hb dX0_award_62 hl (by decide) rfl (fun ls hl => ?_)
      refine lv_iload_n hx hb dX0_award_64 rfl (lv_at hl 4 rfl) ?_
      refine lv_iconst (v := (-1 : Int32)) hx hb dX0_award_65 (by decide) ?_
      refine lv_icmp_ne (tgt := 74) hx hb dX0_award_66 (by decide) (fun hc => ?_) (fun hc => ?_)
      · have hw := mm_in hc hw
        refine lv_iload_n hx hb dX0_award_74 rfl (lv_at hl 4 rfl) ?_
        refine lv_iload hx hb dX0_award_75 (lv_at hl 0 rfl) ?_
        refine x_min cx hl.1 q1932 (by dsimp only; omega) (xroom13 (Nat.le_of_ble_eq_true rfl) (by dsimp only; omega)) (by dsimp only; omega) (by dsimp only; omega) dX0_award_77 ?_
        exact BX0_award_80 d cx hK31 _ _ _ _ _ _ _ _ _ _ _ hw _ _ _ _ _ hR hS (lv_sub hl [1, 2, 3, 5, 6, 7, 0] rfl) hcb hsb
      · have hw := mm_ip hc hw
        refine lv_iload hx hb dX0_award_69 (lv_at hl 0 rfl) ?_
        refine lv_goto (tgt := 80) hx hb dX0_award_71 (by decide) ?_
        exact BX0_award_80 d cx hK31 _ _ _ _ _ _ _ _ _ _ _ hw _ _ _ _ _ hR hS (lv_sub hl [1, 2, 3, 5, 6, 7, 0] rfl) hcb hsb
    · have hw := mm_ip hc hw
      refine lv_goto (tgt := 99) hx hb dX0_award_52 (by decide) ?_
      exact BX0_award_99 d cx hK31 _ _ _ _ _ _ _ _ _ _ hw _ _ _ _ _ hR hS (lv_sub hl [0, 1, 2, 3, 4, 5, 6] rfl) hcb hsb
theorem LX0_award_31 {l : Launch} {p : Program} {e : Env} {s : State} {m : MethodId} {args : Array Value} {below : List Frame} {meth : Method} {c : Code} {E : xx_E} {mc ms : Nat} {Q : Int32 → XS → Prop} (d : Nat) (cx : xx_X "StruckCounts" cX0_award 8 (some .int) E p s m args meth c) : ∀ (th : Nat) (x1 : Int32) (x2 : Int32) (x3 : Int32) (x4 : Int32) (x5 : Int32) (x6 : Int32) (bc : Nat) (bs : Nat) (σ : XS), lp10F (wX0_award_31 d Q) th x1 x2 x3 x4 x5 x6 bc bs σ → x_T p l e ({ frames := (14 + 1 * d), cells := mc, slots := ms, locals := 40 * (14 + 1 * d) } : Room) s m args below meth c E (va_Qi Q (fun σ' t => xW E σ' t) (xA E)) mc ms 8 31 bc bs σ [(0, xv E (some th)), (1, .int x1), (2, .int x2), (3, .int x3), (4, .int x4), (5, .int x5), (6, .int x6)] [] :=
  lp10F_of (fun K hK => BX0_award_31 d cx hK)
def wX0_award (d : Nat) (th : Nat) (x1 : Int32) (bc : Nat) (bs : Nat) (σ : XS) (Q : Int32 → XS → Prop) : Prop :=
  wX0_in x1 (0 : Int32) (2 : Int32) σ (fun r9 s9 => if r9 = 0 then (Q (-1 : Int32) s9) else (kd s9 th = 1 ∧ (∃ k12 n12 : Nat, k12 ≤ bc ∧ n12 ≤ bs ∧ (wX0_laysInjuries th k12 n12 s9 (fun s10 => kd s10 th = 1 ∧ (wX0_standing d th s10 (fun r13 s13 => lp10F (wX0_award_31 d Q) th x1 r13 (-1 : Int32) (-1 : Int32) (-1 : Int32) (0 : Int32) (bc - k12) (bs - n12) s13)))))))
set_option maxHeartbeats 4000000 in
theorem MX0_award (l : Launch) (E : xx_E) (d : Nat) (th : Nat) (x1 : Int32) (bc : Nat) (bs : Nat) (σ : XS) (Q : Int32 → XS → Prop) (hw : wX0_award d th x1 bc bs σ Q) : xx_Mi l yX0_award (ws_ yX0_award cX0_award 8 (some .int)) ({ frames := (14 + 1 * d), cells := bc, slots := bs, locals := 40 * (14 + 1 * d) } : Room) E [xv E (some th), .int x1] σ Q bc bs := by
  refine x_of (own := "StruckCounts") (by decide +kernel) rfl ?_
  intro p e s m args below meth c cx hR ha hnm
  refine x_entry [xv E (some th), .int x1] 8 [(0, xv E (some th)), (1, .int x1)] ha (by simp [lg_sl, xv_cat, vc_i, vc_j, vc_f]) (by simp [lv_args, xv_cat, vc_i, vc_j, vc_f]) (fun ls hl => ?_)
  have hS : va_S (xA E) s.heap s.heap [] := va_S.rf
  have hcb : 0 + bc ≤ bc := Nat.le_of_eq (Nat.zero_add _)
  have hsb : 0 + bs ≤ bs := Nat.le_of_eq (Nat.zero_add _)
  unfold wX0_award at hw
  obtain ⟨hx, hb, hml, hown, hts, hrt, hlk, hMK, hZ⟩ := id cx
  refine lv_iload_n hx hb dX0_award_0 rfl (lv_at hl 1 rfl) ?_
  refine lv_iconst (v := (0 : Int32)) hx hb dX0_award_1 (by decide) ?_
  refine lv_iconst (v := (2 : Int32)) hx hb dX0_award_2 (by decide) ?_
  refine CX0_in_X0_96 cx hR hS  hw (by constructor <;> dsimp only <;> omega) (Nat.le_of_ble_eq_true rfl) hl.1 ⟨by dsimp only; omega, by dsimp only; omega⟩ dX0_award_3 (fun r9 s9 H locs hw hR hS => ?_)
  refine lv_if_ne (tgt := 11) hx hb dX0_award_6 (by decide) (fun hc => ?_) (fun hc => ?_)
  · have hw := mm_in hc hw
    refine x_aload_n cx dX0_award_11 rfl (lv_at hl 0 rfl) ?_
    obtain ⟨hk11, hw⟩ := hw
    obtain ⟨k12, n12, hb1, hb2, hw⟩ := hw
    refine CX0_laysInjuries_X0_296 cx hR hS rfl hk11 hw (by constructor <;> dsimp only <;> omega) (Nat.le_of_ble_eq_true rfl) hl.1 ⟨by dsimp only; omega, by dsimp only; omega⟩ dX0_award_12 (fun s10 H locs hw hR hS => ?_)
    have hcb := xadd hb1 hcb
    have hsb := xadd hb2 hsb
    refine x_aload_n cx dX0_award_15 rfl (lv_at hl 0 rfl) ?_
    obtain ⟨hk14, hw⟩ := hw
    refine CX0_standing_X0_406 d cx hR hS rfl hk14 hw (by constructor <;> dsimp only <;> omega) (Nat.le_of_ble_eq_true rfl) hl.1 ⟨by dsimp only; omega, by dsimp only; omega⟩ dX0_award_16 (fun r13 s13 H locs hw hR hS => ?_)
    refine lv_istore_n (i := 2) (lv' := [(2, .int r13), (0, xv E (some th)), (1, .int x1)]) hx hb dX0_award_19 rfl hl (by decide) rfl (fun ls hl => ?_)
    refine lv_iconst (v := (-1 : Int32)) hx hb dX0_award_20 (by decide) ?_
    refine lv_istore_n (i := 3) (lv' := [(3, .int (-1 : Int32)), (2, .int r13), (0, xv E (some th)), (1, .int x1)]) hx hb dX0_award_21 rfl hl (by decide) rfl (fun ls hl => ?_)
    refine lv_iconst (v := (-1 : Int32)) hx hb dX0_award_22 (by decide) ?_
    refine lv_istore (i := 4) (lv' := [(4, .int (-1 : Int32)), (3, .int (-1 : Int32)), (2, .int r13), (0, xv E (some th)), (1, .int x1)]) hx hb dX0_award_23 hl (by decide) rfl (fun ls hl => ?_)
    refine lv_iconst (v := (-1 : Int32)) hx hb dX0_award_25 (by decide) ?_
    refine lv_istore (i := 5) (lv' := [(5, .int (-1 : Int32)), (4, .int (-1 : Int32)), (3, .int (-1 : Int32)), (2, .int r13), (0, xv E (some th)), (1, .int x1)]) hx hb dX0_award_26 hl (by decide) rfl (fun ls hl => ?_)
    refine lv_iconst (v := (0 : Int32)) hx hb dX0_award_28 (by decide) ?_
    refine lv_istore (i := 6) (lv' := [(6, .int (0 : Int32)), (5, .int (-1 : Int32)), (4, .int (-1 : Int32)), (3, .int (-1 : Int32)), (2, .int r13), (0, xv E (some th)), (1, .int x1)]) hx hb dX0_award_29 hl (by decide) rfl (fun ls hl => ?_)
    exact LX0_award_31 d cx _ _ _ _ _ _ _ _ _ _ hw _ _ _ _ _ hR hS (lv_sub hl [5, 6, 4, 3, 2, 1, 0] rfl) hcb hsb
  · have hw := mm_ip hc hw
    refine lv_iconst (v := (-1 : Int32)) hx hb dX0_award_9 (by decide) ?_
    exact x_iret cx hR hS (xle hcb) (xle hsb) hw dX0_award_10
-- X0_meant
def wX0_meant_71 (d : Nat) (Q : Int64 → XS → Prop) (K27 : Nat → Int32 → Int32 → Int64 → Int32 → Nat → Nat → XS → Prop) (th : Nat) (x1 : Int32) (x2 : Int32) (x3 : Int64) (x5 : Int32) (bc : Nat) (bs : Nat) (σ : XS) : Prop :=
  ∀ v1 : Int32, v1 = x5 + (1 : Int32) → K27 th x1 x2 x3 v1 bc bs σ
set_option maxHeartbeats 4000000 in
theorem BX0_meant_71 {l : Launch} {p : Program} {e : Env} {s : State} {m : MethodId} {args : Array Value} {below : List Frame} {meth : Method} {c : Code} {E : xx_E} {mc ms : Nat} {Q : Int64 → XS → Prop} {K27 : Nat → Int32 → Int32 → Int64 → Int32 → Nat → Nat → XS → Prop} (d : Nat) (cx : xx_X "StruckCounts" cX0_meant 6 (some .long) E p s m args meth c) (hK27 : ∀ (th : Nat) (x1 : Int32) (x2 : Int32) (x3 : Int64) (x5 : Int32) (bc : Nat) (bs : Nat) (σ : XS), K27 th x1 x2 x3 x5 bc bs σ → x_T p l e ({ frames := (14 + 1 * d), cells := mc, slots := ms, locals := 40 * (14 + 1 * d) } : Room) s m args below meth c E (va_Ql Q (fun σ' t => xW E σ' t) (xA E)) mc ms 6 27 bc bs σ [(0, xv E (some th)), (1, .int x1), (2, .int x2), (3, .long x3), (5, .int x5)] []) : ∀ (th : Nat) (x1 : Int32) (x2 : Int32) (x3 : Int64) (x5 : Int32) (bc : Nat) (bs : Nat) (σ : XS), wX0_meant_71 d Q K27 th x1 x2 x3 x5 bc bs σ → x_T p l e ({ frames := (14 + 1 * d), cells := mc, slots := ms, locals := 40 * (14 + 1 * d) } : Room) s m args below meth c E (va_Ql Q (fun σ' t => xW E σ' t) (xA E)) mc ms 6 71 bc bs σ [(0, xv E (some th)), (1, .int x1), (2, .int x2), (3, .long x3), (5, .int x5)] [] := by
  intro th x1 x2 x3 x5 bc bs σ hw H locs ls cells slots hR hS hl hcb hsb
  unfold wX0_meant_71 at hw
  obtain ⟨hx, hb, hml, hown, hts, hrt, hlk, hMK, hZ⟩ := id cx
  obtain ⟨v1, hv1⟩ : ∃ v : Int32, v = x5 + (1 : Int32) := ⟨_, rfl⟩
  have hw := hw v1 hv1
  refine lv_iinc (v := v1) (lv' := [(5, .int v1), (0, xv E (some th)), (1, .int x1), (2, .int x2), (3, .long x3)]) hx hb dX0_meant_71 hl (k := 4) rfl (by rw [hv1]; rfl) (by decide) rfl (fun ls hl => ?_)
  refine lv_goto (tgt := 27) hx hb dX0_meant_74 (by decide) ?_
  exact hK27 _ _ _ _ _ _ _ _ hw _ _ _ _ _ hR hS (lv_sub hl [1, 2, 3, 4, 0] rfl) hcb hsb
def wX0_meant_27 (d : Nat) (Q : Int64 → XS → Prop) (K27 : Nat → Int32 → Int32 → Int64 → Int32 → Nat → Nat → XS → Prop) (th : Nat) (x1 : Int32) (x2 : Int32) (x3 : Int64) (x5 : Int32) (bc : Nat) (bs : Nat) (σ : XS) : Prop :=
  kd σ th = 1 ∧ (oc σ (fr σ th 5) 2 (fun a4 => wX1_sets a4 σ (fun r3 s3 => if r3 ≤ x5 then (kd s3 th = 1 ∧ (wX0_weightOfAll th s3 (fun r5 s5 => wX0_lowest d x3 ((r5).toInt64) x1 s5 (fun r7 s7 => Q r7 s7)))) else (kd s3 th = 1 ∧ (wX0_isNow th x5 s3 (fun r8 s8 => if r8 = 0 then (wX0_meant_71 d Q K27 th x1 x2 x3 x5 bc bs s8) else (kd s8 th = 1 ∧ (oc s8 (fr s8 th 5) 2 (fun a11 => oc s8 (fr s8 a11 11) 100 (fun a12 => vp_in x5 (ln s8 a12) ∧ (wX0_awardIn th x2 x5 s8 (fun r13 s13 => ∀ v14 : Int64, v14 = (x3 + (((ai s8 a12 x5.toNatClampNeg)).toInt64 * (r13).toInt64)) → wX0_meant_71 d Q K27 th x1 x2 v14 x5 bc bs s13))))))))))))
set_option maxHeartbeats 4000000 in
theorem BX0_meant_27 {l : Launch} {p : Program} {e : Env} {s : State} {m : MethodId} {args : Array Value} {below : List Frame} {meth : Method} {c : Code} {E : xx_E} {mc ms : Nat} {Q : Int64 → XS → Prop} {K27 : Nat → Int32 → Int32 → Int64 → Int32 → Nat → Nat → XS → Prop} (d : Nat) (cx : xx_X "StruckCounts" cX0_meant 6 (some .long) E p s m args meth c) (hK27 : ∀ (th : Nat) (x1 : Int32) (x2 : Int32) (x3 : Int64) (x5 : Int32) (bc : Nat) (bs : Nat) (σ : XS), K27 th x1 x2 x3 x5 bc bs σ → x_T p l e ({ frames := (14 + 1 * d), cells := mc, slots := ms, locals := 40 * (14 + 1 * d) } : Room) s m args below meth c E (va_Ql Q (fun σ' t => xW E σ' t) (xA E)) mc ms 6 27 bc bs σ [(0, xv E (some th)), (1, .int x1), (2, .int x2), (3, .long x3), (5, .int x5)] []) : ∀ (th : Nat) (x1 : Int32) (x2 : Int32) (x3 : Int64) (x5 : Int32) (bc : Nat) (bs : Nat) (σ : XS), wX0_meant_27 d Q K27 th x1 x2 x3 x5 bc bs σ → x_T p l e ({ frames := (14 + 1 * d), cells := mc, slots := ms, locals := 40 * (14 + 1 * d) } : Room) s m args below meth c E (va_Ql Q (fun σ' t => xW E σ' t) (xA E)) mc ms 6 27 bc bs σ [(0, xv E (some th)), (1, .int x1), (2, .int x2), (3, .long x3), (5, .int x5)] [] := by
  intro th x1 x2 x3 x5 bc bs σ hw H locs ls cells slots hR hS hl hcb hsb
  unfold wX0_meant_27 at hw
  obtain ⟨hx, hb, hml, hown, hts, hrt, hlk, hMK, hZ⟩ := id cx
  refine lv_iload hx hb dX0_meant_27 (lv_at hl 4 rfl) ?_
  refine x_aload_n cx dX0_meant_29 rfl (lv_at hl 0 rfl) ?_
  obtain ⟨hk2, hw⟩ := hw
  refine xg_X0_24_1 cx hR rfl hk2 dX0_meant_30 ?_
  obtain ⟨a4, hr4, hk4, hw⟩ := hw
  refine CX1_sets_X0_142 cx hR hS hr4 hk4 hw (by constructor <;> dsimp only <;> omega) (Nat.le_of_ble_eq_true rfl) hl.1 ⟨by dsimp only; omega, by dsimp only; omega⟩ dX0_meant_33 (fun r3 s3 H locs hw hR hS => ?_)
  refine lv_icmp_ge (tgt := 77) hx hb dX0_meant_36 (by decide) (fun hc => ?_) (fun hc => ?_)
  · have hw := mm_ip hc hw
    refine lv_lload_n hx hb dX0_meant_77 rfl (lv_at hl 3 rfl) ?_
    refine x_aload_n cx dX0_meant_78 rfl (lv_at hl 0 rfl) ?_
    obtain ⟨hk6, hw⟩ := hw
    refine CX0_weightOfAll_X0_396 cx hR hS rfl hk6 hw (by constructor <;> dsimp only <;> omega) (Nat.le_of_ble_eq_true rfl) hl.1 ⟨by dsimp only; omega, by dsimp only; omega⟩ dX0_meant_79 (fun r5 s5 H locs hw hR hS => ?_)
    refine lv_i2l hx hb dX0_meant_82 rfl ?_
    refine lv_iload_n hx hb dX0_meant_83 rfl (lv_at hl 1 rfl) ?_
    refine CX0_lowest_X0_399 d cx hR hS  hw (by constructor <;> dsimp only <;> omega) (Nat.le_of_ble_eq_true rfl) hl.1 ⟨by dsimp only; omega, by dsimp only; omega⟩ dX0_meant_84 (fun r7 s7 H locs hw hR hS => ?_)
    exact x_lret cx hR hS (xle hcb) (xle hsb) hw dX0_meant_87
  · have hw := mm_in hc hw
    refine x_aload_n cx dX0_meant_39 rfl (lv_at hl 0 rfl) ?_
    refine lv_iload hx hb dX0_meant_40 (lv_at hl 4 rfl) ?_
    obtain ⟨hk9, hw⟩ := hw
    refine CX0_isNow_X0_347 cx hR hS rfl hk9 hw (by constructor <;> dsimp only <;> omega) (Nat.le_of_ble_eq_true rfl) hl.1 ⟨by dsimp only; omega, by dsimp only; omega⟩ dX0_meant_42 (fun r8 s8 H locs hw hR hS => ?_)
    refine lv_if_eq (tgt := 71) hx hb dX0_meant_45 (by decide) (fun hc => ?_) (fun hc => ?_)
    · have hw := mm_ip hc hw
      exact BX0_meant_71 d cx hK27 _ _ _ _ _ _ _ _ hw _ _ _ _ _ hR hS (lv_sub hl [0, 1, 2, 3, 4] rfl) hcb hsb
    · have hw := mm_in hc hw
      refine lv_lload_n hx hb dX0_meant_48 rfl (lv_at hl 3 rfl) ?_
      refine x_aload_n cx dX0_meant_49 rfl (lv_at hl 0 rfl) ?_
      obtain ⟨hk10, hw⟩ := hw
      refine xg_X0_24_1 cx hR rfl hk10 dX0_meant_50 ?_
      obtain ⟨a11, hr11, hk11, hw⟩ := hw
      refine xg_X0_389_2 cx hR hr11 hk11 dX0_meant_53 ?_
      refine lv_iload hx hb dX0_meant_56 (lv_at hl 4 rfl) ?_
      obtain ⟨a12, hr12, hk12, hw⟩ := hw
      obtain ⟨hi, hw⟩ := hw
      refine x_iald cx hR hr12 hk12 (j := x5.toNatClampNeg) rfl hi dX0_meant_58 ?_
      refine lv_i2l hx hb dX0_meant_59 rfl ?_
      refine x_aload_n cx dX0_meant_60 rfl (lv_at hl 0 rfl) ?_
      refine lv_iload_n hx hb dX0_meant_61 rfl (lv_at hl 2 rfl) ?_
      refine lv_iload hx hb dX0_meant_62 (lv_at hl 4 rfl) ?_
      refine CX0_awardIn_X0_409 cx hR hS rfl hk10 hw (by constructor <;> dsimp only <;> omega) (Nat.le_of_ble_eq_true rfl) hl.1 ⟨by dsimp only; omega, by dsimp only; omega⟩ dX0_meant_64 (fun r13 s13 H locs hw hR hS => ?_)
      refine lv_i2l hx hb dX0_meant_67 rfl ?_
      refine lv_lmul hx hb dX0_meant_68 ?_
      refine lv_ladd hx hb dX0_meant_69 ?_
      refine lv_topl (fun v14 hv14 => ?_)
      have hw := hw v14 hv14
      refine lv_lstore_n (i := 3) (lv' := [(3, .long v14), (0, xv E (some th)), (1, .int x1), (2, .int x2), (5, .int x5)]) hx hb dX0_meant_70 rfl hl (by decide) rfl (fun ls hl => ?_)
      exact BX0_meant_71 d cx hK27 _ _ _ _ _ _ _ _ hw _ _ _ _ _ hR hS (lv_sub hl [1, 2, 3, 0, 4] rfl) hcb hsb
theorem LX0_meant_27 {l : Launch} {p : Program} {e : Env} {s : State} {m : MethodId} {args : Array Value} {below : List Frame} {meth : Method} {c : Code} {E : xx_E} {mc ms : Nat} {Q : Int64 → XS → Prop} (d : Nat) (cx : xx_X "StruckCounts" cX0_meant 6 (some .long) E p s m args meth c) : ∀ (th : Nat) (x1 : Int32) (x2 : Int32) (x3 : Int64) (x5 : Int32) (bc : Nat) (bs : Nat) (σ : XS), lp8F (wX0_meant_27 d Q) th x1 x2 x3 x5 bc bs σ → x_T p l e ({ frames := (14 + 1 * d), cells := mc, slots := ms, locals := 40 * (14 + 1 * d) } : Room) s m args below meth c E (va_Ql Q (fun σ' t => xW E σ' t) (xA E)) mc ms 6 27 bc bs σ [(0, xv E (some th)), (1, .int x1), (2, .int x2), (3, .long x3), (5, .int x5)] [] :=
  lp8F_of (fun K hK => BX0_meant_27 d cx hK)
def wX0_meant (d : Nat) (th : Nat) (x1 : Int32) (bc : Nat) (bs : Nat) (σ : XS) (Q : Int64 → XS → Prop) : Prop :=
  wX0_in x1 (0 : Int32) (1 : Int32) σ (fun r15 s15 => if r15 = 0 then (Q (-1 : Int64) s15) else (kd s15 th = 1 ∧ (∃ k18 n18 : Nat, k18 ≤ bc ∧ n18 ≤ bs ∧ (wX0_laysInjuries th k18 n18 s15 (fun s16 => kd s16 th = 1 ∧ (wX0_standing d th s16 (fun r19 s19 => lp8F (wX0_meant_27 d Q) th x1 r19 (0 : Int64) (0 : Int32) (bc - k18) (bs - n18) s19)))))))
set_option maxHeartbeats 4000000 in
theorem MX0_meant (l : Launch) (E : xx_E) (d : Nat) (th : Nat) (x1 : Int32) (bc : Nat) (bs : Nat) (σ : XS) (Q : Int64 → XS → Prop) (hw : wX0_meant d th x1 bc bs σ Q) : xx_Ml l yX0_meant (ws_ yX0_meant cX0_meant 6 (some .long)) ({ frames := (14 + 1 * d), cells := bc, slots := bs, locals := 40 * (14 + 1 * d) } : Room) E [xv E (some th), .int x1] σ Q bc bs := by
  refine x_of (own := "StruckCounts") (by decide +kernel) rfl ?_
  intro p e s m args below meth c cx hR ha hnm
  refine x_entry [xv E (some th), .int x1] 6 [(0, xv E (some th)), (1, .int x1)] ha (by simp [lg_sl, xv_cat, vc_i, vc_j, vc_f]) (by simp [lv_args, xv_cat, vc_i, vc_j, vc_f]) (fun ls hl => ?_)
  have hS : va_S (xA E) s.heap s.heap [] := va_S.rf
  have hcb : 0 + bc ≤ bc := Nat.le_of_eq (Nat.zero_add _)
  have hsb : 0 + bs ≤ bs := Nat.le_of_eq (Nat.zero_add _)
  unfold wX0_meant at hw
  obtain ⟨hx, hb, hml, hown, hts, hrt, hlk, hMK, hZ⟩ := id cx
  refine lv_iload_n hx hb dX0_meant_0 rfl (lv_at hl 1 rfl) ?_
  refine lv_iconst (v := (0 : Int32)) hx hb dX0_meant_1 (by decide) ?_
  refine lv_iconst (v := (1 : Int32)) hx hb dX0_meant_2 (by decide) ?_
  refine CX0_in_X0_96 cx hR hS  hw (by constructor <;> dsimp only <;> omega) (Nat.le_of_ble_eq_true rfl) hl.1 ⟨by dsimp only; omega, by dsimp only; omega⟩ dX0_meant_3 (fun r15 s15 H locs hw hR hS => ?_)
  refine lv_if_ne (tgt := 13) hx hb dX0_meant_6 (by decide) (fun hc => ?_) (fun hc => ?_)
  · have hw := mm_in hc hw
    refine x_aload_n cx dX0_meant_13 rfl (lv_at hl 0 rfl) ?_
    obtain ⟨hk17, hw⟩ := hw
    obtain ⟨k18, n18, hb1, hb2, hw⟩ := hw
    refine CX0_laysInjuries_X0_296 cx hR hS rfl hk17 hw (by constructor <;> dsimp only <;> omega) (Nat.le_of_ble_eq_true rfl) hl.1 ⟨by dsimp only; omega, by dsimp only; omega⟩ dX0_meant_14 (fun s16 H locs hw hR hS => ?_)
    have hcb := xadd hb1 hcb
    have hsb := xadd hb2 hsb
    refine x_aload_n cx dX0_meant_17 rfl (lv_at hl 0 rfl) ?_
    obtain ⟨hk20, hw⟩ := hw
    refine CX0_standing_X0_406 d cx hR hS rfl hk20 hw (by constructor <;> dsimp only <;> omega) (Nat.le_of_ble_eq_true rfl) hl.1 ⟨by dsimp only; omega, by dsimp only; omega⟩ dX0_meant_18 (fun r19 s19 H locs hw hR hS => ?_)
    refine lv_istore_n (i := 2) (lv' := [(2, .int r19), (0, xv E (some th)), (1, .int x1)]) hx hb dX0_meant_21 rfl hl (by decide) rfl (fun ls hl => ?_)
    refine lv_lconst (v := (0 : Int64)) hx hb dX0_meant_22 rfl ?_
    refine lv_lstore_n (i := 3) (lv' := [(3, .long (0 : Int64)), (2, .int r19), (0, xv E (some th)), (1, .int x1)]) hx hb dX0_meant_23 rfl hl (by decide) rfl (fun ls hl => ?_)
    refine lv_iconst (v := (0 : Int32)) hx hb dX0_meant_24 (by decide) ?_
    refine lv_istore (i := 5) (lv' := [(5, .int (0 : Int32)), (3, .long (0 : Int64)), (2, .int r19), (0, xv E (some th)), (1, .int x1)]) hx hb dX0_meant_25 hl (by decide) rfl (fun ls hl => ?_)
    exact LX0_meant_27 d cx _ _ _ _ _ _ _ _ hw _ _ _ _ _ hR hS (lv_sub hl [3, 4, 2, 1, 0] rfl) hcb hsb
  · have hw := mm_ip hc hw
    refine lv_ldc2 (v := (-1 : Int64)) hx hb hown (hts _ q2261) dX0_meant_9 ?_
    exact x_lret cx hR hS (xle hcb) (xle hsb) hw dX0_meant_12
-- J1_clearL
def wJ1_clearL_33 (Q : XS → Prop) (K33 : Nat → Option Nat → Int32 → XS → Prop) (th : Nat) (x1 : Option Nat) (x2 : Int32) (σ : XS) : Prop :=
  oc σ x1 106 (fun a1 => if (nI (ln σ a1)) ≤ x2 then (Q σ) else (xK ≤ a1 ∧ (vp_in x2 (ln σ a1) ∧ (xck [20, 21] σ none ∧ (∀ v2 : Int32, v2 = x2 + (1 : Int32) → K33 th x1 v2 (par σ a1 x2.toNatClampNeg none))))))
set_option maxHeartbeats 4000000 in
theorem BJ1_clearL_33 {l : Launch} {p : Program} {e : Env} {s : State} {m : MethodId} {args : Array Value} {below : List Frame} {meth : Method} {c : Code} {E : xx_E} {Q : XS → Prop} {K33 : Nat → Option Nat → Int32 → XS → Prop} (cx : xx_X "java/util/HashMap" cJ1_clear 3 none E p s m args meth c) (hK33 : ∀ (th : Nat) (x1 : Option Nat) (x2 : Int32) (σ : XS), K33 th x1 x2 σ → x_T p l e ({ frames := 0, cells := 0, slots := 0, locals := 0 } : Room) s m args below meth c E (va_Qv Q (fun σ' t => xW E σ' t) (xA E)) 0 0 3 33 0 0 σ [(0, xv E (some th)), (1, xv E x1), (2, .int x2)] []) : ∀ (th : Nat) (x1 : Option Nat) (x2 : Int32) (σ : XS), wJ1_clearL_33 Q K33 th x1 x2 σ → x_T p l e ({ frames := 0, cells := 0, slots := 0, locals := 0 } : Room) s m args below meth c E (va_Qv Q (fun σ' t => xW E σ' t) (xA E)) 0 0 3 33 0 0 σ [(0, xv E (some th)), (1, xv E x1), (2, .int x2)] [] := by
  intro th x1 x2 σ hw H locs ls cells slots hR hS hl hcb hsb
  unfold wJ1_clearL_33 at hw
  obtain ⟨hx, hb, hml, hown, hts, hrt, hlk, hMK, hZ⟩ := id cx
  refine lv_iload_n hx hb dJ1_clear_33 rfl (lv_at hl 2 rfl) ?_
  refine x_aload_n cx dJ1_clear_34 rfl (lv_at hl 1 rfl) ?_
  obtain ⟨a1, hr1, hk1, hw⟩ := hw
  refine x_alen cx hR hr1 6 hk1 (by decide) dJ1_clear_35 ?_
  refine lv_icmp_ge (tgt := 49) hx hb dJ1_clear_36 (by decide) (fun hc => ?_) (fun hc => ?_)
  · have hw := mm_ip hc hw
    exact x_vret cx hR hS (xle hcb) (xle hsb) hw dJ1_clear_49
  · have hw := mm_in hc hw
    refine x_aload_n cx dJ1_clear_39 rfl (lv_at hl 1 rfl) ?_
    refine lv_iload_n hx hb dJ1_clear_40 rfl (lv_at hl 2 rfl) ?_
    refine lv_null hx hb dJ1_clear_41 ?_
    obtain ⟨hge_a1, hw⟩ := hw
    obtain ⟨hi, hw⟩ := hw
    obtain ⟨hv, hw⟩ := hw
    refine x_ast cx hR hS hr1 hge_a1 6 (C := "java/util/HashMap$Node") rfl hk1 (by decide) (by decide) (j := x2.toNatClampNeg) rfl hi (xcs_106 cx hv) dJ1_clear_42 (fun H locs hR hS => ?_)
    obtain ⟨v2, hv2⟩ : ∃ v : Int32, v = x2 + (1 : Int32) := ⟨_, rfl⟩
    have hw := hw v2 hv2
    refine lv_iinc (v := v2) (lv' := [(2, .int v2), (0, xv E (some th)), (1, xv E x1)]) hx hb dJ1_clear_43 hl (k := 2) rfl (by rw [hv2]; rfl) (by decide) (by simp [xv_cat]) (fun ls hl => ?_)
    refine lv_goto (tgt := 33) hx hb dJ1_clear_46 (by decide) ?_
    exact hK33 _ _ _ _ hw _ _ _ _ _ hR hS (lv_sub hl [1, 2, 0] rfl) hcb hsb
theorem LJ1_clearL_33 {l : Launch} {p : Program} {e : Env} {s : State} {m : MethodId} {args : Array Value} {below : List Frame} {meth : Method} {c : Code} {E : xx_E} {Q : XS → Prop} (cx : xx_X "java/util/HashMap" cJ1_clear 3 none E p s m args meth c) : ∀ (th : Nat) (x1 : Option Nat) (x2 : Int32) (σ : XS), lp4F (wJ1_clearL_33 Q) th x1 x2 σ → x_T p l e ({ frames := 0, cells := 0, slots := 0, locals := 0 } : Room) s m args below meth c E (va_Qv Q (fun σ' t => xW E σ' t) (xA E)) 0 0 3 33 0 0 σ [(0, xv E (some th)), (1, xv E x1), (2, .int x2)] [] :=
  lp4F_of (fun K hK => BJ1_clearL_33 cx hK)
def wJ1_clearL (th : Nat) (σ : XS) (Q : XS → Prop) : Prop :=
  kd σ th = 18 ∧ (xK ≤ th ∧ (if (fr (pfi σ th 5 ((fi σ th 5) + (1 : Int32))) th 2) = none then (Q (pfi σ th 5 ((fi σ th 5) + (1 : Int32)))) else (if (fi (pfi σ th 5 ((fi σ th 5) + (1 : Int32))) th 4) ≤ 0 then (Q (pfi σ th 5 ((fi σ th 5) + (1 : Int32)))) else (lp4F (wJ1_clearL_33 Q) th (fr (pfi σ th 5 ((fi σ th 5) + (1 : Int32))) th 2) (0 : Int32) (pfi (pfi σ th 5 ((fi σ th 5) + (1 : Int32))) th 4 (0 : Int32))))))
set_option maxHeartbeats 4000000 in
theorem MJ1_clearL (l : Launch) (E : xx_E) (th : Nat) (σ : XS) (Q : XS → Prop) (hw : wJ1_clearL th σ Q) : xx_Mv l yJ1_clear (ws_ yJ1_clear cJ1_clear 3 none) ({ frames := 0, cells := 0, slots := 0, locals := 0 } : Room) E [xv E (some th)] σ Q 0 0 := by
  refine x_of (own := "java/util/HashMap") (by decide +kernel) rfl ?_
  intro p e s m args below meth c cx hR ha hnm
  refine x_entry [xv E (some th)] 3 [(0, xv E (some th))] ha (by simp [lg_sl, xv_cat, vc_i, vc_j, vc_f]) (by simp [lv_args, xv_cat, vc_i, vc_j, vc_f]) (fun ls hl => ?_)
  have hS : va_S (xA E) s.heap s.heap [] := va_S.rf
  have hcb : 0 + 0 ≤ 0 := Nat.le_of_eq (Nat.zero_add _)
  have hsb : 0 + 0 ≤ 0 := Nat.le_of_eq (Nat.zero_add _)
  unfold wJ1_clearL at hw
  obtain ⟨hx, hb, hml, hown, hts, hrt, hlk, hMK, hZ⟩ := id cx
  refine x_aload_n cx dJ1_clear_0 rfl (lv_at hl 0 rfl) ?_
  refine lv_dup hx hb dJ1_clear_1 (xv_cat _ _) ?_
  obtain ⟨hk3, hw⟩ := hw
  refine xg_J1_202_18 cx hR rfl hk3 dJ1_clear_2 ?_
  refine lv_iconst (v := (1 : Int32)) hx hb dJ1_clear_5 (by decide) ?_
  refine lv_iadd hx hb dJ1_clear_6 ?_
  obtain ⟨hge_th, hw⟩ := hw
  refine xp_J1_202_18 (v := ((fi σ th 5) + (1 : Int32))) cx hR hS rfl hge_th hk3 dJ1_clear_7 (fun H locs hR hS => ?_)
  refine x_aload_n cx dJ1_clear_10 rfl (lv_at hl 0 rfl) ?_
  refine xg_J1_105_18 cx hR rfl hk3 dJ1_clear_11 ?_
  refine lv_dup hx hb dJ1_clear_14 (xv_cat _ _) ?_
  refine x_astore_n (i := 1) (r := (fr (pfi σ th 5 ((fi σ th 5) + (1 : Int32))) th 2)) (lv' := [(1, xv E (fr (pfi σ th 5 ((fi σ th 5) + (1 : Int32))) th 2)), (0, xv E (some th))]) cx dJ1_clear_15 rfl hl (by decide) (by simp [xv_cat]) (fun ls hl => ?_)
  refine x_ifnull (tgt := 49) cx dJ1_clear_16 (by decide) (fun hc => ?_) (fun hc => ?_)
  · have hw := mm_ip hc hw
    exact x_vret cx hR hS (xle hcb) (xle hsb) hw dJ1_clear_49
  · have hw := mm_in hc hw
    refine x_aload_n cx dJ1_clear_19 rfl (lv_at hl 1 rfl) ?_
    refine xg_J1_156_18 cx hR rfl hk3 dJ1_clear_20 ?_
    refine lv_if_le (tgt := 49) hx hb dJ1_clear_23 (by decide) (fun hc => ?_) (fun hc => ?_)
    · have hw := mm_ip hc hw
      exact x_vret cx hR hS (xle hcb) (xle hsb) hw dJ1_clear_49
    · have hw := mm_in hc hw
      refine x_aload_n cx dJ1_clear_26 rfl (lv_at hl 1 rfl) ?_
      refine lv_iconst (v := (0 : Int32)) hx hb dJ1_clear_27 (by decide) ?_
      refine xp_J1_156_18 (v := (0 : Int32)) cx hR hS rfl hge_th hk3 dJ1_clear_28 (fun H locs hR hS => ?_)
      refine lv_iconst (v := (0 : Int32)) hx hb dJ1_clear_31 (by decide) ?_
      refine lv_istore_n (i := 2) (lv' := [(2, .int (0 : Int32)), (1, xv E (fr (pfi σ th 5 ((fi σ th 5) + (1 : Int32))) th 2)), (0, xv E (some th))]) hx hb dJ1_clear_32 rfl hl (by decide) (by simp [xv_cat]) (fun ls hl => ?_)
      exact LJ1_clearL_33 cx _ _ _ _ hw _ _ _ _ _ hR hS (lv_sub hl [2, 1, 0] rfl) hcb hsb
-- J2_clearL
theorem CJ1_clearL_J2_110 {l : Launch} {p : Program} {e : Env} {R : Room} {s : State} {m : MethodId} {args : Array Value} {below : List Frame} {meth : Method} {c : Code} {H : Heap} {locs : List Loc} {cells slots : Nat} {Qz : State → Prop} {cc : ByteArray} {nL : Nat} {ret : Option FieldType} {E : xx_E} {σ : XS} {pc : Nat} {ls : Array Slot} {rest : List Value} {th : Nat} (cx : xx_X "java/util/LinkedHashMap" cc nL ret E p s m args meth c) (hR0 : xR E σ H) (hS0 : va_S (xA E) s.heap H locs) {r0 : Option Nat} (hr : r0 = some th) (hk : kd σ th = 18) {Qf : XS → Prop} (hw : wJ1_clearL th σ Qf) (hR : (({ frames := 0, cells := 0, slots := 0, locals := 0 } : Room)).frames + 1 ≤ R.frames ∧ 8 + (3 + 11) + (({ frames := 0, cells := 0, slots := 0, locals := 0 } : Room)).locals ≤ R.locals) (hrest : rest.length ≤ 4) (hsize : ls.size = nL) (hf : cells + 0 ≤ R.cells ∧ slots + 0 ≤ R.slots) (hdg : decode cc pc = .ok (.invokespecial 110, 3))
    (kk : ∀ (σ1 : XS) (H1 : Heap) (locs1 : List Loc), Qf σ1 → xR E σ1 H1 → va_S (xA E) s.heap H1 locs1 → W p l e R s m args below meth c H1 locs1 (cells + 0) (slots + 0) Qz (F0 m (pc + 3) ls rest)) : W p l e R s m args below meth c H locs cells slots Qz (F0 m pc ls (xv E r0 :: rest)) := by
  subst hr
  obtain ⟨hx, hb, hml, hown, hts, hrt, hlk, hK, hZ⟩ := id cx
  exact x_gov (va_runSU (C := "java/util/LinkedHashMap") (As := []) (rest := rest) ((x_K cx).1.1 17 _ rfl).2 (x_fix cx) (MJ1_clearL l E th σ Qf hw) (va_cwSU 0 hts (lw_app (xin5 q2274 q3075 q268 q2275 q159) (lw_meth q2276)) rfl rfl rfl (by decide +kernel) hR) (x_preV cx hR0 hS0 hk (by decide) (q := (RJ2, TJ2, 12)) rfl rfl []) rfl rfl hsize rfl (lv_room (xroom hrest)) hdg hf) hS0 kk
def wJ2_clearL (th : Nat) (σ : XS) (Q : XS → Prop) : Prop :=
  kd σ th = 18 ∧ (wJ1_clearL th σ (fun s1 => kd s1 th = 18 ∧ (xK ≤ th ∧ (Q (pfr (pfr s1 th 9 none) th 8 none)))))
set_option maxHeartbeats 4000000 in
theorem MJ2_clearL (l : Launch) (E : xx_E) (th : Nat) (σ : XS) (Q : XS → Prop) (hw : wJ2_clearL th σ Q) : xx_Mv l yJ2_clear (ws_ yJ2_clear cJ2_clear 1 none) ({ frames := 1, cells := 0, slots := 0, locals := 40 } : Room) E [xv E (some th)] σ Q 0 0 := by
  refine x_of (own := "java/util/LinkedHashMap") (by decide +kernel) rfl ?_
  intro p e s m args below meth c cx hR ha hnm
  refine x_entry [xv E (some th)] 1 [(0, xv E (some th))] ha (by simp [lg_sl, xv_cat, vc_i, vc_j, vc_f]) (by simp [lv_args, xv_cat, vc_i, vc_j, vc_f]) (fun ls hl => ?_)
  have hS : va_S (xA E) s.heap s.heap [] := va_S.rf
  have hcb : 0 + 0 ≤ 0 := Nat.le_of_eq (Nat.zero_add _)
  have hsb : 0 + 0 ≤ 0 := Nat.le_of_eq (Nat.zero_add _)
  unfold wJ2_clearL at hw
  obtain ⟨hx, hb, hml, hown, hts, hrt, hlk, hMK, hZ⟩ := id cx
  refine x_aload_n cx dJ2_clear_0 rfl (lv_at hl 0 rfl) ?_
  obtain ⟨hk2, hw⟩ := hw
  refine CJ1_clearL_J2_110 cx hR hS rfl hk2 hw ⟨Nat.le_of_ble_eq_true rfl, Nat.le_of_ble_eq_true rfl⟩ (Nat.le_of_ble_eq_true rfl) hl.1 ⟨by dsimp only; omega, by dsimp only; omega⟩ dJ2_clear_1 (fun s1 H locs hw hR hS => ?_)
  refine x_aload_n cx dJ2_clear_4 rfl (lv_at hl 0 rfl) ?_
  refine x_aload_n cx dJ2_clear_5 rfl (lv_at hl 0 rfl) ?_
  refine lv_null hx hb dJ2_clear_6 ?_
  refine lv_dup_x1 hx hb dJ2_clear_7 rfl (xv_cat _ _) ?_
  obtain ⟨hk3, hw⟩ := hw
  obtain ⟨hge_th, hw⟩ := hw
  refine xp_J2_11_18 (v := none) cx hR hS rfl hge_th hk3 dJ2_clear_8 (fun H locs hR hS => ?_)
  refine xp_J2_7_18 (v := none) cx hR hS rfl hge_th hk3 dJ2_clear_11 (fun H locs hR hS => ?_)
  exact x_vret cx hR hS (xle hcb) (xle hsb) hw dJ2_clear_14
-- X16_init
theorem xp_X16_7_15 {l : Launch} {p : Program} {e : Env} {R : Room} {s : State} {m : MethodId} {args : Array Value} {below : List Frame} {meth : Method} {c : Code} {H : Heap} {locs : List Loc} {cells slots : Nat} {Qz : State → Prop} {cc : ByteArray} {nL : Nat} {ret : Option FieldType} {E : xx_E} {σ : XS} {pc : Nat} {ls : Array Slot} {rest : List Value} (cx : xx_X "StruckCounts$Outcome" cc nL ret E p s m args meth c) (hR : xR E σ H) (hS0 : va_S (xA E) s.heap H locs) {a : Nat} {r : Option Nat} {v : Int32} (hr : r = some a) (ha : xK ≤ a) (hk : kd σ a = 15) (hini : meth.name = "<init>") (hdg : decode cc pc = .ok (.putfield 7, 3)) (kk : ∀ (H1 : Heap) (locs1 : List Loc), xR E (pfi σ a 0 v) H1 → va_S (xA E) s.heap H1 locs1 → W p l e R s m args below meth c H1 locs1 cells slots Qz (F0 m (pc + 3) ls rest)) : W p l e R s m args below meth c H locs cells slots Qz (F0 m pc ls (.int v :: xv E r :: rest)) :=
  x_put (ci := 14) cx hR hS0 hr ha hk (by decide) rfl in_X16 tyX16 tyX16_ok nmX16 0 (by decide) (Or.inr (Or.inl ⟨q2282, rfl, hini, rfl⟩)) (fun _ h => h) rfl rfl (xput_i rfl) hdg kk
theorem xp_X16_13_15 {l : Launch} {p : Program} {e : Env} {R : Room} {s : State} {m : MethodId} {args : Array Value} {below : List Frame} {meth : Method} {c : Code} {H : Heap} {locs : List Loc} {cells slots : Nat} {Qz : State → Prop} {cc : ByteArray} {nL : Nat} {ret : Option FieldType} {E : xx_E} {σ : XS} {pc : Nat} {ls : Array Slot} {rest : List Value} (cx : xx_X "StruckCounts$Outcome" cc nL ret E p s m args meth c) (hR : xR E σ H) (hS0 : va_S (xA E) s.heap H locs) {a : Nat} {r : Option Nat} {v : Int32} (hr : r = some a) (ha : xK ≤ a) (hk : kd σ a = 15) (hini : meth.name = "<init>") (hdg : decode cc pc = .ok (.putfield 13, 3)) (kk : ∀ (H1 : Heap) (locs1 : List Loc), xR E (pfi σ a 1 v) H1 → va_S (xA E) s.heap H1 locs1 → W p l e R s m args below meth c H1 locs1 cells slots Qz (F0 m (pc + 3) ls rest)) : W p l e R s m args below meth c H locs cells slots Qz (F0 m pc ls (.int v :: xv E r :: rest)) :=
  x_put (ci := 14) cx hR hS0 hr ha hk (by decide) rfl in_X16 tyX16 tyX16_ok nmX16 1 (by decide) (Or.inr (Or.inl ⟨q2284, rfl, hini, rfl⟩)) (fun _ h => h) rfl rfl (xput_i rfl) hdg kk
def wX16_init (th : Nat) (x1 : Int32) (x2 : Int32) (σ : XS) (Q : XS → Prop) : Prop :=
  kd σ th = 15 ∧ (xK ≤ th ∧ (Q (pfi (pfi σ th 0 x1) th 1 x2)))
set_option maxHeartbeats 4000000 in
theorem MX16_init (l : Launch) (E : xx_E) (th : Nat) (x1 : Int32) (x2 : Int32) (σ : XS) (Q : XS → Prop) (hw : wX16_init th x1 x2 σ Q) : xx_Mv l yX16_init (ws_ yX16_init cX16_init 3 none) ({ frames := 1, cells := 0, slots := 0, locals := 40 } : Room) E [xv E (some th), .int x1, .int x2] σ Q 0 0 := by
  refine x_of (own := "StruckCounts$Outcome") (by decide +kernel) rfl ?_
  intro p e s m args below meth c cx hR ha hnm
  refine x_entry [xv E (some th), .int x1, .int x2] 3 [(0, xv E (some th)), (1, .int x1), (2, .int x2)] ha (by simp [lg_sl, xv_cat, vc_i, vc_j, vc_f]) (by simp [lv_args, xv_cat, vc_i, vc_j, vc_f]) (fun ls hl => ?_)
  have hS : va_S (xA E) s.heap s.heap [] := va_S.rf
  have hcb : 0 + 0 ≤ 0 := Nat.le_of_eq (Nat.zero_add _)
  have hsb : 0 + 0 ≤ 0 := Nat.le_of_eq (Nat.zero_add _)
  have hini : meth.name = "<init>" := hnm
  unfold wX16_init at hw
  obtain ⟨hx, hb, hml, hown, hts, hrt, hlk, hMK, hZ⟩ := id cx
  refine x_aload_n cx dX16_init_0 rfl (lv_at hl 0 rfl) ?_
  refine x_objinit cx hl.1 rfl q2281 (xroom12 (Nat.le_of_ble_eq_true rfl) (by dsimp only; omega)) (by dsimp only; omega) dX16_init_1 ?_
  refine x_aload_n cx dX16_init_4 rfl (lv_at hl 0 rfl) ?_
  refine lv_iload_n hx hb dX16_init_5 rfl (lv_at hl 1 rfl) ?_
  obtain ⟨hk1, hw⟩ := hw
  obtain ⟨hge_th, hw⟩ := hw
  refine xp_X16_7_15 (v := x1) cx hR hS rfl hge_th hk1 hini dX16_init_6 (fun H locs hR hS => ?_)
  refine x_aload_n cx dX16_init_9 rfl (lv_at hl 0 rfl) ?_
  refine lv_iload_n hx hb dX16_init_10 rfl (lv_at hl 2 rfl) ?_
  refine xp_X16_13_15 (v := x2) cx hR hS rfl hge_th hk1 hini dX16_init_11 (fun H locs hR hS => ?_)
  exact x_vret cx hR hS (xle hcb) (xle hsb) hw dX16_init_14
-- J1_sizeL
def wJ1_sizeL (th : Nat) (σ : XS) (Q : Int32 → XS → Prop) : Prop :=
  kd σ th = 18 ∧ (Q (fi σ th 4) σ)
set_option maxHeartbeats 4000000 in
theorem MJ1_sizeL (l : Launch) (E : xx_E) (th : Nat) (σ : XS) (Q : Int32 → XS → Prop) (hw : wJ1_sizeL th σ Q) : xx_Mi l yJ1_size (ws_ yJ1_size cJ1_size 1 (some .int)) ({ frames := 0, cells := 0, slots := 0, locals := 0 } : Room) E [xv E (some th)] σ Q 0 0 := by
  refine x_of (own := "java/util/HashMap") (by decide +kernel) rfl ?_
  intro p e s m args below meth c cx hR ha hnm
  refine x_entry [xv E (some th)] 1 [(0, xv E (some th))] ha (by simp [lg_sl, xv_cat, vc_i, vc_j, vc_f]) (by simp [lv_args, xv_cat, vc_i, vc_j, vc_f]) (fun ls hl => ?_)
  have hS : va_S (xA E) s.heap s.heap [] := va_S.rf
  have hcb : 0 + 0 ≤ 0 := Nat.le_of_eq (Nat.zero_add _)
  have hsb : 0 + 0 ≤ 0 := Nat.le_of_eq (Nat.zero_add _)
  unfold wJ1_sizeL at hw
  obtain ⟨hx, hb, hml, hown, hts, hrt, hlk, hMK, hZ⟩ := id cx
  refine x_aload_n cx dJ1_size_0 rfl (lv_at hl 0 rfl) ?_
  obtain ⟨hk1, hw⟩ := hw
  refine xg_J1_156_18 cx hR rfl hk1 dJ1_size_1 ?_
  exact x_iret cx hR hS (xle hcb) (xle hsb) hw dJ1_size_4
-- X0_laysOutcomes
theorem xg_X0_426_15 {l : Launch} {p : Program} {e : Env} {R : Room} {s : State} {m : MethodId} {args : Array Value} {below : List Frame} {meth : Method} {c : Code} {H : Heap} {locs : List Loc} {cells slots : Nat} {Qz : State → Prop} {cc : ByteArray} {nL : Nat} {ret : Option FieldType} {E : xx_E} {σ : XS} {pc : Nat} {ls : Array Slot} {rest : List Value} (cx : xx_X "StruckCounts" cc nL ret E p s m args meth c) (hR : xR E σ H) {a : Nat} {r : Option Nat} (hr : r = some a) (hk : kd σ a = 15) (hdg : decode cc pc = .ok (.getfield 426, 3)) (kk : W p l e R s m args below meth c H locs cells slots Qz (F0 m (pc + 3) ls (.int (fi σ a 2) :: rest))) : W p l e R s m args below meth c H locs cells slots Qz (F0 m pc ls (xv E r :: rest)) :=
  x_getN (ci := 14) cx hR hr hk (by decide) rfl in_X16 2 (by decide) (xx_nf_mem (i := 29) rfl) (fun _ h => h) (v := .int (fi σ a 2)) rfl hdg kk
theorem xp_X0_426_15 {l : Launch} {p : Program} {e : Env} {R : Room} {s : State} {m : MethodId} {args : Array Value} {below : List Frame} {meth : Method} {c : Code} {H : Heap} {locs : List Loc} {cells slots : Nat} {Qz : State → Prop} {cc : ByteArray} {nL : Nat} {ret : Option FieldType} {E : xx_E} {σ : XS} {pc : Nat} {ls : Array Slot} {rest : List Value} (cx : xx_X "StruckCounts" cc nL ret E p s m args meth c) (hR : xR E σ H) (hS0 : va_S (xA E) s.heap H locs) {a : Nat} {r : Option Nat} {v : Int32} (hr : r = some a) (ha : xK ≤ a) (hk : kd σ a = 15) (hdg : decode cc pc = .ok (.putfield 426, 3)) (kk : ∀ (H1 : Heap) (locs1 : List Loc), xR E (pfi σ a 2 v) H1 → va_S (xA E) s.heap H1 locs1 → W p l e R s m args below meth c H1 locs1 cells slots Qz (F0 m (pc + 3) ls rest)) : W p l e R s m args below meth c H locs cells slots Qz (F0 m pc ls (.int v :: xv E r :: rest)) :=
  x_put (ci := 14) cx hR hS0 hr ha hk (by decide) rfl in_X16 tyX16 tyX16_ok nmX16 2 (by decide) (Or.inr (Or.inr ⟨_, (xx_nf_mem (i := 29) rfl), rfl⟩)) (fun _ h => h) rfl rfl (xput_i rfl) hdg kk
theorem xg_X0_77_1 {l : Launch} {p : Program} {e : Env} {R : Room} {s : State} {m : MethodId} {args : Array Value} {below : List Frame} {meth : Method} {c : Code} {H : Heap} {locs : List Loc} {cells slots : Nat} {Qz : State → Prop} {cc : ByteArray} {nL : Nat} {ret : Option FieldType} {E : xx_E} {σ : XS} {pc : Nat} {ls : Array Slot} {rest : List Value} (cx : xx_X "StruckCounts" cc nL ret E p s m args meth c) (hR : xR E σ H) {a : Nat} {r : Option Nat} (hr : r = some a) (hk : kd σ a = 1) (hdg : decode cc pc = .ok (.getfield 77, 3)) (kk : W p l e R s m args below meth c H locs cells slots Qz (F0 m (pc + 3) ls (xv E (fr σ a 19) :: rest))) : W p l e R s m args below meth c H locs cells slots Qz (F0 m pc ls (xv E r :: rest)) :=
  x_get (ci := 0) cx hR hr hk (by decide) rfl in_X0 19 (by decide) q590 (fun _ h => h) (v := xv E (fr σ a 19)) rfl hdg kk
theorem xg_X0_83_1 {l : Launch} {p : Program} {e : Env} {R : Room} {s : State} {m : MethodId} {args : Array Value} {below : List Frame} {meth : Method} {c : Code} {H : Heap} {locs : List Loc} {cells slots : Nat} {Qz : State → Prop} {cc : ByteArray} {nL : Nat} {ret : Option FieldType} {E : xx_E} {σ : XS} {pc : Nat} {ls : Array Slot} {rest : List Value} (cx : xx_X "StruckCounts" cc nL ret E p s m args meth c) (hR : xR E σ H) {a : Nat} {r : Option Nat} (hr : r = some a) (hk : kd σ a = 1) (hdg : decode cc pc = .ok (.getfield 83, 3)) (kk : W p l e R s m args below meth c H locs cells slots Qz (F0 m (pc + 3) ls (xv E (fr σ a 20) :: rest))) : W p l e R s m args below meth c H locs cells slots Qz (F0 m pc ls (xv E r :: rest)) :=
  x_get (ci := 0) cx hR hr hk (by decide) rfl in_X0 20 (by decide) q591 (fun _ h => h) (v := xv E (fr σ a 20)) rfl hdg kk
theorem xn_X0_81 {l : Launch} {p : Program} {e : Env} {R : Room} {s : State} {m : MethodId} {args : Array Value} {below : List Frame} {meth : Method} {c : Code} {H : Heap} {locs : List Loc} {cells slots : Nat} {Qz : State → Prop} {cc : ByteArray} {nL : Nat} {ret : Option FieldType} {E : xx_E} {σ : XS} {pc : Nat} {ls : Array Slot} {rest : List Value} (cx : xx_X "StruckCounts" cc nL ret E p s m args meth c) (hR : xR E σ H) (hS0 : va_S (xA E) s.heap H locs) (hcells : cells + 1 ≤ R.cells) (hslots : slots + 3 ≤ R.slots) (hdg : decode cc pc = .ok (.new 81, 3)) (kk : ∀ (H1 : Heap), xR E (xal σ 15 0) H1 → va_S (xA E) s.heap H1 locs → W p l e R s m args below meth c H1 locs (cells + 1) (slots + 3) Qz (F0 m (pc + 3) ls (xv E (some (xn σ)) :: rest))) : W p l e R s m args below meth c H locs cells slots Qz (F0 m pc ls rest) :=
  x_new cx hR hS0 14 (by decide) rfl in_X16 tyX16 tyX16_ok q569 q2277 q205 (fun j hj => by
    match j, hj with
    | 0, _ => exact xnew_i rfl
    | 1, _ => exact xnew_i rfl
    | 2, _ => exact xnew_i rfl) hcells hslots hdg kk
theorem CJ2_clearL_X0_414 {l : Launch} {p : Program} {e : Env} {R : Room} {s : State} {m : MethodId} {args : Array Value} {below : List Frame} {meth : Method} {c : Code} {H : Heap} {locs : List Loc} {cells slots : Nat} {Qz : State → Prop} {cc : ByteArray} {nL : Nat} {ret : Option FieldType} {E : xx_E} {σ : XS} {pc : Nat} {ls : Array Slot} {rest : List Value} {th : Nat} (cx : xx_X "StruckCounts" cc nL ret E p s m args meth c) (hR0 : xR E σ H) (hS0 : va_S (xA E) s.heap H locs) {r0 : Option Nat} (hr : r0 = some th) (hk : kd σ th = 18) {Qf : XS → Prop} (hw : wJ2_clearL th σ Qf) (hR : (({ frames := 1, cells := 0, slots := 0, locals := 40 } : Room)).frames + 1 ≤ R.frames ∧ 8 + (1 + 11) + (({ frames := 1, cells := 0, slots := 0, locals := 40 } : Room)).locals ≤ R.locals) (hrest : rest.length ≤ 4) (hsize : ls.size = nL) (hf : cells + 0 ≤ R.cells ∧ slots + 0 ≤ R.slots) (hdg : decode cc pc = .ok (.invokevirtual 414, 3))
    (kk : ∀ (σ1 : XS) (H1 : Heap) (locs1 : List Loc), Qf σ1 → xR E σ1 H1 → va_S (xA E) s.heap H1 locs1 → W p l e R s m args below meth c H1 locs1 (cells + 0) (slots + 0) Qz (F0 m (pc + 3) ls rest)) : W p l e R s m args below meth c H locs cells slots Qz (F0 m pc ls (xv E r0 :: rest)) := by
  subst hr
  obtain ⟨hx, hb, hml, hown, hts, hrt, hlk, hK, hZ⟩ := id cx
  exact x_gov (va_runV (As := []) (rest := rest) (x_fix cx) (MJ2_clearL l E th σ Qf hw) (cwV 0 hts (lw_V q2270 q2271 q2272 q160 q2273) rfl rfl rfl (by decide +kernel) hR) (x_preV cx hR0 hS0 hk (by decide) (q := (RJ2, TJ2, 12)) rfl rfl []) rfl rfl hsize rfl (lv_room (xroom hrest)) hdg hf) hS0 kk
theorem CX16_init_X0_417 {l : Launch} {p : Program} {e : Env} {R : Room} {s : State} {m : MethodId} {args : Array Value} {below : List Frame} {meth : Method} {c : Code} {H : Heap} {locs : List Loc} {cells slots : Nat} {Qz : State → Prop} {cc : ByteArray} {nL : Nat} {ret : Option FieldType} {E : xx_E} {σ : XS} {pc : Nat} {ls : Array Slot} {rest : List Value} {th : Nat} {x1 : Int32} {x2 : Int32} (cx : xx_X "StruckCounts" cc nL ret E p s m args meth c) (hR0 : xR E σ H) (hS0 : va_S (xA E) s.heap H locs) {r0 : Option Nat} (hr : r0 = some th) (hk : kd σ th = 15) {Qf : XS → Prop} (hw : wX16_init th x1 x2 σ Qf) (hR : (({ frames := 1, cells := 0, slots := 0, locals := 40 } : Room)).frames + 1 ≤ R.frames ∧ 8 + (3 + 11) + (({ frames := 1, cells := 0, slots := 0, locals := 40 } : Room)).locals ≤ R.locals) (hrest : rest.length ≤ 4) (hsize : ls.size = nL) (hf : cells + 0 ≤ R.cells ∧ slots + 0 ≤ R.slots) (hdg : decode cc pc = .ok (.invokespecial 417, 3))
    (kk : ∀ (σ1 : XS) (H1 : Heap) (locs1 : List Loc), Qf σ1 → xR E σ1 H1 → va_S (xA E) s.heap H1 locs1 → W p l e R s m args below meth c H1 locs1 (cells + 0) (slots + 0) Qz (F0 m (pc + 3) ls rest)) : W p l e R s m args below meth c H locs cells slots Qz (F0 m pc ls (.int x2 :: .int x1 :: xv E r0 :: rest)) := by
  subst hr
  obtain ⟨hx, hb, hml, hown, hts, hrt, hlk, hK, hZ⟩ := id cx
  exact x_gov (va_runI (As := [.int x1, .int x2]) (rest := rest) (x_fix cx) (MX16_init l E th x1 x2 σ Qf hw) (cwI 2 hts (lw_meth q2280) rfl rfl rfl (hts _ q205) (hts _ q2278) (hts _ q2279) rfl (by decide +kernel) hR) ⟨xblind, x_pre cx hR0 hS0 (.ref (xr E th) :: [.int x1, .int x2])⟩ rfl rfl hsize rfl (lv_room (xroom hrest)) hdg hf) hS0 kk
theorem CJ2_getL_X0_418 {l : Launch} {p : Program} {e : Env} {R : Room} {s : State} {m : MethodId} {args : Array Value} {below : List Frame} {meth : Method} {c : Code} {H : Heap} {locs : List Loc} {cells slots : Nat} {Qz : State → Prop} {cc : ByteArray} {nL : Nat} {ret : Option FieldType} {E : xx_E} {σ : XS} {pc : Nat} {ls : Array Slot} {rest : List Value} {th : Nat} {x1 : Option Nat} (cx : xx_X "StruckCounts" cc nL ret E p s m args meth c) (hR0 : xR E σ H) (hS0 : va_S (xA E) s.heap H locs) {r0 : Option Nat} (hr : r0 = some th) (hk : kd σ th = 18) {Qf : Option Nat → XS → Prop} (hw : wJ2_getL th x1 σ Qf) (hR : (({ frames := 10, cells := 0, slots := 0, locals := 400 } : Room)).frames + 1 ≤ R.frames ∧ 8 + (3 + 11) + (({ frames := 10, cells := 0, slots := 0, locals := 400 } : Room)).locals ≤ R.locals) (hrest : rest.length ≤ 4) (hsize : ls.size = nL) (hf : cells + 0 ≤ R.cells ∧ slots + 0 ≤ R.slots) (hdg : decode cc pc = .ok (.invokevirtual 418, 3))
    (kk : ∀ (r : Option Nat) (σ1 : XS) (H1 : Heap) (locs1 : List Loc), Qf r σ1 → xR E σ1 H1 → va_S (xA E) s.heap H1 locs1 → W p l e R s m args below meth c H1 locs1 (cells + 0) (slots + 0) Qz (F0 m (pc + 3) ls (xv E r :: rest))) : W p l e R s m args below meth c H locs cells slots Qz (F0 m pc ls (xv E x1 :: xv E r0 :: rest)) := by
  subst hr
  obtain ⟨hx, hb, hml, hown, hts, hrt, hlk, hK, hZ⟩ := id cx
  exact x_gor (va_runV (As := [xv E x1]) (rest := rest) (x_fix cx) (MJ2_getL l E th x1 σ Qf hw) (cwV 1 hts (lw_V q2294 q1745 q1746 q160 q1747) rfl rfl rfl (by decide +kernel) hR) (x_preV cx hR0 hS0 hk (by decide) (q := (RJ2, TJ2, 12)) rfl rfl [xv E x1]) rfl rfl hsize rfl (lv_room (xroom hrest)) hdg hf) hS0 kk
theorem CJ1_sizeL_X0_421 {l : Launch} {p : Program} {e : Env} {R : Room} {s : State} {m : MethodId} {args : Array Value} {below : List Frame} {meth : Method} {c : Code} {H : Heap} {locs : List Loc} {cells slots : Nat} {Qz : State → Prop} {cc : ByteArray} {nL : Nat} {ret : Option FieldType} {E : xx_E} {σ : XS} {pc : Nat} {ls : Array Slot} {rest : List Value} {th : Nat} (cx : xx_X "StruckCounts" cc nL ret E p s m args meth c) (hR0 : xR E σ H) (hS0 : va_S (xA E) s.heap H locs) {r0 : Option Nat} (hr : r0 = some th) (hk : kd σ th = 18) {Qf : Int32 → XS → Prop} (hw : wJ1_sizeL th σ Qf) (hR : (({ frames := 0, cells := 0, slots := 0, locals := 0 } : Room)).frames + 1 ≤ R.frames ∧ 8 + (1 + 11) + (({ frames := 0, cells := 0, slots := 0, locals := 0 } : Room)).locals ≤ R.locals) (hrest : rest.length ≤ 4) (hsize : ls.size = nL) (hf : cells + 0 ≤ R.cells ∧ slots + 0 ≤ R.slots) (hdg : decode cc pc = .ok (.invokevirtual 421, 3))
    (kk : ∀ (r : Int32) (σ1 : XS) (H1 : Heap) (locs1 : List Loc), Qf r σ1 → xR E σ1 H1 → va_S (xA E) s.heap H1 locs1 → W p l e R s m args below meth c H1 locs1 (cells + 0) (slots + 0) Qz (F0 m (pc + 3) ls (.int r :: rest))) : W p l e R s m args below meth c H locs cells slots Qz (F0 m pc ls (xv E r0 :: rest)) := by
  subst hr
  obtain ⟨hx, hb, hml, hown, hts, hrt, hlk, hK, hZ⟩ := id cx
  exact x_goi (va_runU (C := "java/util/LinkedHashMap") (owner := "java/util/HashMap") (As := []) (rest := rest) (x_fix cx) (MJ1_sizeL l E th σ Qf hw) (va_cwU (C := "java/util/LinkedHashMap") (owner := "java/util/HashMap") (x := ⟨"java/util/LinkedHashMap", "size", "()I"⟩) 0 hts (lw_app (xin5 q2295 q2296 q2298 q2299 q159) (lw_meth q2300)) rfl rfl rfl rfl (by decide +kernel) hR) (x_preV cx hR0 hS0 hk (by decide) (q := (RJ2, TJ2, 12)) rfl rfl []) rfl rfl hsize rfl (lv_room (xroom hrest)) hdg hf) hS0 kk
theorem CJ1_putL_X0_422 {l : Launch} {p : Program} {e : Env} {R : Room} {s : State} {m : MethodId} {args : Array Value} {below : List Frame} {meth : Method} {c : Code} {H : Heap} {locs : List Loc} {cells slots : Nat} {Qz : State → Prop} {cc : ByteArray} {nL : Nat} {ret : Option FieldType} {E : xx_E} {σ : XS} {pc : Nat} {ls : Array Slot} {rest : List Value} {th : Nat} {x1 : Option Nat} {x2 : Option Nat} {k n : Nat} (cx : xx_X "StruckCounts" cc nL ret E p s m args meth c) (hR0 : xR E σ H) (hS0 : va_S (xA E) s.heap H locs) {r0 : Option Nat} (hr : r0 = some th) (hk : kd σ th = 18) {Qf : Option Nat → XS → Prop} (hw : wJ1_putL th x1 x2 k n σ Qf) (hR : (({ frames := 9, cells := k, slots := n, locals := 360 } : Room)).frames + 1 ≤ R.frames ∧ 8 + (3 + 11) + (({ frames := 9, cells := k, slots := n, locals := 360 } : Room)).locals ≤ R.locals) (hrest : rest.length ≤ 4) (hsize : ls.size = nL) (hf : cells + k ≤ R.cells ∧ slots + n ≤ R.slots) (hdg : decode cc pc = .ok (.invokevirtual 422, 3))
    (kk : ∀ (r : Option Nat) (σ1 : XS) (H1 : Heap) (locs1 : List Loc), Qf r σ1 → xR E σ1 H1 → va_S (xA E) s.heap H1 locs1 → W p l e R s m args below meth c H1 locs1 (cells + k) (slots + n) Qz (F0 m (pc + 3) ls (xv E r :: rest))) : W p l e R s m args below meth c H locs cells slots Qz (F0 m pc ls (xv E x2 :: xv E x1 :: xv E r0 :: rest)) := by
  subst hr
  obtain ⟨hx, hb, hml, hown, hts, hrt, hlk, hK, hZ⟩ := id cx
  exact x_gor (va_runU (C := "java/util/LinkedHashMap") (owner := "java/util/HashMap") (As := [xv E x1, xv E x2]) (rest := rest) (x_fix cx) (MJ1_putL l E th x1 x2 k n σ Qf hw) (va_cwU (C := "java/util/LinkedHashMap") (owner := "java/util/HashMap") (x := ⟨"java/util/LinkedHashMap", "put", "(Ljava/lang/Object;Ljava/lang/Object;)Ljava/lang/Object;"⟩) 2 hts (lw_app (xin5 q2301 q1451 q1453 q1454 q159) (lw_meth q1455)) rfl rfl rfl rfl (by decide +kernel) hR) (x_preV cx hR0 hS0 hk (by decide) (q := (RJ2, TJ2, 12)) rfl rfl [xv E x1, xv E x2]) rfl rfl hsize rfl (lv_room (xroom hrest)) hdg hf) hS0 kk
def wX0_laysOutcomes_106 (d : Nat) (Q : XS → Prop) (K14 : Nat → Int32 → Int32 → Nat → Nat → XS → Prop) (th : Nat) (x1 : Int32) (x2 : Int32) (bc : Nat) (bs : Nat) (σ : XS) : Prop :=
  ∀ v1 : Int32, v1 = x2 + (1 : Int32) → K14 th x1 v1 bc bs σ
set_option maxHeartbeats 4000000 in
theorem BX0_laysOutcomes_106 {l : Launch} {p : Program} {e : Env} {s : State} {m : MethodId} {args : Array Value} {below : List Frame} {meth : Method} {c : Code} {E : xx_E} {mc ms : Nat} {Q : XS → Prop} {K14 : Nat → Int32 → Int32 → Nat → Nat → XS → Prop} (d : Nat) (cx : xx_X "StruckCounts" cX0_laysOutcomes 5 none E p s m args meth c) (hK14 : ∀ (th : Nat) (x1 : Int32) (x2 : Int32) (bc : Nat) (bs : Nat) (σ : XS), K14 th x1 x2 bc bs σ → x_T p l e ({ frames := (11 + 1 * d), cells := mc, slots := ms, locals := 40 * (11 + 1 * d) } : Room) s m args below meth c E (va_Qv Q (fun σ' t => xW E σ' t) (xA E)) mc ms 5 14 bc bs σ [(0, xv E (some th)), (1, .int x1), (2, .int x2)] []) : ∀ (th : Nat) (x1 : Int32) (x2 : Int32) (bc : Nat) (bs : Nat) (σ : XS), wX0_laysOutcomes_106 d Q K14 th x1 x2 bc bs σ → x_T p l e ({ frames := (11 + 1 * d), cells := mc, slots := ms, locals := 40 * (11 + 1 * d) } : Room) s m args below meth c E (va_Qv Q (fun σ' t => xW E σ' t) (xA E)) mc ms 5 106 bc bs σ [(0, xv E (some th)), (1, .int x1), (2, .int x2)] [] := by
  intro th x1 x2 bc bs σ hw H locs ls cells slots hR hS hl hcb hsb
  unfold wX0_laysOutcomes_106 at hw
  obtain ⟨hx, hb, hml, hown, hts, hrt, hlk, hMK, hZ⟩ := id cx
  obtain ⟨v1, hv1⟩ : ∃ v : Int32, v = x2 + (1 : Int32) := ⟨_, rfl⟩
  have hw := hw v1 hv1
  refine lv_iinc (v := v1) (lv' := [(2, .int v1), (0, xv E (some th)), (1, .int x1)]) hx hb dX0_laysOutcomes_106 hl (k := 2) rfl (by rw [hv1]; rfl) (by decide) rfl (fun ls hl => ?_)
  refine lv_goto (tgt := 14) hx hb dX0_laysOutcomes_109 (by decide) ?_
  exact hK14 _ _ _ _ _ _ hw _ _ _ _ _ hR hS (lv_sub hl [1, 2, 0] rfl) hcb hsb
def wX0_laysOutcomes_95 (d : Nat) (Q : XS → Prop) (K14 : Nat → Int32 → Int32 → Nat → Nat → XS → Prop) (th : Nat) (x1 : Int32) (x2 : Int32) (x4 : Option Nat) (bc : Nat) (bs : Nat) (σ : XS) : Prop :=
  oc σ x4 15 (fun a2 => xK ≤ a2 ∧ (wX0_laysOutcomes_106 d Q K14 th x1 x2 bc bs (pfi σ a2 2 ((fi σ a2 2) + (1 : Int32)))))
set_option maxHeartbeats 4000000 in
theorem BX0_laysOutcomes_95 {l : Launch} {p : Program} {e : Env} {s : State} {m : MethodId} {args : Array Value} {below : List Frame} {meth : Method} {c : Code} {E : xx_E} {mc ms : Nat} {Q : XS → Prop} {K14 : Nat → Int32 → Int32 → Nat → Nat → XS → Prop} (d : Nat) (cx : xx_X "StruckCounts" cX0_laysOutcomes 5 none E p s m args meth c) (hK14 : ∀ (th : Nat) (x1 : Int32) (x2 : Int32) (bc : Nat) (bs : Nat) (σ : XS), K14 th x1 x2 bc bs σ → x_T p l e ({ frames := (11 + 1 * d), cells := mc, slots := ms, locals := 40 * (11 + 1 * d) } : Room) s m args below meth c E (va_Qv Q (fun σ' t => xW E σ' t) (xA E)) mc ms 5 14 bc bs σ [(0, xv E (some th)), (1, .int x1), (2, .int x2)] []) : ∀ (th : Nat) (x1 : Int32) (x2 : Int32) (x4 : Option Nat) (bc : Nat) (bs : Nat) (σ : XS), wX0_laysOutcomes_95 d Q K14 th x1 x2 x4 bc bs σ → x_T p l e ({ frames := (11 + 1 * d), cells := mc, slots := ms, locals := 40 * (11 + 1 * d) } : Room) s m args below meth c E (va_Qv Q (fun σ' t => xW E σ' t) (xA E)) mc ms 5 95 bc bs σ [(0, xv E (some th)), (1, .int x1), (2, .int x2), (4, xv E x4)] [] := by
  intro th x1 x2 x4 bc bs σ hw H locs ls cells slots hR hS hl hcb hsb
  unfold wX0_laysOutcomes_95 at hw
  obtain ⟨hx, hb, hml, hown, hts, hrt, hlk, hMK, hZ⟩ := id cx
  refine x_aload cx dX0_laysOutcomes_95 (lv_at hl 3 rfl) ?_
  refine lv_dup hx hb dX0_laysOutcomes_97 (xv_cat _ _) ?_
  obtain ⟨a2, hr2, hk2, hw⟩ := hw
  refine xg_X0_426_15 cx hR hr2 hk2 dX0_laysOutcomes_98 ?_
  refine lv_iconst (v := (1 : Int32)) hx hb dX0_laysOutcomes_101 (by decide) ?_
  refine lv_iadd hx hb dX0_laysOutcomes_102 ?_
  obtain ⟨hge_a2, hw⟩ := hw
  refine xp_X0_426_15 (v := ((fi σ a2 2) + (1 : Int32))) cx hR hS hr2 hge_a2 hk2 dX0_laysOutcomes_103 (fun H locs hR hS => ?_)
  exact BX0_laysOutcomes_106 d cx hK14 _ _ _ _ _ _ hw _ _ _ _ _ hR hS (lv_sub hl [0, 1, 2] rfl) hcb hsb
def wX0_laysOutcomes_14 (d : Nat) (Q : XS → Prop) (K14 : Nat → Int32 → Int32 → Nat → Nat → XS → Prop) (th : Nat) (x1 : Int32) (x2 : Int32) (bc : Nat) (bs : Nat) (σ : XS) : Prop :=
  kd σ th = 1 ∧ (oc σ (fr σ th 5) 2 (fun a5 => wX1_sets a5 σ (fun r4 s4 => if r4 ≤ x2 then (Q s4) else (kd s4 th = 1 ∧ (wX0_isNow th x2 s4 (fun r6 s6 => if r6 = 0 then (wX0_laysOutcomes_106 d Q K14 th x1 x2 bc bs s6) else (1 ≤ bc ∧ 3 ≤ bs ∧ (kd (xal s6 15 0) th = 1 ∧ (wX0_wonOf th x1 x2 (xal s6 15 0) (fun r8 s8 => kd s8 (xn s6) = 15 ∧ (wX16_init (xn s6) r8 x2 s8 (fun s10 => kd s10 th = 1 ∧ (oc s10 (fr s10 th 19) 18 (fun a14 => wJ2_getL a14 (some (xn s6)) s10 (fun r13 s13 => xck [15] s13 r13 ∧ (if r13 = none then (kd s13 th = 1 ∧ (oc s13 (fr s13 th 19) 18 (fun a17 => wJ1_sizeL a17 s13 (fun r16 s16 => oc s16 (fr s13 th 20) 105 (fun a18 => xK ≤ a18 ∧ (vp_in r16 (ln s16 a18) ∧ (xck [15] s16 (some (xn s6)) ∧ (kd (par s16 a18 r16.toNatClampNeg (some (xn s6))) th = 1 ∧ (oc (par s16 a18 r16.toNatClampNeg (some (xn s6))) (fr (par s16 a18 r16.toNatClampNeg (some (xn s6))) th 19) 18 (fun a21 => ∃ k22 n22 : Nat, k22 ≤ (bc - 1) ∧ n22 ≤ (bs - 3) ∧ (wJ1_putL a21 (some (xn s6)) (some (xn s6)) k22 n22 (par s16 a18 r16.toNatClampNeg (some (xn s6))) (fun r20 s20 => wX0_laysOutcomes_95 d Q K14 th x1 x2 (some (xn s6)) ((bc - 1) - k22) ((bs - 3) - n22) s20)))))))))))) else (wX0_laysOutcomes_95 d Q K14 th x1 x2 r13 (bc - 1) (bs - 3) s13)))))))))))))))))
set_option maxHeartbeats 4000000 in
theorem BX0_laysOutcomes_14 {l : Launch} {p : Program} {e : Env} {s : State} {m : MethodId} {args : Array Value} {below : List Frame} {meth : Method} {c : Code} {E : xx_E} {mc ms : Nat} {Q : XS → Prop} {K14 : Nat → Int32 → Int32 → Nat → Nat → XS → Prop} (d : Nat) (cx : xx_X "StruckCounts" cX0_laysOutcomes 5 none E p s m args meth c) (hK14 : ∀ (th : Nat) (x1 : Int32) (x2 : Int32) (bc : Nat) (bs : Nat) (σ : XS), K14 th x1 x2 bc bs σ → x_T p l e ({ frames := (11 + 1 * d), cells := mc, slots := ms, locals := 40 * (11 + 1 * d) } : Room) s m args below meth c E (va_Qv Q (fun σ' t => xW E σ' t) (xA E)) mc ms 5 14 bc bs σ [(0, xv E (some th)), (1, .int x1), (2, .int x2)] []) : ∀ (th : Nat) (x1 : Int32) (x2 : Int32) (bc : Nat) (bs : Nat) (σ : XS), wX0_laysOutcomes_14 d Q K14 th x1 x2 bc bs σ → x_T p l e ({ frames := (11 + 1 * d), cells := mc, slots := ms, locals := 40 * (11 + 1 * d) } : Room) s m args below meth c E (va_Qv Q (fun σ' t => xW E σ' t) (xA E)) mc ms 5 14 bc bs σ [(0, xv E (some th)), (1, .int x1), (2, .int x2)] [] := by
  intro th x1 x2 bc bs σ hw H locs ls cells slots hR hS hl hcb hsb
  unfold wX0_laysOutcomes_14 at hw
  obtain ⟨hx, hb, hml, hown, hts, hrt, hlk, hMK, hZ⟩ := id cx
  refine lv_iload_n hx hb dX0_laysOutcomes_14 rfl (lv_at hl 2 rfl) ?_
  refine x_aload_n cx dX0_laysOutcomes_15 rfl (lv_at hl 0 rfl) ?_
  obtain ⟨hk3, hw⟩ := hw
  refine xg_X0_24_1 cx hR rfl hk3 dX0_laysOutcomes_16 ?_
  obtain ⟨a5, hr5, hk5, hw⟩ := hw
  refine CX1_sets_X0_142 cx hR hS hr5 hk5 hw (by constructor <;> dsimp only <;> omega) (Nat.le_of_ble_eq_true rfl) hl.1 ⟨by dsimp only; omega, by dsimp only; omega⟩ dX0_laysOutcomes_19 (fun r4 s4 H locs hw hR hS => ?_)
  refine lv_icmp_ge (tgt := 112) hx hb dX0_laysOutcomes_22 (by decide) (fun hc => ?_) (fun hc => ?_)
  · have hw := mm_ip hc hw
    exact x_vret cx hR hS (xle hcb) (xle hsb) hw dX0_laysOutcomes_112
  · have hw := mm_in hc hw
    refine x_aload_n cx dX0_laysOutcomes_25 rfl (lv_at hl 0 rfl) ?_
    refine lv_iload_n hx hb dX0_laysOutcomes_26 rfl (lv_at hl 2 rfl) ?_
    obtain ⟨hk7, hw⟩ := hw
    refine CX0_isNow_X0_347 cx hR hS rfl hk7 hw (by constructor <;> dsimp only <;> omega) (Nat.le_of_ble_eq_true rfl) hl.1 ⟨by dsimp only; omega, by dsimp only; omega⟩ dX0_laysOutcomes_27 (fun r6 s6 H locs hw hR hS => ?_)
    refine lv_if_ne (tgt := 36) hx hb dX0_laysOutcomes_30 (by decide) (fun hc => ?_) (fun hc => ?_)
    · have hw := mm_in hc hw
      obtain ⟨hb1, hb2, hw⟩ := hw
      refine xn_X0_81 cx hR hS (by dsimp only; omega) (by dsimp only; omega) dX0_laysOutcomes_36 (fun H hR hS => ?_)
      have hcb := xadd hb1 hcb
      have hsb := xadd hb2 hsb
      refine lv_dup hx hb dX0_laysOutcomes_39 (xv_cat _ _) ?_
      refine x_aload_n cx dX0_laysOutcomes_40 rfl (lv_at hl 0 rfl) ?_
      refine lv_iload_n hx hb dX0_laysOutcomes_41 rfl (lv_at hl 1 rfl) ?_
      refine lv_iload_n hx hb dX0_laysOutcomes_42 rfl (lv_at hl 2 rfl) ?_
      obtain ⟨hk9, hw⟩ := hw
      refine CX0_wonOf_X0_403 cx hR hS rfl hk9 hw (by constructor <;> dsimp only <;> omega) (Nat.le_of_ble_eq_true rfl) hl.1 ⟨by dsimp only; omega, by dsimp only; omega⟩ dX0_laysOutcomes_43 (fun r8 s8 H locs hw hR hS => ?_)
      refine lv_iload_n hx hb dX0_laysOutcomes_46 rfl (lv_at hl 2 rfl) ?_
      obtain ⟨hk11, hw⟩ := hw
      refine CX16_init_X0_417 cx hR hS rfl hk11 hw (by constructor <;> dsimp only <;> omega) (Nat.le_of_ble_eq_true rfl) hl.1 ⟨by dsimp only; omega, by dsimp only; omega⟩ dX0_laysOutcomes_47 (fun s10 H locs hw hR hS => ?_)
      refine x_astore_n (i := 3) (r := (some (xn s6))) (lv' := [(3, xv E (some (xn s6))), (0, xv E (some th)), (1, .int x1), (2, .int x2)]) cx dX0_laysOutcomes_50 rfl hl (by decide) rfl (fun ls hl => ?_)
      refine x_aload_n cx dX0_laysOutcomes_51 rfl (lv_at hl 1 rfl) ?_
      obtain ⟨hk12, hw⟩ := hw
      refine xg_X0_77_1 cx hR rfl hk12 dX0_laysOutcomes_52 ?_
      refine x_aload_n cx dX0_laysOutcomes_55 rfl (lv_at hl 0 rfl) ?_
      obtain ⟨a14, hr14, hk14, hw⟩ := hw
      refine CJ2_getL_X0_418 cx hR hS hr14 hk14 hw (by constructor <;> dsimp only <;> omega) (Nat.le_of_ble_eq_true rfl) hl.1 ⟨by dsimp only; omega, by dsimp only; omega⟩ dX0_laysOutcomes_56 (fun r13 s13 H locs hw hR hS => ?_)
      obtain ⟨hv, hw⟩ := hw
      refine x_cast cx hR q569 (xcc_5 hv) dX0_laysOutcomes_59 ?_
      refine x_astore (i := 4) (r := r13) (lv' := [(4, xv E r13), (3, xv E (some (xn s6))), (0, xv E (some th)), (1, .int x1), (2, .int x2)]) cx dX0_laysOutcomes_62 hl (by decide) (by simp [xv_cat]) (fun ls hl => ?_)
      refine x_aload cx dX0_laysOutcomes_64 (lv_at hl 0 rfl) ?_
      refine x_ifnonnull (tgt := 95) cx dX0_laysOutcomes_66 (by decide) (fun hc => ?_) (fun hc => ?_)
      · have hw := mm_in hc hw
        exact BX0_laysOutcomes_95 d cx hK14 _ _ _ _ _ _ _ hw _ _ _ _ _ hR hS (lv_sub hl [2, 3, 4, 0] rfl) hcb hsb
      · have hw := mm_ip hc hw
        refine x_aload_n cx dX0_laysOutcomes_69 rfl (lv_at hl 2 rfl) ?_
        obtain ⟨hk15, hw⟩ := hw
        refine xg_X0_83_1 cx hR rfl hk15 dX0_laysOutcomes_70 ?_
        refine x_aload_n cx dX0_laysOutcomes_73 rfl (lv_at hl 2 rfl) ?_
        refine xg_X0_77_1 cx hR rfl hk15 dX0_laysOutcomes_74 ?_
        obtain ⟨a17, hr17, hk17, hw⟩ := hw
        refine CJ1_sizeL_X0_421 cx hR hS hr17 hk17 hw (by constructor <;> dsimp only <;> omega) (Nat.le_of_ble_eq_true rfl) hl.1 ⟨by dsimp only; omega, by dsimp only; omega⟩ dX0_laysOutcomes_77 (fun r16 s16 H locs hw hR hS => ?_)
        refine x_aload_n cx dX0_laysOutcomes_80 rfl (lv_at hl 1 rfl) ?_
        obtain ⟨a18, hr18, hk18, hw⟩ := hw
        obtain ⟨hge_a18, hw⟩ := hw
        obtain ⟨hi, hw⟩ := hw
        obtain ⟨hv, hw⟩ := hw
        refine x_ast cx hR hS hr18 hge_a18 5 (C := "StruckCounts$Outcome") rfl hk18 (by decide) (by decide) (j := r16.toNatClampNeg) rfl hi (xcs_105 cx hv) dX0_laysOutcomes_81 (fun H locs hR hS => ?_)
        refine x_aload_n cx dX0_laysOutcomes_82 rfl (lv_at hl 2 rfl) ?_
        obtain ⟨hk19, hw⟩ := hw
        refine xg_X0_77_1 cx hR rfl hk19 dX0_laysOutcomes_83 ?_
        refine x_aload_n cx dX0_laysOutcomes_86 rfl (lv_at hl 1 rfl) ?_
        refine x_aload_n cx dX0_laysOutcomes_87 rfl (lv_at hl 1 rfl) ?_
        obtain ⟨a21, hr21, hk21, hw⟩ := hw
        obtain ⟨k22, n22, hb1, hb2, hw⟩ := hw
        refine CJ1_putL_X0_422 cx hR hS hr21 hk21 hw (by constructor <;> dsimp only <;> omega) (Nat.le_of_ble_eq_true rfl) hl.1 ⟨by dsimp only; omega, by dsimp only; omega⟩ dX0_laysOutcomes_88 (fun r20 s20 H locs hw hR hS => ?_)
        have hcb := xadd hb1 hcb
        have hsb := xadd hb2 hsb
        refine lv_pop hx hb dX0_laysOutcomes_91 (xv_cat _ _) ?_
        refine x_aload_n cx dX0_laysOutcomes_92 rfl (lv_at hl 1 rfl) ?_
        refine x_astore (i := 4) (r := (some (xn s6))) (lv' := [(4, xv E (some (xn s6))), (3, xv E (some (xn s6))), (0, xv E (some th)), (1, .int x1), (2, .int x2)]) cx dX0_laysOutcomes_93 hl (by decide) (by simp [xv_cat]) (fun ls hl => ?_)
        exact BX0_laysOutcomes_95 d cx hK14 _ _ _ _ _ _ _ hw _ _ _ _ _ hR hS (lv_sub hl [2, 3, 4, 0] rfl) hcb hsb
    · have hw := mm_ip hc hw
      refine lv_goto (tgt := 106) hx hb dX0_laysOutcomes_33 (by decide) ?_
      exact BX0_laysOutcomes_106 d cx hK14 _ _ _ _ _ _ hw _ _ _ _ _ hR hS (lv_sub hl [0, 1, 2] rfl) hcb hsb
theorem LX0_laysOutcomes_14 {l : Launch} {p : Program} {e : Env} {s : State} {m : MethodId} {args : Array Value} {below : List Frame} {meth : Method} {c : Code} {E : xx_E} {mc ms : Nat} {Q : XS → Prop} (d : Nat) (cx : xx_X "StruckCounts" cX0_laysOutcomes 5 none E p s m args meth c) : ∀ (th : Nat) (x1 : Int32) (x2 : Int32) (bc : Nat) (bs : Nat) (σ : XS), lp6F (wX0_laysOutcomes_14 d Q) th x1 x2 bc bs σ → x_T p l e ({ frames := (11 + 1 * d), cells := mc, slots := ms, locals := 40 * (11 + 1 * d) } : Room) s m args below meth c E (va_Qv Q (fun σ' t => xW E σ' t) (xA E)) mc ms 5 14 bc bs σ [(0, xv E (some th)), (1, .int x1), (2, .int x2)] [] :=
  lp6F_of (fun K hK => BX0_laysOutcomes_14 d cx hK)
def wX0_laysOutcomes (d : Nat) (th : Nat) (bc : Nat) (bs : Nat) (σ : XS) (Q : XS → Prop) : Prop :=
  kd σ th = 1 ∧ (oc σ (fr σ th 19) 18 (fun a25 => wJ2_clearL a25 σ (fun s24 => kd s24 th = 1 ∧ (wX0_standing d th s24 (fun r26 s26 => lp6F (wX0_laysOutcomes_14 d Q) th r26 (0 : Int32) bc bs s26)))))
set_option maxHeartbeats 4000000 in
theorem MX0_laysOutcomes (l : Launch) (E : xx_E) (d : Nat) (th : Nat) (bc : Nat) (bs : Nat) (σ : XS) (Q : XS → Prop) (hw : wX0_laysOutcomes d th bc bs σ Q) : xx_Mv l yX0_laysOutcomes (ws_ yX0_laysOutcomes cX0_laysOutcomes 5 none) ({ frames := (11 + 1 * d), cells := bc, slots := bs, locals := 40 * (11 + 1 * d) } : Room) E [xv E (some th)] σ Q bc bs := by
  refine x_of (own := "StruckCounts") (by decide +kernel) rfl ?_
  intro p e s m args below meth c cx hR ha hnm
  refine x_entry [xv E (some th)] 5 [(0, xv E (some th))] ha (by simp [lg_sl, xv_cat, vc_i, vc_j, vc_f]) (by simp [lv_args, xv_cat, vc_i, vc_j, vc_f]) (fun ls hl => ?_)
  have hS : va_S (xA E) s.heap s.heap [] := va_S.rf
  have hcb : 0 + bc ≤ bc := Nat.le_of_eq (Nat.zero_add _)
  have hsb : 0 + bs ≤ bs := Nat.le_of_eq (Nat.zero_add _)
  unfold wX0_laysOutcomes at hw
  obtain ⟨hx, hb, hml, hown, hts, hrt, hlk, hMK, hZ⟩ := id cx
  refine x_aload_n cx dX0_laysOutcomes_0 rfl (lv_at hl 0 rfl) ?_
  obtain ⟨hk23, hw⟩ := hw
  refine xg_X0_77_1 cx hR rfl hk23 dX0_laysOutcomes_1 ?_
  obtain ⟨a25, hr25, hk25, hw⟩ := hw
  refine CJ2_clearL_X0_414 cx hR hS hr25 hk25 hw (by constructor <;> dsimp only <;> omega) (Nat.le_of_ble_eq_true rfl) hl.1 ⟨by dsimp only; omega, by dsimp only; omega⟩ dX0_laysOutcomes_4 (fun s24 H locs hw hR hS => ?_)
  refine x_aload_n cx dX0_laysOutcomes_7 rfl (lv_at hl 0 rfl) ?_
  obtain ⟨hk27, hw⟩ := hw
  refine CX0_standing_X0_406 d cx hR hS rfl hk27 hw (by constructor <;> dsimp only <;> omega) (Nat.le_of_ble_eq_true rfl) hl.1 ⟨by dsimp only; omega, by dsimp only; omega⟩ dX0_laysOutcomes_8 (fun r26 s26 H locs hw hR hS => ?_)
  refine lv_istore_n (i := 1) (lv' := [(1, .int r26), (0, xv E (some th))]) hx hb dX0_laysOutcomes_11 rfl hl (by decide) (by simp [xv_cat]) (fun ls hl => ?_)
  refine lv_iconst (v := (0 : Int32)) hx hb dX0_laysOutcomes_12 (by decide) ?_
  refine lv_istore_n (i := 2) (lv' := [(2, .int (0 : Int32)), (1, .int r26), (0, xv E (some th))]) hx hb dX0_laysOutcomes_13 rfl hl (by decide) rfl (fun ls hl => ?_)
  exact LX0_laysOutcomes_14 d cx _ _ _ _ _ _ hw _ _ _ _ _ hR hS (lv_sub hl [2, 1, 0] rfl) hcb hsb
