set_option maxRecDepth 100000
-- X0_sign
theorem xg_X0_93_1 {l : Launch} {p : Program} {e : Env} {R : Room} {s : State} {m : MethodId} {args : Array Value} {below : List Frame} {meth : Method} {c : Code} {H : Heap} {locs : List Loc} {cells slots : Nat} {Qz : State → Prop} {cc : ByteArray} {nL : Nat} {ret : Option FieldType} {E : xx_E} {σ : XS} {pc : Nat} {ls : Array Slot} {rest : List Value} (cx : xx_X "StruckCounts" cc nL ret E p s m args meth c) (hR : xR E σ H) {a : Nat} {r : Option Nat} (hr : r = some a) (hk : kd σ a = 1) (hdg : decode cc pc = .ok (.getfield 93, 3)) (kk : W p l e R s m args below meth c H locs cells slots Qz (F0 m (pc + 3) ls (.int (fi σ a 1) :: rest))) : W p l e R s m args below meth c H locs cells slots Qz (F0 m pc ls (xv E r :: rest)) :=
  x_get (ci := 0) cx hR hr hk (by decide) rfl in_X0 1 (by decide) q572 (fun _ h => h) (v := .int (fi σ a 1)) rfl hdg kk
theorem xg_X0_9_1 {l : Launch} {p : Program} {e : Env} {R : Room} {s : State} {m : MethodId} {args : Array Value} {below : List Frame} {meth : Method} {c : Code} {H : Heap} {locs : List Loc} {cells slots : Nat} {Qz : State → Prop} {cc : ByteArray} {nL : Nat} {ret : Option FieldType} {E : xx_E} {σ : XS} {pc : Nat} {ls : Array Slot} {rest : List Value} (cx : xx_X "StruckCounts" cc nL ret E p s m args meth c) (hR : xR E σ H) {a : Nat} {r : Option Nat} (hr : r = some a) (hk : kd σ a = 1) (hdg : decode cc pc = .ok (.getfield 9, 3)) (kk : W p l e R s m args below meth c H locs cells slots Qz (F0 m (pc + 3) ls (xv E (fr σ a 0) :: rest))) : W p l e R s m args below meth c H locs cells slots Qz (F0 m pc ls (xv E r :: rest)) :=
  x_get (ci := 0) cx hR hr hk (by decide) rfl in_X0 0 (by decide) q571 (fun _ h => h) (v := xv E (fr σ a 0)) rfl hdg kk
theorem xp_X0_93_1 {l : Launch} {p : Program} {e : Env} {R : Room} {s : State} {m : MethodId} {args : Array Value} {below : List Frame} {meth : Method} {c : Code} {H : Heap} {locs : List Loc} {cells slots : Nat} {Qz : State → Prop} {cc : ByteArray} {nL : Nat} {ret : Option FieldType} {E : xx_E} {σ : XS} {pc : Nat} {ls : Array Slot} {rest : List Value} (cx : xx_X "StruckCounts" cc nL ret E p s m args meth c) (hR : xR E σ H) (hS0 : va_S (xA E) s.heap H locs) {a : Nat} {r : Option Nat} {v : Int32} (hr : r = some a) (ha : xK ≤ a) (hk : kd σ a = 1) (hdg : decode cc pc = .ok (.putfield 93, 3)) (kk : ∀ (H1 : Heap) (locs1 : List Loc), xR E (pfi σ a 1 v) H1 → va_S (xA E) s.heap H1 locs1 → W p l e R s m args below meth c H1 locs1 cells slots Qz (F0 m (pc + 3) ls rest)) : W p l e R s m args below meth c H locs cells slots Qz (F0 m pc ls (.int v :: xv E r :: rest)) :=
  x_put (ci := 0) cx hR hS0 hr ha hk (by decide) rfl in_X0 tyX0 tyX0_ok nmX0 1 (by decide) (Or.inl ⟨q572, rfl⟩) (fun _ h => h) rfl rfl (xput_i rfl) hdg kk
def wX0_sign_17 (Q : Int32 → XS → Prop) (K17 : Nat → Int32 → Int32 → XS → Prop) (th : Nat) (x1 : Int32) (x2 : Int32) (σ : XS) : Prop :=
  if x2 < 0 then (kd σ th = 1 ∧ (Q (fi σ th 1) σ)) else (kd σ th = 1 ∧ (oc σ (fr σ th 0) 102 (fun a3 => xK ≤ a3 ∧ (vp_in (fi σ th 1) (ln σ a3) ∧ (xK ≤ th ∧ (∀ v4 : Int32, v4 = x2 + (-8 : Int32) → K17 th x1 v4 (pfi (pai σ a3 ((fi σ th 1).toNatClampNeg) (((x1 >>> (x2 &&& 31))).toInt8.toInt32).toInt8.toInt32) th 1 ((fi (pai σ a3 ((fi σ th 1).toNatClampNeg) (((x1 >>> (x2 &&& 31))).toInt8.toInt32).toInt8.toInt32) th 1) + (1 : Int32)))))))))
set_option maxHeartbeats 4000000 in
theorem BX0_sign_17 {l : Launch} {p : Program} {e : Env} {s : State} {m : MethodId} {args : Array Value} {below : List Frame} {meth : Method} {c : Code} {E : xx_E} {Q : Int32 → XS → Prop} {K17 : Nat → Int32 → Int32 → XS → Prop} (cx : xx_X "StruckCounts" cX0_sign 3 (some .int) E p s m args meth c) (hK17 : ∀ (th : Nat) (x1 : Int32) (x2 : Int32) (σ : XS), K17 th x1 x2 σ → x_T p l e ({ frames := 0, cells := 0, slots := 0, locals := 0 } : Room) s m args below meth c E (va_Qi Q (fun σ' t => xW E σ' t) (xA E)) 0 0 3 17 0 0 σ [(0, xv E (some th)), (1, .int x1), (2, .int x2)] []) : ∀ (th : Nat) (x1 : Int32) (x2 : Int32) (σ : XS), wX0_sign_17 Q K17 th x1 x2 σ → x_T p l e ({ frames := 0, cells := 0, slots := 0, locals := 0 } : Room) s m args below meth c E (va_Qi Q (fun σ' t => xW E σ' t) (xA E)) 0 0 3 17 0 0 σ [(0, xv E (some th)), (1, .int x1), (2, .int x2)] [] := by
  intro th x1 x2 σ hw H locs ls cells slots hR hS hl hcb hsb
  unfold wX0_sign_17 at hw
  obtain ⟨hx, hb, hml, hown, hts, hrt, hlk, hMK, hZ⟩ := id cx
  refine lv_iload_n hx hb dX0_sign_17 rfl (lv_at hl 2 rfl) ?_
  refine lv_if_lt (tgt := 50) hx hb dX0_sign_18 (by decide) (fun hc => ?_) (fun hc => ?_)
  · have hw := mm_ip hc hw
    refine x_aload_n cx dX0_sign_50 rfl (lv_at hl 0 rfl) ?_
    obtain ⟨hk1, hw⟩ := hw
    refine xg_X0_93_1 cx hR rfl hk1 dX0_sign_51 ?_
    exact x_iret cx hR hS (xle hcb) (xle hsb) hw dX0_sign_54
  · have hw := mm_in hc hw
    refine x_aload_n cx dX0_sign_21 rfl (lv_at hl 0 rfl) ?_
    obtain ⟨hk2, hw⟩ := hw
    refine xg_X0_9_1 cx hR rfl hk2 dX0_sign_22 ?_
    refine x_aload_n cx dX0_sign_25 rfl (lv_at hl 0 rfl) ?_
    refine xg_X0_93_1 cx hR rfl hk2 dX0_sign_26 ?_
    refine lv_iload_n hx hb dX0_sign_29 rfl (lv_at hl 1 rfl) ?_
    refine lv_iload_n hx hb dX0_sign_30 rfl (lv_at hl 2 rfl) ?_
    refine lv_ishr hx hb dX0_sign_31 ?_
    refine lv_i2b hx hb dX0_sign_32 rfl ?_
    obtain ⟨a3, hr3, hk3, hw⟩ := hw
    obtain ⟨hge_a3, hw⟩ := hw
    obtain ⟨hi, hw⟩ := hw
    refine x_bast cx hR hS hr3 hge_a3 hk3 (j := (fi σ th 1).toNatClampNeg) rfl hi dX0_sign_33 (fun H locs hR hS => ?_)
    refine x_aload_n cx dX0_sign_34 rfl (lv_at hl 0 rfl) ?_
    refine lv_dup hx hb dX0_sign_35 (xv_cat _ _) ?_
    refine xg_X0_93_1 cx hR rfl hk2 dX0_sign_36 ?_
    refine lv_iconst (v := (1 : Int32)) hx hb dX0_sign_39 (by decide) ?_
    refine lv_iadd hx hb dX0_sign_40 ?_
    obtain ⟨hge_th, hw⟩ := hw
    refine xp_X0_93_1 (v := ((fi (pai σ a3 ((fi σ th 1).toNatClampNeg) (((x1 >>> (x2 &&& 31))).toInt8.toInt32).toInt8.toInt32) th 1) + (1 : Int32))) cx hR hS rfl hge_th hk2 dX0_sign_41 (fun H locs hR hS => ?_)
    obtain ⟨v4, hv4⟩ : ∃ v : Int32, v = x2 + (-8 : Int32) := ⟨_, rfl⟩
    have hw := hw v4 hv4
    refine lv_iinc (v := v4) (lv' := [(2, .int v4), (0, xv E (some th)), (1, .int x1)]) hx hb dX0_sign_44 hl (k := 2) rfl (by rw [hv4]; rfl) (by decide) rfl (fun ls hl => ?_)
    refine lv_goto (tgt := 17) hx hb dX0_sign_47 (by decide) ?_
    exact hK17 _ _ _ _ hw _ _ _ _ _ hR hS (lv_sub hl [1, 2, 0] rfl) hcb hsb
theorem LX0_sign_17 {l : Launch} {p : Program} {e : Env} {s : State} {m : MethodId} {args : Array Value} {below : List Frame} {meth : Method} {c : Code} {E : xx_E} {Q : Int32 → XS → Prop} (cx : xx_X "StruckCounts" cX0_sign 3 (some .int) E p s m args meth c) : ∀ (th : Nat) (x1 : Int32) (x2 : Int32) (σ : XS), lp4F (wX0_sign_17 Q) th x1 x2 σ → x_T p l e ({ frames := 0, cells := 0, slots := 0, locals := 0 } : Room) s m args below meth c E (va_Qi Q (fun σ' t => xW E σ' t) (xA E)) 0 0 3 17 0 0 σ [(0, xv E (some th)), (1, .int x1), (2, .int x2)] [] :=
  lp4F_of (fun K hK => BX0_sign_17 cx hK)
def wX0_sign (th : Nat) (x1 : Int32) (σ : XS) (Q : Int32 → XS → Prop) : Prop :=
  kd σ th = 1 ∧ (if ((fi σ th 1) + (4 : Int32)) ≤ (480 : Int32) then (lp4F (wX0_sign_17 Q) th x1 (24 : Int32) σ) else (Q (-1 : Int32) σ))
set_option maxHeartbeats 4000000 in
theorem MX0_sign (l : Launch) (E : xx_E) (th : Nat) (x1 : Int32) (σ : XS) (Q : Int32 → XS → Prop) (hw : wX0_sign th x1 σ Q) : xx_Mi l yX0_sign (ws_ yX0_sign cX0_sign 3 (some .int)) ({ frames := 0, cells := 0, slots := 0, locals := 0 } : Room) E [xv E (some th), .int x1] σ Q 0 0 := by
  refine x_of (own := "StruckCounts") (by decide +kernel) rfl ?_
  intro p e s m args below meth c cx hR ha hnm
  refine x_entry [xv E (some th), .int x1] 3 [(0, xv E (some th)), (1, .int x1)] ha (by simp [lg_sl, xv_cat, vc_i, vc_j, vc_f]) (by simp [lv_args, xv_cat, vc_i, vc_j, vc_f]) (fun ls hl => ?_)
  have hS : va_S (xA E) s.heap s.heap [] := va_S.rf
  have hcb : 0 + 0 ≤ 0 := Nat.le_of_eq (Nat.zero_add _)
  have hsb : 0 + 0 ≤ 0 := Nat.le_of_eq (Nat.zero_add _)
  unfold wX0_sign at hw
  obtain ⟨hx, hb, hml, hown, hts, hrt, hlk, hMK, hZ⟩ := id cx
  refine x_aload_n cx dX0_sign_0 rfl (lv_at hl 0 rfl) ?_
  obtain ⟨hk5, hw⟩ := hw
  refine xg_X0_93_1 cx hR rfl hk5 dX0_sign_1 ?_
  refine lv_iconst (v := (4 : Int32)) hx hb dX0_sign_4 (by decide) ?_
  refine lv_iadd hx hb dX0_sign_5 ?_
  refine lv_sipush (v := (480 : Int32)) hx hb dX0_sign_6 (by decide) ?_
  refine lv_icmp_le (tgt := 14) hx hb dX0_sign_9 (by decide) (fun hc => ?_) (fun hc => ?_)
  · have hw := mm_ip hc hw
    refine lv_bipush (v := (24 : Int32)) hx hb dX0_sign_14 (by decide) ?_
    refine lv_istore_n (i := 2) (lv' := [(2, .int (24 : Int32)), (0, xv E (some th)), (1, .int x1)]) hx hb dX0_sign_16 rfl hl (by decide) rfl (fun ls hl => ?_)
    exact LX0_sign_17 cx _ _ _ _ hw _ _ _ _ _ hR hS (lv_sub hl [1, 2, 0] rfl) hcb hsb
  · have hw := mm_in hc hw
    refine lv_iconst (v := (-1 : Int32)) hx hb dX0_sign_12 (by decide) ?_
    exact x_iret cx hR hS (xle hcb) (xle hsb) hw dX0_sign_13
-- X0_in
def wX0_in (x0 : Int32) (x1 : Int32) (x2 : Int32) (σ : XS) (Q : Int32 → XS → Prop) : Prop :=
  if x0 < x1 then (Q (0 : Int32) σ) else (if x2 < x0 then (Q (0 : Int32) σ) else (Q (1 : Int32) σ))
set_option maxHeartbeats 4000000 in
theorem MX0_in (l : Launch) (E : xx_E) (x0 : Int32) (x1 : Int32) (x2 : Int32) (σ : XS) (Q : Int32 → XS → Prop) (hw : wX0_in x0 x1 x2 σ Q) : xx_Mi l yX0_in (ws_ yX0_in cX0_in 3 (some .boolean)) ({ frames := 0, cells := 0, slots := 0, locals := 0 } : Room) E [.int x0, .int x1, .int x2] σ Q 0 0 := by
  refine x_of (own := "StruckCounts") (by decide +kernel) rfl ?_
  intro p e s m args below meth c cx hR ha hnm
  refine x_entry [.int x0, .int x1, .int x2] 3 [(0, .int x0), (1, .int x1), (2, .int x2)] ha (Nat.le_of_ble_eq_true rfl) rfl (fun ls hl => ?_)
  have hS : va_S (xA E) s.heap s.heap [] := va_S.rf
  have hcb : 0 + 0 ≤ 0 := Nat.le_of_eq (Nat.zero_add _)
  have hsb : 0 + 0 ≤ 0 := Nat.le_of_eq (Nat.zero_add _)
  unfold wX0_in at hw
  obtain ⟨hx, hb, hml, hown, hts, hrt, hlk, hMK, hZ⟩ := id cx
  refine lv_iload_n hx hb dX0_in_0 rfl (lv_at hl 0 rfl) ?_
  refine lv_iload_n hx hb dX0_in_1 rfl (lv_at hl 1 rfl) ?_
  refine lv_icmp_lt (tgt := 14) hx hb dX0_in_2 (by decide) (fun hc => ?_) (fun hc => ?_)
  · have hw := mm_ip hc hw
    refine lv_iconst (v := (0 : Int32)) hx hb dX0_in_14 (by decide) ?_
    exact x_nret cx hR hS (xle hcb) (xle hsb) (zb_nar (Or.inl rfl)) hw dX0_in_15
  · have hw := mm_in hc hw
    refine lv_iload_n hx hb dX0_in_5 rfl (lv_at hl 0 rfl) ?_
    refine lv_iload_n hx hb dX0_in_6 rfl (lv_at hl 2 rfl) ?_
    refine lv_icmp_gt (tgt := 14) hx hb dX0_in_7 (by decide) (fun hc => ?_) (fun hc => ?_)
    · have hw := mm_ip hc hw
      refine lv_iconst (v := (0 : Int32)) hx hb dX0_in_14 (by decide) ?_
      exact x_nret cx hR hS (xle hcb) (xle hsb) (zb_nar (Or.inl rfl)) hw dX0_in_15
    · have hw := mm_in hc hw
      refine lv_iconst (v := (1 : Int32)) hx hb dX0_in_10 (by decide) ?_
      refine lv_goto (tgt := 15) hx hb dX0_in_11 (by decide) ?_
      exact x_nret cx hR hS (xle hcb) (xle hsb) (zb_nar (Or.inr rfl)) hw dX0_in_15
-- X0_end
theorem CX0_in_X0_96 {l : Launch} {p : Program} {e : Env} {R : Room} {s : State} {m : MethodId} {args : Array Value} {below : List Frame} {meth : Method} {c : Code} {H : Heap} {locs : List Loc} {cells slots : Nat} {Qz : State → Prop} {cc : ByteArray} {nL : Nat} {ret : Option FieldType} {E : xx_E} {σ : XS} {pc : Nat} {ls : Array Slot} {rest : List Value} {x0 : Int32} {x1 : Int32} {x2 : Int32} (cx : xx_X "StruckCounts" cc nL ret E p s m args meth c) (hR0 : xR E σ H) (hS0 : va_S (xA E) s.heap H locs) {Qf : Int32 → XS → Prop} (hw : wX0_in x0 x1 x2 σ Qf) (hR : (({ frames := 0, cells := 0, slots := 0, locals := 0 } : Room)).frames + 1 ≤ R.frames ∧ 8 + (3 + 11) + (({ frames := 0, cells := 0, slots := 0, locals := 0 } : Room)).locals ≤ R.locals) (hrest : rest.length ≤ 4) (hsize : ls.size = nL) (hf : cells + 0 ≤ R.cells ∧ slots + 0 ≤ R.slots) (hdg : decode cc pc = .ok (.invokestatic 96, 3))
    (kk : ∀ (r : Int32) (σ1 : XS) (H1 : Heap) (locs1 : List Loc), Qf r σ1 → xR E σ1 H1 → va_S (xA E) s.heap H1 locs1 → W p l e R s m args below meth c H1 locs1 (cells + 0) (slots + 0) Qz (F0 m (pc + 3) ls (.int r :: rest))) : W p l e R s m args below meth c H locs cells slots Qz (F0 m pc ls (.int x2 :: .int x1 :: .int x0 :: rest)) := by
  obtain ⟨hx, hb, hml, hown, hts, hrt, hlk, hK, hZ⟩ := id cx
  exact x_goi (va_runS (As := [.int x0, .int x1, .int x2]) (rest := rest) (x_fix cx) (MX0_in l E x0 x1 x2 σ Qf hw) (va_cwS 3 hts (lw_S q652 q653 q156 q654) rfl rfl rfl (by decide +kernel) hR) ⟨xblind, x_pre cx hR0 hS0 [.int x0, .int x1, .int x2]⟩ rfl rfl hsize rfl (lv_room (xroom hrest)) hdg hf) hS0 kk
def wX0_end (th : Nat) (x1 : Int32) (σ : XS) (Q : Int32 → XS → Prop) : Prop :=
  kd σ th = 1 ∧ (wX0_in x1 (0 : Int32) (fi σ th 1) σ (fun r2 s2 => if r2 = 0 then (Q (0 : Int32) s2) else (kd s2 th = 1 ∧ (xK ≤ th ∧ (Q (1 : Int32) (pfi s2 th 1 x1))))))
set_option maxHeartbeats 4000000 in
theorem MX0_end (l : Launch) (E : xx_E) (th : Nat) (x1 : Int32) (σ : XS) (Q : Int32 → XS → Prop) (hw : wX0_end th x1 σ Q) : xx_Mi l yX0_end (ws_ yX0_end cX0_end 2 (some .boolean)) ({ frames := 1, cells := 0, slots := 0, locals := 40 } : Room) E [xv E (some th), .int x1] σ Q 0 0 := by
  refine x_of (own := "StruckCounts") (by decide +kernel) rfl ?_
  intro p e s m args below meth c cx hR ha hnm
  refine x_entry [xv E (some th), .int x1] 2 [(0, xv E (some th)), (1, .int x1)] ha (by simp [lg_sl, xv_cat, vc_i, vc_j, vc_f]) (by simp [lv_args, xv_cat, vc_i, vc_j, vc_f]) (fun ls hl => ?_)
  have hS : va_S (xA E) s.heap s.heap [] := va_S.rf
  have hcb : 0 + 0 ≤ 0 := Nat.le_of_eq (Nat.zero_add _)
  have hsb : 0 + 0 ≤ 0 := Nat.le_of_eq (Nat.zero_add _)
  unfold wX0_end at hw
  obtain ⟨hx, hb, hml, hown, hts, hrt, hlk, hMK, hZ⟩ := id cx
  refine lv_iload_n hx hb dX0_end_0 rfl (lv_at hl 1 rfl) ?_
  refine lv_iconst (v := (0 : Int32)) hx hb dX0_end_1 (by decide) ?_
  refine x_aload_n cx dX0_end_2 rfl (lv_at hl 0 rfl) ?_
  obtain ⟨hk1, hw⟩ := hw
  refine xg_X0_93_1 cx hR rfl hk1 dX0_end_3 ?_
  refine CX0_in_X0_96 cx hR hS  hw ⟨Nat.le_of_ble_eq_true rfl, Nat.le_of_ble_eq_true rfl⟩ (Nat.le_of_ble_eq_true rfl) hl.1 ⟨by dsimp only; omega, by dsimp only; omega⟩ dX0_end_6 (fun r2 s2 H locs hw hR hS => ?_)
  refine lv_if_ne (tgt := 14) hx hb dX0_end_9 (by decide) (fun hc => ?_) (fun hc => ?_)
  · have hw := mm_in hc hw
    refine x_aload_n cx dX0_end_14 rfl (lv_at hl 0 rfl) ?_
    refine lv_iload_n hx hb dX0_end_15 rfl (lv_at hl 1 rfl) ?_
    obtain ⟨hk3, hw⟩ := hw
    obtain ⟨hge_th, hw⟩ := hw
    refine xp_X0_93_1 (v := x1) cx hR hS rfl hge_th hk3 dX0_end_16 (fun H locs hR hS => ?_)
    refine lv_iconst (v := (1 : Int32)) hx hb dX0_end_19 (by decide) ?_
    exact x_nret cx hR hS (xle hcb) (xle hsb) (zb_nar (Or.inr rfl)) hw dX0_end_20
  · have hw := mm_ip hc hw
    refine lv_iconst (v := (0 : Int32)) hx hb dX0_end_12 (by decide) ?_
    exact x_nret cx hR hS (xle hcb) (xle hsb) (zb_nar (Or.inl rfl)) hw dX0_end_13
-- X4_here
theorem xg_X4_32_4 {l : Launch} {p : Program} {e : Env} {R : Room} {s : State} {m : MethodId} {args : Array Value} {below : List Frame} {meth : Method} {c : Code} {H : Heap} {locs : List Loc} {cells slots : Nat} {Qz : State → Prop} {cc : ByteArray} {nL : Nat} {ret : Option FieldType} {E : xx_E} {σ : XS} {pc : Nat} {ls : Array Slot} {rest : List Value} (cx : xx_X "StruckCounts$Reader" cc nL ret E p s m args meth c) (hR : xR E σ H) {a : Nat} {r : Option Nat} (hr : r = some a) (hk : kd σ a = 4) (hdg : decode cc pc = .ok (.getfield 32, 3)) (kk : W p l e R s m args below meth c H locs cells slots Qz (F0 m (pc + 3) ls (.int (fi σ a 3) :: rest))) : W p l e R s m args below meth c H locs cells slots Qz (F0 m pc ls (xv E r :: rest)) :=
  x_get (ci := 3) cx hR hr hk (by decide) rfl in_X4 3 (by decide) q938 (fun _ h => h) (v := .int (fi σ a 3)) rfl hdg kk
theorem xg_X4_21_4 {l : Launch} {p : Program} {e : Env} {R : Room} {s : State} {m : MethodId} {args : Array Value} {below : List Frame} {meth : Method} {c : Code} {H : Heap} {locs : List Loc} {cells slots : Nat} {Qz : State → Prop} {cc : ByteArray} {nL : Nat} {ret : Option FieldType} {E : xx_E} {σ : XS} {pc : Nat} {ls : Array Slot} {rest : List Value} (cx : xx_X "StruckCounts$Reader" cc nL ret E p s m args meth c) (hR : xR E σ H) {a : Nat} {r : Option Nat} (hr : r = some a) (hk : kd σ a = 4) (hdg : decode cc pc = .ok (.getfield 21, 3)) (kk : W p l e R s m args below meth c H locs cells slots Qz (F0 m (pc + 3) ls (.int (fi σ a 1) :: rest))) : W p l e R s m args below meth c H locs cells slots Qz (F0 m pc ls (xv E r :: rest)) :=
  x_get (ci := 3) cx hR hr hk (by decide) rfl in_X4 1 (by decide) q936 (fun _ h => h) (v := .int (fi σ a 1)) rfl hdg kk
theorem xg_X4_17_4 {l : Launch} {p : Program} {e : Env} {R : Room} {s : State} {m : MethodId} {args : Array Value} {below : List Frame} {meth : Method} {c : Code} {H : Heap} {locs : List Loc} {cells slots : Nat} {Qz : State → Prop} {cc : ByteArray} {nL : Nat} {ret : Option FieldType} {E : xx_E} {σ : XS} {pc : Nat} {ls : Array Slot} {rest : List Value} (cx : xx_X "StruckCounts$Reader" cc nL ret E p s m args meth c) (hR : xR E σ H) {a : Nat} {r : Option Nat} (hr : r = some a) (hk : kd σ a = 4) (hdg : decode cc pc = .ok (.getfield 17, 3)) (kk : W p l e R s m args below meth c H locs cells slots Qz (F0 m (pc + 3) ls (xv E (fr σ a 0) :: rest))) : W p l e R s m args below meth c H locs cells slots Qz (F0 m pc ls (xv E r :: rest)) :=
  x_get (ci := 3) cx hR hr hk (by decide) rfl in_X4 0 (by decide) q935 (fun _ h => h) (v := xv E (fr σ a 0)) rfl hdg kk
def wX4_here (th : Nat) (σ : XS) (Q : Int32 → XS → Prop) : Prop :=
  kd σ th = 4 ∧ (if (fi σ th 1) ≤ (fi σ th 3) then (Q (-1 : Int32) σ) else (oc σ (fr σ th 0) 102 (fun a2 => vp_in (fi σ th 3) (ln σ a2) ∧ (Q ((ai σ a2 ((fi σ th 3).toNatClampNeg)) &&& (255 : Int32)) σ))))
set_option maxHeartbeats 4000000 in
theorem MX4_here (l : Launch) (E : xx_E) (th : Nat) (σ : XS) (Q : Int32 → XS → Prop) (hw : wX4_here th σ Q) : xx_Mi l yX4_here (ws_ yX4_here cX4_here 1 (some .int)) ({ frames := 0, cells := 0, slots := 0, locals := 0 } : Room) E [xv E (some th)] σ Q 0 0 := by
  refine x_of (own := "StruckCounts$Reader") (by decide +kernel) rfl ?_
  intro p e s m args below meth c cx hR ha hnm
  refine x_entry [xv E (some th)] 1 [(0, xv E (some th))] ha (by simp [lg_sl, xv_cat, vc_i, vc_j, vc_f]) (by simp [lv_args, xv_cat, vc_i, vc_j, vc_f]) (fun ls hl => ?_)
  have hS : va_S (xA E) s.heap s.heap [] := va_S.rf
  have hcb : 0 + 0 ≤ 0 := Nat.le_of_eq (Nat.zero_add _)
  have hsb : 0 + 0 ≤ 0 := Nat.le_of_eq (Nat.zero_add _)
  unfold wX4_here at hw
  obtain ⟨hx, hb, hml, hown, hts, hrt, hlk, hMK, hZ⟩ := id cx
  refine x_aload_n cx dX4_here_0 rfl (lv_at hl 0 rfl) ?_
  obtain ⟨hk1, hw⟩ := hw
  refine xg_X4_32_4 cx hR rfl hk1 dX4_here_1 ?_
  refine x_aload_n cx dX4_here_4 rfl (lv_at hl 0 rfl) ?_
  refine xg_X4_21_4 cx hR rfl hk1 dX4_here_5 ?_
  refine lv_icmp_ge (tgt := 27) hx hb dX4_here_8 (by decide) (fun hc => ?_) (fun hc => ?_)
  · have hw := mm_ip hc hw
    refine lv_iconst (v := (-1 : Int32)) hx hb dX4_here_27 (by decide) ?_
    exact x_iret cx hR hS (xle hcb) (xle hsb) hw dX4_here_28
  · have hw := mm_in hc hw
    refine x_aload_n cx dX4_here_11 rfl (lv_at hl 0 rfl) ?_
    refine xg_X4_17_4 cx hR rfl hk1 dX4_here_12 ?_
    refine x_aload_n cx dX4_here_15 rfl (lv_at hl 0 rfl) ?_
    refine xg_X4_32_4 cx hR rfl hk1 dX4_here_16 ?_
    obtain ⟨a2, hr2, hk2, hw⟩ := hw
    obtain ⟨hi, hw⟩ := hw
    refine x_bald cx hR hr2 hk2 (j := (fi σ th 3).toNatClampNeg) rfl hi dX4_here_19 ?_
    refine lv_sipush (v := (255 : Int32)) hx hb dX4_here_20 (by decide) ?_
    refine lv_iand hx hb dX4_here_23 ?_
    refine lv_goto (tgt := 28) hx hb dX4_here_24 (by decide) ?_
    exact x_iret cx hR hS (xle hcb) (xle hsb) hw dX4_here_28
-- J12_init
theorem xp_J12_15_23 {l : Launch} {p : Program} {e : Env} {R : Room} {s : State} {m : MethodId} {args : Array Value} {below : List Frame} {meth : Method} {c : Code} {H : Heap} {locs : List Loc} {cells slots : Nat} {Qz : State → Prop} {cc : ByteArray} {nL : Nat} {ret : Option FieldType} {E : xx_E} {σ : XS} {pc : Nat} {ls : Array Slot} {rest : List Value} (cx : xx_X "java/lang/AbstractStringBuilder" cc nL ret E p s m args meth c) (hR : xR E σ H) (hS0 : va_S (xA E) s.heap H locs) {a : Nat} {r : Option Nat} {v : Option Nat} (hr : r = some a) (ha : xK ≤ a) (hk : kd σ a = 23) (hdg : decode cc pc = .ok (.putfield 15, 3)) (kk : ∀ (H1 : Heap) (locs1 : List Loc), xR E (pfr σ a 0 v) H1 → va_S (xA E) s.heap H1 locs1 → W p l e R s m args below meth c H1 locs1 cells slots Qz (F0 m (pc + 3) ls rest)) : W p l e R s m args below meth c H locs cells slots Qz (F0 m pc ls (xv E v :: xv E r :: rest)) :=
  x_put (ci := 22) cx hR hS0 hr ha hk (by decide) rfl in_J13 tyJ13 tyJ13_ok nmJ13 0 (by decide) (Or.inl ⟨q698, rfl⟩) (fun _ h => h) (by cases v <;> rfl) (by cases v <;> rfl) (xput_r rfl) hdg kk
theorem xp_J12_22_23 {l : Launch} {p : Program} {e : Env} {R : Room} {s : State} {m : MethodId} {args : Array Value} {below : List Frame} {meth : Method} {c : Code} {H : Heap} {locs : List Loc} {cells slots : Nat} {Qz : State → Prop} {cc : ByteArray} {nL : Nat} {ret : Option FieldType} {E : xx_E} {σ : XS} {pc : Nat} {ls : Array Slot} {rest : List Value} (cx : xx_X "java/lang/AbstractStringBuilder" cc nL ret E p s m args meth c) (hR : xR E σ H) (hS0 : va_S (xA E) s.heap H locs) {a : Nat} {r : Option Nat} {v : Int32} (hr : r = some a) (ha : xK ≤ a) (hk : kd σ a = 23) (hz : narrow .byte (.int v) = .int v) (hdg : decode cc pc = .ok (.putfield 22, 3)) (kk : ∀ (H1 : Heap) (locs1 : List Loc), xR E (pfi σ a 1 v) H1 → va_S (xA E) s.heap H1 locs1 → W p l e R s m args below meth c H1 locs1 cells slots Qz (F0 m (pc + 3) ls rest)) : W p l e R s m args below meth c H locs cells slots Qz (F0 m pc ls (.int v :: xv E r :: rest)) :=
  x_put (ci := 22) cx hR hS0 hr ha hk (by decide) rfl in_J13 tyJ13 tyJ13_ok nmJ13 1 (by decide) (Or.inl ⟨q699, rfl⟩) (fun _ h => h) hz (xfit_B hz) (xput_i rfl) hdg kk
def wJ12_init (th : Nat) (x1 : Int32) (bc : Nat) (bs : Nat) (σ : XS) (Q : XS → Prop) : Prop :=
  ¬ x1 < 0 ∧ x1.toNatClampNeg ≤ 67108864 ∧ (1 ≤ bc ∧ x1.toNatClampNeg ≤ bs ∧ (kd (xal σ 102 x1.toNatClampNeg) th = 23 ∧ (xK ≤ th ∧ (narrow .byte (.int (0 : Int32)) = .int (0 : Int32) ∧ (Q (pfi (pfr (xal σ 102 x1.toNatClampNeg) th 0 (some (xn σ))) th 1 (0 : Int32)))))))
set_option maxHeartbeats 4000000 in
theorem MJ12_init (l : Launch) (E : xx_E) (th : Nat) (x1 : Int32) (bc : Nat) (bs : Nat) (σ : XS) (Q : XS → Prop) (hw : wJ12_init th x1 bc bs σ Q) : xx_Mv l yJ12_init (ws_ yJ12_init cJ12_init 2 none) ({ frames := 1, cells := bc, slots := bs, locals := 40 } : Room) E [xv E (some th), .int x1] σ Q bc bs := by
  refine x_of (own := "java/lang/AbstractStringBuilder") (by decide +kernel) rfl ?_
  intro p e s m args below meth c cx hR ha hnm
  refine x_entry [xv E (some th), .int x1] 2 [(0, xv E (some th)), (1, .int x1)] ha (by simp [lg_sl, xv_cat, vc_i, vc_j, vc_f]) (by simp [lv_args, xv_cat, vc_i, vc_j, vc_f]) (fun ls hl => ?_)
  have hS : va_S (xA E) s.heap s.heap [] := va_S.rf
  have hcb : 0 + bc ≤ bc := Nat.le_of_eq (Nat.zero_add _)
  have hsb : 0 + bs ≤ bs := Nat.le_of_eq (Nat.zero_add _)
  have hini : meth.name = "<init>" := hnm
  unfold wJ12_init at hw
  obtain ⟨hx, hb, hml, hown, hts, hrt, hlk, hMK, hZ⟩ := id cx
  refine x_aload_n cx dJ12_init_0 rfl (lv_at hl 0 rfl) ?_
  refine x_objinit cx hl.1 rfl q688 (xroom12 (Nat.le_of_ble_eq_true rfl) (by dsimp only; omega)) (by dsimp only; omega) dJ12_init_1 ?_
  refine va_gets (v := .int 1) (C := "java/lang/String") (n := "COMPACT_STRINGS") (d := "Z") hx hb hZ.1 hS hown (hts _ q689) (fun _ h => h) dJ12_init_4 ?_
  refine lv_if_eq (tgt := 25) hx hb dJ12_init_7 (by decide) (fun hc => ?_) (fun hc => ?_)
  · exact absurd hc (by decide)
  refine x_aload_n cx dJ12_init_10 rfl (lv_at hl 0 rfl) ?_
  refine lv_iload_n hx hb dJ12_init_11 rfl (lv_at hl 1 rfl) ?_
  obtain ⟨hn0, hn8, hw⟩ := hw
  obtain ⟨hb1, hb2, hw⟩ := hw
  refine x_newa (atype := .byte) cx hR hS 2 (by decide) rfl q269 (fun _ => rfl) (fun h => absurd h (by decide)) (N := x1.toNatClampNeg) hn0 rfl (xbytes1 hn8) (by dsimp only; omega) (by dsimp only; omega) dJ12_init_12 (fun H hR hS => ?_)
  have hcb := xadd hb1 hcb
  have hsb := xadd hb2 hsb
  obtain ⟨hk1, hw⟩ := hw
  obtain ⟨hge_th, hw⟩ := hw
  refine xp_J12_15_23 (v := (some (xn σ))) cx hR hS rfl hge_th hk1 dJ12_init_14 (fun H locs hR hS => ?_)
  refine x_aload_n cx dJ12_init_17 rfl (lv_at hl 0 rfl) ?_
  refine lv_iconst (v := (0 : Int32)) hx hb dJ12_init_18 (by decide) ?_
  obtain ⟨hz, hw⟩ := hw
  refine xp_J12_22_23 (v := (0 : Int32)) cx hR hS rfl hge_th hk1 hz dJ12_init_19 (fun H locs hR hS => ?_)
  refine lv_goto (tgt := 38) hx hb dJ12_init_22 (by decide) ?_
  exact x_vret cx hR hS (xle hcb) (xle hsb) hw dJ12_init_38
-- J13_init
theorem CJ12_init_J13_1 {l : Launch} {p : Program} {e : Env} {R : Room} {s : State} {m : MethodId} {args : Array Value} {below : List Frame} {meth : Method} {c : Code} {H : Heap} {locs : List Loc} {cells slots : Nat} {Qz : State → Prop} {cc : ByteArray} {nL : Nat} {ret : Option FieldType} {E : xx_E} {σ : XS} {pc : Nat} {ls : Array Slot} {rest : List Value} {th : Nat} {x1 : Int32} {k n : Nat} (cx : xx_X "java/lang/StringBuilder" cc nL ret E p s m args meth c) (hR0 : xR E σ H) (hS0 : va_S (xA E) s.heap H locs) {r0 : Option Nat} (hr : r0 = some th) (hk : kd σ th = 23) {Qf : XS → Prop} (hw : wJ12_init th x1 k n σ Qf) (hR : (({ frames := 1, cells := k, slots := n, locals := 40 } : Room)).frames + 1 ≤ R.frames ∧ 8 + (2 + 11) + (({ frames := 1, cells := k, slots := n, locals := 40 } : Room)).locals ≤ R.locals) (hrest : rest.length ≤ 4) (hsize : ls.size = nL) (hf : cells + k ≤ R.cells ∧ slots + n ≤ R.slots) (hdg : decode cc pc = .ok (.invokespecial 1, 3))
    (kk : ∀ (σ1 : XS) (H1 : Heap) (locs1 : List Loc), Qf σ1 → xR E σ1 H1 → va_S (xA E) s.heap H1 locs1 → W p l e R s m args below meth c H1 locs1 (cells + k) (slots + n) Qz (F0 m (pc + 3) ls rest)) : W p l e R s m args below meth c H locs cells slots Qz (F0 m pc ls (.int x1 :: xv E r0 :: rest)) := by
  subst hr
  obtain ⟨hx, hb, hml, hown, hts, hrt, hlk, hK, hZ⟩ := id cx
  exact x_gov (va_runI (As := [.int x1]) (rest := rest) (x_fix cx) (MJ12_init l E th x1 k n σ Qf hw) (cwI 1 hts (lw_meth q687) rfl rfl rfl (hts _ q174) (hts _ q685) (hts _ q686) rfl (by decide +kernel) hR) ⟨xblind, x_pre cx hR0 hS0 (.ref (xr E th) :: [.int x1])⟩ rfl rfl hsize rfl (lv_room (xroom hrest)) hdg hf) hS0 kk
def wJ13_init (th : Nat) (bc : Nat) (bs : Nat) (σ : XS) (Q : XS → Prop) : Prop :=
  kd σ th = 23 ∧ (∃ k3 n3 : Nat, k3 ≤ bc ∧ n3 ≤ bs ∧ (wJ12_init th (16 : Int32) k3 n3 σ (fun s1 => Q s1)))
set_option maxHeartbeats 4000000 in
theorem MJ13_init (l : Launch) (E : xx_E) (th : Nat) (bc : Nat) (bs : Nat) (σ : XS) (Q : XS → Prop) (hw : wJ13_init th bc bs σ Q) : xx_Mv l yJ13_init (ws_ yJ13_init cJ13_init 1 none) ({ frames := 2, cells := bc, slots := bs, locals := 80 } : Room) E [xv E (some th)] σ Q bc bs := by
  refine x_of (own := "java/lang/StringBuilder") (by decide +kernel) rfl ?_
  intro p e s m args below meth c cx hR ha hnm
  refine x_entry [xv E (some th)] 1 [(0, xv E (some th))] ha (by simp [lg_sl, xv_cat, vc_i, vc_j, vc_f]) (by simp [lv_args, xv_cat, vc_i, vc_j, vc_f]) (fun ls hl => ?_)
  have hS : va_S (xA E) s.heap s.heap [] := va_S.rf
  have hcb : 0 + bc ≤ bc := Nat.le_of_eq (Nat.zero_add _)
  have hsb : 0 + bs ≤ bs := Nat.le_of_eq (Nat.zero_add _)
  have hini : meth.name = "<init>" := hnm
  unfold wJ13_init at hw
  obtain ⟨hx, hb, hml, hown, hts, hrt, hlk, hMK, hZ⟩ := id cx
  refine x_aload_n cx dJ13_init_0 rfl (lv_at hl 0 rfl) ?_
  refine lv_bipush (v := (16 : Int32)) hx hb dJ13_init_1 (by decide) ?_
  obtain ⟨hk2, hw⟩ := hw
  obtain ⟨k3, n3, hb1, hb2, hw⟩ := hw
  refine CJ12_init_J13_1 cx hR hS rfl hk2 hw ⟨Nat.le_of_ble_eq_true rfl, Nat.le_of_ble_eq_true rfl⟩ (Nat.le_of_ble_eq_true rfl) hl.1 ⟨by dsimp only; omega, by dsimp only; omega⟩ dJ13_init_3 (fun s1 H locs hw hR hS => ?_)
  have hcb := xadd hb1 hcb
  have hsb := xadd hb2 hsb
  exact x_vret cx hR hS (xle hcb) (xle hsb) hw dJ13_init_6
-- J16_newLength
def wJ16_newLength_21 (Q : Int32 → XS → Prop) (x0 : Int32) (x1 : Int32) (σ : XS) : Prop :=
  False
set_option maxHeartbeats 4000000 in
theorem BJ16_newLength_21 {l : Launch} {p : Program} {e : Env} {s : State} {m : MethodId} {args : Array Value} {below : List Frame} {meth : Method} {c : Code} {E : xx_E} {Q : Int32 → XS → Prop} (cx : xx_X "jdk/internal/util/ArraysSupport" cJ16_newLength 4 (some .int) E p s m args meth c) : ∀ (x0 : Int32) (x1 : Int32) (σ : XS), wJ16_newLength_21 Q x0 x1 σ → x_T p l e ({ frames := 1, cells := 0, slots := 0, locals := 40 } : Room) s m args below meth c E (va_Qi Q (fun σ' t => xW E σ' t) (xA E)) 0 0 4 21 0 0 σ [(0, .int x0), (1, .int x1)] [] := by
  intro x0 x1 σ hw H locs ls cells slots hR hS hl hcb hsb
  unfold wJ16_newLength_21 at hw
  obtain ⟨hx, hb, hml, hown, hts, hrt, hlk, hMK, hZ⟩ := id cx
  refine lv_iload_n hx hb dJ16_newLength_21 rfl (lv_at hl 0 rfl) ?_
  refine lv_iload_n hx hb dJ16_newLength_22 rfl (lv_at hl 1 rfl) ?_
  exact hw.elim
def wJ16_newLength (x0 : Int32) (x1 : Int32) (x2 : Int32) (σ : XS) (Q : Int32 → XS → Prop) : Prop :=
  ∀ v1 : Int32, v1 = (x0 + (imax x1 x2)) → if v1 ≤ (0 : Int32) then (wJ16_newLength_21 Q x0 x1 σ) else (if (2147483639 : Int32) < v1 then (wJ16_newLength_21 Q x0 x1 σ) else (Q v1 σ))
set_option maxHeartbeats 4000000 in
theorem MJ16_newLength (l : Launch) (E : xx_E) (x0 : Int32) (x1 : Int32) (x2 : Int32) (σ : XS) (Q : Int32 → XS → Prop) (hw : wJ16_newLength x0 x1 x2 σ Q) : xx_Mi l yJ16_newLength (ws_ yJ16_newLength cJ16_newLength 4 (some .int)) ({ frames := 1, cells := 0, slots := 0, locals := 40 } : Room) E [.int x0, .int x1, .int x2] σ Q 0 0 := by
  refine x_of (own := "jdk/internal/util/ArraysSupport") (by decide +kernel) rfl ?_
  intro p e s m args below meth c cx hR ha hnm
  refine x_entry [.int x0, .int x1, .int x2] 4 [(0, .int x0), (1, .int x1), (2, .int x2)] ha (Nat.le_of_ble_eq_true rfl) rfl (fun ls hl => ?_)
  have hS : va_S (xA E) s.heap s.heap [] := va_S.rf
  have hcb : 0 + 0 ≤ 0 := Nat.le_of_eq (Nat.zero_add _)
  have hsb : 0 + 0 ≤ 0 := Nat.le_of_eq (Nat.zero_add _)
  unfold wJ16_newLength at hw
  obtain ⟨hx, hb, hml, hown, hts, hrt, hlk, hMK, hZ⟩ := id cx
  refine lv_iload_n hx hb dJ16_newLength_0 rfl (lv_at hl 0 rfl) ?_
  refine lv_iload_n hx hb dJ16_newLength_1 rfl (lv_at hl 1 rfl) ?_
  refine lv_iload_n hx hb dJ16_newLength_2 rfl (lv_at hl 2 rfl) ?_
  refine x_max cx hl.1 q729 (by dsimp only; omega) (xroom13 (Nat.le_of_ble_eq_true rfl) (by dsimp only; omega)) (by dsimp only; omega) (by dsimp only; omega) dJ16_newLength_3 ?_
  refine lv_iadd hx hb dJ16_newLength_6 ?_
  refine lv_topi (fun v1 hv1 => ?_)
  have hw := hw v1 hv1
  refine lv_istore_n (i := 3) (lv' := [(3, .int v1), (0, .int x0), (1, .int x1), (2, .int x2)]) hx hb dJ16_newLength_7 rfl hl (by decide) rfl (fun ls hl => ?_)
  refine lv_iconst (v := (0 : Int32)) hx hb dJ16_newLength_8 (by decide) ?_
  refine lv_iload_n hx hb dJ16_newLength_9 rfl (lv_at hl 0 rfl) ?_
  refine lv_icmp_ge (tgt := 21) hx hb dJ16_newLength_10 (by decide) (fun hc => ?_) (fun hc => ?_)
  · have hw := mm_ip hc hw
    exact BJ16_newLength_21 cx _ _ _ hw _ _ _ _ _ hR hS (lv_sub hl [1, 2] rfl) hcb hsb
  · have hw := mm_in hc hw
    refine lv_iload_n hx hb dJ16_newLength_13 rfl (lv_at hl 0 rfl) ?_
    refine lv_ldc (v := (2147483639 : Int32)) hx hb hown (hts _ q732) dJ16_newLength_14 ?_
    refine lv_icmp_gt (tgt := 21) hx hb dJ16_newLength_16 (by decide) (fun hc => ?_) (fun hc => ?_)
    · have hw := mm_ip hc hw
      exact BJ16_newLength_21 cx _ _ _ hw _ _ _ _ _ hR hS (lv_sub hl [1, 2] rfl) hcb hsb
    · have hw := mm_in hc hw
      refine lv_iload_n hx hb dJ16_newLength_19 rfl (lv_at hl 0 rfl) ?_
      exact x_iret cx hR hS (xle hcb) (xle hsb) hw dJ16_newLength_20
-- J12_newCapacity
theorem xg_J12_15_23 {l : Launch} {p : Program} {e : Env} {R : Room} {s : State} {m : MethodId} {args : Array Value} {below : List Frame} {meth : Method} {c : Code} {H : Heap} {locs : List Loc} {cells slots : Nat} {Qz : State → Prop} {cc : ByteArray} {nL : Nat} {ret : Option FieldType} {E : xx_E} {σ : XS} {pc : Nat} {ls : Array Slot} {rest : List Value} (cx : xx_X "java/lang/AbstractStringBuilder" cc nL ret E p s m args meth c) (hR : xR E σ H) {a : Nat} {r : Option Nat} (hr : r = some a) (hk : kd σ a = 23) (hdg : decode cc pc = .ok (.getfield 15, 3)) (kk : W p l e R s m args below meth c H locs cells slots Qz (F0 m (pc + 3) ls (xv E (fr σ a 0) :: rest))) : W p l e R s m args below meth c H locs cells slots Qz (F0 m pc ls (xv E r :: rest)) :=
  x_get (ci := 22) cx hR hr hk (by decide) rfl in_J13 0 (by decide) q698 (fun _ h => h) (v := xv E (fr σ a 0)) rfl hdg kk
theorem xg_J12_22_23 {l : Launch} {p : Program} {e : Env} {R : Room} {s : State} {m : MethodId} {args : Array Value} {below : List Frame} {meth : Method} {c : Code} {H : Heap} {locs : List Loc} {cells slots : Nat} {Qz : State → Prop} {cc : ByteArray} {nL : Nat} {ret : Option FieldType} {E : xx_E} {σ : XS} {pc : Nat} {ls : Array Slot} {rest : List Value} (cx : xx_X "java/lang/AbstractStringBuilder" cc nL ret E p s m args meth c) (hR : xR E σ H) {a : Nat} {r : Option Nat} (hr : r = some a) (hk : kd σ a = 23) (hdg : decode cc pc = .ok (.getfield 22, 3)) (kk : W p l e R s m args below meth c H locs cells slots Qz (F0 m (pc + 3) ls (.int (fi σ a 1) :: rest))) : W p l e R s m args below meth c H locs cells slots Qz (F0 m pc ls (xv E r :: rest)) :=
  x_get (ci := 22) cx hR hr hk (by decide) rfl in_J13 1 (by decide) q699 (fun _ h => h) (v := .int (fi σ a 1)) rfl hdg kk
theorem CJ16_newLength_J12_114 {l : Launch} {p : Program} {e : Env} {R : Room} {s : State} {m : MethodId} {args : Array Value} {below : List Frame} {meth : Method} {c : Code} {H : Heap} {locs : List Loc} {cells slots : Nat} {Qz : State → Prop} {cc : ByteArray} {nL : Nat} {ret : Option FieldType} {E : xx_E} {σ : XS} {pc : Nat} {ls : Array Slot} {rest : List Value} {x0 : Int32} {x1 : Int32} {x2 : Int32} (cx : xx_X "java/lang/AbstractStringBuilder" cc nL ret E p s m args meth c) (hR0 : xR E σ H) (hS0 : va_S (xA E) s.heap H locs) {Qf : Int32 → XS → Prop} (hw : wJ16_newLength x0 x1 x2 σ Qf) (hR : (({ frames := 1, cells := 0, slots := 0, locals := 40 } : Room)).frames + 1 ≤ R.frames ∧ 8 + (4 + 11) + (({ frames := 1, cells := 0, slots := 0, locals := 40 } : Room)).locals ≤ R.locals) (hrest : rest.length ≤ 4) (hsize : ls.size = nL) (hf : cells + 0 ≤ R.cells ∧ slots + 0 ≤ R.slots) (hdg : decode cc pc = .ok (.invokestatic 114, 3))
    (kk : ∀ (r : Int32) (σ1 : XS) (H1 : Heap) (locs1 : List Loc), Qf r σ1 → xR E σ1 H1 → va_S (xA E) s.heap H1 locs1 → W p l e R s m args below meth c H1 locs1 (cells + 0) (slots + 0) Qz (F0 m (pc + 3) ls (.int r :: rest))) : W p l e R s m args below meth c H locs cells slots Qz (F0 m pc ls (.int x2 :: .int x1 :: .int x0 :: rest)) := by
  obtain ⟨hx, hb, hml, hown, hts, hrt, hlk, hK, hZ⟩ := id cx
  exact x_goi (va_runS (As := [.int x0, .int x1, .int x2]) (rest := rest) (x_fix cx) (MJ16_newLength l E x0 x1 x2 σ Qf hw) (va_cwS 3 hts (lw_S q726 q727 q178 q728) rfl rfl rfl (by decide +kernel) hR) ⟨xblind, x_pre cx hR0 hS0 [.int x0, .int x1, .int x2]⟩ rfl rfl hsize rfl (lv_room (xroom hrest)) hdg hf) hS0 kk
def wJ12_newCapacity (th : Nat) (x1 : Int32) (σ : XS) (Q : Int32 → XS → Prop) : Prop :=
  kd σ th = 23 ∧ (oc σ (fr σ th 0) 102 (fun a2 => ∀ v3 : Int32, v3 = (nI (ln σ a2)) → ∀ v4 : Int32, v4 = (x1 <<< ((fi σ th 1) &&& 31)) → ∀ v5 : Int32, v5 = (v4 - v3) → wJ16_newLength v3 v5 (v3 + ((2 : Int32) <<< ((fi σ th 1) &&& 31))) σ (fun r6 s6 => if r6 = (2147483647 : Int32) then False else (kd s6 th = 23 ∧ (Q (r6 >>> ((fi s6 th 1) &&& 31)) s6)))))
set_option maxHeartbeats 4000000 in
theorem MJ12_newCapacity (l : Launch) (E : xx_E) (th : Nat) (x1 : Int32) (σ : XS) (Q : Int32 → XS → Prop) (hw : wJ12_newCapacity th x1 σ Q) : xx_Mi l yJ12_newCapacity (ws_ yJ12_newCapacity cJ12_newCapacity 6 (some .int)) ({ frames := 2, cells := 0, slots := 0, locals := 80 } : Room) E [xv E (some th), .int x1] σ Q 0 0 := by
  refine x_of (own := "java/lang/AbstractStringBuilder") (by decide +kernel) rfl ?_
  intro p e s m args below meth c cx hR ha hnm
  refine x_entry [xv E (some th), .int x1] 6 [(0, xv E (some th)), (1, .int x1)] ha (by simp [lg_sl, xv_cat, vc_i, vc_j, vc_f]) (by simp [lv_args, xv_cat, vc_i, vc_j, vc_f]) (fun ls hl => ?_)
  have hS : va_S (xA E) s.heap s.heap [] := va_S.rf
  have hcb : 0 + 0 ≤ 0 := Nat.le_of_eq (Nat.zero_add _)
  have hsb : 0 + 0 ≤ 0 := Nat.le_of_eq (Nat.zero_add _)
  unfold wJ12_newCapacity at hw
  obtain ⟨hx, hb, hml, hown, hts, hrt, hlk, hMK, hZ⟩ := id cx
  refine x_aload_n cx dJ12_newCapacity_0 rfl (lv_at hl 0 rfl) ?_
  obtain ⟨hk1, hw⟩ := hw
  refine xg_J12_15_23 cx hR rfl hk1 dJ12_newCapacity_1 ?_
  obtain ⟨a2, hr2, hk2, hw⟩ := hw
  refine x_alen cx hR hr2 2 hk2 (by decide) dJ12_newCapacity_4 ?_
  refine lv_topi (fun v3 hv3 => ?_)
  have hw := hw v3 hv3
  refine lv_istore_n (i := 2) (lv' := [(2, .int v3), (0, xv E (some th)), (1, .int x1)]) hx hb dJ12_newCapacity_5 rfl hl (by decide) rfl (fun ls hl => ?_)
  refine lv_iload_n hx hb dJ12_newCapacity_6 rfl (lv_at hl 2 rfl) ?_
  refine x_aload_n cx dJ12_newCapacity_7 rfl (lv_at hl 1 rfl) ?_
  refine xg_J12_22_23 cx hR rfl hk1 dJ12_newCapacity_8 ?_
  refine lv_ishl hx hb dJ12_newCapacity_11 ?_
  refine lv_topi (fun v4 hv4 => ?_)
  have hw := hw v4 hv4
  refine lv_istore_n (i := 3) (lv' := [(3, .int v4), (2, .int v3), (0, xv E (some th)), (1, .int x1)]) hx hb dJ12_newCapacity_12 rfl hl (by decide) rfl (fun ls hl => ?_)
  refine lv_iload_n hx hb dJ12_newCapacity_13 rfl (lv_at hl 0 rfl) ?_
  refine lv_iload_n hx hb dJ12_newCapacity_14 rfl (lv_at hl 1 rfl) ?_
  refine lv_isub hx hb dJ12_newCapacity_15 ?_
  refine lv_topi (fun v5 hv5 => ?_)
  have hw := hw v5 hv5
  refine lv_istore (i := 4) (lv' := [(4, .int v5), (3, .int v4), (2, .int v3), (0, xv E (some th)), (1, .int x1)]) hx hb dJ12_newCapacity_16 hl (by decide) rfl (fun ls hl => ?_)
  refine lv_iload_n hx hb dJ12_newCapacity_18 rfl (lv_at hl 2 rfl) ?_
  refine lv_iload hx hb dJ12_newCapacity_19 (lv_at hl 0 rfl) ?_
  refine lv_iload_n hx hb dJ12_newCapacity_21 rfl (lv_at hl 2 rfl) ?_
  refine lv_iconst (v := (2 : Int32)) hx hb dJ12_newCapacity_22 (by decide) ?_
  refine x_aload_n cx dJ12_newCapacity_23 rfl (lv_at hl 3 rfl) ?_
  refine xg_J12_22_23 cx hR rfl hk1 dJ12_newCapacity_24 ?_
  refine lv_ishl hx hb dJ12_newCapacity_27 ?_
  refine lv_iadd hx hb dJ12_newCapacity_28 ?_
  refine CJ16_newLength_J12_114 cx hR hS  hw ⟨Nat.le_of_ble_eq_true rfl, Nat.le_of_ble_eq_true rfl⟩ (Nat.le_of_ble_eq_true rfl) hl.1 ⟨by dsimp only; omega, by dsimp only; omega⟩ dJ12_newCapacity_29 (fun r6 s6 H locs hw hR hS => ?_)
  refine lv_istore (i := 5) (lv' := [(5, .int r6), (4, .int v5), (3, .int v4), (2, .int v3), (0, xv E (some th)), (1, .int x1)]) hx hb dJ12_newCapacity_32 hl (by decide) rfl (fun ls hl => ?_)
  refine lv_iload hx hb dJ12_newCapacity_34 (lv_at hl 0 rfl) ?_
  refine lv_ldc (v := (2147483647 : Int32)) hx hb hown (hts _ q736) dJ12_newCapacity_36 ?_
  refine lv_icmp_ne (tgt := 51) hx hb dJ12_newCapacity_38 (by decide) (fun hc => ?_) (fun hc => ?_)
  · have hw := mm_in hc hw
    refine lv_iload hx hb dJ12_newCapacity_51 (lv_at hl 0 rfl) ?_
    refine x_aload_n cx dJ12_newCapacity_53 rfl (lv_at hl 4 rfl) ?_
    obtain ⟨hk7, hw⟩ := hw
    refine xg_J12_22_23 cx hR rfl hk7 dJ12_newCapacity_54 ?_
    refine lv_ishr hx hb dJ12_newCapacity_57 ?_
    exact x_iret cx hR hS (xle hcb) (xle hsb) hw dJ12_newCapacity_58
  · have hw := mm_ip hc hw
    exact hw.elim
-- J18_copyOf
def wJ18_copyOf (x0 : Option Nat) (x1 : Int32) (bc : Nat) (bs : Nat) (σ : XS) (Q : Option Nat → XS → Prop) : Prop :=
  oc σ x0 102 (fun a1 => if x1 = (nI (ln σ a1)) then (xfita σ a1 ∧ 1 ≤ bc ∧ ln σ a1 ≤ bs ∧ (xck [102] (pai1 (xal σ 102 (ln σ a1)) (xn σ) (ai σ a1)) (some (xn σ)) ∧ (Q (some (xn σ)) (pai1 (xal σ 102 (ln σ a1)) (xn σ) (ai σ a1))))) else (¬ x1 < 0 ∧ x1.toNatClampNeg ≤ 67108864 ∧ (1 ≤ bc ∧ x1.toNatClampNeg ≤ bs ∧ (oc (xal σ 102 x1.toNatClampNeg) x0 102 (fun a2 => kd (xal σ 102 x1.toNatClampNeg) (xn σ) = 102 ∧ (xK ≤ (xn σ) ∧ (xcpy (xal σ 102 x1.toNatClampNeg) a2 (0 : Int32) (xn σ) (0 : Int32) (imin (nI (ln (xal σ 102 x1.toNatClampNeg) a2)) x1) ∧ (xfitb (xal σ 102 x1.toNatClampNeg) a2 (0 : Int32) (imin (nI (ln (xal σ 102 x1.toNatClampNeg) a2)) x1) ∧ (Q (some (xn σ)) (pai1 (xal σ 102 x1.toNatClampNeg) (xn σ) (va_cpy (ai (xal σ 102 x1.toNatClampNeg) a2) (ai (xal σ 102 x1.toNatClampNeg) (xn σ)) (0 : Int32).toNatClampNeg (0 : Int32).toNatClampNeg (imin (nI (ln (xal σ 102 x1.toNatClampNeg) a2)) x1).toNatClampNeg)))))))))))
set_option maxHeartbeats 4000000 in
theorem MJ18_copyOf (l : Launch) (E : xx_E) (x0 : Option Nat) (x1 : Int32) (bc : Nat) (bs : Nat) (σ : XS) (Q : Option Nat → XS → Prop) (hw : wJ18_copyOf x0 x1 bc bs σ Q) : xx_Mr l yJ18_copyOf (ws_ yJ18_copyOf cJ18_copyOf 3 (some (.array .byte))) ({ frames := 1, cells := bc, slots := bs, locals := 40 } : Room) E [xv E x0, .int x1] σ Q bc bs := by
  refine x_of (own := "java/util/Arrays") (by decide +kernel) rfl ?_
  intro p e s m args below meth c cx hR ha hnm
  refine x_entry [xv E x0, .int x1] 3 [(0, xv E x0), (1, .int x1)] ha (by simp [lg_sl, xv_cat, vc_i, vc_j, vc_f]) (by simp [lv_args, xv_cat, vc_i, vc_j, vc_f]) (fun ls hl => ?_)
  have hS : va_S (xA E) s.heap s.heap [] := va_S.rf
  have hcb : 0 + bc ≤ bc := Nat.le_of_eq (Nat.zero_add _)
  have hsb : 0 + bs ≤ bs := Nat.le_of_eq (Nat.zero_add _)
  unfold wJ18_copyOf at hw
  obtain ⟨hx, hb, hml, hown, hts, hrt, hlk, hMK, hZ⟩ := id cx
  refine lv_iload_n hx hb dJ18_copyOf_0 rfl (lv_at hl 1 rfl) ?_
  refine x_aload_n cx dJ18_copyOf_1 rfl (lv_at hl 0 rfl) ?_
  obtain ⟨a1, hr1, hk1, hw⟩ := hw
  refine x_alen cx hR hr1 2 hk1 (by decide) dJ18_copyOf_2 ?_
  refine lv_icmp_ne (tgt := 14) hx hb dJ18_copyOf_3 (by decide) (fun hc => ?_) (fun hc => ?_)
  · have hw := mm_in hc hw
    refine lv_iload_n hx hb dJ18_copyOf_14 rfl (lv_at hl 1 rfl) ?_
    obtain ⟨hn0, hn8, hw⟩ := hw
    obtain ⟨hb1, hb2, hw⟩ := hw
    refine x_newa (atype := .byte) cx hR hS 2 (by decide) rfl q269 (fun _ => rfl) (fun h => absurd h (by decide)) (N := x1.toNatClampNeg) hn0 rfl (xbytes1 hn8) (by dsimp only; omega) (by dsimp only; omega) dJ18_copyOf_15 (fun H hR hS => ?_)
    have hcb := xadd hb1 hcb
    have hsb := xadd hb2 hsb
    refine x_astore_n (i := 2) (r := (some (xn σ))) (lv' := [(2, xv E (some (xn σ))), (0, xv E x0), (1, .int x1)]) cx dJ18_copyOf_17 rfl hl (by decide) rfl (fun ls hl => ?_)
    refine x_aload_n cx dJ18_copyOf_18 rfl (lv_at hl 1 rfl) ?_
    refine lv_iconst (v := (0 : Int32)) hx hb dJ18_copyOf_19 (by decide) ?_
    refine x_aload_n cx dJ18_copyOf_20 rfl (lv_at hl 0 rfl) ?_
    refine lv_iconst (v := (0 : Int32)) hx hb dJ18_copyOf_21 (by decide) ?_
    refine x_aload_n cx dJ18_copyOf_22 rfl (lv_at hl 1 rfl) ?_
    obtain ⟨a2, hr2, hk2, hw⟩ := hw
    refine x_alen cx hR hr2 2 hk2 (by decide) dJ18_copyOf_23 ?_
    refine lv_iload_n hx hb dJ18_copyOf_24 rfl (lv_at hl 2 rfl) ?_
    refine x_min cx hl.1 q747 (by dsimp only; omega) (xroom13 (Nat.le_of_ble_eq_true rfl) (by dsimp only; omega)) (by dsimp only; omega) (by dsimp only; omega) dJ18_copyOf_25 ?_
    obtain ⟨hk3, hw⟩ := hw
    obtain ⟨hge__xn_σ_, hw⟩ := hw
    obtain ⟨hcp, hw⟩ := hw
    obtain ⟨hfb, hw⟩ := hw
    refine x_copyb cx hl.1 hR hS q750 hr2 rfl hge__xn_σ_ hk2 hk3 hcp hfb (by dsimp only; omega) (xroomC (Nat.le_of_ble_eq_true rfl) (by dsimp only; omega)) dJ18_copyOf_28 (fun H locs hR hS => ?_)
    refine x_aload_n cx dJ18_copyOf_31 rfl (lv_at hl 0 rfl) ?_
    exact x_aret cx (by first | exact Or.inl ⟨_, rfl⟩ | exact Or.inr ⟨_, rfl⟩) hR hS (xle hcb) (xle hsb) hw dJ18_copyOf_32
  · have hw := mm_ip hc hw
    refine x_aload_n cx dJ18_copyOf_6 rfl (lv_at hl 0 rfl) ?_
    obtain ⟨hfa, hb1, hb2, hw⟩ := hw
    refine x_cloneB cx hl.1 hR hS q740 hr1 hk1 hfa (Nat.le_of_ble_eq_true rfl) (xroom14 (Nat.le_of_ble_eq_true rfl) (by dsimp only; omega)) (by dsimp only; omega) (by dsimp only; omega) dJ18_copyOf_7 (fun H hR hS => ?_)
    have hcb := xadd hb1 hcb
    have hsb := xadd hb2 hsb
    obtain ⟨hv, hw⟩ := hw
    refine x_castB cx hR q746 hv dJ18_copyOf_10 ?_
    exact x_aret cx (by first | exact Or.inl ⟨_, rfl⟩ | exact Or.inr ⟨_, rfl⟩) hR hS (xle hcb) (xle hsb) hw dJ18_copyOf_13
-- J12_ensureCapacityInternal
theorem CJ12_newCapacity_J12_104 {l : Launch} {p : Program} {e : Env} {R : Room} {s : State} {m : MethodId} {args : Array Value} {below : List Frame} {meth : Method} {c : Code} {H : Heap} {locs : List Loc} {cells slots : Nat} {Qz : State → Prop} {cc : ByteArray} {nL : Nat} {ret : Option FieldType} {E : xx_E} {σ : XS} {pc : Nat} {ls : Array Slot} {rest : List Value} {th : Nat} {x1 : Int32} (cx : xx_X "java/lang/AbstractStringBuilder" cc nL ret E p s m args meth c) (hR0 : xR E σ H) (hS0 : va_S (xA E) s.heap H locs) {r0 : Option Nat} (hr : r0 = some th) (hk : kd σ th = 23) {Qf : Int32 → XS → Prop} (hw : wJ12_newCapacity th x1 σ Qf) (hR : (({ frames := 2, cells := 0, slots := 0, locals := 80 } : Room)).frames + 1 ≤ R.frames ∧ 8 + (6 + 11) + (({ frames := 2, cells := 0, slots := 0, locals := 80 } : Room)).locals ≤ R.locals) (hrest : rest.length ≤ 4) (hsize : ls.size = nL) (hf : cells + 0 ≤ R.cells ∧ slots + 0 ≤ R.slots) (hdg : decode cc pc = .ok (.invokevirtual 104, 3))
    (kk : ∀ (r : Int32) (σ1 : XS) (H1 : Heap) (locs1 : List Loc), Qf r σ1 → xR E σ1 H1 → va_S (xA E) s.heap H1 locs1 → W p l e R s m args below meth c H1 locs1 (cells + 0) (slots + 0) Qz (F0 m (pc + 3) ls (.int r :: rest))) : W p l e R s m args below meth c H locs cells slots Qz (F0 m pc ls (.int x1 :: xv E r0 :: rest)) := by
  subst hr
  obtain ⟨hx, hb, hml, hown, hts, hrt, hlk, hK, hZ⟩ := id cx
  exact x_goi (x_runP (As := [.int x1]) (rest := rest) (x_fix cx) (MJ12_newCapacity l E th x1 σ Qf hw) (x_callB 1 hts (lw_meth q725) rfl rfl rfl (hts _ q722) (hts _ q174) (by decide +kernel) hR) (hts _ q724) (hK.2.2.2.2.2.2.2.2.2.2.1 _ (List.mem_of_getElem? (i := 1) rfl)) (hts _ q756) rfl (x_preV cx hR0 hS0 hk (by decide) (q := (RJ13, TJ13, 4)) rfl rfl [.int x1]) rfl rfl hsize rfl (lv_room (xroom hrest)) hdg hf) hS0 kk
theorem CJ18_copyOf_J12_108 {l : Launch} {p : Program} {e : Env} {R : Room} {s : State} {m : MethodId} {args : Array Value} {below : List Frame} {meth : Method} {c : Code} {H : Heap} {locs : List Loc} {cells slots : Nat} {Qz : State → Prop} {cc : ByteArray} {nL : Nat} {ret : Option FieldType} {E : xx_E} {σ : XS} {pc : Nat} {ls : Array Slot} {rest : List Value} {x0 : Option Nat} {x1 : Int32} {k n : Nat} (cx : xx_X "java/lang/AbstractStringBuilder" cc nL ret E p s m args meth c) (hR0 : xR E σ H) (hS0 : va_S (xA E) s.heap H locs) {Qf : Option Nat → XS → Prop} (hw : wJ18_copyOf x0 x1 k n σ Qf) (hR : (({ frames := 1, cells := k, slots := n, locals := 40 } : Room)).frames + 1 ≤ R.frames ∧ 8 + (3 + 11) + (({ frames := 1, cells := k, slots := n, locals := 40 } : Room)).locals ≤ R.locals) (hrest : rest.length ≤ 4) (hsize : ls.size = nL) (hf : cells + k ≤ R.cells ∧ slots + n ≤ R.slots) (hdg : decode cc pc = .ok (.invokestatic 108, 3))
    (kk : ∀ (r : Option Nat) (σ1 : XS) (H1 : Heap) (locs1 : List Loc), Qf r σ1 → xR E σ1 H1 → va_S (xA E) s.heap H1 locs1 → W p l e R s m args below meth c H1 locs1 (cells + k) (slots + n) Qz (F0 m (pc + 3) ls (xv E r :: rest))) : W p l e R s m args below meth c H locs cells slots Qz (F0 m pc ls (.int x1 :: xv E x0 :: rest)) := by
  obtain ⟨hx, hb, hml, hown, hts, hrt, hlk, hK, hZ⟩ := id cx
  exact x_gor (va_runS (As := [xv E x0, .int x1]) (rest := rest) (x_fix cx) (MJ18_copyOf l E x0 x1 k n σ Qf hw) (va_cwS 2 hts (lw_S q737 q738 q180 q739) rfl rfl rfl (by decide +kernel) hR) ⟨xblind, x_pre cx hR0 hS0 [xv E x0, .int x1]⟩ rfl rfl hsize rfl (lv_room (xroom hrest)) hdg hf) hS0 kk
def wJ12_ensureCapacityInternal (th : Nat) (x1 : Int32) (bc : Nat) (bs : Nat) (σ : XS) (Q : XS → Prop) : Prop :=
  kd σ th = 23 ∧ (oc σ (fr σ th 0) 102 (fun a2 => ∀ v3 : Int32, v3 = ((nI (ln σ a2)) >>> ((fi σ th 1) &&& 31)) → if (x1 - v3) ≤ 0 then (Q σ) else (wJ12_newCapacity th x1 σ (fun r4 s4 => kd s4 th = 23 ∧ (∃ k7 n7 : Nat, k7 ≤ bc ∧ n7 ≤ bs ∧ (wJ18_copyOf (fr σ th 0) (r4 <<< ((fi s4 th 1) &&& 31)) k7 n7 s4 (fun r6 s6 => kd s6 th = 23 ∧ (xK ≤ th ∧ (Q (pfr s6 th 0 r6))))))))))
set_option maxHeartbeats 4000000 in
theorem MJ12_ensureCapacityInternal (l : Launch) (E : xx_E) (th : Nat) (x1 : Int32) (bc : Nat) (bs : Nat) (σ : XS) (Q : XS → Prop) (hw : wJ12_ensureCapacityInternal th x1 bc bs σ Q) : xx_Mv l yJ12_ensureCapacityInternal (ws_ yJ12_ensureCapacityInternal cJ12_ensureCapacityInternal 3 none) ({ frames := 3, cells := bc, slots := bs, locals := 120 } : Room) E [xv E (some th), .int x1] σ Q bc bs := by
  refine x_of (own := "java/lang/AbstractStringBuilder") (by decide +kernel) rfl ?_
  intro p e s m args below meth c cx hR ha hnm
  refine x_entry [xv E (some th), .int x1] 3 [(0, xv E (some th)), (1, .int x1)] ha (by simp [lg_sl, xv_cat, vc_i, vc_j, vc_f]) (by simp [lv_args, xv_cat, vc_i, vc_j, vc_f]) (fun ls hl => ?_)
  have hS : va_S (xA E) s.heap s.heap [] := va_S.rf
  have hcb : 0 + bc ≤ bc := Nat.le_of_eq (Nat.zero_add _)
  have hsb : 0 + bs ≤ bs := Nat.le_of_eq (Nat.zero_add _)
  unfold wJ12_ensureCapacityInternal at hw
  obtain ⟨hx, hb, hml, hown, hts, hrt, hlk, hMK, hZ⟩ := id cx
  refine x_aload_n cx dJ12_ensureCapacityInternal_0 rfl (lv_at hl 0 rfl) ?_
  obtain ⟨hk1, hw⟩ := hw
  refine xg_J12_15_23 cx hR rfl hk1 dJ12_ensureCapacityInternal_1 ?_
  obtain ⟨a2, hr2, hk2, hw⟩ := hw
  refine x_alen cx hR hr2 2 hk2 (by decide) dJ12_ensureCapacityInternal_4 ?_
  refine x_aload_n cx dJ12_ensureCapacityInternal_5 rfl (lv_at hl 0 rfl) ?_
  refine xg_J12_22_23 cx hR rfl hk1 dJ12_ensureCapacityInternal_6 ?_
  refine lv_ishr hx hb dJ12_ensureCapacityInternal_9 ?_
  refine lv_topi (fun v3 hv3 => ?_)
  have hw := hw v3 hv3
  refine lv_istore_n (i := 2) (lv' := [(2, .int v3), (0, xv E (some th)), (1, .int x1)]) hx hb dJ12_ensureCapacityInternal_10 rfl hl (by decide) rfl (fun ls hl => ?_)
  refine lv_iload_n hx hb dJ12_ensureCapacityInternal_11 rfl (lv_at hl 2 rfl) ?_
  refine lv_iload_n hx hb dJ12_ensureCapacityInternal_12 rfl (lv_at hl 0 rfl) ?_
  refine lv_isub hx hb dJ12_ensureCapacityInternal_13 ?_
  refine lv_if_le (tgt := 38) hx hb dJ12_ensureCapacityInternal_14 (by decide) (fun hc => ?_) (fun hc => ?_)
  · have hw := mm_ip hc hw
    exact x_vret cx hR hS (xle hcb) (xle hsb) hw dJ12_ensureCapacityInternal_38
  · have hw := mm_in hc hw
    refine x_aload_n cx dJ12_ensureCapacityInternal_17 rfl (lv_at hl 1 rfl) ?_
    refine x_aload_n cx dJ12_ensureCapacityInternal_18 rfl (lv_at hl 1 rfl) ?_
    refine xg_J12_15_23 cx hR rfl hk1 dJ12_ensureCapacityInternal_19 ?_
    refine x_aload_n cx dJ12_ensureCapacityInternal_22 rfl (lv_at hl 1 rfl) ?_
    refine lv_iload_n hx hb dJ12_ensureCapacityInternal_23 rfl (lv_at hl 2 rfl) ?_
    refine CJ12_newCapacity_J12_104 cx hR hS rfl hk1 hw ⟨Nat.le_of_ble_eq_true rfl, Nat.le_of_ble_eq_true rfl⟩ (Nat.le_of_ble_eq_true rfl) hl.1 ⟨by dsimp only; omega, by dsimp only; omega⟩ dJ12_ensureCapacityInternal_24 (fun r4 s4 H locs hw hR hS => ?_)
    refine x_aload_n cx dJ12_ensureCapacityInternal_27 rfl (lv_at hl 1 rfl) ?_
    obtain ⟨hk5, hw⟩ := hw
    refine xg_J12_22_23 cx hR rfl hk5 dJ12_ensureCapacityInternal_28 ?_
    refine lv_ishl hx hb dJ12_ensureCapacityInternal_31 ?_
    obtain ⟨k7, n7, hb1, hb2, hw⟩ := hw
    refine CJ18_copyOf_J12_108 cx hR hS  hw ⟨Nat.le_of_ble_eq_true rfl, Nat.le_of_ble_eq_true rfl⟩ (Nat.le_of_ble_eq_true rfl) hl.1 ⟨by dsimp only; omega, by dsimp only; omega⟩ dJ12_ensureCapacityInternal_32 (fun r6 s6 H locs hw hR hS => ?_)
    have hcb := xadd hb1 hcb
    have hsb := xadd hb2 hsb
    obtain ⟨hk8, hw⟩ := hw
    obtain ⟨hge_th, hw⟩ := hw
    refine xp_J12_15_23 (v := r6) cx hR hS rfl hge_th hk8 dJ12_ensureCapacityInternal_35 (fun H locs hR hS => ?_)
    exact x_vret cx hR hS (xle hcb) (xle hsb) hw dJ12_ensureCapacityInternal_38
-- J12_isLatin1
def wJ12_isLatin1 (th : Nat) (σ : XS) (Q : Int32 → XS → Prop) : Prop :=
  kd σ th = 23 ∧ (if (fi σ th 1) = 0 then (Q (1 : Int32) σ) else (Q (0 : Int32) σ))
set_option maxHeartbeats 4000000 in
theorem MJ12_isLatin1 (l : Launch) (E : xx_E) (th : Nat) (σ : XS) (Q : Int32 → XS → Prop) (hw : wJ12_isLatin1 th σ Q) : xx_Mi l yJ12_isLatin1 (ws_ yJ12_isLatin1 cJ12_isLatin1 1 (some .boolean)) ({ frames := 0, cells := 0, slots := 0, locals := 0 } : Room) E [xv E (some th)] σ Q 0 0 := by
  refine x_of (own := "java/lang/AbstractStringBuilder") (by decide +kernel) rfl ?_
  intro p e s m args below meth c cx hR ha hnm
  refine x_entry [xv E (some th)] 1 [(0, xv E (some th))] ha (by simp [lg_sl, xv_cat, vc_i, vc_j, vc_f]) (by simp [lv_args, xv_cat, vc_i, vc_j, vc_f]) (fun ls hl => ?_)
  have hS : va_S (xA E) s.heap s.heap [] := va_S.rf
  have hcb : 0 + 0 ≤ 0 := Nat.le_of_eq (Nat.zero_add _)
  have hsb : 0 + 0 ≤ 0 := Nat.le_of_eq (Nat.zero_add _)
  unfold wJ12_isLatin1 at hw
  obtain ⟨hx, hb, hml, hown, hts, hrt, hlk, hMK, hZ⟩ := id cx
  refine va_gets (v := .int 1) (C := "java/lang/String") (n := "COMPACT_STRINGS") (d := "Z") hx hb hZ.1 hS hown (hts _ q689) (fun _ h => h) dJ12_isLatin1_0 ?_
  refine lv_if_eq (tgt := 17) hx hb dJ12_isLatin1_3 (by decide) (fun hc => ?_) (fun hc => ?_)
  · exact absurd hc (by decide)
  refine x_aload_n cx dJ12_isLatin1_6 rfl (lv_at hl 0 rfl) ?_
  obtain ⟨hk1, hw⟩ := hw
  refine xg_J12_22_23 cx hR rfl hk1 dJ12_isLatin1_7 ?_
  refine lv_if_ne (tgt := 17) hx hb dJ12_isLatin1_10 (by decide) (fun hc => ?_) (fun hc => ?_)
  · have hw := mm_in hc hw
    refine lv_iconst (v := (0 : Int32)) hx hb dJ12_isLatin1_17 (by decide) ?_
    exact x_nret cx hR hS (xle hcb) (xle hsb) (zb_nar (Or.inl rfl)) hw dJ12_isLatin1_18
  · have hw := mm_ip hc hw
    refine lv_iconst (v := (1 : Int32)) hx hb dJ12_isLatin1_13 (by decide) ?_
    refine lv_goto (tgt := 18) hx hb dJ12_isLatin1_14 (by decide) ?_
    exact x_nret cx hR hS (xle hcb) (xle hsb) (zb_nar (Or.inr rfl)) hw dJ12_isLatin1_18
-- J19_canEncode
def wJ19_canEncode (x0 : Int32) (σ : XS) (Q : Int32 → XS → Prop) : Prop :=
  if (255 : Int32) < x0 then (Q (0 : Int32) σ) else (Q (1 : Int32) σ)
set_option maxHeartbeats 4000000 in
theorem MJ19_canEncode (l : Launch) (E : xx_E) (x0 : Int32) (σ : XS) (Q : Int32 → XS → Prop) (hw : wJ19_canEncode x0 σ Q) : xx_Mi l yJ19_canEncode (ws_ yJ19_canEncode cJ19_canEncode 1 (some .boolean)) ({ frames := 0, cells := 0, slots := 0, locals := 0 } : Room) E [.int x0] σ Q 0 0 := by
  refine x_of (own := "java/lang/StringLatin1") (by decide +kernel) rfl ?_
  intro p e s m args below meth c cx hR ha hnm
  refine x_entry [.int x0] 1 [(0, .int x0)] ha (Nat.le_of_ble_eq_true rfl) rfl (fun ls hl => ?_)
  have hS : va_S (xA E) s.heap s.heap [] := va_S.rf
  have hcb : 0 + 0 ≤ 0 := Nat.le_of_eq (Nat.zero_add _)
  have hsb : 0 + 0 ≤ 0 := Nat.le_of_eq (Nat.zero_add _)
  unfold wJ19_canEncode at hw
  obtain ⟨hx, hb, hml, hown, hts, hrt, hlk, hMK, hZ⟩ := id cx
  refine lv_iload_n hx hb dJ19_canEncode_0 rfl (lv_at hl 0 rfl) ?_
  refine lv_sipush (v := (255 : Int32)) hx hb dJ19_canEncode_1 (by decide) ?_
  refine lv_icmp_gt (tgt := 11) hx hb dJ19_canEncode_4 (by decide) (fun hc => ?_) (fun hc => ?_)
  · have hw := mm_ip hc hw
    refine lv_iconst (v := (0 : Int32)) hx hb dJ19_canEncode_11 (by decide) ?_
    exact x_nret cx hR hS (xle hcb) (xle hsb) (zb_nar (Or.inl rfl)) hw dJ19_canEncode_12
  · have hw := mm_in hc hw
    refine lv_iconst (v := (1 : Int32)) hx hb dJ19_canEncode_7 (by decide) ?_
    refine lv_goto (tgt := 12) hx hb dJ19_canEncode_8 (by decide) ?_
    exact x_nret cx hR hS (xle hcb) (xle hsb) (zb_nar (Or.inr rfl)) hw dJ19_canEncode_12
-- J12_append
theorem xg_J12_79_23 {l : Launch} {p : Program} {e : Env} {R : Room} {s : State} {m : MethodId} {args : Array Value} {below : List Frame} {meth : Method} {c : Code} {H : Heap} {locs : List Loc} {cells slots : Nat} {Qz : State → Prop} {cc : ByteArray} {nL : Nat} {ret : Option FieldType} {E : xx_E} {σ : XS} {pc : Nat} {ls : Array Slot} {rest : List Value} (cx : xx_X "java/lang/AbstractStringBuilder" cc nL ret E p s m args meth c) (hR : xR E σ H) {a : Nat} {r : Option Nat} (hr : r = some a) (hk : kd σ a = 23) (hdg : decode cc pc = .ok (.getfield 79, 3)) (kk : W p l e R s m args below meth c H locs cells slots Qz (F0 m (pc + 3) ls (.int (fi σ a 3) :: rest))) : W p l e R s m args below meth c H locs cells slots Qz (F0 m pc ls (xv E r :: rest)) :=
  x_get (ci := 22) cx hR hr hk (by decide) rfl in_J13 3 (by decide) q701 (fun _ h => h) (v := .int (fi σ a 3)) rfl hdg kk
theorem xp_J12_79_23 {l : Launch} {p : Program} {e : Env} {R : Room} {s : State} {m : MethodId} {args : Array Value} {below : List Frame} {meth : Method} {c : Code} {H : Heap} {locs : List Loc} {cells slots : Nat} {Qz : State → Prop} {cc : ByteArray} {nL : Nat} {ret : Option FieldType} {E : xx_E} {σ : XS} {pc : Nat} {ls : Array Slot} {rest : List Value} (cx : xx_X "java/lang/AbstractStringBuilder" cc nL ret E p s m args meth c) (hR : xR E σ H) (hS0 : va_S (xA E) s.heap H locs) {a : Nat} {r : Option Nat} {v : Int32} (hr : r = some a) (ha : xK ≤ a) (hk : kd σ a = 23) (hdg : decode cc pc = .ok (.putfield 79, 3)) (kk : ∀ (H1 : Heap) (locs1 : List Loc), xR E (pfi σ a 3 v) H1 → va_S (xA E) s.heap H1 locs1 → W p l e R s m args below meth c H1 locs1 cells slots Qz (F0 m (pc + 3) ls rest)) : W p l e R s m args below meth c H locs cells slots Qz (F0 m pc ls (.int v :: xv E r :: rest)) :=
  x_put (ci := 22) cx hR hS0 hr ha hk (by decide) rfl in_J13 tyJ13 tyJ13_ok nmJ13 3 (by decide) (Or.inl ⟨q701, rfl⟩) (fun _ h => h) rfl rfl (xput_i rfl) hdg kk
theorem CJ12_ensureCapacityInternal_J12_100 {l : Launch} {p : Program} {e : Env} {R : Room} {s : State} {m : MethodId} {args : Array Value} {below : List Frame} {meth : Method} {c : Code} {H : Heap} {locs : List Loc} {cells slots : Nat} {Qz : State → Prop} {cc : ByteArray} {nL : Nat} {ret : Option FieldType} {E : xx_E} {σ : XS} {pc : Nat} {ls : Array Slot} {rest : List Value} {th : Nat} {x1 : Int32} {k n : Nat} (cx : xx_X "java/lang/AbstractStringBuilder" cc nL ret E p s m args meth c) (hR0 : xR E σ H) (hS0 : va_S (xA E) s.heap H locs) {r0 : Option Nat} (hr : r0 = some th) (hk : kd σ th = 23) {Qf : XS → Prop} (hw : wJ12_ensureCapacityInternal th x1 k n σ Qf) (hR : (({ frames := 3, cells := k, slots := n, locals := 120 } : Room)).frames + 1 ≤ R.frames ∧ 8 + (3 + 11) + (({ frames := 3, cells := k, slots := n, locals := 120 } : Room)).locals ≤ R.locals) (hrest : rest.length ≤ 4) (hsize : ls.size = nL) (hf : cells + k ≤ R.cells ∧ slots + n ≤ R.slots) (hdg : decode cc pc = .ok (.invokevirtual 100, 3))
    (kk : ∀ (σ1 : XS) (H1 : Heap) (locs1 : List Loc), Qf σ1 → xR E σ1 H1 → va_S (xA E) s.heap H1 locs1 → W p l e R s m args below meth c H1 locs1 (cells + k) (slots + n) Qz (F0 m (pc + 3) ls rest)) : W p l e R s m args below meth c H locs cells slots Qz (F0 m pc ls (.int x1 :: xv E r0 :: rest)) := by
  subst hr
  obtain ⟨hx, hb, hml, hown, hts, hrt, hlk, hK, hZ⟩ := id cx
  exact x_gov (x_runP (As := [.int x1]) (rest := rest) (x_fix cx) (MJ12_ensureCapacityInternal l E th x1 k n σ Qf hw) (x_callB 1 hts (lw_meth q721) rfl rfl rfl (hts _ q718) (hts _ q174) (by decide +kernel) hR) (hts _ q720) (hK.2.2.2.2.2.2.2.2.2.2.1 _ (List.mem_of_getElem? (i := 0) rfl)) (hts _ q756) rfl (x_preV cx hR0 hS0 hk (by decide) (q := (RJ13, TJ13, 4)) rfl rfl [.int x1]) rfl rfl hsize rfl (lv_room (xroom hrest)) hdg hf) hS0 kk
theorem CJ12_isLatin1_J12_83 {l : Launch} {p : Program} {e : Env} {R : Room} {s : State} {m : MethodId} {args : Array Value} {below : List Frame} {meth : Method} {c : Code} {H : Heap} {locs : List Loc} {cells slots : Nat} {Qz : State → Prop} {cc : ByteArray} {nL : Nat} {ret : Option FieldType} {E : xx_E} {σ : XS} {pc : Nat} {ls : Array Slot} {rest : List Value} {th : Nat} (cx : xx_X "java/lang/AbstractStringBuilder" cc nL ret E p s m args meth c) (hR0 : xR E σ H) (hS0 : va_S (xA E) s.heap H locs) {r0 : Option Nat} (hr : r0 = some th) (hk : kd σ th = 23) {Qf : Int32 → XS → Prop} (hw : wJ12_isLatin1 th σ Qf) (hR : (({ frames := 0, cells := 0, slots := 0, locals := 0 } : Room)).frames + 1 ≤ R.frames ∧ 8 + (1 + 11) + (({ frames := 0, cells := 0, slots := 0, locals := 0 } : Room)).locals ≤ R.locals) (hrest : rest.length ≤ 4) (hsize : ls.size = nL) (hf : cells + 0 ≤ R.cells ∧ slots + 0 ≤ R.slots) (hdg : decode cc pc = .ok (.invokevirtual 83, 3))
    (kk : ∀ (r : Int32) (σ1 : XS) (H1 : Heap) (locs1 : List Loc), Qf r σ1 → xR E σ1 H1 → va_S (xA E) s.heap H1 locs1 → W p l e R s m args below meth c H1 locs1 (cells + 0) (slots + 0) Qz (F0 m (pc + 3) ls (.int r :: rest))) : W p l e R s m args below meth c H locs cells slots Qz (F0 m pc ls (xv E r0 :: rest)) := by
  subst hr
  obtain ⟨hx, hb, hml, hown, hts, hrt, hlk, hK, hZ⟩ := id cx
  exact x_goi (va_runU (C := "java/lang/StringBuilder") (owner := "java/lang/AbstractStringBuilder") (As := []) (rest := rest) (x_fix cx) (MJ12_isLatin1 l E th σ Qf hw) (va_cwU (C := "java/lang/StringBuilder") (owner := "java/lang/AbstractStringBuilder") (x := ⟨"java/lang/AbstractStringBuilder", "isLatin1", "()Z"⟩) 0 hts (lw_app (xin5 q753 q755 q756 q754 q174) (lw_meth q757)) rfl rfl rfl rfl (by decide +kernel) hR) (x_preV cx hR0 hS0 hk (by decide) (q := (RJ13, TJ13, 4)) rfl rfl []) rfl rfl hsize rfl (lv_room (xroom hrest)) hdg hf) hS0 kk
theorem CJ19_canEncode_J12_191 {l : Launch} {p : Program} {e : Env} {R : Room} {s : State} {m : MethodId} {args : Array Value} {below : List Frame} {meth : Method} {c : Code} {H : Heap} {locs : List Loc} {cells slots : Nat} {Qz : State → Prop} {cc : ByteArray} {nL : Nat} {ret : Option FieldType} {E : xx_E} {σ : XS} {pc : Nat} {ls : Array Slot} {rest : List Value} {x0 : Int32} (cx : xx_X "java/lang/AbstractStringBuilder" cc nL ret E p s m args meth c) (hR0 : xR E σ H) (hS0 : va_S (xA E) s.heap H locs) {Qf : Int32 → XS → Prop} (hw : wJ19_canEncode x0 σ Qf) (hR : (({ frames := 0, cells := 0, slots := 0, locals := 0 } : Room)).frames + 1 ≤ R.frames ∧ 8 + (1 + 11) + (({ frames := 0, cells := 0, slots := 0, locals := 0 } : Room)).locals ≤ R.locals) (hrest : rest.length ≤ 4) (hsize : ls.size = nL) (hf : cells + 0 ≤ R.cells ∧ slots + 0 ≤ R.slots) (hdg : decode cc pc = .ok (.invokestatic 191, 3))
    (kk : ∀ (r : Int32) (σ1 : XS) (H1 : Heap) (locs1 : List Loc), Qf r σ1 → xR E σ1 H1 → va_S (xA E) s.heap H1 locs1 → W p l e R s m args below meth c H1 locs1 (cells + 0) (slots + 0) Qz (F0 m (pc + 3) ls (.int r :: rest))) : W p l e R s m args below meth c H locs cells slots Qz (F0 m pc ls (.int x0 :: rest)) := by
  obtain ⟨hx, hb, hml, hown, hts, hrt, hlk, hK, hZ⟩ := id cx
  exact x_goi (va_runS (As := [.int x0]) (rest := rest) (x_fix cx) (MJ19_canEncode l E x0 σ Qf hw) (va_cwS 1 hts (lw_S q758 q759 q182 q760) rfl rfl rfl (by decide +kernel) hR) ⟨xblind, x_pre cx hR0 hS0 [.int x0]⟩ rfl rfl hsize rfl (lv_room (xroom hrest)) hdg hf) hS0 kk
def wJ12_append_45 (Q : Option Nat → XS → Prop) (th : Nat) (x1 : Int32) (bc : Nat) (bs : Nat) (σ : XS) : Prop :=
  kd σ th = 23 ∧ (wJ12_isLatin1 th σ (fun r1 s1 => if r1 = 0 then (kd s1 th = 23 ∧ (xK ≤ th ∧ (False))) else False))
set_option maxHeartbeats 4000000 in
theorem BJ12_append_45 {l : Launch} {p : Program} {e : Env} {s : State} {m : MethodId} {args : Array Value} {below : List Frame} {meth : Method} {c : Code} {E : xx_E} {mc ms : Nat} {Q : Option Nat → XS → Prop} (cx : xx_X "java/lang/AbstractStringBuilder" cJ12_append 2 (some (.object "java/lang/AbstractStringBuilder")) E p s m args meth c) : ∀ (th : Nat) (x1 : Int32) (bc : Nat) (bs : Nat) (σ : XS), wJ12_append_45 Q th x1 bc bs σ → x_T p l e ({ frames := 4, cells := mc, slots := ms, locals := 160 } : Room) s m args below meth c E (va_Qe (xr E) Q (fun σ' t => xW E σ' t) (xA E)) mc ms 2 45 bc bs σ [(0, xv E (some th)), (1, .int x1)] [] := by
  intro th x1 bc bs σ hw H locs ls cells slots hR hS hl hcb hsb
  unfold wJ12_append_45 at hw
  obtain ⟨hx, hb, hml, hown, hts, hrt, hlk, hMK, hZ⟩ := id cx
  refine x_aload_n cx dJ12_append_45 rfl (lv_at hl 0 rfl) ?_
  obtain ⟨hk2, hw⟩ := hw
  refine CJ12_isLatin1_J12_83 cx hR hS rfl hk2 hw ⟨Nat.le_of_ble_eq_true rfl, Nat.le_of_ble_eq_true rfl⟩ (Nat.le_of_ble_eq_true rfl) hl.1 ⟨by dsimp only; omega, by dsimp only; omega⟩ dJ12_append_46 (fun r1 s1 H locs hw hR hS => ?_)
  refine lv_if_eq (tgt := 56) hx hb dJ12_append_49 (by decide) (fun hc => ?_) (fun hc => ?_)
  · have hw := mm_ip hc hw
    refine x_aload_n cx dJ12_append_56 rfl (lv_at hl 0 rfl) ?_
    obtain ⟨hk3, hw⟩ := hw
    refine xg_J12_15_23 cx hR rfl hk3 dJ12_append_57 ?_
    refine x_aload_n cx dJ12_append_60 rfl (lv_at hl 0 rfl) ?_
    refine lv_dup hx hb dJ12_append_61 (xv_cat _ _) ?_
    refine xg_J12_79_23 cx hR rfl hk3 dJ12_append_62 ?_
    refine lv_dup_x1 hx hb dJ12_append_65 rfl (xv_cat _ _) ?_
    refine lv_iconst (v := (1 : Int32)) hx hb dJ12_append_66 (by decide) ?_
    refine lv_iadd hx hb dJ12_append_67 ?_
    obtain ⟨hge_th, hw⟩ := hw
    refine xp_J12_79_23 (v := ((fi s1 th 3) + (1 : Int32))) cx hR hS rfl hge_th hk3 dJ12_append_68 (fun H locs hR hS => ?_)
    refine lv_iload_n hx hb dJ12_append_71 rfl (lv_at hl 1 rfl) ?_
    exact hw.elim
  · have hw := mm_in hc hw
    refine x_aload_n cx dJ12_append_52 rfl (lv_at hl 0 rfl) ?_
    exact hw.elim
def wJ12_append (th : Nat) (x1 : Int32) (bc : Nat) (bs : Nat) (σ : XS) (Q : Option Nat → XS → Prop) : Prop :=
  kd σ th = 23 ∧ (∃ k6 n6 : Nat, k6 ≤ bc ∧ n6 ≤ bs ∧ (wJ12_ensureCapacityInternal th ((fi σ th 3) + (1 : Int32)) k6 n6 σ (fun s5 => kd s5 th = 23 ∧ (wJ12_isLatin1 th s5 (fun r7 s7 => if r7 = 0 then (wJ12_append_45 Q th x1 (bc - k6) (bs - n6) s7) else (wJ19_canEncode x1 s7 (fun r9 s9 => if r9 = 0 then (wJ12_append_45 Q th x1 (bc - k6) (bs - n6) s9) else (kd s9 th = 23 ∧ (xK ≤ th ∧ (oc (pfi s9 th 3 ((fi s9 th 3) + (1 : Int32))) (fr s9 th 0) 102 (fun a11 => xK ≤ a11 ∧ (vp_in (fi s9 th 3) (ln (pfi s9 th 3 ((fi s9 th 3) + (1 : Int32))) a11) ∧ (Q (some th) (pai (pfi s9 th 3 ((fi s9 th 3) + (1 : Int32))) a11 ((fi s9 th 3).toNatClampNeg) ((x1).toInt8.toInt32).toInt8.toInt32))))))))))))))
set_option maxHeartbeats 4000000 in
theorem MJ12_append (l : Launch) (E : xx_E) (th : Nat) (x1 : Int32) (bc : Nat) (bs : Nat) (σ : XS) (Q : Option Nat → XS → Prop) (hw : wJ12_append th x1 bc bs σ Q) : xx_Mr l yJ12_append (ws_ yJ12_append cJ12_append 2 (some (.object "java/lang/AbstractStringBuilder"))) ({ frames := 4, cells := bc, slots := bs, locals := 160 } : Room) E [xv E (some th), .int x1] σ Q bc bs := by
  refine x_of (own := "java/lang/AbstractStringBuilder") (by decide +kernel) rfl ?_
  intro p e s m args below meth c cx hR ha hnm
  refine x_entry [xv E (some th), .int x1] 2 [(0, xv E (some th)), (1, .int x1)] ha (by simp [lg_sl, xv_cat, vc_i, vc_j, vc_f]) (by simp [lv_args, xv_cat, vc_i, vc_j, vc_f]) (fun ls hl => ?_)
  have hS : va_S (xA E) s.heap s.heap [] := va_S.rf
  have hcb : 0 + bc ≤ bc := Nat.le_of_eq (Nat.zero_add _)
  have hsb : 0 + bs ≤ bs := Nat.le_of_eq (Nat.zero_add _)
  unfold wJ12_append at hw
  obtain ⟨hx, hb, hml, hown, hts, hrt, hlk, hMK, hZ⟩ := id cx
  refine x_aload_n cx dJ12_append_0 rfl (lv_at hl 0 rfl) ?_
  refine x_aload_n cx dJ12_append_1 rfl (lv_at hl 0 rfl) ?_
  obtain ⟨hk4, hw⟩ := hw
  refine xg_J12_79_23 cx hR rfl hk4 dJ12_append_2 ?_
  refine lv_iconst (v := (1 : Int32)) hx hb dJ12_append_5 (by decide) ?_
  refine lv_iadd hx hb dJ12_append_6 ?_
  obtain ⟨k6, n6, hb1, hb2, hw⟩ := hw
  refine CJ12_ensureCapacityInternal_J12_100 cx hR hS rfl hk4 hw ⟨Nat.le_of_ble_eq_true rfl, Nat.le_of_ble_eq_true rfl⟩ (Nat.le_of_ble_eq_true rfl) hl.1 ⟨by dsimp only; omega, by dsimp only; omega⟩ dJ12_append_7 (fun s5 H locs hw hR hS => ?_)
  have hcb := xadd hb1 hcb
  have hsb := xadd hb2 hsb
  refine x_aload_n cx dJ12_append_10 rfl (lv_at hl 0 rfl) ?_
  obtain ⟨hk8, hw⟩ := hw
  refine CJ12_isLatin1_J12_83 cx hR hS rfl hk8 hw ⟨Nat.le_of_ble_eq_true rfl, Nat.le_of_ble_eq_true rfl⟩ (Nat.le_of_ble_eq_true rfl) hl.1 ⟨by dsimp only; omega, by dsimp only; omega⟩ dJ12_append_11 (fun r7 s7 H locs hw hR hS => ?_)
  refine lv_if_eq (tgt := 45) hx hb dJ12_append_14 (by decide) (fun hc => ?_) (fun hc => ?_)
  · have hw := mm_ip hc hw
    exact BJ12_append_45 cx _ _ _ _ _ hw _ _ _ _ _ hR hS (lv_sub hl [0, 1] rfl) hcb hsb
  · have hw := mm_in hc hw
    refine lv_iload_n hx hb dJ12_append_17 rfl (lv_at hl 1 rfl) ?_
    refine CJ19_canEncode_J12_191 cx hR hS  hw ⟨Nat.le_of_ble_eq_true rfl, Nat.le_of_ble_eq_true rfl⟩ (Nat.le_of_ble_eq_true rfl) hl.1 ⟨by dsimp only; omega, by dsimp only; omega⟩ dJ12_append_18 (fun r9 s9 H locs hw hR hS => ?_)
    refine lv_if_eq (tgt := 45) hx hb dJ12_append_21 (by decide) (fun hc => ?_) (fun hc => ?_)
    · have hw := mm_ip hc hw
      exact BJ12_append_45 cx _ _ _ _ _ hw _ _ _ _ _ hR hS (lv_sub hl [0, 1] rfl) hcb hsb
    · have hw := mm_in hc hw
      refine x_aload_n cx dJ12_append_24 rfl (lv_at hl 0 rfl) ?_
      obtain ⟨hk10, hw⟩ := hw
      refine xg_J12_15_23 cx hR rfl hk10 dJ12_append_25 ?_
      refine x_aload_n cx dJ12_append_28 rfl (lv_at hl 0 rfl) ?_
      refine lv_dup hx hb dJ12_append_29 (xv_cat _ _) ?_
      refine xg_J12_79_23 cx hR rfl hk10 dJ12_append_30 ?_
      refine lv_dup_x1 hx hb dJ12_append_33 rfl (xv_cat _ _) ?_
      refine lv_iconst (v := (1 : Int32)) hx hb dJ12_append_34 (by decide) ?_
      refine lv_iadd hx hb dJ12_append_35 ?_
      obtain ⟨hge_th, hw⟩ := hw
      refine xp_J12_79_23 (v := ((fi s9 th 3) + (1 : Int32))) cx hR hS rfl hge_th hk10 dJ12_append_36 (fun H locs hR hS => ?_)
      refine lv_iload_n hx hb dJ12_append_39 rfl (lv_at hl 1 rfl) ?_
      refine lv_i2b hx hb dJ12_append_40 rfl ?_
      obtain ⟨a11, hr11, hk11, hw⟩ := hw
      obtain ⟨hge_a11, hw⟩ := hw
      obtain ⟨hi, hw⟩ := hw
      refine x_bast cx hR hS hr11 hge_a11 hk11 (j := (fi s9 th 3).toNatClampNeg) rfl hi dJ12_append_41 (fun H locs hR hS => ?_)
      refine lv_goto (tgt := 75) hx hb dJ12_append_42 (by decide) ?_
      refine x_aload_n cx dJ12_append_75 rfl (lv_at hl 0 rfl) ?_
      exact x_aret cx (by first | exact Or.inl ⟨_, rfl⟩ | exact Or.inr ⟨_, rfl⟩) hR hS (xle hcb) (xle hsb) hw dJ12_append_76
-- J13_append
theorem CJ12_append_J13_50 {l : Launch} {p : Program} {e : Env} {R : Room} {s : State} {m : MethodId} {args : Array Value} {below : List Frame} {meth : Method} {c : Code} {H : Heap} {locs : List Loc} {cells slots : Nat} {Qz : State → Prop} {cc : ByteArray} {nL : Nat} {ret : Option FieldType} {E : xx_E} {σ : XS} {pc : Nat} {ls : Array Slot} {rest : List Value} {th : Nat} {x1 : Int32} {k n : Nat} (cx : xx_X "java/lang/StringBuilder" cc nL ret E p s m args meth c) (hR0 : xR E σ H) (hS0 : va_S (xA E) s.heap H locs) {r0 : Option Nat} (hr : r0 = some th) (hk : kd σ th = 23) {Qf : Option Nat → XS → Prop} (hw : wJ12_append th x1 k n σ Qf) (hR : (({ frames := 4, cells := k, slots := n, locals := 160 } : Room)).frames + 1 ≤ R.frames ∧ 8 + (2 + 11) + (({ frames := 4, cells := k, slots := n, locals := 160 } : Room)).locals ≤ R.locals) (hrest : rest.length ≤ 4) (hsize : ls.size = nL) (hf : cells + k ≤ R.cells ∧ slots + n ≤ R.slots) (hdg : decode cc pc = .ok (.invokespecial 50, 3))
    (kk : ∀ (r : Option Nat) (σ1 : XS) (H1 : Heap) (locs1 : List Loc), Qf r σ1 → xR E σ1 H1 → va_S (xA E) s.heap H1 locs1 → W p l e R s m args below meth c H1 locs1 (cells + k) (slots + n) Qz (F0 m (pc + 3) ls (xv E r :: rest))) : W p l e R s m args below meth c H locs cells slots Qz (F0 m pc ls (.int x1 :: xv E r0 :: rest)) := by
  subst hr
  obtain ⟨hx, hb, hml, hown, hts, hrt, hlk, hK, hZ⟩ := id cx
  exact x_gor (va_runSU (C := "java/lang/StringBuilder") (As := [.int x1]) (rest := rest) ((x_K cx).1.1 22 _ rfl).2 (x_fix cx) (MJ12_append l E th x1 k n σ Qf hw) (va_cwSU 1 hts (lw_app (xin5 q715 q3062 q710 q716 q174) (lw_meth q717)) rfl rfl rfl (by decide +kernel) hR) (x_preV cx hR0 hS0 hk (by decide) (q := (RJ13, TJ13, 4)) rfl rfl [.int x1]) rfl rfl hsize rfl (lv_room (xroom hrest)) hdg hf) hS0 kk
def wJ13_append (th : Nat) (x1 : Int32) (bc : Nat) (bs : Nat) (σ : XS) (Q : Option Nat → XS → Prop) : Prop :=
  kd σ th = 23 ∧ (∃ k3 n3 : Nat, k3 ≤ bc ∧ n3 ≤ bs ∧ (wJ12_append th x1 k3 n3 σ (fun r1 s1 => Q (some th) s1)))
set_option maxHeartbeats 4000000 in
theorem MJ13_append (l : Launch) (E : xx_E) (th : Nat) (x1 : Int32) (bc : Nat) (bs : Nat) (σ : XS) (Q : Option Nat → XS → Prop) (hw : wJ13_append th x1 bc bs σ Q) : xx_Mr l yJ13_append (ws_ yJ13_append cJ13_append 2 (some (.object "java/lang/StringBuilder"))) ({ frames := 5, cells := bc, slots := bs, locals := 200 } : Room) E [xv E (some th), .int x1] σ Q bc bs := by
  refine x_of (own := "java/lang/StringBuilder") (by decide +kernel) rfl ?_
  intro p e s m args below meth c cx hR ha hnm
  refine x_entry [xv E (some th), .int x1] 2 [(0, xv E (some th)), (1, .int x1)] ha (by simp [lg_sl, xv_cat, vc_i, vc_j, vc_f]) (by simp [lv_args, xv_cat, vc_i, vc_j, vc_f]) (fun ls hl => ?_)
  have hS : va_S (xA E) s.heap s.heap [] := va_S.rf
  have hcb : 0 + bc ≤ bc := Nat.le_of_eq (Nat.zero_add _)
  have hsb : 0 + bs ≤ bs := Nat.le_of_eq (Nat.zero_add _)
  unfold wJ13_append at hw
  obtain ⟨hx, hb, hml, hown, hts, hrt, hlk, hMK, hZ⟩ := id cx
  refine x_aload_n cx dJ13_append_0 rfl (lv_at hl 0 rfl) ?_
  refine lv_iload_n hx hb dJ13_append_1 rfl (lv_at hl 1 rfl) ?_
  obtain ⟨hk2, hw⟩ := hw
  obtain ⟨k3, n3, hb1, hb2, hw⟩ := hw
  refine CJ12_append_J13_50 cx hR hS rfl hk2 hw ⟨Nat.le_of_ble_eq_true rfl, Nat.le_of_ble_eq_true rfl⟩ (Nat.le_of_ble_eq_true rfl) hl.1 ⟨by dsimp only; omega, by dsimp only; omega⟩ dJ13_append_2 (fun r1 s1 H locs hw hR hS => ?_)
  have hcb := xadd hb1 hcb
  have hsb := xadd hb2 hsb
  refine lv_pop hx hb dJ13_append_5 (xv_cat _ _) ?_
  refine x_aload_n cx dJ13_append_6 rfl (lv_at hl 0 rfl) ?_
  exact x_aret cx (by first | exact Or.inl ⟨_, rfl⟩ | exact Or.inr ⟨_, rfl⟩) hR hS (xle hcb) (xle hsb) hw dJ13_append_7
-- J12_getValue
def wJ12_getValue (th : Nat) (σ : XS) (Q : Option Nat → XS → Prop) : Prop :=
  kd σ th = 23 ∧ (Q (fr σ th 0) σ)
set_option maxHeartbeats 4000000 in
theorem MJ12_getValue (l : Launch) (E : xx_E) (th : Nat) (σ : XS) (Q : Option Nat → XS → Prop) (hw : wJ12_getValue th σ Q) : xx_Mr l yJ12_getValue (ws_ yJ12_getValue cJ12_getValue 1 (some (.array .byte))) ({ frames := 0, cells := 0, slots := 0, locals := 0 } : Room) E [xv E (some th)] σ Q 0 0 := by
  refine x_of (own := "java/lang/AbstractStringBuilder") (by decide +kernel) rfl ?_
  intro p e s m args below meth c cx hR ha hnm
  refine x_entry [xv E (some th)] 1 [(0, xv E (some th))] ha (by simp [lg_sl, xv_cat, vc_i, vc_j, vc_f]) (by simp [lv_args, xv_cat, vc_i, vc_j, vc_f]) (fun ls hl => ?_)
  have hS : va_S (xA E) s.heap s.heap [] := va_S.rf
  have hcb : 0 + 0 ≤ 0 := Nat.le_of_eq (Nat.zero_add _)
  have hsb : 0 + 0 ≤ 0 := Nat.le_of_eq (Nat.zero_add _)
  unfold wJ12_getValue at hw
  obtain ⟨hx, hb, hml, hown, hts, hrt, hlk, hMK, hZ⟩ := id cx
  refine x_aload_n cx dJ12_getValue_0 rfl (lv_at hl 0 rfl) ?_
  obtain ⟨hk1, hw⟩ := hw
  refine xg_J12_15_23 cx hR rfl hk1 dJ12_getValue_1 ?_
  exact x_aret cx (by first | exact Or.inl ⟨_, rfl⟩ | exact Or.inr ⟨_, rfl⟩) hR hS (xle hcb) (xle hsb) hw dJ12_getValue_4
-- J12_length
def wJ12_length (th : Nat) (σ : XS) (Q : Int32 → XS → Prop) : Prop :=
  kd σ th = 23 ∧ (Q (fi σ th 3) σ)
set_option maxHeartbeats 4000000 in
theorem MJ12_length (l : Launch) (E : xx_E) (th : Nat) (σ : XS) (Q : Int32 → XS → Prop) (hw : wJ12_length th σ Q) : xx_Mi l yJ12_length (ws_ yJ12_length cJ12_length 1 (some .int)) ({ frames := 0, cells := 0, slots := 0, locals := 0 } : Room) E [xv E (some th)] σ Q 0 0 := by
  refine x_of (own := "java/lang/AbstractStringBuilder") (by decide +kernel) rfl ?_
  intro p e s m args below meth c cx hR ha hnm
  refine x_entry [xv E (some th)] 1 [(0, xv E (some th))] ha (by simp [lg_sl, xv_cat, vc_i, vc_j, vc_f]) (by simp [lv_args, xv_cat, vc_i, vc_j, vc_f]) (fun ls hl => ?_)
  have hS : va_S (xA E) s.heap s.heap [] := va_S.rf
  have hcb : 0 + 0 ≤ 0 := Nat.le_of_eq (Nat.zero_add _)
  have hsb : 0 + 0 ≤ 0 := Nat.le_of_eq (Nat.zero_add _)
  unfold wJ12_length at hw
  obtain ⟨hx, hb, hml, hown, hts, hrt, hlk, hMK, hZ⟩ := id cx
  refine x_aload_n cx dJ12_length_0 rfl (lv_at hl 0 rfl) ?_
  obtain ⟨hk1, hw⟩ := hw
  refine xg_J12_79_23 cx hR rfl hk1 dJ12_length_1 ?_
  exact x_iret cx hR hS (xle hcb) (xle hsb) hw dJ12_length_4
-- J13_length
theorem CJ12_length_J13_343 {l : Launch} {p : Program} {e : Env} {R : Room} {s : State} {m : MethodId} {args : Array Value} {below : List Frame} {meth : Method} {c : Code} {H : Heap} {locs : List Loc} {cells slots : Nat} {Qz : State → Prop} {cc : ByteArray} {nL : Nat} {ret : Option FieldType} {E : xx_E} {σ : XS} {pc : Nat} {ls : Array Slot} {rest : List Value} {th : Nat} (cx : xx_X "java/lang/StringBuilder" cc nL ret E p s m args meth c) (hR0 : xR E σ H) (hS0 : va_S (xA E) s.heap H locs) {r0 : Option Nat} (hr : r0 = some th) (hk : kd σ th = 23) {Qf : Int32 → XS → Prop} (hw : wJ12_length th σ Qf) (hR : (({ frames := 0, cells := 0, slots := 0, locals := 0 } : Room)).frames + 1 ≤ R.frames ∧ 8 + (1 + 11) + (({ frames := 0, cells := 0, slots := 0, locals := 0 } : Room)).locals ≤ R.locals) (hrest : rest.length ≤ 4) (hsize : ls.size = nL) (hf : cells + 0 ≤ R.cells ∧ slots + 0 ≤ R.slots) (hdg : decode cc pc = .ok (.invokespecial 343, 3))
    (kk : ∀ (r : Int32) (σ1 : XS) (H1 : Heap) (locs1 : List Loc), Qf r σ1 → xR E σ1 H1 → va_S (xA E) s.heap H1 locs1 → W p l e R s m args below meth c H1 locs1 (cells + 0) (slots + 0) Qz (F0 m (pc + 3) ls (.int r :: rest))) : W p l e R s m args below meth c H locs cells slots Qz (F0 m pc ls (xv E r0 :: rest)) := by
  subst hr
  obtain ⟨hx, hb, hml, hown, hts, hrt, hlk, hK, hZ⟩ := id cx
  exact x_goi (va_runSU (C := "java/lang/StringBuilder") (As := []) (rest := rest) ((x_K cx).1.1 22 _ rfl).2 (x_fix cx) (MJ12_length l E th σ Qf hw) (va_cwSU 0 hts (lw_app (xin5 q828 q824 q710 q823 q174) (lw_meth q829)) rfl rfl rfl (by decide +kernel) hR) (x_preV cx hR0 hS0 hk (by decide) (q := (RJ13, TJ13, 4)) rfl rfl []) rfl rfl hsize rfl (lv_room (xroom hrest)) hdg hf) hS0 kk
def wJ13_length (th : Nat) (σ : XS) (Q : Int32 → XS → Prop) : Prop :=
  kd σ th = 23 ∧ (wJ12_length th σ (fun r1 s1 => Q r1 s1))
set_option maxHeartbeats 4000000 in
theorem MJ13_length (l : Launch) (E : xx_E) (th : Nat) (σ : XS) (Q : Int32 → XS → Prop) (hw : wJ13_length th σ Q) : xx_Mi l yJ13_length (ws_ yJ13_length cJ13_length 1 (some .int)) ({ frames := 1, cells := 0, slots := 0, locals := 40 } : Room) E [xv E (some th)] σ Q 0 0 := by
  refine x_of (own := "java/lang/StringBuilder") (by decide +kernel) rfl ?_
  intro p e s m args below meth c cx hR ha hnm
  refine x_entry [xv E (some th)] 1 [(0, xv E (some th))] ha (by simp [lg_sl, xv_cat, vc_i, vc_j, vc_f]) (by simp [lv_args, xv_cat, vc_i, vc_j, vc_f]) (fun ls hl => ?_)
  have hS : va_S (xA E) s.heap s.heap [] := va_S.rf
  have hcb : 0 + 0 ≤ 0 := Nat.le_of_eq (Nat.zero_add _)
  have hsb : 0 + 0 ≤ 0 := Nat.le_of_eq (Nat.zero_add _)
  unfold wJ13_length at hw
  obtain ⟨hx, hb, hml, hown, hts, hrt, hlk, hMK, hZ⟩ := id cx
  refine x_aload_n cx dJ13_length_0 rfl (lv_at hl 0 rfl) ?_
  obtain ⟨hk2, hw⟩ := hw
  refine CJ12_length_J13_343 cx hR hS rfl hk2 hw ⟨Nat.le_of_ble_eq_true rfl, Nat.le_of_ble_eq_true rfl⟩ (Nat.le_of_ble_eq_true rfl) hl.1 ⟨by dsimp only; omega, by dsimp only; omega⟩ dJ13_length_1 (fun r1 s1 H locs hw hR hS => ?_)
  exact x_iret cx hR hS (xle hcb) (xle hsb) hw dJ13_length_4
-- J18_checkLength
def wJ18_checkLength (x0 : Int32) (x1 : Int32) (σ : XS) (Q : XS → Prop) : Prop :=
  if x0 ≤ x1 then (Q σ) else False
set_option maxHeartbeats 4000000 in
theorem MJ18_checkLength (l : Launch) (E : xx_E) (x0 : Int32) (x1 : Int32) (σ : XS) (Q : XS → Prop) (hw : wJ18_checkLength x0 x1 σ Q) : xx_Mv l yJ18_checkLength (ws_ yJ18_checkLength cJ18_checkLength 2 none) ({ frames := 0, cells := 0, slots := 0, locals := 0 } : Room) E [.int x0, .int x1] σ Q 0 0 := by
  refine x_of (own := "java/util/Arrays") (by decide +kernel) rfl ?_
  intro p e s m args below meth c cx hR ha hnm
  refine x_entry [.int x0, .int x1] 2 [(0, .int x0), (1, .int x1)] ha (Nat.le_of_ble_eq_true rfl) rfl (fun ls hl => ?_)
  have hS : va_S (xA E) s.heap s.heap [] := va_S.rf
  have hcb : 0 + 0 ≤ 0 := Nat.le_of_eq (Nat.zero_add _)
  have hsb : 0 + 0 ≤ 0 := Nat.le_of_eq (Nat.zero_add _)
  unfold wJ18_checkLength at hw
  obtain ⟨hx, hb, hml, hown, hts, hrt, hlk, hMK, hZ⟩ := id cx
  refine lv_iload_n hx hb dJ18_checkLength_0 rfl (lv_at hl 1 rfl) ?_
  refine lv_iload_n hx hb dJ18_checkLength_1 rfl (lv_at hl 0 rfl) ?_
  refine lv_icmp_ge (tgt := 37) hx hb dJ18_checkLength_2 (by decide) (fun hc => ?_) (fun hc => ?_)
  · have hw := mm_ip hc hw
    exact x_vret cx hR hS (xle hcb) (xle hsb) hw dJ18_checkLength_37
  · have hw := mm_in hc hw
    exact hw.elim
-- J18_copyOfRangeByte
theorem CJ18_checkLength_J18_343 {l : Launch} {p : Program} {e : Env} {R : Room} {s : State} {m : MethodId} {args : Array Value} {below : List Frame} {meth : Method} {c : Code} {H : Heap} {locs : List Loc} {cells slots : Nat} {Qz : State → Prop} {cc : ByteArray} {nL : Nat} {ret : Option FieldType} {E : xx_E} {σ : XS} {pc : Nat} {ls : Array Slot} {rest : List Value} {x0 : Int32} {x1 : Int32} (cx : xx_X "java/util/Arrays" cc nL ret E p s m args meth c) (hR0 : xR E σ H) (hS0 : va_S (xA E) s.heap H locs) {Qf : XS → Prop} (hw : wJ18_checkLength x0 x1 σ Qf) (hR : (({ frames := 0, cells := 0, slots := 0, locals := 0 } : Room)).frames + 1 ≤ R.frames ∧ 8 + (2 + 11) + (({ frames := 0, cells := 0, slots := 0, locals := 0 } : Room)).locals ≤ R.locals) (hrest : rest.length ≤ 4) (hsize : ls.size = nL) (hf : cells + 0 ≤ R.cells ∧ slots + 0 ≤ R.slots) (hdg : decode cc pc = .ok (.invokestatic 343, 3))
    (kk : ∀ (σ1 : XS) (H1 : Heap) (locs1 : List Loc), Qf σ1 → xR E σ1 H1 → va_S (xA E) s.heap H1 locs1 → W p l e R s m args below meth c H1 locs1 (cells + 0) (slots + 0) Qz (F0 m (pc + 3) ls rest)) : W p l e R s m args below meth c H locs cells slots Qz (F0 m pc ls (.int x1 :: .int x0 :: rest)) := by
  obtain ⟨hx, hb, hml, hown, hts, hrt, hlk, hK, hZ⟩ := id cx
  exact x_gov (va_runS (As := [.int x0, .int x1]) (rest := rest) (x_fix cx) (MJ18_checkLength l E x0 x1 σ Qf hw) (va_cwS 2 hts (lw_S q837 q838 q180 q839) rfl rfl rfl (by decide +kernel) hR) ⟨xblind, x_pre cx hR0 hS0 [.int x0, .int x1]⟩ rfl rfl hsize rfl (lv_room (xroom hrest)) hdg hf) hS0 kk
def wJ18_copyOfRangeByte (x0 : Option Nat) (x1 : Int32) (x2 : Int32) (bc : Nat) (bs : Nat) (σ : XS) (Q : Option Nat → XS → Prop) : Prop :=
  wJ18_checkLength x1 x2 σ (fun s1 => ∀ v2 : Int32, v2 = (x2 - x1) → ¬ v2 < 0 ∧ v2.toNatClampNeg ≤ 67108864 ∧ (1 ≤ bc ∧ v2.toNatClampNeg ≤ bs ∧ (oc (xal s1 102 v2.toNatClampNeg) x0 102 (fun a3 => kd (xal s1 102 v2.toNatClampNeg) (xn s1) = 102 ∧ (xK ≤ (xn s1) ∧ (xcpy (xal s1 102 v2.toNatClampNeg) a3 x1 (xn s1) (0 : Int32) (imin ((nI (ln (xal s1 102 v2.toNatClampNeg) a3)) - x1) v2) ∧ (xfitb (xal s1 102 v2.toNatClampNeg) a3 x1 (imin ((nI (ln (xal s1 102 v2.toNatClampNeg) a3)) - x1) v2) ∧ (Q (some (xn s1)) (pai1 (xal s1 102 v2.toNatClampNeg) (xn s1) (va_cpy (ai (xal s1 102 v2.toNatClampNeg) a3) (ai (xal s1 102 v2.toNatClampNeg) (xn s1)) x1.toNatClampNeg (0 : Int32).toNatClampNeg (imin ((nI (ln (xal s1 102 v2.toNatClampNeg) a3)) - x1) v2).toNatClampNeg))))))))))
set_option maxHeartbeats 4000000 in
theorem MJ18_copyOfRangeByte (l : Launch) (E : xx_E) (x0 : Option Nat) (x1 : Int32) (x2 : Int32) (bc : Nat) (bs : Nat) (σ : XS) (Q : Option Nat → XS → Prop) (hw : wJ18_copyOfRangeByte x0 x1 x2 bc bs σ Q) : xx_Mr l yJ18_copyOfRangeByte (ws_ yJ18_copyOfRangeByte cJ18_copyOfRangeByte 5 (some (.array .byte))) ({ frames := 1, cells := bc, slots := bs, locals := 40 } : Room) E [xv E x0, .int x1, .int x2] σ Q bc bs := by
  refine x_of (own := "java/util/Arrays") (by decide +kernel) rfl ?_
  intro p e s m args below meth c cx hR ha hnm
  refine x_entry [xv E x0, .int x1, .int x2] 5 [(0, xv E x0), (1, .int x1), (2, .int x2)] ha (by simp [lg_sl, xv_cat, vc_i, vc_j, vc_f]) (by simp [lv_args, xv_cat, vc_i, vc_j, vc_f]) (fun ls hl => ?_)
  have hS : va_S (xA E) s.heap s.heap [] := va_S.rf
  have hcb : 0 + bc ≤ bc := Nat.le_of_eq (Nat.zero_add _)
  have hsb : 0 + bs ≤ bs := Nat.le_of_eq (Nat.zero_add _)
  unfold wJ18_copyOfRangeByte at hw
  obtain ⟨hx, hb, hml, hown, hts, hrt, hlk, hMK, hZ⟩ := id cx
  refine lv_iload_n hx hb dJ18_copyOfRangeByte_0 rfl (lv_at hl 1 rfl) ?_
  refine lv_iload_n hx hb dJ18_copyOfRangeByte_1 rfl (lv_at hl 2 rfl) ?_
  refine CJ18_checkLength_J18_343 cx hR hS  hw ⟨Nat.le_of_ble_eq_true rfl, Nat.le_of_ble_eq_true rfl⟩ (Nat.le_of_ble_eq_true rfl) hl.1 ⟨by dsimp only; omega, by dsimp only; omega⟩ dJ18_copyOfRangeByte_2 (fun s1 H locs hw hR hS => ?_)
  refine lv_iload_n hx hb dJ18_copyOfRangeByte_5 rfl (lv_at hl 2 rfl) ?_
  refine lv_iload_n hx hb dJ18_copyOfRangeByte_6 rfl (lv_at hl 1 rfl) ?_
  refine lv_isub hx hb dJ18_copyOfRangeByte_7 ?_
  refine lv_topi (fun v2 hv2 => ?_)
  have hw := hw v2 hv2
  refine lv_istore_n (i := 3) (lv' := [(3, .int v2), (0, xv E x0), (1, .int x1), (2, .int x2)]) hx hb dJ18_copyOfRangeByte_8 rfl hl (by decide) rfl (fun ls hl => ?_)
  refine lv_iload_n hx hb dJ18_copyOfRangeByte_9 rfl (lv_at hl 0 rfl) ?_
  obtain ⟨hn0, hn8, hw⟩ := hw
  obtain ⟨hb1, hb2, hw⟩ := hw
  refine x_newa (atype := .byte) cx hR hS 2 (by decide) rfl q269 (fun _ => rfl) (fun h => absurd h (by decide)) (N := v2.toNatClampNeg) hn0 rfl (xbytes1 hn8) (by dsimp only; omega) (by dsimp only; omega) dJ18_copyOfRangeByte_10 (fun H hR hS => ?_)
  have hcb := xadd hb1 hcb
  have hsb := xadd hb2 hsb
  refine x_astore (i := 4) (r := (some (xn s1))) (lv' := [(4, xv E (some (xn s1))), (3, .int v2), (0, xv E x0), (1, .int x1), (2, .int x2)]) cx dJ18_copyOfRangeByte_12 hl (by decide) rfl (fun ls hl => ?_)
  refine x_aload_n cx dJ18_copyOfRangeByte_14 rfl (lv_at hl 2 rfl) ?_
  refine lv_iload_n hx hb dJ18_copyOfRangeByte_15 rfl (lv_at hl 3 rfl) ?_
  refine x_aload cx dJ18_copyOfRangeByte_16 (lv_at hl 0 rfl) ?_
  refine lv_iconst (v := (0 : Int32)) hx hb dJ18_copyOfRangeByte_18 (by decide) ?_
  refine x_aload_n cx dJ18_copyOfRangeByte_19 rfl (lv_at hl 2 rfl) ?_
  obtain ⟨a3, hr3, hk3, hw⟩ := hw
  refine x_alen cx hR hr3 2 hk3 (by decide) dJ18_copyOfRangeByte_20 ?_
  refine lv_iload_n hx hb dJ18_copyOfRangeByte_21 rfl (lv_at hl 3 rfl) ?_
  refine lv_isub hx hb dJ18_copyOfRangeByte_22 ?_
  refine lv_iload_n hx hb dJ18_copyOfRangeByte_23 rfl (lv_at hl 1 rfl) ?_
  refine x_min cx hl.1 q747 (by dsimp only; omega) (xroom13 (Nat.le_of_ble_eq_true rfl) (by dsimp only; omega)) (by dsimp only; omega) (by dsimp only; omega) dJ18_copyOfRangeByte_24 ?_
  obtain ⟨hk4, hw⟩ := hw
  obtain ⟨hge__xn_s1_, hw⟩ := hw
  obtain ⟨hcp, hw⟩ := hw
  obtain ⟨hfb, hw⟩ := hw
  refine x_copyb cx hl.1 hR hS q750 hr3 rfl hge__xn_s1_ hk3 hk4 hcp hfb (by dsimp only; omega) (xroomC (Nat.le_of_ble_eq_true rfl) (by dsimp only; omega)) dJ18_copyOfRangeByte_27 (fun H locs hR hS => ?_)
  refine x_aload cx dJ18_copyOfRangeByte_30 (lv_at hl 0 rfl) ?_
  exact x_aret cx (by first | exact Or.inl ⟨_, rfl⟩ | exact Or.inr ⟨_, rfl⟩) hR hS (xle hcb) (xle hsb) hw dJ18_copyOfRangeByte_32
-- J18_copyOfRange
theorem CJ18_copyOfRangeByte_J18_339 {l : Launch} {p : Program} {e : Env} {R : Room} {s : State} {m : MethodId} {args : Array Value} {below : List Frame} {meth : Method} {c : Code} {H : Heap} {locs : List Loc} {cells slots : Nat} {Qz : State → Prop} {cc : ByteArray} {nL : Nat} {ret : Option FieldType} {E : xx_E} {σ : XS} {pc : Nat} {ls : Array Slot} {rest : List Value} {x0 : Option Nat} {x1 : Int32} {x2 : Int32} {k n : Nat} (cx : xx_X "java/util/Arrays" cc nL ret E p s m args meth c) (hR0 : xR E σ H) (hS0 : va_S (xA E) s.heap H locs) {Qf : Option Nat → XS → Prop} (hw : wJ18_copyOfRangeByte x0 x1 x2 k n σ Qf) (hR : (({ frames := 1, cells := k, slots := n, locals := 40 } : Room)).frames + 1 ≤ R.frames ∧ 8 + (5 + 11) + (({ frames := 1, cells := k, slots := n, locals := 40 } : Room)).locals ≤ R.locals) (hrest : rest.length ≤ 4) (hsize : ls.size = nL) (hf : cells + k ≤ R.cells ∧ slots + n ≤ R.slots) (hdg : decode cc pc = .ok (.invokestatic 339, 3))
    (kk : ∀ (r : Option Nat) (σ1 : XS) (H1 : Heap) (locs1 : List Loc), Qf r σ1 → xR E σ1 H1 → va_S (xA E) s.heap H1 locs1 → W p l e R s m args below meth c H1 locs1 (cells + k) (slots + n) Qz (F0 m (pc + 3) ls (xv E r :: rest))) : W p l e R s m args below meth c H locs cells slots Qz (F0 m pc ls (.int x2 :: .int x1 :: xv E x0 :: rest)) := by
  obtain ⟨hx, hb, hml, hown, hts, hrt, hlk, hK, hZ⟩ := id cx
  exact x_gor (va_runS (As := [xv E x0, .int x1, .int x2]) (rest := rest) (x_fix cx) (MJ18_copyOfRangeByte l E x0 x1 x2 k n σ Qf hw) (va_cwS 3 hts (lw_S q834 q835 q180 q836) rfl rfl rfl (by decide +kernel) hR) ⟨xblind, x_pre cx hR0 hS0 [xv E x0, .int x1, .int x2]⟩ rfl rfl hsize rfl (lv_room (xroom hrest)) hdg hf) hS0 kk
def wJ18_copyOfRange_10 (Q : Option Nat → XS → Prop) (x0 : Option Nat) (x1 : Int32) (x2 : Int32) (bc : Nat) (bs : Nat) (σ : XS) : Prop :=
  ∃ k2 n2 : Nat, k2 ≤ bc ∧ n2 ≤ bs ∧ (wJ18_copyOfRangeByte x0 x1 x2 k2 n2 σ (fun r1 s1 => Q r1 s1))
set_option maxHeartbeats 4000000 in
theorem BJ18_copyOfRange_10 {l : Launch} {p : Program} {e : Env} {s : State} {m : MethodId} {args : Array Value} {below : List Frame} {meth : Method} {c : Code} {E : xx_E} {mc ms : Nat} {Q : Option Nat → XS → Prop} (cx : xx_X "java/util/Arrays" cJ18_copyOfRange 3 (some (.array .byte)) E p s m args meth c) : ∀ (x0 : Option Nat) (x1 : Int32) (x2 : Int32) (bc : Nat) (bs : Nat) (σ : XS), wJ18_copyOfRange_10 Q x0 x1 x2 bc bs σ → x_T p l e ({ frames := 2, cells := mc, slots := ms, locals := 80 } : Room) s m args below meth c E (va_Qe (xr E) Q (fun σ' t => xW E σ' t) (xA E)) mc ms 3 10 bc bs σ [(0, xv E x0), (1, .int x1), (2, .int x2)] [] := by
  intro x0 x1 x2 bc bs σ hw H locs ls cells slots hR hS hl hcb hsb
  unfold wJ18_copyOfRange_10 at hw
  obtain ⟨hx, hb, hml, hown, hts, hrt, hlk, hMK, hZ⟩ := id cx
  refine x_aload_n cx dJ18_copyOfRange_10 rfl (lv_at hl 0 rfl) ?_
  refine lv_iload_n hx hb dJ18_copyOfRange_11 rfl (lv_at hl 1 rfl) ?_
  refine lv_iload_n hx hb dJ18_copyOfRange_12 rfl (lv_at hl 2 rfl) ?_
  obtain ⟨k2, n2, hb1, hb2, hw⟩ := hw
  refine CJ18_copyOfRangeByte_J18_339 cx hR hS  hw ⟨Nat.le_of_ble_eq_true rfl, Nat.le_of_ble_eq_true rfl⟩ (Nat.le_of_ble_eq_true rfl) hl.1 ⟨by dsimp only; omega, by dsimp only; omega⟩ dJ18_copyOfRange_13 (fun r1 s1 H locs hw hR hS => ?_)
  have hcb := xadd hb1 hcb
  have hsb := xadd hb2 hsb
  exact x_aret cx (by first | exact Or.inl ⟨_, rfl⟩ | exact Or.inr ⟨_, rfl⟩) hR hS (xle hcb) (xle hsb) hw dJ18_copyOfRange_16
def wJ18_copyOfRange (x0 : Option Nat) (x1 : Int32) (x2 : Int32) (bc : Nat) (bs : Nat) (σ : XS) (Q : Option Nat → XS → Prop) : Prop :=
  if x1 = 0 then (oc σ x0 102 (fun a3 => if x2 = (nI (ln σ a3)) then (xfita σ a3 ∧ 1 ≤ bc ∧ ln σ a3 ≤ bs ∧ (xck [102] (pai1 (xal σ 102 (ln σ a3)) (xn σ) (ai σ a3)) (some (xn σ)) ∧ (Q (some (xn σ)) (pai1 (xal σ 102 (ln σ a3)) (xn σ) (ai σ a3))))) else (wJ18_copyOfRange_10 Q x0 x1 x2 bc bs σ))) else (wJ18_copyOfRange_10 Q x0 x1 x2 bc bs σ)
set_option maxHeartbeats 4000000 in
theorem MJ18_copyOfRange (l : Launch) (E : xx_E) (x0 : Option Nat) (x1 : Int32) (x2 : Int32) (bc : Nat) (bs : Nat) (σ : XS) (Q : Option Nat → XS → Prop) (hw : wJ18_copyOfRange x0 x1 x2 bc bs σ Q) : xx_Mr l yJ18_copyOfRange (ws_ yJ18_copyOfRange cJ18_copyOfRange 3 (some (.array .byte))) ({ frames := 2, cells := bc, slots := bs, locals := 80 } : Room) E [xv E x0, .int x1, .int x2] σ Q bc bs := by
  refine x_of (own := "java/util/Arrays") (by decide +kernel) rfl ?_
  intro p e s m args below meth c cx hR ha hnm
  refine x_entry [xv E x0, .int x1, .int x2] 3 [(0, xv E x0), (1, .int x1), (2, .int x2)] ha (by simp [lg_sl, xv_cat, vc_i, vc_j, vc_f]) (by simp [lv_args, xv_cat, vc_i, vc_j, vc_f]) (fun ls hl => ?_)
  have hS : va_S (xA E) s.heap s.heap [] := va_S.rf
  have hcb : 0 + bc ≤ bc := Nat.le_of_eq (Nat.zero_add _)
  have hsb : 0 + bs ≤ bs := Nat.le_of_eq (Nat.zero_add _)
  unfold wJ18_copyOfRange at hw
  obtain ⟨hx, hb, hml, hown, hts, hrt, hlk, hMK, hZ⟩ := id cx
  refine lv_iload_n hx hb dJ18_copyOfRange_0 rfl (lv_at hl 1 rfl) ?_
  refine lv_if_ne (tgt := 10) hx hb dJ18_copyOfRange_1 (by decide) (fun hc => ?_) (fun hc => ?_)
  · have hw := mm_in hc hw
    exact BJ18_copyOfRange_10 cx _ _ _ _ _ _ hw _ _ _ _ _ hR hS (lv_sub hl [0, 1, 2] rfl) hcb hsb
  · have hw := mm_ip hc hw
    refine lv_iload_n hx hb dJ18_copyOfRange_4 rfl (lv_at hl 2 rfl) ?_
    refine x_aload_n cx dJ18_copyOfRange_5 rfl (lv_at hl 0 rfl) ?_
    obtain ⟨a3, hr3, hk3, hw⟩ := hw
    refine x_alen cx hR hr3 2 hk3 (by decide) dJ18_copyOfRange_6 ?_
    refine lv_icmp_eq (tgt := 17) hx hb dJ18_copyOfRange_7 (by decide) (fun hc => ?_) (fun hc => ?_)
    · have hw := mm_ip hc hw
      refine x_aload_n cx dJ18_copyOfRange_17 rfl (lv_at hl 0 rfl) ?_
      obtain ⟨hfa, hb1, hb2, hw⟩ := hw
      refine x_cloneB cx hl.1 hR hS q740 hr3 hk3 hfa (Nat.le_of_ble_eq_true rfl) (xroom14 (Nat.le_of_ble_eq_true rfl) (by dsimp only; omega)) (by dsimp only; omega) (by dsimp only; omega) dJ18_copyOfRange_18 (fun H hR hS => ?_)
      have hcb := xadd hb1 hcb
      have hsb := xadd hb2 hsb
      obtain ⟨hv, hw⟩ := hw
      refine x_castB cx hR q746 hv dJ18_copyOfRange_21 ?_
      exact x_aret cx (by first | exact Or.inl ⟨_, rfl⟩ | exact Or.inr ⟨_, rfl⟩) hR hS (xle hcb) (xle hsb) hw dJ18_copyOfRange_24
    · have hw := mm_in hc hw
      exact BJ18_copyOfRange_10 cx _ _ _ _ _ _ hw _ _ _ _ _ hR hS (lv_sub hl [0, 1, 2] rfl) hcb hsb
-- J14_init_2
theorem xg_J14_1048_23 {l : Launch} {p : Program} {e : Env} {R : Room} {s : State} {m : MethodId} {args : Array Value} {below : List Frame} {meth : Method} {c : Code} {H : Heap} {locs : List Loc} {cells slots : Nat} {Qz : State → Prop} {cc : ByteArray} {nL : Nat} {ret : Option FieldType} {E : xx_E} {σ : XS} {pc : Nat} {ls : Array Slot} {rest : List Value} (cx : xx_X "java/lang/String" cc nL ret E p s m args meth c) (hR : xR E σ H) {a : Nat} {r : Option Nat} (hr : r = some a) (hk : kd σ a = 23) (hdg : decode cc pc = .ok (.getfield 1048, 3)) (kk : W p l e R s m args below meth c H locs cells slots Qz (F0 m (pc + 3) ls (.int (fi σ a 2) :: rest))) : W p l e R s m args below meth c H locs cells slots Qz (F0 m pc ls (xv E r :: rest)) :=
  x_get (ci := 22) cx hR hr hk (by decide) rfl in_J13 2 (by decide) q700 (fun _ h => h) (v := .int (fi σ a 2)) rfl hdg kk
theorem xp_J14_15_22 {l : Launch} {p : Program} {e : Env} {R : Room} {s : State} {m : MethodId} {args : Array Value} {below : List Frame} {meth : Method} {c : Code} {H : Heap} {locs : List Loc} {cells slots : Nat} {Qz : State → Prop} {cc : ByteArray} {nL : Nat} {ret : Option FieldType} {E : xx_E} {σ : XS} {pc : Nat} {ls : Array Slot} {rest : List Value} (cx : xx_X "java/lang/String" cc nL ret E p s m args meth c) (hR : xR E σ H) (hS0 : va_S (xA E) s.heap H locs) {a : Nat} {r : Option Nat} {v : Int32} (hr : r = some a) (ha : xK ≤ a) (hk : kd σ a = 22) (hini : meth.name = "<init>") (hz : narrow .byte (.int v) = .int v) (hdg : decode cc pc = .ok (.putfield 15, 3)) (kk : ∀ (H1 : Heap) (locs1 : List Loc), xR E (pfi σ a 1 v) H1 → va_S (xA E) s.heap H1 locs1 → W p l e R s m args below meth c H1 locs1 cells slots Qz (F0 m (pc + 3) ls rest)) : W p l e R s m args below meth c H locs cells slots Qz (F0 m pc ls (.int v :: xv E r :: rest)) :=
  x_put (ci := 21) cx hR hS0 hr ha hk (by decide) rfl in_J14 tyJ14 tyJ14_ok nmJ14 1 (by decide) (Or.inr (Or.inl ⟨q855, rfl, hini, rfl⟩)) (fun _ h => h) hz (xfit_B hz) (xput_i rfl) hdg kk
theorem xp_J14_9_22 {l : Launch} {p : Program} {e : Env} {R : Room} {s : State} {m : MethodId} {args : Array Value} {below : List Frame} {meth : Method} {c : Code} {H : Heap} {locs : List Loc} {cells slots : Nat} {Qz : State → Prop} {cc : ByteArray} {nL : Nat} {ret : Option FieldType} {E : xx_E} {σ : XS} {pc : Nat} {ls : Array Slot} {rest : List Value} (cx : xx_X "java/lang/String" cc nL ret E p s m args meth c) (hR : xR E σ H) (hS0 : va_S (xA E) s.heap H locs) {a : Nat} {r : Option Nat} {v : Option Nat} (hr : r = some a) (ha : xK ≤ a) (hk : kd σ a = 22) (hini : meth.name = "<init>") (hdg : decode cc pc = .ok (.putfield 9, 3)) (kk : ∀ (H1 : Heap) (locs1 : List Loc), xR E (pfr σ a 0 v) H1 → va_S (xA E) s.heap H1 locs1 → W p l e R s m args below meth c H1 locs1 cells slots Qz (F0 m (pc + 3) ls rest)) : W p l e R s m args below meth c H locs cells slots Qz (F0 m pc ls (xv E v :: xv E r :: rest)) :=
  x_put (ci := 21) cx hR hS0 hr ha hk (by decide) rfl in_J14 tyJ14 tyJ14_ok nmJ14 0 (by decide) (Or.inr (Or.inl ⟨q854, rfl, hini, rfl⟩)) (fun _ h => h) (by cases v <;> rfl) (by cases v <;> rfl) (xput_r rfl) hdg kk
theorem CJ12_getValue_J14_552 {l : Launch} {p : Program} {e : Env} {R : Room} {s : State} {m : MethodId} {args : Array Value} {below : List Frame} {meth : Method} {c : Code} {H : Heap} {locs : List Loc} {cells slots : Nat} {Qz : State → Prop} {cc : ByteArray} {nL : Nat} {ret : Option FieldType} {E : xx_E} {σ : XS} {pc : Nat} {ls : Array Slot} {rest : List Value} {th : Nat} (cx : xx_X "java/lang/String" cc nL ret E p s m args meth c) (hR0 : xR E σ H) (hS0 : va_S (xA E) s.heap H locs) {r0 : Option Nat} (hr : r0 = some th) (hk : kd σ th = 23) {Qf : Option Nat → XS → Prop} (hw : wJ12_getValue th σ Qf) (hR : (({ frames := 0, cells := 0, slots := 0, locals := 0 } : Room)).frames + 1 ≤ R.frames ∧ 8 + (1 + 11) + (({ frames := 0, cells := 0, slots := 0, locals := 0 } : Room)).locals ≤ R.locals) (hrest : rest.length ≤ 4) (hsize : ls.size = nL) (hf : cells + 0 ≤ R.cells ∧ slots + 0 ≤ R.slots) (hdg : decode cc pc = .ok (.invokevirtual 552, 3))
    (kk : ∀ (r : Option Nat) (σ1 : XS) (H1 : Heap) (locs1 : List Loc), Qf r σ1 → xR E σ1 H1 → va_S (xA E) s.heap H1 locs1 → W p l e R s m args below meth c H1 locs1 (cells + 0) (slots + 0) Qz (F0 m (pc + 3) ls (xv E r :: rest))) : W p l e R s m args below meth c H locs cells slots Qz (F0 m pc ls (xv E r0 :: rest)) := by
  subst hr
  obtain ⟨hx, hb, hml, hown, hts, hrt, hlk, hK, hZ⟩ := id cx
  exact x_gor (va_runU (C := "java/lang/StringBuilder") (owner := "java/lang/AbstractStringBuilder") (As := []) (rest := rest) (x_fix cx) (MJ12_getValue l E th σ Qf hw) (va_cwU (C := "java/lang/StringBuilder") (owner := "java/lang/AbstractStringBuilder") (x := ⟨"java/lang/AbstractStringBuilder", "getValue", "()[B"⟩) 0 hts (lw_app (xin5 q817 q819 q820 q818 q174) (lw_meth q821)) rfl rfl rfl rfl (by decide +kernel) hR) (x_preV cx hR0 hS0 hk (by decide) (q := (RJ13, TJ13, 4)) rfl rfl []) rfl rfl hsize rfl (lv_room (xroom hrest)) hdg hf) hS0 kk
theorem CJ13_length_J14_549 {l : Launch} {p : Program} {e : Env} {R : Room} {s : State} {m : MethodId} {args : Array Value} {below : List Frame} {meth : Method} {c : Code} {H : Heap} {locs : List Loc} {cells slots : Nat} {Qz : State → Prop} {cc : ByteArray} {nL : Nat} {ret : Option FieldType} {E : xx_E} {σ : XS} {pc : Nat} {ls : Array Slot} {rest : List Value} {th : Nat} (cx : xx_X "java/lang/String" cc nL ret E p s m args meth c) (hR0 : xR E σ H) (hS0 : va_S (xA E) s.heap H locs) {r0 : Option Nat} (hr : r0 = some th) (hk : kd σ th = 23) {Qf : Int32 → XS → Prop} (hw : wJ13_length th σ Qf) (hR : (({ frames := 1, cells := 0, slots := 0, locals := 40 } : Room)).frames + 1 ≤ R.frames ∧ 8 + (1 + 11) + (({ frames := 1, cells := 0, slots := 0, locals := 40 } : Room)).locals ≤ R.locals) (hrest : rest.length ≤ 4) (hsize : ls.size = nL) (hf : cells + 0 ≤ R.cells ∧ slots + 0 ≤ R.slots) (hdg : decode cc pc = .ok (.invokevirtual 549, 3))
    (kk : ∀ (r : Int32) (σ1 : XS) (H1 : Heap) (locs1 : List Loc), Qf r σ1 → xR E σ1 H1 → va_S (xA E) s.heap H1 locs1 → W p l e R s m args below meth c H1 locs1 (cells + 0) (slots + 0) Qz (F0 m (pc + 3) ls (.int r :: rest))) : W p l e R s m args below meth c H locs cells slots Qz (F0 m pc ls (xv E r0 :: rest)) := by
  subst hr
  obtain ⟨hx, hb, hml, hown, hts, hrt, hlk, hK, hZ⟩ := id cx
  exact x_goi (va_runU (C := "java/lang/StringBuilder") (owner := "java/lang/AbstractStringBuilder") (As := []) (rest := rest) (x_fix cx) (MJ13_length l E th σ Qf hw) (va_cwO (C := "java/lang/StringBuilder") (owner := "java/lang/AbstractStringBuilder") (x := ⟨"java/lang/AbstractStringBuilder", "length", "()I"⟩) 0 hts (lw_app (xin6 q822 q824 q823 q825 q826 q175) (lw_meth q827)) rfl rfl rfl q829 (by decide +kernel) hR) (x_preV cx hR0 hS0 hk (by decide) (q := (RJ13, TJ13, 4)) rfl rfl []) rfl rfl hsize rfl (lv_room (xroom hrest)) hdg hf) hS0 kk
theorem CJ12_isLatin1_J14_1047 {l : Launch} {p : Program} {e : Env} {R : Room} {s : State} {m : MethodId} {args : Array Value} {below : List Frame} {meth : Method} {c : Code} {H : Heap} {locs : List Loc} {cells slots : Nat} {Qz : State → Prop} {cc : ByteArray} {nL : Nat} {ret : Option FieldType} {E : xx_E} {σ : XS} {pc : Nat} {ls : Array Slot} {rest : List Value} {th : Nat} (cx : xx_X "java/lang/String" cc nL ret E p s m args meth c) (hR0 : xR E σ H) (hS0 : va_S (xA E) s.heap H locs) {r0 : Option Nat} (hr : r0 = some th) (hk : kd σ th = 23) {Qf : Int32 → XS → Prop} (hw : wJ12_isLatin1 th σ Qf) (hR : (({ frames := 0, cells := 0, slots := 0, locals := 0 } : Room)).frames + 1 ≤ R.frames ∧ 8 + (1 + 11) + (({ frames := 0, cells := 0, slots := 0, locals := 0 } : Room)).locals ≤ R.locals) (hrest : rest.length ≤ 4) (hsize : ls.size = nL) (hf : cells + 0 ≤ R.cells ∧ slots + 0 ≤ R.slots) (hdg : decode cc pc = .ok (.invokevirtual 1047, 3))
    (kk : ∀ (r : Int32) (σ1 : XS) (H1 : Heap) (locs1 : List Loc), Qf r σ1 → xR E σ1 H1 → va_S (xA E) s.heap H1 locs1 → W p l e R s m args below meth c H1 locs1 (cells + 0) (slots + 0) Qz (F0 m (pc + 3) ls (.int r :: rest))) : W p l e R s m args below meth c H locs cells slots Qz (F0 m pc ls (xv E r0 :: rest)) := by
  subst hr
  obtain ⟨hx, hb, hml, hown, hts, hrt, hlk, hK, hZ⟩ := id cx
  exact x_goi (va_runU (C := "java/lang/StringBuilder") (owner := "java/lang/AbstractStringBuilder") (As := []) (rest := rest) (x_fix cx) (MJ12_isLatin1 l E th σ Qf hw) (va_cwU (C := "java/lang/StringBuilder") (owner := "java/lang/AbstractStringBuilder") (x := ⟨"java/lang/AbstractStringBuilder", "isLatin1", "()Z"⟩) 0 hts (lw_app (xin5 q830 q755 q756 q754 q174) (lw_meth q757)) rfl rfl rfl rfl (by decide +kernel) hR) (x_preV cx hR0 hS0 hk (by decide) (q := (RJ13, TJ13, 4)) rfl rfl []) rfl rfl hsize rfl (lv_room (xroom hrest)) hdg hf) hS0 kk
theorem CJ18_copyOfRange_J14_54 {l : Launch} {p : Program} {e : Env} {R : Room} {s : State} {m : MethodId} {args : Array Value} {below : List Frame} {meth : Method} {c : Code} {H : Heap} {locs : List Loc} {cells slots : Nat} {Qz : State → Prop} {cc : ByteArray} {nL : Nat} {ret : Option FieldType} {E : xx_E} {σ : XS} {pc : Nat} {ls : Array Slot} {rest : List Value} {x0 : Option Nat} {x1 : Int32} {x2 : Int32} {k n : Nat} (cx : xx_X "java/lang/String" cc nL ret E p s m args meth c) (hR0 : xR E σ H) (hS0 : va_S (xA E) s.heap H locs) {Qf : Option Nat → XS → Prop} (hw : wJ18_copyOfRange x0 x1 x2 k n σ Qf) (hR : (({ frames := 2, cells := k, slots := n, locals := 80 } : Room)).frames + 1 ≤ R.frames ∧ 8 + (3 + 11) + (({ frames := 2, cells := k, slots := n, locals := 80 } : Room)).locals ≤ R.locals) (hrest : rest.length ≤ 4) (hsize : ls.size = nL) (hf : cells + k ≤ R.cells ∧ slots + n ≤ R.slots) (hdg : decode cc pc = .ok (.invokestatic 54, 3))
    (kk : ∀ (r : Option Nat) (σ1 : XS) (H1 : Heap) (locs1 : List Loc), Qf r σ1 → xR E σ1 H1 → va_S (xA E) s.heap H1 locs1 → W p l e R s m args below meth c H1 locs1 (cells + k) (slots + n) Qz (F0 m (pc + 3) ls (xv E r :: rest))) : W p l e R s m args below meth c H locs cells slots Qz (F0 m pc ls (.int x2 :: .int x1 :: xv E x0 :: rest)) := by
  obtain ⟨hx, hb, hml, hown, hts, hrt, hlk, hK, hZ⟩ := id cx
  exact x_gor (va_runS (As := [xv E x0, .int x1, .int x2]) (rest := rest) (x_fix cx) (MJ18_copyOfRange l E x0 x1 x2 k n σ Qf hw) (va_cwS 3 hts (lw_S q831 q832 q180 q833) rfl rfl rfl (by decide +kernel) hR) ⟨xblind, x_pre cx hR0 hS0 [xv E x0, .int x1, .int x2]⟩ rfl rfl hsize rfl (lv_room (xroom hrest)) hdg hf) hS0 kk
def wJ14_init_2 (th : Nat) (x1 : Option Nat) (x2 : Option Nat) (bc : Nat) (bs : Nat) (σ : XS) (Q : XS → Prop) : Prop :=
  oc σ x1 23 (fun a2 => wJ12_getValue a2 σ (fun r1 s1 => oc s1 x1 23 (fun a4 => wJ13_length a4 s1 (fun r3 s3 => oc s3 x1 23 (fun a6 => wJ12_isLatin1 a6 s3 (fun r5 s5 => if r5 = 0 then (oc s5 x1 23 (fun a7 => if (fi s5 a7 2) = 0 then (kd s5 th = 22 ∧ (xK ≤ th ∧ (narrow .byte (.int (1 : Int32)) = .int (1 : Int32) ∧ (∃ k10 n10 : Nat, k10 ≤ bc ∧ n10 ≤ bs ∧ (wJ18_copyOfRange r1 (0 : Int32) (r3 <<< ((1 : Int32) &&& 31)) k10 n10 (pfi s5 th 1 (1 : Int32)) (fun r9 s9 => kd s9 th = 22 ∧ (Q (pfr s9 th 0 r9)))))))) else False)) else (kd s5 th = 22 ∧ (xK ≤ th ∧ (narrow .byte (.int (0 : Int32)) = .int (0 : Int32) ∧ (∃ k14 n14 : Nat, k14 ≤ bc ∧ n14 ≤ bs ∧ (wJ18_copyOfRange r1 (0 : Int32) r3 k14 n14 (pfi s5 th 1 (0 : Int32)) (fun r13 s13 => kd s13 th = 22 ∧ (Q (pfr s13 th 0 r13))))))))))))))
set_option maxHeartbeats 4000000 in
theorem MJ14_init_2 (l : Launch) (E : xx_E) (th : Nat) (x1 : Option Nat) (x2 : Option Nat) (bc : Nat) (bs : Nat) (σ : XS) (Q : XS → Prop) (hw : wJ14_init_2 th x1 x2 bc bs σ Q) : xx_Mv l yJ14_init_2 (ws_ yJ14_init_2 cJ14_init_2 5 none) ({ frames := 3, cells := bc, slots := bs, locals := 120 } : Room) E [xv E (some th), xv E x1, xv E x2] σ Q bc bs := by
  refine x_of (own := "java/lang/String") (by decide +kernel) rfl ?_
  intro p e s m args below meth c cx hR ha hnm
  refine x_entry [xv E (some th), xv E x1, xv E x2] 5 [(0, xv E (some th)), (1, xv E x1), (2, xv E x2)] ha (by simp [lg_sl, xv_cat, vc_i, vc_j, vc_f]) (by simp [lv_args, xv_cat, vc_i, vc_j, vc_f]) (fun ls hl => ?_)
  have hS : va_S (xA E) s.heap s.heap [] := va_S.rf
  have hcb : 0 + bc ≤ bc := Nat.le_of_eq (Nat.zero_add _)
  have hsb : 0 + bs ≤ bs := Nat.le_of_eq (Nat.zero_add _)
  have hini : meth.name = "<init>" := hnm
  unfold wJ14_init_2 at hw
  obtain ⟨hx, hb, hml, hown, hts, hrt, hlk, hMK, hZ⟩ := id cx
  refine x_aload_n cx dJ14_init_2_0 rfl (lv_at hl 0 rfl) ?_
  refine x_objinit cx hl.1 rfl q816 (xroom12 (Nat.le_of_ble_eq_true rfl) (by dsimp only; omega)) (by dsimp only; omega) dJ14_init_2_1 ?_
  refine x_aload_n cx dJ14_init_2_4 rfl (lv_at hl 1 rfl) ?_
  obtain ⟨a2, hr2, hk2, hw⟩ := hw
  refine CJ12_getValue_J14_552 cx hR hS hr2 hk2 hw ⟨Nat.le_of_ble_eq_true rfl, Nat.le_of_ble_eq_true rfl⟩ (Nat.le_of_ble_eq_true rfl) hl.1 ⟨by dsimp only; omega, by dsimp only; omega⟩ dJ14_init_2_5 (fun r1 s1 H locs hw hR hS => ?_)
  refine x_astore_n (i := 3) (r := r1) (lv' := [(3, xv E r1), (0, xv E (some th)), (1, xv E x1), (2, xv E x2)]) cx dJ14_init_2_8 rfl hl (by decide) (by simp [xv_cat]) (fun ls hl => ?_)
  refine x_aload_n cx dJ14_init_2_9 rfl (lv_at hl 2 rfl) ?_
  obtain ⟨a4, hr4, hk4, hw⟩ := hw
  refine CJ13_length_J14_549 cx hR hS hr4 hk4 hw ⟨Nat.le_of_ble_eq_true rfl, Nat.le_of_ble_eq_true rfl⟩ (Nat.le_of_ble_eq_true rfl) hl.1 ⟨by dsimp only; omega, by dsimp only; omega⟩ dJ14_init_2_10 (fun r3 s3 H locs hw hR hS => ?_)
  refine lv_istore (i := 4) (lv' := [(4, .int r3), (3, xv E r1), (0, xv E (some th)), (1, xv E x1), (2, xv E x2)]) hx hb dJ14_init_2_13 hl (by decide) (by simp [xv_cat]) (fun ls hl => ?_)
  refine x_aload_n cx dJ14_init_2_15 rfl (lv_at hl 3 rfl) ?_
  obtain ⟨a6, hr6, hk6, hw⟩ := hw
  refine CJ12_isLatin1_J14_1047 cx hR hS hr6 hk6 hw ⟨Nat.le_of_ble_eq_true rfl, Nat.le_of_ble_eq_true rfl⟩ (Nat.le_of_ble_eq_true rfl) hl.1 ⟨by dsimp only; omega, by dsimp only; omega⟩ dJ14_init_2_16 (fun r5 s5 H locs hw hR hS => ?_)
  refine lv_if_eq (tgt := 41) hx hb dJ14_init_2_19 (by decide) (fun hc => ?_) (fun hc => ?_)
  · have hw := mm_ip hc hw
    refine va_gets (v := .int 1) (C := "java/lang/String") (n := "COMPACT_STRINGS") (d := "Z") hx hb hZ.1 hS hown (hts _ q840) (fun _ h => h) dJ14_init_2_41 ?_
    refine lv_if_eq (tgt := 79) hx hb dJ14_init_2_44 (by decide) (fun hc => ?_) (fun hc => ?_)
    · exact absurd hc (by decide)
    refine x_aload_n cx dJ14_init_2_47 rfl (lv_at hl 3 rfl) ?_
    obtain ⟨a7, hr7, hk7, hw⟩ := hw
    refine xg_J14_1048_23 cx hR hr7 hk7 dJ14_init_2_48 ?_
    refine lv_if_eq (tgt := 79) hx hb dJ14_init_2_51 (by decide) (fun hc => ?_) (fun hc => ?_)
    · have hw := mm_ip hc hw
      refine x_aload_n cx dJ14_init_2_79 rfl (lv_at hl 2 rfl) ?_
      refine lv_iconst (v := (1 : Int32)) hx hb dJ14_init_2_80 (by decide) ?_
      obtain ⟨hk8, hw⟩ := hw
      obtain ⟨hge_th, hw⟩ := hw
      obtain ⟨hz, hw⟩ := hw
      refine xp_J14_15_22 (v := (1 : Int32)) cx hR hS rfl hge_th hk8 hini hz dJ14_init_2_81 (fun H locs hR hS => ?_)
      refine x_aload_n cx dJ14_init_2_84 rfl (lv_at hl 2 rfl) ?_
      refine x_aload_n cx dJ14_init_2_85 rfl (lv_at hl 1 rfl) ?_
      refine lv_iconst (v := (0 : Int32)) hx hb dJ14_init_2_86 (by decide) ?_
      refine lv_iload hx hb dJ14_init_2_87 (lv_at hl 0 rfl) ?_
      refine lv_iconst (v := (1 : Int32)) hx hb dJ14_init_2_89 (by decide) ?_
      refine lv_ishl hx hb dJ14_init_2_90 ?_
      obtain ⟨k10, n10, hb1, hb2, hw⟩ := hw
      refine CJ18_copyOfRange_J14_54 cx hR hS  hw ⟨Nat.le_of_ble_eq_true rfl, Nat.le_of_ble_eq_true rfl⟩ (Nat.le_of_ble_eq_true rfl) hl.1 ⟨by dsimp only; omega, by dsimp only; omega⟩ dJ14_init_2_91 (fun r9 s9 H locs hw hR hS => ?_)
      have hcb := xadd hb1 hcb
      have hsb := xadd hb2 hsb
      obtain ⟨hk11, hw⟩ := hw
      refine xp_J14_9_22 (v := r9) cx hR hS rfl hge_th hk11 hini dJ14_init_2_94 (fun H locs hR hS => ?_)
      exact x_vret cx hR hS (xle hcb) (xle hsb) hw dJ14_init_2_97
    · have hw := mm_in hc hw
      refine x_aload_n cx dJ14_init_2_54 rfl (lv_at hl 2 rfl) ?_
      refine x_aload_n cx dJ14_init_2_55 rfl (lv_at hl 1 rfl) ?_
      refine lv_iconst (v := (0 : Int32)) hx hb dJ14_init_2_56 (by decide) ?_
      refine lv_iload hx hb dJ14_init_2_57 (lv_at hl 0 rfl) ?_
      exact hw.elim
  · have hw := mm_in hc hw
    refine x_aload_n cx dJ14_init_2_22 rfl (lv_at hl 2 rfl) ?_
    refine lv_iconst (v := (0 : Int32)) hx hb dJ14_init_2_23 (by decide) ?_
    obtain ⟨hk12, hw⟩ := hw
    obtain ⟨hge_th, hw⟩ := hw
    obtain ⟨hz, hw⟩ := hw
    refine xp_J14_15_22 (v := (0 : Int32)) cx hR hS rfl hge_th hk12 hini hz dJ14_init_2_24 (fun H locs hR hS => ?_)
    refine x_aload_n cx dJ14_init_2_27 rfl (lv_at hl 2 rfl) ?_
    refine x_aload_n cx dJ14_init_2_28 rfl (lv_at hl 1 rfl) ?_
    refine lv_iconst (v := (0 : Int32)) hx hb dJ14_init_2_29 (by decide) ?_
    refine lv_iload hx hb dJ14_init_2_30 (lv_at hl 0 rfl) ?_
    obtain ⟨k14, n14, hb1, hb2, hw⟩ := hw
    refine CJ18_copyOfRange_J14_54 cx hR hS  hw ⟨Nat.le_of_ble_eq_true rfl, Nat.le_of_ble_eq_true rfl⟩ (Nat.le_of_ble_eq_true rfl) hl.1 ⟨by dsimp only; omega, by dsimp only; omega⟩ dJ14_init_2_32 (fun r13 s13 H locs hw hR hS => ?_)
    have hcb := xadd hb1 hcb
    have hsb := xadd hb2 hsb
    obtain ⟨hk15, hw⟩ := hw
    refine xp_J14_9_22 (v := r13) cx hR hS rfl hge_th hk15 hini dJ14_init_2_35 (fun H locs hR hS => ?_)
    refine lv_goto (tgt := 97) hx hb dJ14_init_2_38 (by decide) ?_
    exact x_vret cx hR hS (xle hcb) (xle hsb) hw dJ14_init_2_97
-- J14_init
theorem CJ14_init_2_J14_489 {l : Launch} {p : Program} {e : Env} {R : Room} {s : State} {m : MethodId} {args : Array Value} {below : List Frame} {meth : Method} {c : Code} {H : Heap} {locs : List Loc} {cells slots : Nat} {Qz : State → Prop} {cc : ByteArray} {nL : Nat} {ret : Option FieldType} {E : xx_E} {σ : XS} {pc : Nat} {ls : Array Slot} {rest : List Value} {th : Nat} {x1 : Option Nat} {x2 : Option Nat} {k n : Nat} (cx : xx_X "java/lang/String" cc nL ret E p s m args meth c) (hR0 : xR E σ H) (hS0 : va_S (xA E) s.heap H locs) {r0 : Option Nat} (hr : r0 = some th) (hk : kd σ th = 22) {Qf : XS → Prop} (hw : wJ14_init_2 th x1 x2 k n σ Qf) (hR : (({ frames := 3, cells := k, slots := n, locals := 120 } : Room)).frames + 1 ≤ R.frames ∧ 8 + (5 + 11) + (({ frames := 3, cells := k, slots := n, locals := 120 } : Room)).locals ≤ R.locals) (hrest : rest.length ≤ 4) (hsize : ls.size = nL) (hf : cells + k ≤ R.cells ∧ slots + n ≤ R.slots) (hdg : decode cc pc = .ok (.invokespecial 489, 3))
    (kk : ∀ (σ1 : XS) (H1 : Heap) (locs1 : List Loc), Qf σ1 → xR E σ1 H1 → va_S (xA E) s.heap H1 locs1 → W p l e R s m args below meth c H1 locs1 (cells + k) (slots + n) Qz (F0 m (pc + 3) ls rest)) : W p l e R s m args below meth c H locs cells slots Qz (F0 m pc ls (xv E x2 :: xv E x1 :: xv E r0 :: rest)) := by
  subst hr
  obtain ⟨hx, hb, hml, hown, hts, hrt, hlk, hK, hZ⟩ := id cx
  exact x_gov (va_runI (As := [xv E x1, xv E x2]) (rest := rest) (x_fix cx) (MJ14_init_2 l E th x1 x2 k n σ Qf hw) (cwI 2 hts (lw_meth q815) rfl rfl rfl (hts _ q176) (hts _ q813) (hts _ q814) rfl (by decide +kernel) hR) ⟨xblind, x_pre cx hR0 hS0 (.ref (xr E th) :: [xv E x1, xv E x2])⟩ rfl rfl hsize rfl (lv_room (xroom hrest)) hdg hf) hS0 kk
def wJ14_init (th : Nat) (x1 : Option Nat) (bc : Nat) (bs : Nat) (σ : XS) (Q : XS → Prop) : Prop :=
  kd σ th = 22 ∧ (∃ k3 n3 : Nat, k3 ≤ bc ∧ n3 ≤ bs ∧ (wJ14_init_2 th x1 none k3 n3 σ (fun s1 => Q s1)))
set_option maxHeartbeats 4000000 in
theorem MJ14_init (l : Launch) (E : xx_E) (th : Nat) (x1 : Option Nat) (bc : Nat) (bs : Nat) (σ : XS) (Q : XS → Prop) (hw : wJ14_init th x1 bc bs σ Q) : xx_Mv l yJ14_init (ws_ yJ14_init cJ14_init 2 none) ({ frames := 4, cells := bc, slots := bs, locals := 160 } : Room) E [xv E (some th), xv E x1] σ Q bc bs := by
  refine x_of (own := "java/lang/String") (by decide +kernel) rfl ?_
  intro p e s m args below meth c cx hR ha hnm
  refine x_entry [xv E (some th), xv E x1] 2 [(0, xv E (some th)), (1, xv E x1)] ha (by simp [lg_sl, xv_cat, vc_i, vc_j, vc_f]) (by simp [lv_args, xv_cat, vc_i, vc_j, vc_f]) (fun ls hl => ?_)
  have hS : va_S (xA E) s.heap s.heap [] := va_S.rf
  have hcb : 0 + bc ≤ bc := Nat.le_of_eq (Nat.zero_add _)
  have hsb : 0 + bs ≤ bs := Nat.le_of_eq (Nat.zero_add _)
  have hini : meth.name = "<init>" := hnm
  unfold wJ14_init at hw
  obtain ⟨hx, hb, hml, hown, hts, hrt, hlk, hMK, hZ⟩ := id cx
  refine x_aload_n cx dJ14_init_0 rfl (lv_at hl 0 rfl) ?_
  refine x_aload_n cx dJ14_init_1 rfl (lv_at hl 1 rfl) ?_
  refine lv_null hx hb dJ14_init_2 ?_
  obtain ⟨hk2, hw⟩ := hw
  obtain ⟨k3, n3, hb1, hb2, hw⟩ := hw
  refine CJ14_init_2_J14_489 cx hR hS rfl hk2 hw ⟨Nat.le_of_ble_eq_true rfl, Nat.le_of_ble_eq_true rfl⟩ (Nat.le_of_ble_eq_true rfl) hl.1 ⟨by dsimp only; omega, by dsimp only; omega⟩ dJ14_init_3 (fun s1 H locs hw hR hS => ?_)
  have hcb := xadd hb1 hcb
  have hsb := xadd hb2 hsb
  exact x_vret cx hR hS (xle hcb) (xle hsb) hw dJ14_init_6
-- J13_toString
theorem xn_J13_18 {l : Launch} {p : Program} {e : Env} {R : Room} {s : State} {m : MethodId} {args : Array Value} {below : List Frame} {meth : Method} {c : Code} {H : Heap} {locs : List Loc} {cells slots : Nat} {Qz : State → Prop} {cc : ByteArray} {nL : Nat} {ret : Option FieldType} {E : xx_E} {σ : XS} {pc : Nat} {ls : Array Slot} {rest : List Value} (cx : xx_X "java/lang/StringBuilder" cc nL ret E p s m args meth c) (hR : xR E σ H) (hS0 : va_S (xA E) s.heap H locs) (hcells : cells + 1 ≤ R.cells) (hslots : slots + 4 ≤ R.slots) (hdg : decode cc pc = .ok (.new 18, 3)) (kk : ∀ (H1 : Heap), xR E (xal σ 22 0) H1 → va_S (xA E) s.heap H1 locs → W p l e R s m args below meth c H1 locs (cells + 1) (slots + 4) Qz (F0 m (pc + 3) ls (xv E (some (xn σ)) :: rest))) : W p l e R s m args below meth c H locs cells slots Qz (F0 m pc ls rest) :=
  x_new cx hR hS0 21 (by decide) rfl in_J14 tyJ14 tyJ14_ok q808 q809 q176 (fun j hj => by
    match j, hj with
    | 0, _ => exact xnew_r rfl
    | 1, _ => exact xnew_i rfl
    | 2, _ => exact xnew_i rfl
    | 3, _ => exact xnew_i rfl) hcells hslots hdg kk
theorem CJ14_init_J13_137 {l : Launch} {p : Program} {e : Env} {R : Room} {s : State} {m : MethodId} {args : Array Value} {below : List Frame} {meth : Method} {c : Code} {H : Heap} {locs : List Loc} {cells slots : Nat} {Qz : State → Prop} {cc : ByteArray} {nL : Nat} {ret : Option FieldType} {E : xx_E} {σ : XS} {pc : Nat} {ls : Array Slot} {rest : List Value} {th : Nat} {x1 : Option Nat} {k n : Nat} (cx : xx_X "java/lang/StringBuilder" cc nL ret E p s m args meth c) (hR0 : xR E σ H) (hS0 : va_S (xA E) s.heap H locs) {r0 : Option Nat} (hr : r0 = some th) (hk : kd σ th = 22) {Qf : XS → Prop} (hw : wJ14_init th x1 k n σ Qf) (hR : (({ frames := 4, cells := k, slots := n, locals := 160 } : Room)).frames + 1 ≤ R.frames ∧ 8 + (2 + 11) + (({ frames := 4, cells := k, slots := n, locals := 160 } : Room)).locals ≤ R.locals) (hrest : rest.length ≤ 4) (hsize : ls.size = nL) (hf : cells + k ≤ R.cells ∧ slots + n ≤ R.slots) (hdg : decode cc pc = .ok (.invokespecial 137, 3))
    (kk : ∀ (σ1 : XS) (H1 : Heap) (locs1 : List Loc), Qf σ1 → xR E σ1 H1 → va_S (xA E) s.heap H1 locs1 → W p l e R s m args below meth c H1 locs1 (cells + k) (slots + n) Qz (F0 m (pc + 3) ls rest)) : W p l e R s m args below meth c H locs cells slots Qz (F0 m pc ls (xv E x1 :: xv E r0 :: rest)) := by
  subst hr
  obtain ⟨hx, hb, hml, hown, hts, hrt, hlk, hK, hZ⟩ := id cx
  exact x_gov (va_runI (As := [xv E x1]) (rest := rest) (x_fix cx) (MJ14_init l E th x1 k n σ Qf hw) (cwI 1 hts (lw_meth q812) rfl rfl rfl (hts _ q176) (hts _ q810) (hts _ q811) rfl (by decide +kernel) hR) ⟨xblind, x_pre cx hR0 hS0 (.ref (xr E th) :: [xv E x1])⟩ rfl rfl hsize rfl (lv_room (xroom hrest)) hdg hf) hS0 kk
def wJ13_toString (th : Nat) (bc : Nat) (bs : Nat) (σ : XS) (Q : Option Nat → XS → Prop) : Prop :=
  1 ≤ bc ∧ 4 ≤ bs ∧ (kd (xal σ 22 0) (xn σ) = 22 ∧ (∃ k3 n3 : Nat, k3 ≤ (bc - 1) ∧ n3 ≤ (bs - 4) ∧ (wJ14_init (xn σ) (some th) k3 n3 (xal σ 22 0) (fun s1 => Q (some (xn σ)) s1))))
set_option maxHeartbeats 4000000 in
theorem MJ13_toString (l : Launch) (E : xx_E) (th : Nat) (bc : Nat) (bs : Nat) (σ : XS) (Q : Option Nat → XS → Prop) (hw : wJ13_toString th bc bs σ Q) : xx_Mr l yJ13_toString (ws_ yJ13_toString cJ13_toString 1 (some (.object "java/lang/String"))) ({ frames := 5, cells := bc, slots := bs, locals := 200 } : Room) E [xv E (some th)] σ Q bc bs := by
  refine x_of (own := "java/lang/StringBuilder") (by decide +kernel) rfl ?_
  intro p e s m args below meth c cx hR ha hnm
  refine x_entry [xv E (some th)] 1 [(0, xv E (some th))] ha (by simp [lg_sl, xv_cat, vc_i, vc_j, vc_f]) (by simp [lv_args, xv_cat, vc_i, vc_j, vc_f]) (fun ls hl => ?_)
  have hS : va_S (xA E) s.heap s.heap [] := va_S.rf
  have hcb : 0 + bc ≤ bc := Nat.le_of_eq (Nat.zero_add _)
  have hsb : 0 + bs ≤ bs := Nat.le_of_eq (Nat.zero_add _)
  unfold wJ13_toString at hw
  obtain ⟨hx, hb, hml, hown, hts, hrt, hlk, hMK, hZ⟩ := id cx
  obtain ⟨hb1, hb2, hw⟩ := hw
  refine xn_J13_18 cx hR hS (by dsimp only; omega) (by dsimp only; omega) dJ13_toString_0 (fun H hR hS => ?_)
  have hcb := xadd hb1 hcb
  have hsb := xadd hb2 hsb
  refine lv_dup hx hb dJ13_toString_3 (xv_cat _ _) ?_
  refine x_aload_n cx dJ13_toString_4 rfl (lv_at hl 0 rfl) ?_
  obtain ⟨hk2, hw⟩ := hw
  obtain ⟨k3, n3, hb1, hb2, hw⟩ := hw
  refine CJ14_init_J13_137 cx hR hS rfl hk2 hw ⟨Nat.le_of_ble_eq_true rfl, Nat.le_of_ble_eq_true rfl⟩ (Nat.le_of_ble_eq_true rfl) hl.1 ⟨by dsimp only; omega, by dsimp only; omega⟩ dJ13_toString_5 (fun s1 H locs hw hR hS => ?_)
  have hcb := xadd hb1 hcb
  have hsb := xadd hb2 hsb
  exact x_aret cx (by first | exact Or.inl ⟨_, rfl⟩ | exact Or.inr ⟨_, rfl⟩) hR hS (xle hcb) (xle hsb) hw dJ13_toString_8
-- J14_coder
theorem xg_J14_15_22 {l : Launch} {p : Program} {e : Env} {R : Room} {s : State} {m : MethodId} {args : Array Value} {below : List Frame} {meth : Method} {c : Code} {H : Heap} {locs : List Loc} {cells slots : Nat} {Qz : State → Prop} {cc : ByteArray} {nL : Nat} {ret : Option FieldType} {E : xx_E} {σ : XS} {pc : Nat} {ls : Array Slot} {rest : List Value} (cx : xx_X "java/lang/String" cc nL ret E p s m args meth c) (hR : xR E σ H) {a : Nat} {r : Option Nat} (hr : r = some a) (hk : kd σ a = 22) (hdg : decode cc pc = .ok (.getfield 15, 3)) (kk : W p l e R s m args below meth c H locs cells slots Qz (F0 m (pc + 3) ls (.int (fi σ a 1) :: rest))) : W p l e R s m args below meth c H locs cells slots Qz (F0 m pc ls (xv E r :: rest)) :=
  x_get (ci := 21) cx hR hr hk (by decide) rfl in_J14 1 (by decide) q855 (fun _ h => h) (v := .int (fi σ a 1)) rfl hdg kk
def wJ14_coder (th : Nat) (σ : XS) (Q : Int32 → XS → Prop) : Prop :=
  kd σ th = 22 ∧ (narrow .byte (.int (fi σ th 1)) = .int (fi σ th 1) ∧ Q (fi σ th 1) σ)
set_option maxHeartbeats 4000000 in
theorem MJ14_coder (l : Launch) (E : xx_E) (th : Nat) (σ : XS) (Q : Int32 → XS → Prop) (hw : wJ14_coder th σ Q) : xx_Mi l yJ14_coder (ws_ yJ14_coder cJ14_coder 1 (some .byte)) ({ frames := 0, cells := 0, slots := 0, locals := 0 } : Room) E [xv E (some th)] σ Q 0 0 := by
  refine x_of (own := "java/lang/String") (by decide +kernel) rfl ?_
  intro p e s m args below meth c cx hR ha hnm
  refine x_entry [xv E (some th)] 1 [(0, xv E (some th))] ha (by simp [lg_sl, xv_cat, vc_i, vc_j, vc_f]) (by simp [lv_args, xv_cat, vc_i, vc_j, vc_f]) (fun ls hl => ?_)
  have hS : va_S (xA E) s.heap s.heap [] := va_S.rf
  have hcb : 0 + 0 ≤ 0 := Nat.le_of_eq (Nat.zero_add _)
  have hsb : 0 + 0 ≤ 0 := Nat.le_of_eq (Nat.zero_add _)
  unfold wJ14_coder at hw
  obtain ⟨hx, hb, hml, hown, hts, hrt, hlk, hMK, hZ⟩ := id cx
  refine va_gets (v := .int 1) (C := "java/lang/String") (n := "COMPACT_STRINGS") (d := "Z") hx hb hZ.1 hS hown (hts _ q840) (fun _ h => h) dJ14_coder_0 ?_
  refine lv_if_eq (tgt := 13) hx hb dJ14_coder_3 (by decide) (fun hc => ?_) (fun hc => ?_)
  · exact absurd hc (by decide)
  refine x_aload_n cx dJ14_coder_6 rfl (lv_at hl 0 rfl) ?_
  obtain ⟨hk1, hw⟩ := hw
  refine xg_J14_15_22 cx hR rfl hk1 dJ14_coder_7 ?_
  refine lv_goto (tgt := 14) hx hb dJ14_coder_10 (by decide) ?_
  obtain ⟨hz, hw⟩ := hw
  exact x_nret cx hR hS (xle hcb) (xle hsb) hz hw dJ14_coder_14
-- J14_length
theorem xg_J14_9_22 {l : Launch} {p : Program} {e : Env} {R : Room} {s : State} {m : MethodId} {args : Array Value} {below : List Frame} {meth : Method} {c : Code} {H : Heap} {locs : List Loc} {cells slots : Nat} {Qz : State → Prop} {cc : ByteArray} {nL : Nat} {ret : Option FieldType} {E : xx_E} {σ : XS} {pc : Nat} {ls : Array Slot} {rest : List Value} (cx : xx_X "java/lang/String" cc nL ret E p s m args meth c) (hR : xR E σ H) {a : Nat} {r : Option Nat} (hr : r = some a) (hk : kd σ a = 22) (hdg : decode cc pc = .ok (.getfield 9, 3)) (kk : W p l e R s m args below meth c H locs cells slots Qz (F0 m (pc + 3) ls (xv E (fr σ a 0) :: rest))) : W p l e R s m args below meth c H locs cells slots Qz (F0 m pc ls (xv E r :: rest)) :=
  x_get (ci := 21) cx hR hr hk (by decide) rfl in_J14 0 (by decide) q854 (fun _ h => h) (v := xv E (fr σ a 0)) rfl hdg kk
theorem CJ14_coder_J14_335 {l : Launch} {p : Program} {e : Env} {R : Room} {s : State} {m : MethodId} {args : Array Value} {below : List Frame} {meth : Method} {c : Code} {H : Heap} {locs : List Loc} {cells slots : Nat} {Qz : State → Prop} {cc : ByteArray} {nL : Nat} {ret : Option FieldType} {E : xx_E} {σ : XS} {pc : Nat} {ls : Array Slot} {rest : List Value} {th : Nat} (cx : xx_X "java/lang/String" cc nL ret E p s m args meth c) (hR0 : xR E σ H) (hS0 : va_S (xA E) s.heap H locs) {r0 : Option Nat} (hr : r0 = some th) (hk : kd σ th = 22) {Qf : Int32 → XS → Prop} (hw : wJ14_coder th σ Qf) (hR : (({ frames := 0, cells := 0, slots := 0, locals := 0 } : Room)).frames + 1 ≤ R.frames ∧ 8 + (1 + 11) + (({ frames := 0, cells := 0, slots := 0, locals := 0 } : Room)).locals ≤ R.locals) (hrest : rest.length ≤ 4) (hsize : ls.size = nL) (hf : cells + 0 ≤ R.cells ∧ slots + 0 ≤ R.slots) (hdg : decode cc pc = .ok (.invokevirtual 335, 3))
    (kk : ∀ (r : Int32) (σ1 : XS) (H1 : Heap) (locs1 : List Loc), Qf r σ1 → xR E σ1 H1 → va_S (xA E) s.heap H1 locs1 → W p l e R s m args below meth c H1 locs1 (cells + 0) (slots + 0) Qz (F0 m (pc + 3) ls (.int r :: rest))) : W p l e R s m args below meth c H locs cells slots Qz (F0 m pc ls (xv E r0 :: rest)) := by
  subst hr
  obtain ⟨hx, hb, hml, hown, hts, hrt, hlk, hK, hZ⟩ := id cx
  exact x_goi (va_runV (As := []) (rest := rest) (x_fix cx) (MJ14_coder l E th σ Qf hw) (cwV 0 hts (lw_V q871 q872 q873 q176 q874) rfl rfl rfl (by decide +kernel) hR) (x_preV cx hR0 hS0 hk (by decide) (q := (RJ14, TJ14, 4)) rfl rfl []) rfl rfl hsize rfl (lv_room (xroom hrest)) hdg hf) hS0 kk
def wJ14_length (th : Nat) (σ : XS) (Q : Int32 → XS → Prop) : Prop :=
  kd σ th = 22 ∧ (oc σ (fr σ th 0) 102 (fun a2 => wJ14_coder th σ (fun r3 s3 => Q ((nI (ln σ a2)) >>> (r3 &&& 31)) s3)))
set_option maxHeartbeats 4000000 in
theorem MJ14_length (l : Launch) (E : xx_E) (th : Nat) (σ : XS) (Q : Int32 → XS → Prop) (hw : wJ14_length th σ Q) : xx_Mi l yJ14_length (ws_ yJ14_length cJ14_length 1 (some .int)) ({ frames := 1, cells := 0, slots := 0, locals := 40 } : Room) E [xv E (some th)] σ Q 0 0 := by
  refine x_of (own := "java/lang/String") (by decide +kernel) rfl ?_
  intro p e s m args below meth c cx hR ha hnm
  refine x_entry [xv E (some th)] 1 [(0, xv E (some th))] ha (by simp [lg_sl, xv_cat, vc_i, vc_j, vc_f]) (by simp [lv_args, xv_cat, vc_i, vc_j, vc_f]) (fun ls hl => ?_)
  have hS : va_S (xA E) s.heap s.heap [] := va_S.rf
  have hcb : 0 + 0 ≤ 0 := Nat.le_of_eq (Nat.zero_add _)
  have hsb : 0 + 0 ≤ 0 := Nat.le_of_eq (Nat.zero_add _)
  unfold wJ14_length at hw
  obtain ⟨hx, hb, hml, hown, hts, hrt, hlk, hMK, hZ⟩ := id cx
  refine x_aload_n cx dJ14_length_0 rfl (lv_at hl 0 rfl) ?_
  obtain ⟨hk1, hw⟩ := hw
  refine xg_J14_9_22 cx hR rfl hk1 dJ14_length_1 ?_
  obtain ⟨a2, hr2, hk2, hw⟩ := hw
  refine x_alen cx hR hr2 2 hk2 (by decide) dJ14_length_4 ?_
  refine x_aload_n cx dJ14_length_5 rfl (lv_at hl 0 rfl) ?_
  refine CJ14_coder_J14_335 cx hR hS rfl hk1 hw ⟨Nat.le_of_ble_eq_true rfl, Nat.le_of_ble_eq_true rfl⟩ (Nat.le_of_ble_eq_true rfl) hl.1 ⟨by dsimp only; omega, by dsimp only; omega⟩ dJ14_length_6 (fun r3 s3 H locs hw hR hS => ?_)
  refine lv_ishr hx hb dJ14_length_9 ?_
  exact x_iret cx hR hS (xle hcb) (xle hsb) hw dJ14_length_10
-- J14_isLatin1
def wJ14_isLatin1 (th : Nat) (σ : XS) (Q : Int32 → XS → Prop) : Prop :=
  kd σ th = 22 ∧ (if (fi σ th 1) = 0 then (Q (1 : Int32) σ) else (Q (0 : Int32) σ))
set_option maxHeartbeats 4000000 in
theorem MJ14_isLatin1 (l : Launch) (E : xx_E) (th : Nat) (σ : XS) (Q : Int32 → XS → Prop) (hw : wJ14_isLatin1 th σ Q) : xx_Mi l yJ14_isLatin1 (ws_ yJ14_isLatin1 cJ14_isLatin1 1 (some .boolean)) ({ frames := 0, cells := 0, slots := 0, locals := 0 } : Room) E [xv E (some th)] σ Q 0 0 := by
  refine x_of (own := "java/lang/String") (by decide +kernel) rfl ?_
  intro p e s m args below meth c cx hR ha hnm
  refine x_entry [xv E (some th)] 1 [(0, xv E (some th))] ha (by simp [lg_sl, xv_cat, vc_i, vc_j, vc_f]) (by simp [lv_args, xv_cat, vc_i, vc_j, vc_f]) (fun ls hl => ?_)
  have hS : va_S (xA E) s.heap s.heap [] := va_S.rf
  have hcb : 0 + 0 ≤ 0 := Nat.le_of_eq (Nat.zero_add _)
  have hsb : 0 + 0 ≤ 0 := Nat.le_of_eq (Nat.zero_add _)
  unfold wJ14_isLatin1 at hw
  obtain ⟨hx, hb, hml, hown, hts, hrt, hlk, hMK, hZ⟩ := id cx
  refine va_gets (v := .int 1) (C := "java/lang/String") (n := "COMPACT_STRINGS") (d := "Z") hx hb hZ.1 hS hown (hts _ q840) (fun _ h => h) dJ14_isLatin1_0 ?_
  refine lv_if_eq (tgt := 17) hx hb dJ14_isLatin1_3 (by decide) (fun hc => ?_) (fun hc => ?_)
  · exact absurd hc (by decide)
  refine x_aload_n cx dJ14_isLatin1_6 rfl (lv_at hl 0 rfl) ?_
  obtain ⟨hk1, hw⟩ := hw
  refine xg_J14_15_22 cx hR rfl hk1 dJ14_isLatin1_7 ?_
  refine lv_if_ne (tgt := 17) hx hb dJ14_isLatin1_10 (by decide) (fun hc => ?_) (fun hc => ?_)
  · have hw := mm_in hc hw
    refine lv_iconst (v := (0 : Int32)) hx hb dJ14_isLatin1_17 (by decide) ?_
    exact x_nret cx hR hS (xle hcb) (xle hsb) (zb_nar (Or.inl rfl)) hw dJ14_isLatin1_18
  · have hw := mm_ip hc hw
    refine lv_iconst (v := (1 : Int32)) hx hb dJ14_isLatin1_13 (by decide) ?_
    refine lv_goto (tgt := 18) hx hb dJ14_isLatin1_14 (by decide) ?_
    exact x_nret cx hR hS (xle hcb) (xle hsb) (zb_nar (Or.inr rfl)) hw dJ14_isLatin1_18
-- J19_canEncode_2
def wJ19_canEncode_2 (x0 : Int32) (σ : XS) (Q : Int32 → XS → Prop) : Prop :=
  if x0 < 0 then (Q (0 : Int32) σ) else (if (255 : Int32) < x0 then (Q (0 : Int32) σ) else (Q (1 : Int32) σ))
set_option maxHeartbeats 4000000 in
theorem MJ19_canEncode_2 (l : Launch) (E : xx_E) (x0 : Int32) (σ : XS) (Q : Int32 → XS → Prop) (hw : wJ19_canEncode_2 x0 σ Q) : xx_Mi l yJ19_canEncode_2 (ws_ yJ19_canEncode_2 cJ19_canEncode_2 1 (some .boolean)) ({ frames := 0, cells := 0, slots := 0, locals := 0 } : Room) E [.int x0] σ Q 0 0 := by
  refine x_of (own := "java/lang/StringLatin1") (by decide +kernel) rfl ?_
  intro p e s m args below meth c cx hR ha hnm
  refine x_entry [.int x0] 1 [(0, .int x0)] ha (Nat.le_of_ble_eq_true rfl) rfl (fun ls hl => ?_)
  have hS : va_S (xA E) s.heap s.heap [] := va_S.rf
  have hcb : 0 + 0 ≤ 0 := Nat.le_of_eq (Nat.zero_add _)
  have hsb : 0 + 0 ≤ 0 := Nat.le_of_eq (Nat.zero_add _)
  unfold wJ19_canEncode_2 at hw
  obtain ⟨hx, hb, hml, hown, hts, hrt, hlk, hMK, hZ⟩ := id cx
  refine lv_iload_n hx hb dJ19_canEncode_2_0 rfl (lv_at hl 0 rfl) ?_
  refine lv_if_lt (tgt := 15) hx hb dJ19_canEncode_2_1 (by decide) (fun hc => ?_) (fun hc => ?_)
  · have hw := mm_ip hc hw
    refine lv_iconst (v := (0 : Int32)) hx hb dJ19_canEncode_2_15 (by decide) ?_
    exact x_nret cx hR hS (xle hcb) (xle hsb) (zb_nar (Or.inl rfl)) hw dJ19_canEncode_2_16
  · have hw := mm_in hc hw
    refine lv_iload_n hx hb dJ19_canEncode_2_4 rfl (lv_at hl 0 rfl) ?_
    refine lv_sipush (v := (255 : Int32)) hx hb dJ19_canEncode_2_5 (by decide) ?_
    refine lv_icmp_gt (tgt := 15) hx hb dJ19_canEncode_2_8 (by decide) (fun hc => ?_) (fun hc => ?_)
    · have hw := mm_ip hc hw
      refine lv_iconst (v := (0 : Int32)) hx hb dJ19_canEncode_2_15 (by decide) ?_
      exact x_nret cx hR hS (xle hcb) (xle hsb) (zb_nar (Or.inl rfl)) hw dJ19_canEncode_2_16
    · have hw := mm_in hc hw
      refine lv_iconst (v := (1 : Int32)) hx hb dJ19_canEncode_2_11 (by decide) ?_
      refine lv_goto (tgt := 16) hx hb dJ19_canEncode_2_12 (by decide) ?_
      exact x_nret cx hR hS (xle hcb) (xle hsb) (zb_nar (Or.inr rfl)) hw dJ19_canEncode_2_16
-- J19_indexOfChar
def wJ19_indexOfChar_7 (Q : Int32 → XS → Prop) (K7 : Option Nat → Int32 → Int32 → Int32 → XS → Prop) (x0 : Option Nat) (x3 : Int32) (x4 : Int32) (x5 : Int32) (σ : XS) : Prop :=
  if x3 ≤ x5 then (Q (-1 : Int32) σ) else (oc σ x0 102 (fun a1 => vp_in x5 (ln σ a1) ∧ (if (ai σ a1 x5.toNatClampNeg) = x4 then (Q x5 σ) else (∀ v2 : Int32, v2 = x5 + (1 : Int32) → K7 x0 x3 x4 v2 σ))))
set_option maxHeartbeats 4000000 in
theorem BJ19_indexOfChar_7 {l : Launch} {p : Program} {e : Env} {s : State} {m : MethodId} {args : Array Value} {below : List Frame} {meth : Method} {c : Code} {E : xx_E} {Q : Int32 → XS → Prop} {K7 : Option Nat → Int32 → Int32 → Int32 → XS → Prop} (cx : xx_X "java/lang/StringLatin1" cJ19_indexOfChar 6 (some .int) E p s m args meth c) (hK7 : ∀ (x0 : Option Nat) (x3 : Int32) (x4 : Int32) (x5 : Int32) (σ : XS), K7 x0 x3 x4 x5 σ → x_T p l e ({ frames := 0, cells := 0, slots := 0, locals := 0 } : Room) s m args below meth c E (va_Qi Q (fun σ' t => xW E σ' t) (xA E)) 0 0 6 7 0 0 σ [(0, xv E x0), (3, .int x3), (4, .int x4), (5, .int x5)] []) : ∀ (x0 : Option Nat) (x3 : Int32) (x4 : Int32) (x5 : Int32) (σ : XS), wJ19_indexOfChar_7 Q K7 x0 x3 x4 x5 σ → x_T p l e ({ frames := 0, cells := 0, slots := 0, locals := 0 } : Room) s m args below meth c E (va_Qi Q (fun σ' t => xW E σ' t) (xA E)) 0 0 6 7 0 0 σ [(0, xv E x0), (3, .int x3), (4, .int x4), (5, .int x5)] [] := by
  intro x0 x3 x4 x5 σ hw H locs ls cells slots hR hS hl hcb hsb
  unfold wJ19_indexOfChar_7 at hw
  obtain ⟨hx, hb, hml, hown, hts, hrt, hlk, hMK, hZ⟩ := id cx
  refine lv_iload hx hb dJ19_indexOfChar_7 (lv_at hl 3 rfl) ?_
  refine lv_iload_n hx hb dJ19_indexOfChar_9 rfl (lv_at hl 1 rfl) ?_
  refine lv_icmp_ge (tgt := 31) hx hb dJ19_indexOfChar_10 (by decide) (fun hc => ?_) (fun hc => ?_)
  · have hw := mm_ip hc hw
    refine lv_iconst (v := (-1 : Int32)) hx hb dJ19_indexOfChar_31 (by decide) ?_
    exact x_iret cx hR hS (xle hcb) (xle hsb) hw dJ19_indexOfChar_32
  · have hw := mm_in hc hw
    refine x_aload_n cx dJ19_indexOfChar_13 rfl (lv_at hl 0 rfl) ?_
    refine lv_iload hx hb dJ19_indexOfChar_14 (lv_at hl 3 rfl) ?_
    obtain ⟨a1, hr1, hk1, hw⟩ := hw
    obtain ⟨hi, hw⟩ := hw
    refine x_bald cx hR hr1 hk1 (j := x5.toNatClampNeg) rfl hi dJ19_indexOfChar_16 ?_
    refine lv_iload hx hb dJ19_indexOfChar_17 (lv_at hl 2 rfl) ?_
    refine lv_icmp_ne (tgt := 25) hx hb dJ19_indexOfChar_19 (by decide) (fun hc => ?_) (fun hc => ?_)
    · have hw := mm_in hc hw
      obtain ⟨v2, hv2⟩ : ∃ v : Int32, v = x5 + (1 : Int32) := ⟨_, rfl⟩
      have hw := hw v2 hv2
      refine lv_iinc (v := v2) (lv' := [(5, .int v2), (0, xv E x0), (3, .int x3), (4, .int x4)]) hx hb dJ19_indexOfChar_25 hl (k := 3) rfl (by rw [hv2]; rfl) (by decide) rfl (fun ls hl => ?_)
      refine lv_goto (tgt := 7) hx hb dJ19_indexOfChar_28 (by decide) ?_
      exact hK7 _ _ _ _ _ hw _ _ _ _ _ hR hS (lv_sub hl [1, 2, 3, 0] rfl) hcb hsb
    · have hw := mm_ip hc hw
      refine lv_iload hx hb dJ19_indexOfChar_22 (lv_at hl 3 rfl) ?_
      exact x_iret cx hR hS (xle hcb) (xle hsb) hw dJ19_indexOfChar_24
theorem LJ19_indexOfChar_7 {l : Launch} {p : Program} {e : Env} {s : State} {m : MethodId} {args : Array Value} {below : List Frame} {meth : Method} {c : Code} {E : xx_E} {Q : Int32 → XS → Prop} (cx : xx_X "java/lang/StringLatin1" cJ19_indexOfChar 6 (some .int) E p s m args meth c) : ∀ (x0 : Option Nat) (x3 : Int32) (x4 : Int32) (x5 : Int32) (σ : XS), lp5F (wJ19_indexOfChar_7 Q) x0 x3 x4 x5 σ → x_T p l e ({ frames := 0, cells := 0, slots := 0, locals := 0 } : Room) s m args below meth c E (va_Qi Q (fun σ' t => xW E σ' t) (xA E)) 0 0 6 7 0 0 σ [(0, xv E x0), (3, .int x3), (4, .int x4), (5, .int x5)] [] :=
  lp5F_of (fun K hK => BJ19_indexOfChar_7 cx hK)
def wJ19_indexOfChar (x0 : Option Nat) (x1 : Int32) (x2 : Int32) (x3 : Int32) (σ : XS) (Q : Int32 → XS → Prop) : Prop :=
  ∀ v3 : Int32, v3 = (x1).toInt8.toInt32 → lp5F (wJ19_indexOfChar_7 Q) x0 x3 v3 x2 σ
set_option maxHeartbeats 4000000 in
theorem MJ19_indexOfChar (l : Launch) (E : xx_E) (x0 : Option Nat) (x1 : Int32) (x2 : Int32) (x3 : Int32) (σ : XS) (Q : Int32 → XS → Prop) (hw : wJ19_indexOfChar x0 x1 x2 x3 σ Q) : xx_Mi l yJ19_indexOfChar (ws_ yJ19_indexOfChar cJ19_indexOfChar 6 (some .int)) ({ frames := 0, cells := 0, slots := 0, locals := 0 } : Room) E [xv E x0, .int x1, .int x2, .int x3] σ Q 0 0 := by
  refine x_of (own := "java/lang/StringLatin1") (by decide +kernel) rfl ?_
  intro p e s m args below meth c cx hR ha hnm
  refine x_entry [xv E x0, .int x1, .int x2, .int x3] 6 [(0, xv E x0), (1, .int x1), (2, .int x2), (3, .int x3)] ha (by simp [lg_sl, xv_cat, vc_i, vc_j, vc_f]) (by simp [lv_args, xv_cat, vc_i, vc_j, vc_f]) (fun ls hl => ?_)
  have hS : va_S (xA E) s.heap s.heap [] := va_S.rf
  have hcb : 0 + 0 ≤ 0 := Nat.le_of_eq (Nat.zero_add _)
  have hsb : 0 + 0 ≤ 0 := Nat.le_of_eq (Nat.zero_add _)
  unfold wJ19_indexOfChar at hw
  obtain ⟨hx, hb, hml, hown, hts, hrt, hlk, hMK, hZ⟩ := id cx
  refine lv_iload_n hx hb dJ19_indexOfChar_0 rfl (lv_at hl 1 rfl) ?_
  refine lv_i2b hx hb dJ19_indexOfChar_1 rfl ?_
  refine lv_topi (fun v3 hv3 => ?_)
  have hw := hw v3 hv3
  refine lv_istore (i := 4) (lv' := [(4, .int v3), (0, xv E x0), (1, .int x1), (2, .int x2), (3, .int x3)]) hx hb dJ19_indexOfChar_2 hl (by decide) rfl (fun ls hl => ?_)
  refine lv_iload_n hx hb dJ19_indexOfChar_4 rfl (lv_at hl 3 rfl) ?_
  refine lv_istore (i := 5) (lv' := [(5, .int x2), (4, .int v3), (0, xv E x0), (1, .int x1), (2, .int x2), (3, .int x3)]) hx hb dJ19_indexOfChar_5 hl (by decide) rfl (fun ls hl => ?_)
  exact LJ19_indexOfChar_7 cx _ _ _ _ _ hw _ _ _ _ _ hR hS (lv_sub hl [2, 5, 1, 0] rfl) hcb hsb
-- J19_indexOf
theorem CJ19_canEncode_2_J19_88 {l : Launch} {p : Program} {e : Env} {R : Room} {s : State} {m : MethodId} {args : Array Value} {below : List Frame} {meth : Method} {c : Code} {H : Heap} {locs : List Loc} {cells slots : Nat} {Qz : State → Prop} {cc : ByteArray} {nL : Nat} {ret : Option FieldType} {E : xx_E} {σ : XS} {pc : Nat} {ls : Array Slot} {rest : List Value} {x0 : Int32} (cx : xx_X "java/lang/StringLatin1" cc nL ret E p s m args meth c) (hR0 : xR E σ H) (hS0 : va_S (xA E) s.heap H locs) {Qf : Int32 → XS → Prop} (hw : wJ19_canEncode_2 x0 σ Qf) (hR : (({ frames := 0, cells := 0, slots := 0, locals := 0 } : Room)).frames + 1 ≤ R.frames ∧ 8 + (1 + 11) + (({ frames := 0, cells := 0, slots := 0, locals := 0 } : Room)).locals ≤ R.locals) (hrest : rest.length ≤ 4) (hsize : ls.size = nL) (hf : cells + 0 ≤ R.cells ∧ slots + 0 ≤ R.slots) (hdg : decode cc pc = .ok (.invokestatic 88, 3))
    (kk : ∀ (r : Int32) (σ1 : XS) (H1 : Heap) (locs1 : List Loc), Qf r σ1 → xR E σ1 H1 → va_S (xA E) s.heap H1 locs1 → W p l e R s m args below meth c H1 locs1 (cells + 0) (slots + 0) Qz (F0 m (pc + 3) ls (.int r :: rest))) : W p l e R s m args below meth c H locs cells slots Qz (F0 m pc ls (.int x0 :: rest)) := by
  obtain ⟨hx, hb, hml, hown, hts, hrt, hlk, hK, hZ⟩ := id cx
  exact x_goi (va_runS (As := [.int x0]) (rest := rest) (x_fix cx) (MJ19_canEncode_2 l E x0 σ Qf hw) (va_cwS 1 hts (lw_S q892 q893 q182 q894) rfl rfl rfl (by decide +kernel) hR) ⟨xblind, x_pre cx hR0 hS0 [.int x0]⟩ rfl rfl hsize rfl (lv_room (xroom hrest)) hdg hf) hS0 kk
theorem CJ19_indexOfChar_J19_95 {l : Launch} {p : Program} {e : Env} {R : Room} {s : State} {m : MethodId} {args : Array Value} {below : List Frame} {meth : Method} {c : Code} {H : Heap} {locs : List Loc} {cells slots : Nat} {Qz : State → Prop} {cc : ByteArray} {nL : Nat} {ret : Option FieldType} {E : xx_E} {σ : XS} {pc : Nat} {ls : Array Slot} {rest : List Value} {x0 : Option Nat} {x1 : Int32} {x2 : Int32} {x3 : Int32} (cx : xx_X "java/lang/StringLatin1" cc nL ret E p s m args meth c) (hR0 : xR E σ H) (hS0 : va_S (xA E) s.heap H locs) {Qf : Int32 → XS → Prop} (hw : wJ19_indexOfChar x0 x1 x2 x3 σ Qf) (hR : (({ frames := 0, cells := 0, slots := 0, locals := 0 } : Room)).frames + 1 ≤ R.frames ∧ 8 + (6 + 11) + (({ frames := 0, cells := 0, slots := 0, locals := 0 } : Room)).locals ≤ R.locals) (hrest : rest.length ≤ 4) (hsize : ls.size = nL) (hf : cells + 0 ≤ R.cells ∧ slots + 0 ≤ R.slots) (hdg : decode cc pc = .ok (.invokestatic 95, 3))
    (kk : ∀ (r : Int32) (σ1 : XS) (H1 : Heap) (locs1 : List Loc), Qf r σ1 → xR E σ1 H1 → va_S (xA E) s.heap H1 locs1 → W p l e R s m args below meth c H1 locs1 (cells + 0) (slots + 0) Qz (F0 m (pc + 3) ls (.int r :: rest))) : W p l e R s m args below meth c H locs cells slots Qz (F0 m pc ls (.int x3 :: .int x2 :: .int x1 :: xv E x0 :: rest)) := by
  obtain ⟨hx, hb, hml, hown, hts, hrt, hlk, hK, hZ⟩ := id cx
  exact x_goi (va_runS (As := [xv E x0, .int x1, .int x2, .int x3]) (rest := rest) (x_fix cx) (MJ19_indexOfChar l E x0 x1 x2 x3 σ Qf hw) (va_cwS 4 hts (lw_S q897 q898 q182 q899) rfl rfl rfl (by decide +kernel) hR) ⟨xblind, x_pre cx hR0 hS0 [xv E x0, .int x1, .int x2, .int x3]⟩ rfl rfl hsize rfl (lv_room (xroom hrest)) hdg hf) hS0 kk
def wJ19_indexOf (x0 : Option Nat) (x1 : Int32) (x2 : Int32) (x3 : Int32) (σ : XS) (Q : Int32 → XS → Prop) : Prop :=
  wJ19_canEncode_2 x1 σ (fun r1 s1 => if r1 = 0 then (Q (-1 : Int32) s1) else (∀ v2 : Int32, v2 = (imax x2 (0 : Int32)) → oc s1 x0 102 (fun a3 => ∀ v4 : Int32, v4 = (imin x3 (nI (ln s1 a3))) → if v2 < v4 then (wJ19_indexOfChar x0 x1 v2 v4 s1 (fun r5 s5 => Q r5 s5)) else (Q (-1 : Int32) s1))))
set_option maxHeartbeats 4000000 in
theorem MJ19_indexOf (l : Launch) (E : xx_E) (x0 : Option Nat) (x1 : Int32) (x2 : Int32) (x3 : Int32) (σ : XS) (Q : Int32 → XS → Prop) (hw : wJ19_indexOf x0 x1 x2 x3 σ Q) : xx_Mi l yJ19_indexOf (ws_ yJ19_indexOf cJ19_indexOf 4 (some .int)) ({ frames := 1, cells := 0, slots := 0, locals := 40 } : Room) E [xv E x0, .int x1, .int x2, .int x3] σ Q 0 0 := by
  refine x_of (own := "java/lang/StringLatin1") (by decide +kernel) rfl ?_
  intro p e s m args below meth c cx hR ha hnm
  refine x_entry [xv E x0, .int x1, .int x2, .int x3] 4 [(0, xv E x0), (1, .int x1), (2, .int x2), (3, .int x3)] ha (by simp [lg_sl, xv_cat, vc_i, vc_j, vc_f]) (by simp [lv_args, xv_cat, vc_i, vc_j, vc_f]) (fun ls hl => ?_)
  have hS : va_S (xA E) s.heap s.heap [] := va_S.rf
  have hcb : 0 + 0 ≤ 0 := Nat.le_of_eq (Nat.zero_add _)
  have hsb : 0 + 0 ≤ 0 := Nat.le_of_eq (Nat.zero_add _)
  unfold wJ19_indexOf at hw
  obtain ⟨hx, hb, hml, hown, hts, hrt, hlk, hMK, hZ⟩ := id cx
  refine lv_iload_n hx hb dJ19_indexOf_0 rfl (lv_at hl 1 rfl) ?_
  refine CJ19_canEncode_2_J19_88 cx hR hS  hw ⟨Nat.le_of_ble_eq_true rfl, Nat.le_of_ble_eq_true rfl⟩ (Nat.le_of_ble_eq_true rfl) hl.1 ⟨by dsimp only; omega, by dsimp only; omega⟩ dJ19_indexOf_1 (fun r1 s1 H locs hw hR hS => ?_)
  refine lv_if_ne (tgt := 9) hx hb dJ19_indexOf_4 (by decide) (fun hc => ?_) (fun hc => ?_)
  · have hw := mm_in hc hw
    refine lv_iload_n hx hb dJ19_indexOf_9 rfl (lv_at hl 2 rfl) ?_
    refine lv_iconst (v := (0 : Int32)) hx hb dJ19_indexOf_10 (by decide) ?_
    refine x_max cx hl.1 q895 (by dsimp only; omega) (xroom13 (Nat.le_of_ble_eq_true rfl) (by dsimp only; omega)) (by dsimp only; omega) (by dsimp only; omega) dJ19_indexOf_11 ?_
    refine lv_topi (fun v2 hv2 => ?_)
    have hw := hw v2 hv2
    refine lv_istore_n (i := 2) (lv' := [(2, .int v2), (0, xv E x0), (1, .int x1), (3, .int x3)]) hx hb dJ19_indexOf_14 rfl hl (by decide) rfl (fun ls hl => ?_)
    refine lv_iload_n hx hb dJ19_indexOf_15 rfl (lv_at hl 3 rfl) ?_
    refine x_aload_n cx dJ19_indexOf_16 rfl (lv_at hl 1 rfl) ?_
    obtain ⟨a3, hr3, hk3, hw⟩ := hw
    refine x_alen cx hR hr3 2 hk3 (by decide) dJ19_indexOf_17 ?_
    refine x_min cx hl.1 q896 (by dsimp only; omega) (xroom13 (Nat.le_of_ble_eq_true rfl) (by dsimp only; omega)) (by dsimp only; omega) (by dsimp only; omega) dJ19_indexOf_18 ?_
    refine lv_topi (fun v4 hv4 => ?_)
    have hw := hw v4 hv4
    refine lv_istore_n (i := 3) (lv' := [(3, .int v4), (2, .int v2), (0, xv E x0), (1, .int x1)]) hx hb dJ19_indexOf_21 rfl hl (by decide) rfl (fun ls hl => ?_)
    refine lv_iload_n hx hb dJ19_indexOf_22 rfl (lv_at hl 1 rfl) ?_
    refine lv_iload_n hx hb dJ19_indexOf_23 rfl (lv_at hl 0 rfl) ?_
    refine lv_icmp_lt (tgt := 29) hx hb dJ19_indexOf_24 (by decide) (fun hc => ?_) (fun hc => ?_)
    · have hw := mm_ip hc hw
      refine x_aload_n cx dJ19_indexOf_29 rfl (lv_at hl 2 rfl) ?_
      refine lv_iload_n hx hb dJ19_indexOf_30 rfl (lv_at hl 3 rfl) ?_
      refine lv_iload_n hx hb dJ19_indexOf_31 rfl (lv_at hl 1 rfl) ?_
      refine lv_iload_n hx hb dJ19_indexOf_32 rfl (lv_at hl 0 rfl) ?_
      refine CJ19_indexOfChar_J19_95 cx hR hS  hw ⟨Nat.le_of_ble_eq_true rfl, Nat.le_of_ble_eq_true rfl⟩ (Nat.le_of_ble_eq_true rfl) hl.1 ⟨by dsimp only; omega, by dsimp only; omega⟩ dJ19_indexOf_33 (fun r5 s5 H locs hw hR hS => ?_)
      exact x_iret cx hR hS (xle hcb) (xle hsb) hw dJ19_indexOf_36
    · have hw := mm_in hc hw
      refine lv_iconst (v := (-1 : Int32)) hx hb dJ19_indexOf_27 (by decide) ?_
      exact x_iret cx hR hS (xle hcb) (xle hsb) hw dJ19_indexOf_28
  · have hw := mm_ip hc hw
    refine lv_iconst (v := (-1 : Int32)) hx hb dJ19_indexOf_7 (by decide) ?_
    exact x_iret cx hR hS (xle hcb) (xle hsb) hw dJ19_indexOf_8
-- J14_indexOf_2
theorem CJ14_isLatin1_J14_492 {l : Launch} {p : Program} {e : Env} {R : Room} {s : State} {m : MethodId} {args : Array Value} {below : List Frame} {meth : Method} {c : Code} {H : Heap} {locs : List Loc} {cells slots : Nat} {Qz : State → Prop} {cc : ByteArray} {nL : Nat} {ret : Option FieldType} {E : xx_E} {σ : XS} {pc : Nat} {ls : Array Slot} {rest : List Value} {th : Nat} (cx : xx_X "java/lang/String" cc nL ret E p s m args meth c) (hR0 : xR E σ H) (hS0 : va_S (xA E) s.heap H locs) {r0 : Option Nat} (hr : r0 = some th) (hk : kd σ th = 22) {Qf : Int32 → XS → Prop} (hw : wJ14_isLatin1 th σ Qf) (hR : (({ frames := 0, cells := 0, slots := 0, locals := 0 } : Room)).frames + 1 ≤ R.frames ∧ 8 + (1 + 11) + (({ frames := 0, cells := 0, slots := 0, locals := 0 } : Room)).locals ≤ R.locals) (hrest : rest.length ≤ 4) (hsize : ls.size = nL) (hf : cells + 0 ≤ R.cells ∧ slots + 0 ≤ R.slots) (hdg : decode cc pc = .ok (.invokevirtual 492, 3))
    (kk : ∀ (r : Int32) (σ1 : XS) (H1 : Heap) (locs1 : List Loc), Qf r σ1 → xR E σ1 H1 → va_S (xA E) s.heap H1 locs1 → W p l e R s m args below meth c H1 locs1 (cells + 0) (slots + 0) Qz (F0 m (pc + 3) ls (.int r :: rest))) : W p l e R s m args below meth c H locs cells slots Qz (F0 m pc ls (xv E r0 :: rest)) := by
  subst hr
  obtain ⟨hx, hb, hml, hown, hts, hrt, hlk, hK, hZ⟩ := id cx
  exact x_goi (va_runV (As := []) (rest := rest) (x_fix cx) (MJ14_isLatin1 l E th σ Qf hw) (cwV 0 hts (lw_V q884 q885 q886 q176 q887) rfl rfl rfl (by decide +kernel) hR) (x_preV cx hR0 hS0 hk (by decide) (q := (RJ14, TJ14, 4)) rfl rfl []) rfl rfl hsize rfl (lv_room (xroom hrest)) hdg hf) hS0 kk
theorem CJ14_length_J14_505 {l : Launch} {p : Program} {e : Env} {R : Room} {s : State} {m : MethodId} {args : Array Value} {below : List Frame} {meth : Method} {c : Code} {H : Heap} {locs : List Loc} {cells slots : Nat} {Qz : State → Prop} {cc : ByteArray} {nL : Nat} {ret : Option FieldType} {E : xx_E} {σ : XS} {pc : Nat} {ls : Array Slot} {rest : List Value} {th : Nat} (cx : xx_X "java/lang/String" cc nL ret E p s m args meth c) (hR0 : xR E σ H) (hS0 : va_S (xA E) s.heap H locs) {r0 : Option Nat} (hr : r0 = some th) (hk : kd σ th = 22) {Qf : Int32 → XS → Prop} (hw : wJ14_length th σ Qf) (hR : (({ frames := 1, cells := 0, slots := 0, locals := 40 } : Room)).frames + 1 ≤ R.frames ∧ 8 + (1 + 11) + (({ frames := 1, cells := 0, slots := 0, locals := 40 } : Room)).locals ≤ R.locals) (hrest : rest.length ≤ 4) (hsize : ls.size = nL) (hf : cells + 0 ≤ R.cells ∧ slots + 0 ≤ R.slots) (hdg : decode cc pc = .ok (.invokevirtual 505, 3))
    (kk : ∀ (r : Int32) (σ1 : XS) (H1 : Heap) (locs1 : List Loc), Qf r σ1 → xR E σ1 H1 → va_S (xA E) s.heap H1 locs1 → W p l e R s m args below meth c H1 locs1 (cells + 0) (slots + 0) Qz (F0 m (pc + 3) ls (.int r :: rest))) : W p l e R s m args below meth c H locs cells slots Qz (F0 m pc ls (xv E r0 :: rest)) := by
  subst hr
  obtain ⟨hx, hb, hml, hown, hts, hrt, hlk, hK, hZ⟩ := id cx
  exact x_goi (va_runV (As := []) (rest := rest) (x_fix cx) (MJ14_length l E th σ Qf hw) (cwV 0 hts (lw_V q888 q868 q869 q176 q870) rfl rfl rfl (by decide +kernel) hR) (x_preV cx hR0 hS0 hk (by decide) (q := (RJ14, TJ14, 4)) rfl rfl []) rfl rfl hsize rfl (lv_room (xroom hrest)) hdg hf) hS0 kk
theorem CJ19_indexOf_J14_637 {l : Launch} {p : Program} {e : Env} {R : Room} {s : State} {m : MethodId} {args : Array Value} {below : List Frame} {meth : Method} {c : Code} {H : Heap} {locs : List Loc} {cells slots : Nat} {Qz : State → Prop} {cc : ByteArray} {nL : Nat} {ret : Option FieldType} {E : xx_E} {σ : XS} {pc : Nat} {ls : Array Slot} {rest : List Value} {x0 : Option Nat} {x1 : Int32} {x2 : Int32} {x3 : Int32} (cx : xx_X "java/lang/String" cc nL ret E p s m args meth c) (hR0 : xR E σ H) (hS0 : va_S (xA E) s.heap H locs) {Qf : Int32 → XS → Prop} (hw : wJ19_indexOf x0 x1 x2 x3 σ Qf) (hR : (({ frames := 1, cells := 0, slots := 0, locals := 40 } : Room)).frames + 1 ≤ R.frames ∧ 8 + (4 + 11) + (({ frames := 1, cells := 0, slots := 0, locals := 40 } : Room)).locals ≤ R.locals) (hrest : rest.length ≤ 4) (hsize : ls.size = nL) (hf : cells + 0 ≤ R.cells ∧ slots + 0 ≤ R.slots) (hdg : decode cc pc = .ok (.invokestatic 637, 3))
    (kk : ∀ (r : Int32) (σ1 : XS) (H1 : Heap) (locs1 : List Loc), Qf r σ1 → xR E σ1 H1 → va_S (xA E) s.heap H1 locs1 → W p l e R s m args below meth c H1 locs1 (cells + 0) (slots + 0) Qz (F0 m (pc + 3) ls (.int r :: rest))) : W p l e R s m args below meth c H locs cells slots Qz (F0 m pc ls (.int x3 :: .int x2 :: .int x1 :: xv E x0 :: rest)) := by
  obtain ⟨hx, hb, hml, hown, hts, hrt, hlk, hK, hZ⟩ := id cx
  exact x_goi (va_runS (As := [xv E x0, .int x1, .int x2, .int x3]) (rest := rest) (x_fix cx) (MJ19_indexOf l E x0 x1 x2 x3 σ Qf hw) (va_cwS 4 hts (lw_S q889 q890 q182 q891) rfl rfl rfl (by decide +kernel) hR) ⟨xblind, x_pre cx hR0 hS0 [xv E x0, .int x1, .int x2, .int x3]⟩ rfl rfl hsize rfl (lv_room (xroom hrest)) hdg hf) hS0 kk
def wJ14_indexOf_2 (th : Nat) (x1 : Int32) (x2 : Int32) (σ : XS) (Q : Int32 → XS → Prop) : Prop :=
  kd σ th = 22 ∧ (wJ14_isLatin1 th σ (fun r1 s1 => if r1 = 0 then (kd s1 th = 22 ∧ (wJ14_length th s1 (fun r4 s4 => False))) else (kd s1 th = 22 ∧ (wJ14_length th s1 (fun r6 s6 => wJ19_indexOf (fr s1 th 0) x1 x2 r6 s6 (fun r7 s7 => Q r7 s7))))))
set_option maxHeartbeats 4000000 in
theorem MJ14_indexOf_2 (l : Launch) (E : xx_E) (th : Nat) (x1 : Int32) (x2 : Int32) (σ : XS) (Q : Int32 → XS → Prop) (hw : wJ14_indexOf_2 th x1 x2 σ Q) : xx_Mi l yJ14_indexOf_2 (ws_ yJ14_indexOf_2 cJ14_indexOf_2 3 (some .int)) ({ frames := 2, cells := 0, slots := 0, locals := 80 } : Room) E [xv E (some th), .int x1, .int x2] σ Q 0 0 := by
  refine x_of (own := "java/lang/String") (by decide +kernel) rfl ?_
  intro p e s m args below meth c cx hR ha hnm
  refine x_entry [xv E (some th), .int x1, .int x2] 3 [(0, xv E (some th)), (1, .int x1), (2, .int x2)] ha (by simp [lg_sl, xv_cat, vc_i, vc_j, vc_f]) (by simp [lv_args, xv_cat, vc_i, vc_j, vc_f]) (fun ls hl => ?_)
  have hS : va_S (xA E) s.heap s.heap [] := va_S.rf
  have hcb : 0 + 0 ≤ 0 := Nat.le_of_eq (Nat.zero_add _)
  have hsb : 0 + 0 ≤ 0 := Nat.le_of_eq (Nat.zero_add _)
  unfold wJ14_indexOf_2 at hw
  obtain ⟨hx, hb, hml, hown, hts, hrt, hlk, hMK, hZ⟩ := id cx
  refine x_aload_n cx dJ14_indexOf_2_0 rfl (lv_at hl 0 rfl) ?_
  obtain ⟨hk2, hw⟩ := hw
  refine CJ14_isLatin1_J14_492 cx hR hS rfl hk2 hw ⟨Nat.le_of_ble_eq_true rfl, Nat.le_of_ble_eq_true rfl⟩ (Nat.le_of_ble_eq_true rfl) hl.1 ⟨by dsimp only; omega, by dsimp only; omega⟩ dJ14_indexOf_2_1 (fun r1 s1 H locs hw hR hS => ?_)
  refine lv_if_eq (tgt := 23) hx hb dJ14_indexOf_2_4 (by decide) (fun hc => ?_) (fun hc => ?_)
  · have hw := mm_ip hc hw
    refine x_aload_n cx dJ14_indexOf_2_23 rfl (lv_at hl 0 rfl) ?_
    obtain ⟨hk3, hw⟩ := hw
    refine xg_J14_9_22 cx hR rfl hk3 dJ14_indexOf_2_24 ?_
    refine lv_iload_n hx hb dJ14_indexOf_2_27 rfl (lv_at hl 1 rfl) ?_
    refine lv_iload_n hx hb dJ14_indexOf_2_28 rfl (lv_at hl 2 rfl) ?_
    refine x_aload_n cx dJ14_indexOf_2_29 rfl (lv_at hl 0 rfl) ?_
    refine CJ14_length_J14_505 cx hR hS rfl hk3 hw ⟨Nat.le_of_ble_eq_true rfl, Nat.le_of_ble_eq_true rfl⟩ (Nat.le_of_ble_eq_true rfl) hl.1 ⟨by dsimp only; omega, by dsimp only; omega⟩ dJ14_indexOf_2_30 (fun r4 s4 H locs hw hR hS => ?_)
    exact hw.elim
  · have hw := mm_in hc hw
    refine x_aload_n cx dJ14_indexOf_2_7 rfl (lv_at hl 0 rfl) ?_
    obtain ⟨hk5, hw⟩ := hw
    refine xg_J14_9_22 cx hR rfl hk5 dJ14_indexOf_2_8 ?_
    refine lv_iload_n hx hb dJ14_indexOf_2_11 rfl (lv_at hl 1 rfl) ?_
    refine lv_iload_n hx hb dJ14_indexOf_2_12 rfl (lv_at hl 2 rfl) ?_
    refine x_aload_n cx dJ14_indexOf_2_13 rfl (lv_at hl 0 rfl) ?_
    refine CJ14_length_J14_505 cx hR hS rfl hk5 hw ⟨Nat.le_of_ble_eq_true rfl, Nat.le_of_ble_eq_true rfl⟩ (Nat.le_of_ble_eq_true rfl) hl.1 ⟨by dsimp only; omega, by dsimp only; omega⟩ dJ14_indexOf_2_14 (fun r6 s6 H locs hw hR hS => ?_)
    refine CJ19_indexOf_J14_637 cx hR hS  hw ⟨Nat.le_of_ble_eq_true rfl, Nat.le_of_ble_eq_true rfl⟩ (Nat.le_of_ble_eq_true rfl) hl.1 ⟨by dsimp only; omega, by dsimp only; omega⟩ dJ14_indexOf_2_17 (fun r7 s7 H locs hw hR hS => ?_)
    refine lv_goto (tgt := 36) hx hb dJ14_indexOf_2_20 (by decide) ?_
    exact x_iret cx hR hS (xle hcb) (xle hsb) hw dJ14_indexOf_2_36
-- J14_indexOf
theorem CJ14_indexOf_2_J14_633 {l : Launch} {p : Program} {e : Env} {R : Room} {s : State} {m : MethodId} {args : Array Value} {below : List Frame} {meth : Method} {c : Code} {H : Heap} {locs : List Loc} {cells slots : Nat} {Qz : State → Prop} {cc : ByteArray} {nL : Nat} {ret : Option FieldType} {E : xx_E} {σ : XS} {pc : Nat} {ls : Array Slot} {rest : List Value} {th : Nat} {x1 : Int32} {x2 : Int32} (cx : xx_X "java/lang/String" cc nL ret E p s m args meth c) (hR0 : xR E σ H) (hS0 : va_S (xA E) s.heap H locs) {r0 : Option Nat} (hr : r0 = some th) (hk : kd σ th = 22) {Qf : Int32 → XS → Prop} (hw : wJ14_indexOf_2 th x1 x2 σ Qf) (hR : (({ frames := 2, cells := 0, slots := 0, locals := 80 } : Room)).frames + 1 ≤ R.frames ∧ 8 + (3 + 11) + (({ frames := 2, cells := 0, slots := 0, locals := 80 } : Room)).locals ≤ R.locals) (hrest : rest.length ≤ 4) (hsize : ls.size = nL) (hf : cells + 0 ≤ R.cells ∧ slots + 0 ≤ R.slots) (hdg : decode cc pc = .ok (.invokevirtual 633, 3))
    (kk : ∀ (r : Int32) (σ1 : XS) (H1 : Heap) (locs1 : List Loc), Qf r σ1 → xR E σ1 H1 → va_S (xA E) s.heap H1 locs1 → W p l e R s m args below meth c H1 locs1 (cells + 0) (slots + 0) Qz (F0 m (pc + 3) ls (.int r :: rest))) : W p l e R s m args below meth c H locs cells slots Qz (F0 m pc ls (.int x2 :: .int x1 :: xv E r0 :: rest)) := by
  subst hr
  obtain ⟨hx, hb, hml, hown, hts, hrt, hlk, hK, hZ⟩ := id cx
  exact x_goi (va_runV (As := [.int x1, .int x2]) (rest := rest) (x_fix cx) (MJ14_indexOf_2 l E th x1 x2 σ Qf hw) (cwV 2 hts (lw_V q880 q881 q882 q176 q883) rfl rfl rfl (by decide +kernel) hR) (x_preV cx hR0 hS0 hk (by decide) (q := (RJ14, TJ14, 4)) rfl rfl [.int x1, .int x2]) rfl rfl hsize rfl (lv_room (xroom hrest)) hdg hf) hS0 kk
def wJ14_indexOf (th : Nat) (x1 : Int32) (σ : XS) (Q : Int32 → XS → Prop) : Prop :=
  kd σ th = 22 ∧ (wJ14_indexOf_2 th x1 (0 : Int32) σ (fun r1 s1 => Q r1 s1))
set_option maxHeartbeats 4000000 in
theorem MJ14_indexOf (l : Launch) (E : xx_E) (th : Nat) (x1 : Int32) (σ : XS) (Q : Int32 → XS → Prop) (hw : wJ14_indexOf th x1 σ Q) : xx_Mi l yJ14_indexOf (ws_ yJ14_indexOf cJ14_indexOf 2 (some .int)) ({ frames := 3, cells := 0, slots := 0, locals := 120 } : Room) E [xv E (some th), .int x1] σ Q 0 0 := by
  refine x_of (own := "java/lang/String") (by decide +kernel) rfl ?_
  intro p e s m args below meth c cx hR ha hnm
  refine x_entry [xv E (some th), .int x1] 2 [(0, xv E (some th)), (1, .int x1)] ha (by simp [lg_sl, xv_cat, vc_i, vc_j, vc_f]) (by simp [lv_args, xv_cat, vc_i, vc_j, vc_f]) (fun ls hl => ?_)
  have hS : va_S (xA E) s.heap s.heap [] := va_S.rf
  have hcb : 0 + 0 ≤ 0 := Nat.le_of_eq (Nat.zero_add _)
  have hsb : 0 + 0 ≤ 0 := Nat.le_of_eq (Nat.zero_add _)
  unfold wJ14_indexOf at hw
  obtain ⟨hx, hb, hml, hown, hts, hrt, hlk, hMK, hZ⟩ := id cx
  refine x_aload_n cx dJ14_indexOf_0 rfl (lv_at hl 0 rfl) ?_
  refine lv_iload_n hx hb dJ14_indexOf_1 rfl (lv_at hl 1 rfl) ?_
  refine lv_iconst (v := (0 : Int32)) hx hb dJ14_indexOf_2 (by decide) ?_
  obtain ⟨hk2, hw⟩ := hw
  refine CJ14_indexOf_2_J14_633 cx hR hS rfl hk2 hw ⟨Nat.le_of_ble_eq_true rfl, Nat.le_of_ble_eq_true rfl⟩ (Nat.le_of_ble_eq_true rfl) hl.1 ⟨by dsimp only; omega, by dsimp only; omega⟩ dJ14_indexOf_3 (fun r1 s1 H locs hw hR hS => ?_)
  exact x_iret cx hR hS (xle hcb) (xle hsb) hw dJ14_indexOf_6
-- X4_goes
theorem xp_X4_45_4 {l : Launch} {p : Program} {e : Env} {R : Room} {s : State} {m : MethodId} {args : Array Value} {below : List Frame} {meth : Method} {c : Code} {H : Heap} {locs : List Loc} {cells slots : Nat} {Qz : State → Prop} {cc : ByteArray} {nL : Nat} {ret : Option FieldType} {E : xx_E} {σ : XS} {pc : Nat} {ls : Array Slot} {rest : List Value} (cx : xx_X "StruckCounts$Reader" cc nL ret E p s m args meth c) (hR : xR E σ H) (hS0 : va_S (xA E) s.heap H locs) {a : Nat} {r : Option Nat} {v : Int32} (hr : r = some a) (ha : xK ≤ a) (hk : kd σ a = 4) (hdg : decode cc pc = .ok (.putfield 45, 3)) (kk : ∀ (H1 : Heap) (locs1 : List Loc), xR E (pfi σ a 5 v) H1 → va_S (xA E) s.heap H1 locs1 → W p l e R s m args below meth c H1 locs1 cells slots Qz (F0 m (pc + 3) ls rest)) : W p l e R s m args below meth c H locs cells slots Qz (F0 m pc ls (.int v :: xv E r :: rest)) :=
  x_put (ci := 3) cx hR hS0 hr ha hk (by decide) rfl in_X4 tyX4 tyX4_ok nmX4 5 (by decide) (Or.inl ⟨q940, rfl⟩) (fun _ h => h) rfl rfl (xput_i rfl) hdg kk
theorem xp_X4_32_4 {l : Launch} {p : Program} {e : Env} {R : Room} {s : State} {m : MethodId} {args : Array Value} {below : List Frame} {meth : Method} {c : Code} {H : Heap} {locs : List Loc} {cells slots : Nat} {Qz : State → Prop} {cc : ByteArray} {nL : Nat} {ret : Option FieldType} {E : xx_E} {σ : XS} {pc : Nat} {ls : Array Slot} {rest : List Value} (cx : xx_X "StruckCounts$Reader" cc nL ret E p s m args meth c) (hR : xR E σ H) (hS0 : va_S (xA E) s.heap H locs) {a : Nat} {r : Option Nat} {v : Int32} (hr : r = some a) (ha : xK ≤ a) (hk : kd σ a = 4) (hdg : decode cc pc = .ok (.putfield 32, 3)) (kk : ∀ (H1 : Heap) (locs1 : List Loc), xR E (pfi σ a 3 v) H1 → va_S (xA E) s.heap H1 locs1 → W p l e R s m args below meth c H1 locs1 cells slots Qz (F0 m (pc + 3) ls rest)) : W p l e R s m args below meth c H locs cells slots Qz (F0 m pc ls (.int v :: xv E r :: rest)) :=
  x_put (ci := 3) cx hR hS0 hr ha hk (by decide) rfl in_X4 tyX4 tyX4_ok nmX4 3 (by decide) (Or.inl ⟨q938, rfl⟩) (fun _ h => h) rfl rfl (xput_i rfl) hdg kk
theorem xp_X4_42_4 {l : Launch} {p : Program} {e : Env} {R : Room} {s : State} {m : MethodId} {args : Array Value} {below : List Frame} {meth : Method} {c : Code} {H : Heap} {locs : List Loc} {cells slots : Nat} {Qz : State → Prop} {cc : ByteArray} {nL : Nat} {ret : Option FieldType} {E : xx_E} {σ : XS} {pc : Nat} {ls : Array Slot} {rest : List Value} (cx : xx_X "StruckCounts$Reader" cc nL ret E p s m args meth c) (hR : xR E σ H) (hS0 : va_S (xA E) s.heap H locs) {a : Nat} {r : Option Nat} {v : Int32} (hr : r = some a) (ha : xK ≤ a) (hk : kd σ a = 4) (hdg : decode cc pc = .ok (.putfield 42, 3)) (kk : ∀ (H1 : Heap) (locs1 : List Loc), xR E (pfi σ a 6 v) H1 → va_S (xA E) s.heap H1 locs1 → W p l e R s m args below meth c H1 locs1 cells slots Qz (F0 m (pc + 3) ls rest)) : W p l e R s m args below meth c H locs cells slots Qz (F0 m pc ls (.int v :: xv E r :: rest)) :=
  x_put (ci := 3) cx hR hS0 hr ha hk (by decide) rfl in_X4 tyX4 tyX4_ok nmX4 6 (by decide) (Or.inl ⟨q941, rfl⟩) (fun _ h => h) rfl rfl (xput_i rfl) hdg kk
theorem xg_X4_39_4 {l : Launch} {p : Program} {e : Env} {R : Room} {s : State} {m : MethodId} {args : Array Value} {below : List Frame} {meth : Method} {c : Code} {H : Heap} {locs : List Loc} {cells slots : Nat} {Qz : State → Prop} {cc : ByteArray} {nL : Nat} {ret : Option FieldType} {E : xx_E} {σ : XS} {pc : Nat} {ls : Array Slot} {rest : List Value} (cx : xx_X "StruckCounts$Reader" cc nL ret E p s m args meth c) (hR : xR E σ H) {a : Nat} {r : Option Nat} (hr : r = some a) (hk : kd σ a = 4) (hdg : decode cc pc = .ok (.getfield 39, 3)) (kk : W p l e R s m args below meth c H locs cells slots Qz (F0 m (pc + 3) ls (.int (fi σ a 4) :: rest))) : W p l e R s m args below meth c H locs cells slots Qz (F0 m pc ls (xv E r :: rest)) :=
  x_get (ci := 3) cx hR hr hk (by decide) rfl in_X4 4 (by decide) q939 (fun _ h => h) (v := .int (fi σ a 4)) rfl hdg kk
theorem xg_X4_42_4 {l : Launch} {p : Program} {e : Env} {R : Room} {s : State} {m : MethodId} {args : Array Value} {below : List Frame} {meth : Method} {c : Code} {H : Heap} {locs : List Loc} {cells slots : Nat} {Qz : State → Prop} {cc : ByteArray} {nL : Nat} {ret : Option FieldType} {E : xx_E} {σ : XS} {pc : Nat} {ls : Array Slot} {rest : List Value} (cx : xx_X "StruckCounts$Reader" cc nL ret E p s m args meth c) (hR : xR E σ H) {a : Nat} {r : Option Nat} (hr : r = some a) (hk : kd σ a = 4) (hdg : decode cc pc = .ok (.getfield 42, 3)) (kk : W p l e R s m args below meth c H locs cells slots Qz (F0 m (pc + 3) ls (.int (fi σ a 6) :: rest))) : W p l e R s m args below meth c H locs cells slots Qz (F0 m pc ls (xv E r :: rest)) :=
  x_get (ci := 3) cx hR hr hk (by decide) rfl in_X4 6 (by decide) q941 (fun _ h => h) (v := .int (fi σ a 6)) rfl hdg kk
theorem xp_X4_11_4 {l : Launch} {p : Program} {e : Env} {R : Room} {s : State} {m : MethodId} {args : Array Value} {below : List Frame} {meth : Method} {c : Code} {H : Heap} {locs : List Loc} {cells slots : Nat} {Qz : State → Prop} {cc : ByteArray} {nL : Nat} {ret : Option FieldType} {E : xx_E} {σ : XS} {pc : Nat} {ls : Array Slot} {rest : List Value} (cx : xx_X "StruckCounts$Reader" cc nL ret E p s m args meth c) (hR : xR E σ H) (hS0 : va_S (xA E) s.heap H locs) {a : Nat} {r : Option Nat} {v : Option Nat} (hr : r = some a) (ha : xK ≤ a) (hk : kd σ a = 4) (hdg : decode cc pc = .ok (.putfield 11, 3)) (kk : ∀ (H1 : Heap) (locs1 : List Loc), xR E (pfr σ a 8 v) H1 → va_S (xA E) s.heap H1 locs1 → W p l e R s m args below meth c H1 locs1 cells slots Qz (F0 m (pc + 3) ls rest)) : W p l e R s m args below meth c H locs cells slots Qz (F0 m pc ls (xv E v :: xv E r :: rest)) :=
  x_put (ci := 3) cx hR hS0 hr ha hk (by decide) rfl in_X4 tyX4 tyX4_ok nmX4 8 (by decide) (Or.inl ⟨q943, rfl⟩) (fun _ h => h) (by cases v <;> rfl) (by cases v <;> rfl) (xput_r rfl) hdg kk
theorem xg_X4_11_4 {l : Launch} {p : Program} {e : Env} {R : Room} {s : State} {m : MethodId} {args : Array Value} {below : List Frame} {meth : Method} {c : Code} {H : Heap} {locs : List Loc} {cells slots : Nat} {Qz : State → Prop} {cc : ByteArray} {nL : Nat} {ret : Option FieldType} {E : xx_E} {σ : XS} {pc : Nat} {ls : Array Slot} {rest : List Value} (cx : xx_X "StruckCounts$Reader" cc nL ret E p s m args meth c) (hR : xR E σ H) {a : Nat} {r : Option Nat} (hr : r = some a) (hk : kd σ a = 4) (hdg : decode cc pc = .ok (.getfield 11, 3)) (kk : W p l e R s m args below meth c H locs cells slots Qz (F0 m (pc + 3) ls (xv E (fr σ a 8) :: rest))) : W p l e R s m args below meth c H locs cells slots Qz (F0 m pc ls (xv E r :: rest)) :=
  x_get (ci := 3) cx hR hr hk (by decide) rfl in_X4 8 (by decide) q943 (fun _ h => h) (v := xv E (fr σ a 8)) rfl hdg kk
theorem xp_X4_39_4 {l : Launch} {p : Program} {e : Env} {R : Room} {s : State} {m : MethodId} {args : Array Value} {below : List Frame} {meth : Method} {c : Code} {H : Heap} {locs : List Loc} {cells slots : Nat} {Qz : State → Prop} {cc : ByteArray} {nL : Nat} {ret : Option FieldType} {E : xx_E} {σ : XS} {pc : Nat} {ls : Array Slot} {rest : List Value} (cx : xx_X "StruckCounts$Reader" cc nL ret E p s m args meth c) (hR : xR E σ H) (hS0 : va_S (xA E) s.heap H locs) {a : Nat} {r : Option Nat} {v : Int32} (hr : r = some a) (ha : xK ≤ a) (hk : kd σ a = 4) (hdg : decode cc pc = .ok (.putfield 39, 3)) (kk : ∀ (H1 : Heap) (locs1 : List Loc), xR E (pfi σ a 4 v) H1 → va_S (xA E) s.heap H1 locs1 → W p l e R s m args below meth c H1 locs1 cells slots Qz (F0 m (pc + 3) ls rest)) : W p l e R s m args below meth c H locs cells slots Qz (F0 m pc ls (.int v :: xv E r :: rest)) :=
  x_put (ci := 3) cx hR hS0 hr ha hk (by decide) rfl in_X4 tyX4 tyX4_ok nmX4 4 (by decide) (Or.inl ⟨q939, rfl⟩) (fun _ h => h) rfl rfl (xput_i rfl) hdg kk
theorem xn_X4_52 {l : Launch} {p : Program} {e : Env} {R : Room} {s : State} {m : MethodId} {args : Array Value} {below : List Frame} {meth : Method} {c : Code} {H : Heap} {locs : List Loc} {cells slots : Nat} {Qz : State → Prop} {cc : ByteArray} {nL : Nat} {ret : Option FieldType} {E : xx_E} {σ : XS} {pc : Nat} {ls : Array Slot} {rest : List Value} (cx : xx_X "StruckCounts$Reader" cc nL ret E p s m args meth c) (hR : xR E σ H) (hS0 : va_S (xA E) s.heap H locs) (hcells : cells + 1 ≤ R.cells) (hslots : slots + 4 ≤ R.slots) (hdg : decode cc pc = .ok (.new 52, 3)) (kk : ∀ (H1 : Heap), xR E (xal σ 23 0) H1 → va_S (xA E) s.heap H1 locs → W p l e R s m args below meth c H1 locs (cells + 1) (slots + 4) Qz (F0 m (pc + 3) ls (xv E (some (xn σ)) :: rest))) : W p l e R s m args below meth c H locs cells slots Qz (F0 m pc ls rest) :=
  x_new cx hR hS0 22 (by decide) rfl in_J13 tyJ13 tyJ13_ok q680 q681 q175 (fun j hj => by
    match j, hj with
    | 0, _ => exact xnew_r rfl
    | 1, _ => exact xnew_i rfl
    | 2, _ => exact xnew_i rfl
    | 3, _ => exact xnew_i rfl) hcells hslots hdg kk
theorem CX4_here_X4_35 {l : Launch} {p : Program} {e : Env} {R : Room} {s : State} {m : MethodId} {args : Array Value} {below : List Frame} {meth : Method} {c : Code} {H : Heap} {locs : List Loc} {cells slots : Nat} {Qz : State → Prop} {cc : ByteArray} {nL : Nat} {ret : Option FieldType} {E : xx_E} {σ : XS} {pc : Nat} {ls : Array Slot} {rest : List Value} {th : Nat} (cx : xx_X "StruckCounts$Reader" cc nL ret E p s m args meth c) (hR0 : xR E σ H) (hS0 : va_S (xA E) s.heap H locs) {r0 : Option Nat} (hr : r0 = some th) (hk : kd σ th = 4) {Qf : Int32 → XS → Prop} (hw : wX4_here th σ Qf) (hR : (({ frames := 0, cells := 0, slots := 0, locals := 0 } : Room)).frames + 1 ≤ R.frames ∧ 8 + (1 + 11) + (({ frames := 0, cells := 0, slots := 0, locals := 0 } : Room)).locals ≤ R.locals) (hrest : rest.length ≤ 4) (hsize : ls.size = nL) (hf : cells + 0 ≤ R.cells ∧ slots + 0 ≤ R.slots) (hdg : decode cc pc = .ok (.invokevirtual 35, 3))
    (kk : ∀ (r : Int32) (σ1 : XS) (H1 : Heap) (locs1 : List Loc), Qf r σ1 → xR E σ1 H1 → va_S (xA E) s.heap H1 locs1 → W p l e R s m args below meth c H1 locs1 (cells + 0) (slots + 0) Qz (F0 m (pc + 3) ls (.int r :: rest))) : W p l e R s m args below meth c H locs cells slots Qz (F0 m pc ls (xv E r0 :: rest)) := by
  subst hr
  obtain ⟨hx, hb, hml, hown, hts, hrt, hlk, hK, hZ⟩ := id cx
  exact x_goi (va_runV (As := []) (rest := rest) (x_fix cx) (MX4_here l E th σ Qf hw) (cwV 0 hts (lw_V q675 q677 qs3 q173 q678) rfl rfl rfl (by decide +kernel) hR) (x_preV cx hR0 hS0 hk (by decide) (q := (RX4, TX4, 9)) rfl rfl []) rfl rfl hsize rfl (lv_room (xroom hrest)) hdg hf) hS0 kk
theorem CX0_in_X4_48 {l : Launch} {p : Program} {e : Env} {R : Room} {s : State} {m : MethodId} {args : Array Value} {below : List Frame} {meth : Method} {c : Code} {H : Heap} {locs : List Loc} {cells slots : Nat} {Qz : State → Prop} {cc : ByteArray} {nL : Nat} {ret : Option FieldType} {E : xx_E} {σ : XS} {pc : Nat} {ls : Array Slot} {rest : List Value} {x0 : Int32} {x1 : Int32} {x2 : Int32} (cx : xx_X "StruckCounts$Reader" cc nL ret E p s m args meth c) (hR0 : xR E σ H) (hS0 : va_S (xA E) s.heap H locs) {Qf : Int32 → XS → Prop} (hw : wX0_in x0 x1 x2 σ Qf) (hR : (({ frames := 0, cells := 0, slots := 0, locals := 0 } : Room)).frames + 1 ≤ R.frames ∧ 8 + (3 + 11) + (({ frames := 0, cells := 0, slots := 0, locals := 0 } : Room)).locals ≤ R.locals) (hrest : rest.length ≤ 4) (hsize : ls.size = nL) (hf : cells + 0 ≤ R.cells ∧ slots + 0 ≤ R.slots) (hdg : decode cc pc = .ok (.invokestatic 48, 3))
    (kk : ∀ (r : Int32) (σ1 : XS) (H1 : Heap) (locs1 : List Loc), Qf r σ1 → xR E σ1 H1 → va_S (xA E) s.heap H1 locs1 → W p l e R s m args below meth c H1 locs1 (cells + 0) (slots + 0) Qz (F0 m (pc + 3) ls (.int r :: rest))) : W p l e R s m args below meth c H locs cells slots Qz (F0 m pc ls (.int x2 :: .int x1 :: .int x0 :: rest)) := by
  obtain ⟨hx, hb, hml, hown, hts, hrt, hlk, hK, hZ⟩ := id cx
  exact x_goi (va_runSN (As := [.int x0, .int x1, .int x2]) (rest := rest) (x_fix cx) (MX0_in l E x0 x1 x2 σ Qf hw) ⟨va_cnB 3 hts (lw_meth q654) rfl rfl rfl (hK.2.2.2.1 _ (xx_nm_mem (i := 4) rfl)) (hts _ q156) (by decide +kernel) hR, hts _ q653, trivial⟩ ⟨xblind, x_pre cx hR0 hS0 [.int x0, .int x1, .int x2]⟩ rfl rfl hsize rfl (lv_room (xroom hrest)) hdg hf) hS0 kk
theorem CJ13_init_X4_54 {l : Launch} {p : Program} {e : Env} {R : Room} {s : State} {m : MethodId} {args : Array Value} {below : List Frame} {meth : Method} {c : Code} {H : Heap} {locs : List Loc} {cells slots : Nat} {Qz : State → Prop} {cc : ByteArray} {nL : Nat} {ret : Option FieldType} {E : xx_E} {σ : XS} {pc : Nat} {ls : Array Slot} {rest : List Value} {th : Nat} {k n : Nat} (cx : xx_X "StruckCounts$Reader" cc nL ret E p s m args meth c) (hR0 : xR E σ H) (hS0 : va_S (xA E) s.heap H locs) {r0 : Option Nat} (hr : r0 = some th) (hk : kd σ th = 23) {Qf : XS → Prop} (hw : wJ13_init th k n σ Qf) (hR : (({ frames := 2, cells := k, slots := n, locals := 80 } : Room)).frames + 1 ≤ R.frames ∧ 8 + (1 + 11) + (({ frames := 2, cells := k, slots := n, locals := 80 } : Room)).locals ≤ R.locals) (hrest : rest.length ≤ 4) (hsize : ls.size = nL) (hf : cells + k ≤ R.cells ∧ slots + n ≤ R.slots) (hdg : decode cc pc = .ok (.invokespecial 54, 3))
    (kk : ∀ (σ1 : XS) (H1 : Heap) (locs1 : List Loc), Qf σ1 → xR E σ1 H1 → va_S (xA E) s.heap H1 locs1 → W p l e R s m args below meth c H1 locs1 (cells + k) (slots + n) Qz (F0 m (pc + 3) ls rest)) : W p l e R s m args below meth c H locs cells slots Qz (F0 m pc ls (xv E r0 :: rest)) := by
  subst hr
  obtain ⟨hx, hb, hml, hown, hts, hrt, hlk, hK, hZ⟩ := id cx
  exact x_gov (va_runI (As := []) (rest := rest) (x_fix cx) (MJ13_init l E th k n σ Qf hw) (cwI 0 hts (lw_meth q684) rfl rfl rfl (hts _ q175) (hts _ q682) (hts _ q683) rfl (by decide +kernel) hR) ⟨xblind, x_pre cx hR0 hS0 (.ref (xr E th) :: [])⟩ rfl rfl hsize rfl (lv_room (xroom hrest)) hdg hf) hS0 kk
theorem CJ13_append_X4_55 {l : Launch} {p : Program} {e : Env} {R : Room} {s : State} {m : MethodId} {args : Array Value} {below : List Frame} {meth : Method} {c : Code} {H : Heap} {locs : List Loc} {cells slots : Nat} {Qz : State → Prop} {cc : ByteArray} {nL : Nat} {ret : Option FieldType} {E : xx_E} {σ : XS} {pc : Nat} {ls : Array Slot} {rest : List Value} {th : Nat} {x1 : Int32} {k n : Nat} (cx : xx_X "StruckCounts$Reader" cc nL ret E p s m args meth c) (hR0 : xR E σ H) (hS0 : va_S (xA E) s.heap H locs) {r0 : Option Nat} (hr : r0 = some th) (hk : kd σ th = 23) {Qf : Option Nat → XS → Prop} (hw : wJ13_append th x1 k n σ Qf) (hR : (({ frames := 5, cells := k, slots := n, locals := 200 } : Room)).frames + 1 ≤ R.frames ∧ 8 + (2 + 11) + (({ frames := 5, cells := k, slots := n, locals := 200 } : Room)).locals ≤ R.locals) (hrest : rest.length ≤ 4) (hsize : ls.size = nL) (hf : cells + k ≤ R.cells ∧ slots + n ≤ R.slots) (hdg : decode cc pc = .ok (.invokevirtual 55, 3))
    (kk : ∀ (r : Option Nat) (σ1 : XS) (H1 : Heap) (locs1 : List Loc), Qf r σ1 → xR E σ1 H1 → va_S (xA E) s.heap H1 locs1 → W p l e R s m args below meth c H1 locs1 (cells + k) (slots + n) Qz (F0 m (pc + 3) ls (xv E r :: rest))) : W p l e R s m args below meth c H locs cells slots Qz (F0 m pc ls (.int x1 :: xv E r0 :: rest)) := by
  subst hr
  obtain ⟨hx, hb, hml, hown, hts, hrt, hlk, hK, hZ⟩ := id cx
  exact x_gor (va_runV (As := [.int x1]) (rest := rest) (x_fix cx) (MJ13_append l E th x1 k n σ Qf hw) (cwV 1 hts (lw_V q711 q712 q713 q175 q714) rfl rfl rfl (by decide +kernel) hR) (x_preV cx hR0 hS0 hk (by decide) (q := (RJ13, TJ13, 4)) rfl rfl [.int x1]) rfl rfl hsize rfl (lv_room (xroom hrest)) hdg hf) hS0 kk
theorem CJ13_toString_X4_59 {l : Launch} {p : Program} {e : Env} {R : Room} {s : State} {m : MethodId} {args : Array Value} {below : List Frame} {meth : Method} {c : Code} {H : Heap} {locs : List Loc} {cells slots : Nat} {Qz : State → Prop} {cc : ByteArray} {nL : Nat} {ret : Option FieldType} {E : xx_E} {σ : XS} {pc : Nat} {ls : Array Slot} {rest : List Value} {th : Nat} {k n : Nat} (cx : xx_X "StruckCounts$Reader" cc nL ret E p s m args meth c) (hR0 : xR E σ H) (hS0 : va_S (xA E) s.heap H locs) {r0 : Option Nat} (hr : r0 = some th) (hk : kd σ th = 23) {Qf : Option Nat → XS → Prop} (hw : wJ13_toString th k n σ Qf) (hR : (({ frames := 5, cells := k, slots := n, locals := 200 } : Room)).frames + 1 ≤ R.frames ∧ 8 + (1 + 11) + (({ frames := 5, cells := k, slots := n, locals := 200 } : Room)).locals ≤ R.locals) (hrest : rest.length ≤ 4) (hsize : ls.size = nL) (hf : cells + k ≤ R.cells ∧ slots + n ≤ R.slots) (hdg : decode cc pc = .ok (.invokevirtual 59, 3))
    (kk : ∀ (r : Option Nat) (σ1 : XS) (H1 : Heap) (locs1 : List Loc), Qf r σ1 → xR E σ1 H1 → va_S (xA E) s.heap H1 locs1 → W p l e R s m args below meth c H1 locs1 (cells + k) (slots + n) Qz (F0 m (pc + 3) ls (xv E r :: rest))) : W p l e R s m args below meth c H locs cells slots Qz (F0 m pc ls (xv E r0 :: rest)) := by
  subst hr
  obtain ⟨hx, hb, hml, hown, hts, hrt, hlk, hK, hZ⟩ := id cx
  exact x_gor (va_runV (As := []) (rest := rest) (x_fix cx) (MJ13_toString l E th k n σ Qf hw) (cwV 0 hts (lw_V q804 q805 q806 q175 q807) rfl rfl rfl (by decide +kernel) hR) (x_preV cx hR0 hS0 hk (by decide) (q := (RJ13, TJ13, 4)) rfl rfl []) rfl rfl hsize rfl (lv_room (xroom hrest)) hdg hf) hS0 kk
theorem CJ14_length_X4_63 {l : Launch} {p : Program} {e : Env} {R : Room} {s : State} {m : MethodId} {args : Array Value} {below : List Frame} {meth : Method} {c : Code} {H : Heap} {locs : List Loc} {cells slots : Nat} {Qz : State → Prop} {cc : ByteArray} {nL : Nat} {ret : Option FieldType} {E : xx_E} {σ : XS} {pc : Nat} {ls : Array Slot} {rest : List Value} {th : Nat} (cx : xx_X "StruckCounts$Reader" cc nL ret E p s m args meth c) (hR0 : xR E σ H) (hS0 : va_S (xA E) s.heap H locs) {r0 : Option Nat} (hr : r0 = some th) (hk : kd σ th = 22) {Qf : Int32 → XS → Prop} (hw : wJ14_length th σ Qf) (hR : (({ frames := 1, cells := 0, slots := 0, locals := 40 } : Room)).frames + 1 ≤ R.frames ∧ 8 + (1 + 11) + (({ frames := 1, cells := 0, slots := 0, locals := 40 } : Room)).locals ≤ R.locals) (hrest : rest.length ≤ 4) (hsize : ls.size = nL) (hf : cells + 0 ≤ R.cells ∧ slots + 0 ≤ R.slots) (hdg : decode cc pc = .ok (.invokevirtual 63, 3))
    (kk : ∀ (r : Int32) (σ1 : XS) (H1 : Heap) (locs1 : List Loc), Qf r σ1 → xR E σ1 H1 → va_S (xA E) s.heap H1 locs1 → W p l e R s m args below meth c H1 locs1 (cells + 0) (slots + 0) Qz (F0 m (pc + 3) ls (.int r :: rest))) : W p l e R s m args below meth c H locs cells slots Qz (F0 m pc ls (xv E r0 :: rest)) := by
  subst hr
  obtain ⟨hx, hb, hml, hown, hts, hrt, hlk, hK, hZ⟩ := id cx
  exact x_goi (va_runV (As := []) (rest := rest) (x_fix cx) (MJ14_length l E th σ Qf hw) (cwV 0 hts (lw_V q867 q868 q869 q176 q870) rfl rfl rfl (by decide +kernel) hR) (x_preV cx hR0 hS0 hk (by decide) (q := (RJ14, TJ14, 4)) rfl rfl []) rfl rfl hsize rfl (lv_room (xroom hrest)) hdg hf) hS0 kk
theorem CJ14_indexOf_X4_70 {l : Launch} {p : Program} {e : Env} {R : Room} {s : State} {m : MethodId} {args : Array Value} {below : List Frame} {meth : Method} {c : Code} {H : Heap} {locs : List Loc} {cells slots : Nat} {Qz : State → Prop} {cc : ByteArray} {nL : Nat} {ret : Option FieldType} {E : xx_E} {σ : XS} {pc : Nat} {ls : Array Slot} {rest : List Value} {th : Nat} {x1 : Int32} (cx : xx_X "StruckCounts$Reader" cc nL ret E p s m args meth c) (hR0 : xR E σ H) (hS0 : va_S (xA E) s.heap H locs) {r0 : Option Nat} (hr : r0 = some th) (hk : kd σ th = 22) {Qf : Int32 → XS → Prop} (hw : wJ14_indexOf th x1 σ Qf) (hR : (({ frames := 3, cells := 0, slots := 0, locals := 120 } : Room)).frames + 1 ≤ R.frames ∧ 8 + (2 + 11) + (({ frames := 3, cells := 0, slots := 0, locals := 120 } : Room)).locals ≤ R.locals) (hrest : rest.length ≤ 4) (hsize : ls.size = nL) (hf : cells + 0 ≤ R.cells ∧ slots + 0 ≤ R.slots) (hdg : decode cc pc = .ok (.invokevirtual 70, 3))
    (kk : ∀ (r : Int32) (σ1 : XS) (H1 : Heap) (locs1 : List Loc), Qf r σ1 → xR E σ1 H1 → va_S (xA E) s.heap H1 locs1 → W p l e R s m args below meth c H1 locs1 (cells + 0) (slots + 0) Qz (F0 m (pc + 3) ls (.int r :: rest))) : W p l e R s m args below meth c H locs cells slots Qz (F0 m pc ls (.int x1 :: xv E r0 :: rest)) := by
  subst hr
  obtain ⟨hx, hb, hml, hown, hts, hrt, hlk, hK, hZ⟩ := id cx
  exact x_goi (va_runV (As := [.int x1]) (rest := rest) (x_fix cx) (MJ14_indexOf l E th x1 σ Qf hw) (cwV 1 hts (lw_V q876 q877 q878 q176 q879) rfl rfl rfl (by decide +kernel) hR) (x_preV cx hR0 hS0 hk (by decide) (q := (RJ14, TJ14, 4)) rfl rfl [.int x1]) rfl rfl hsize rfl (lv_room (xroom hrest)) hdg hf) hS0 kk
def wX4_goes_284 (Q : XS → Prop) (th : Nat) (t0 : Option Nat) (t1 : Int32) (bc : Nat) (bs : Nat) (σ : XS) : Prop :=
  oc σ t0 4 (fun a1 => xK ≤ a1 ∧ (kd (pfi σ a1 5 t1) th = 4 ∧ (xK ≤ th ∧ (Q (pfi (pfi σ a1 5 t1) th 3 ((fi (pfi σ a1 5 t1) th 3) + (1 : Int32)))))))
set_option maxHeartbeats 4000000 in
theorem BX4_goes_284 {l : Launch} {p : Program} {e : Env} {s : State} {m : MethodId} {args : Array Value} {below : List Frame} {meth : Method} {c : Code} {E : xx_E} {mc ms : Nat} {Q : XS → Prop} (cx : xx_X "StruckCounts$Reader" cX4_goes 2 none E p s m args meth c) : ∀ (th : Nat) (t0 : Option Nat) (t1 : Int32) (bc : Nat) (bs : Nat) (σ : XS), wX4_goes_284 Q th t0 t1 bc bs σ → x_T p l e ({ frames := 6, cells := mc, slots := ms, locals := 240 } : Room) s m args below meth c E (va_Qv Q (fun σ' t => xW E σ' t) (xA E)) mc ms 2 284 bc bs σ [(0, xv E (some th))] [.int t1, xv E t0] := by
  intro th t0 t1 bc bs σ hw H locs ls cells slots hR hS hl hcb hsb
  unfold wX4_goes_284 at hw
  obtain ⟨hx, hb, hml, hown, hts, hrt, hlk, hMK, hZ⟩ := id cx
  obtain ⟨a1, hr1, hk1, hw⟩ := hw
  obtain ⟨hge_a1, hw⟩ := hw
  refine xp_X4_45_4 (v := t1) cx hR hS hr1 hge_a1 hk1 dX4_goes_284 (fun H locs hR hS => ?_)
  refine x_aload_n cx dX4_goes_287 rfl (lv_at hl 0 rfl) ?_
  refine lv_dup hx hb dX4_goes_288 (xv_cat _ _) ?_
  obtain ⟨hk2, hw⟩ := hw
  refine xg_X4_32_4 cx hR rfl hk2 dX4_goes_289 ?_
  refine lv_iconst (v := (1 : Int32)) hx hb dX4_goes_292 (by decide) ?_
  refine lv_iadd hx hb dX4_goes_293 ?_
  obtain ⟨hge_th, hw⟩ := hw
  refine xp_X4_32_4 (v := ((fi (pfi σ a1 5 t1) th 3) + (1 : Int32))) cx hR hS rfl hge_th hk2 dX4_goes_294 (fun H locs hR hS => ?_)
  exact x_vret cx hR hS (xle hcb) (xle hsb) hw dX4_goes_297
def wX4_goes_259 (Q : XS → Prop) (th : Nat) (t0 : Option Nat) (t1 : Int32) (bc : Nat) (bs : Nat) (σ : XS) : Prop :=
  oc σ t0 4 (fun a3 => xK ≤ a3 ∧ (Q (pfi σ a3 5 t1)))
set_option maxHeartbeats 4000000 in
theorem BX4_goes_259 {l : Launch} {p : Program} {e : Env} {s : State} {m : MethodId} {args : Array Value} {below : List Frame} {meth : Method} {c : Code} {E : xx_E} {mc ms : Nat} {Q : XS → Prop} (cx : xx_X "StruckCounts$Reader" cX4_goes 2 none E p s m args meth c) : ∀ (th : Nat) (t0 : Option Nat) (t1 : Int32) (bc : Nat) (bs : Nat) (σ : XS), wX4_goes_259 Q th t0 t1 bc bs σ → x_T p l e ({ frames := 6, cells := mc, slots := ms, locals := 240 } : Room) s m args below meth c E (va_Qv Q (fun σ' t => xW E σ' t) (xA E)) mc ms 2 259 bc bs σ [(0, xv E (some th))] [.int t1, xv E t0] := by
  intro th t0 t1 bc bs σ hw H locs ls cells slots hR hS hl hcb hsb
  unfold wX4_goes_259 at hw
  obtain ⟨hx, hb, hml, hown, hts, hrt, hlk, hMK, hZ⟩ := id cx
  obtain ⟨a3, hr3, hk3, hw⟩ := hw
  obtain ⟨hge_a3, hw⟩ := hw
  refine xp_X4_45_4 (v := t1) cx hR hS hr3 hge_a3 hk3 dX4_goes_259 (fun H locs hR hS => ?_)
  refine lv_goto (tgt := 297) hx hb dX4_goes_262 (by decide) ?_
  exact x_vret cx hR hS (xle hcb) (xle hsb) hw dX4_goes_297
def wX4_goes_224 (Q : XS → Prop) (K174 : Nat → Nat → Nat → XS → Prop) (th : Nat) (t0 : Option Nat) (t1 : Int32) (bc : Nat) (bs : Nat) (σ : XS) : Prop :=
  oc σ t0 4 (fun a4 => xK ≤ a4 ∧ (kd (pfi σ a4 6 t1) th = 4 ∧ (xK ≤ th ∧ (K174 th bc bs (pfi (pfi σ a4 6 t1) th 3 ((fi (pfi σ a4 6 t1) th 3) + (1 : Int32)))))))
set_option maxHeartbeats 4000000 in
theorem BX4_goes_224 {l : Launch} {p : Program} {e : Env} {s : State} {m : MethodId} {args : Array Value} {below : List Frame} {meth : Method} {c : Code} {E : xx_E} {mc ms : Nat} {Q : XS → Prop} {K174 : Nat → Nat → Nat → XS → Prop} (cx : xx_X "StruckCounts$Reader" cX4_goes 2 none E p s m args meth c) (hK174 : ∀ (th : Nat) (bc : Nat) (bs : Nat) (σ : XS), K174 th bc bs σ → x_T p l e ({ frames := 6, cells := mc, slots := ms, locals := 240 } : Room) s m args below meth c E (va_Qv Q (fun σ' t => xW E σ' t) (xA E)) mc ms 2 174 bc bs σ [(0, xv E (some th))] []) : ∀ (th : Nat) (t0 : Option Nat) (t1 : Int32) (bc : Nat) (bs : Nat) (σ : XS), wX4_goes_224 Q K174 th t0 t1 bc bs σ → x_T p l e ({ frames := 6, cells := mc, slots := ms, locals := 240 } : Room) s m args below meth c E (va_Qv Q (fun σ' t => xW E σ' t) (xA E)) mc ms 2 224 bc bs σ [(0, xv E (some th))] [.int t1, xv E t0] := by
  intro th t0 t1 bc bs σ hw H locs ls cells slots hR hS hl hcb hsb
  unfold wX4_goes_224 at hw
  obtain ⟨hx, hb, hml, hown, hts, hrt, hlk, hMK, hZ⟩ := id cx
  obtain ⟨a4, hr4, hk4, hw⟩ := hw
  obtain ⟨hge_a4, hw⟩ := hw
  refine xp_X4_42_4 (v := t1) cx hR hS hr4 hge_a4 hk4 dX4_goes_224 (fun H locs hR hS => ?_)
  refine x_aload_n cx dX4_goes_227 rfl (lv_at hl 0 rfl) ?_
  refine lv_dup hx hb dX4_goes_228 (xv_cat _ _) ?_
  obtain ⟨hk5, hw⟩ := hw
  refine xg_X4_32_4 cx hR rfl hk5 dX4_goes_229 ?_
  refine lv_iconst (v := (1 : Int32)) hx hb dX4_goes_232 (by decide) ?_
  refine lv_iadd hx hb dX4_goes_233 ?_
  obtain ⟨hge_th, hw⟩ := hw
  refine xp_X4_32_4 (v := ((fi (pfi σ a4 6 t1) th 3) + (1 : Int32))) cx hR hS rfl hge_th hk5 dX4_goes_234 (fun H locs hR hS => ?_)
  refine lv_goto (tgt := 174) hx hb dX4_goes_237 (by decide) ?_
  exact hK174 _ _ _ _ hw _ _ _ _ _ hR hS (lv_sub hl [0] rfl) hcb hsb
def wX4_goes_174 (Q : XS → Prop) (K174 : Nat → Nat → Nat → XS → Prop) (th : Nat) (bc : Nat) (bs : Nat) (σ : XS) : Prop :=
  kd σ th = 4 ∧ (wX4_here th σ (fun r6 s6 => wX0_in r6 (48 : Int32) (57 : Int32) s6 (fun r8 s8 => if r8 = 0 then (kd s8 th = 4 ∧ (if ((fi s8 th 3) - (fi s8 th 4)) ≤ (3 : Int32) then (wX4_goes_259 Q th (some th) (2 : Int32) bc bs s8) else (wX4_goes_259 Q th (some th) (4 : Int32) bc bs s8))) else (kd s8 th = 4 ∧ (if (3 : Int32) ≤ ((fi s8 th 3) - (fi s8 th 4)) then (wX4_goes_224 Q K174 th (some th) (fi s8 th 6) bc bs s8) else (wX4_here th s8 (fun r11 s11 => wX4_goes_224 Q K174 th (some th) ((((10 : Int32) * (fi s8 th 6)) + r11) - (48 : Int32)) bc bs s11)))))))
set_option maxHeartbeats 4000000 in
theorem BX4_goes_174 {l : Launch} {p : Program} {e : Env} {s : State} {m : MethodId} {args : Array Value} {below : List Frame} {meth : Method} {c : Code} {E : xx_E} {mc ms : Nat} {Q : XS → Prop} {K174 : Nat → Nat → Nat → XS → Prop} (cx : xx_X "StruckCounts$Reader" cX4_goes 2 none E p s m args meth c) (hK174 : ∀ (th : Nat) (bc : Nat) (bs : Nat) (σ : XS), K174 th bc bs σ → x_T p l e ({ frames := 6, cells := mc, slots := ms, locals := 240 } : Room) s m args below meth c E (va_Qv Q (fun σ' t => xW E σ' t) (xA E)) mc ms 2 174 bc bs σ [(0, xv E (some th))] []) : ∀ (th : Nat) (bc : Nat) (bs : Nat) (σ : XS), wX4_goes_174 Q K174 th bc bs σ → x_T p l e ({ frames := 6, cells := mc, slots := ms, locals := 240 } : Room) s m args below meth c E (va_Qv Q (fun σ' t => xW E σ' t) (xA E)) mc ms 2 174 bc bs σ [(0, xv E (some th))] [] := by
  intro th bc bs σ hw H locs ls cells slots hR hS hl hcb hsb
  unfold wX4_goes_174 at hw
  obtain ⟨hx, hb, hml, hown, hts, hrt, hlk, hMK, hZ⟩ := id cx
  refine x_aload_n cx dX4_goes_174 rfl (lv_at hl 0 rfl) ?_
  obtain ⟨hk7, hw⟩ := hw
  refine CX4_here_X4_35 cx hR hS rfl hk7 hw ⟨Nat.le_of_ble_eq_true rfl, Nat.le_of_ble_eq_true rfl⟩ (Nat.le_of_ble_eq_true rfl) hl.1 ⟨by dsimp only; omega, by dsimp only; omega⟩ dX4_goes_175 (fun r6 s6 H locs hw hR hS => ?_)
  refine lv_bipush (v := (48 : Int32)) hx hb dX4_goes_178 (by decide) ?_
  refine lv_bipush (v := (57 : Int32)) hx hb dX4_goes_180 (by decide) ?_
  refine CX0_in_X4_48 cx hR hS  hw ⟨Nat.le_of_ble_eq_true rfl, Nat.le_of_ble_eq_true rfl⟩ (Nat.le_of_ble_eq_true rfl) hl.1 ⟨by dsimp only; omega, by dsimp only; omega⟩ dX4_goes_182 (fun r8 s8 H locs hw hR hS => ?_)
  refine lv_if_eq (tgt := 240) hx hb dX4_goes_185 (by decide) (fun hc => ?_) (fun hc => ?_)
  · have hw := mm_ip hc hw
    refine x_aload_n cx dX4_goes_240 rfl (lv_at hl 0 rfl) ?_
    refine x_aload_n cx dX4_goes_241 rfl (lv_at hl 0 rfl) ?_
    obtain ⟨hk9, hw⟩ := hw
    refine xg_X4_32_4 cx hR rfl hk9 dX4_goes_242 ?_
    refine x_aload_n cx dX4_goes_245 rfl (lv_at hl 0 rfl) ?_
    refine xg_X4_39_4 cx hR rfl hk9 dX4_goes_246 ?_
    refine lv_isub hx hb dX4_goes_249 ?_
    refine lv_iconst (v := (3 : Int32)) hx hb dX4_goes_250 (by decide) ?_
    refine lv_icmp_le (tgt := 258) hx hb dX4_goes_251 (by decide) (fun hc => ?_) (fun hc => ?_)
    · have hw := mm_ip hc hw
      refine lv_iconst (v := (2 : Int32)) hx hb dX4_goes_258 (by decide) ?_
      exact BX4_goes_259 cx _ _ _ _ _ _ hw _ _ _ _ _ hR hS (lv_sub hl [0] rfl) hcb hsb
    · have hw := mm_in hc hw
      refine lv_iconst (v := (4 : Int32)) hx hb dX4_goes_254 (by decide) ?_
      refine lv_goto (tgt := 259) hx hb dX4_goes_255 (by decide) ?_
      exact BX4_goes_259 cx _ _ _ _ _ _ hw _ _ _ _ _ hR hS (lv_sub hl [0] rfl) hcb hsb
  · have hw := mm_in hc hw
    refine x_aload_n cx dX4_goes_188 rfl (lv_at hl 0 rfl) ?_
    refine x_aload_n cx dX4_goes_189 rfl (lv_at hl 0 rfl) ?_
    obtain ⟨hk10, hw⟩ := hw
    refine xg_X4_32_4 cx hR rfl hk10 dX4_goes_190 ?_
    refine x_aload_n cx dX4_goes_193 rfl (lv_at hl 0 rfl) ?_
    refine xg_X4_39_4 cx hR rfl hk10 dX4_goes_194 ?_
    refine lv_isub hx hb dX4_goes_197 ?_
    refine lv_iconst (v := (3 : Int32)) hx hb dX4_goes_198 (by decide) ?_
    refine lv_icmp_ge (tgt := 220) hx hb dX4_goes_199 (by decide) (fun hc => ?_) (fun hc => ?_)
    · have hw := mm_ip hc hw
      refine x_aload_n cx dX4_goes_220 rfl (lv_at hl 0 rfl) ?_
      refine xg_X4_42_4 cx hR rfl hk10 dX4_goes_221 ?_
      exact BX4_goes_224 cx hK174 _ _ _ _ _ _ hw _ _ _ _ _ hR hS (lv_sub hl [0] rfl) hcb hsb
    · have hw := mm_in hc hw
      refine lv_bipush (v := (10 : Int32)) hx hb dX4_goes_202 (by decide) ?_
      refine x_aload_n cx dX4_goes_204 rfl (lv_at hl 0 rfl) ?_
      refine xg_X4_42_4 cx hR rfl hk10 dX4_goes_205 ?_
      refine lv_imul hx hb dX4_goes_208 ?_
      refine x_aload_n cx dX4_goes_209 rfl (lv_at hl 0 rfl) ?_
      refine CX4_here_X4_35 cx hR hS rfl hk10 hw ⟨Nat.le_of_ble_eq_true rfl, Nat.le_of_ble_eq_true rfl⟩ (Nat.le_of_ble_eq_true rfl) hl.1 ⟨by dsimp only; omega, by dsimp only; omega⟩ dX4_goes_210 (fun r11 s11 H locs hw hR hS => ?_)
      refine lv_iadd hx hb dX4_goes_213 ?_
      refine lv_bipush (v := (48 : Int32)) hx hb dX4_goes_214 (by decide) ?_
      refine lv_isub hx hb dX4_goes_216 ?_
      refine lv_goto (tgt := 224) hx hb dX4_goes_217 (by decide) ?_
      exact BX4_goes_224 cx hK174 _ _ _ _ _ _ hw _ _ _ _ _ hR hS (lv_sub hl [0] rfl) hcb hsb
theorem LX4_goes_174 {l : Launch} {p : Program} {e : Env} {s : State} {m : MethodId} {args : Array Value} {below : List Frame} {meth : Method} {c : Code} {E : xx_E} {mc ms : Nat} {Q : XS → Prop} (cx : xx_X "StruckCounts$Reader" cX4_goes 2 none E p s m args meth c) : ∀ (th : Nat) (bc : Nat) (bs : Nat) (σ : XS), lp4F (wX4_goes_174 Q) th bc bs σ → x_T p l e ({ frames := 6, cells := mc, slots := ms, locals := 240 } : Room) s m args below meth c E (va_Qv Q (fun σ' t => xW E σ' t) (xA E)) mc ms 2 174 bc bs σ [(0, xv E (some th))] [] :=
  lp4F_of (fun K hK => BX4_goes_174 cx hK)
def wX4_goes_154 (Q : XS → Prop) (th : Nat) (t0 : Option Nat) (t1 : Int32) (bc : Nat) (bs : Nat) (σ : XS) : Prop :=
  oc σ t0 4 (fun a12 => xK ≤ a12 ∧ (Q (pfi σ a12 5 t1)))
set_option maxHeartbeats 4000000 in
theorem BX4_goes_154 {l : Launch} {p : Program} {e : Env} {s : State} {m : MethodId} {args : Array Value} {below : List Frame} {meth : Method} {c : Code} {E : xx_E} {mc ms : Nat} {Q : XS → Prop} (cx : xx_X "StruckCounts$Reader" cX4_goes 2 none E p s m args meth c) : ∀ (th : Nat) (t0 : Option Nat) (t1 : Int32) (bc : Nat) (bs : Nat) (σ : XS), wX4_goes_154 Q th t0 t1 bc bs σ → x_T p l e ({ frames := 6, cells := mc, slots := ms, locals := 240 } : Room) s m args below meth c E (va_Qv Q (fun σ' t => xW E σ' t) (xA E)) mc ms 2 154 bc bs σ [(0, xv E (some th))] [.int t1, xv E t0] := by
  intro th t0 t1 bc bs σ hw H locs ls cells slots hR hS hl hcb hsb
  unfold wX4_goes_154 at hw
  obtain ⟨hx, hb, hml, hown, hts, hrt, hlk, hMK, hZ⟩ := id cx
  obtain ⟨a12, hr12, hk12, hw⟩ := hw
  obtain ⟨hge_a12, hw⟩ := hw
  refine xp_X4_45_4 (v := t1) cx hR hS hr12 hge_a12 hk12 dX4_goes_154 (fun H locs hR hS => ?_)
  refine lv_goto (tgt := 297) hx hb dX4_goes_157 (by decide) ?_
  exact x_vret cx hR hS (xle hcb) (xle hsb) hw dX4_goes_297
def wX4_goes_91 (Q : XS → Prop) (K91 : Nat → Option Nat → Nat → Nat → XS → Prop) (th : Nat) (x1 : Option Nat) (bc : Nat) (bs : Nat) (σ : XS) : Prop :=
  kd σ th = 4 ∧ (wX4_here th σ (fun r13 s13 => wX0_in r13 (97 : Int32) (122 : Int32) s13 (fun r15 s15 => if r15 = 0 then (oc s15 x1 23 (fun a17 => ∃ k18 n18 : Nat, k18 ≤ bc ∧ n18 ≤ bs ∧ (wJ13_toString a17 k18 n18 s15 (fun r16 s16 => kd s16 th = 4 ∧ (xK ≤ th ∧ (oc (pfr s16 th 8 r16) (fr (pfr s16 th 8 r16) th 8) 22 (fun a21 => wJ14_length a21 (pfr s16 th 8 r16) (fun r20 s20 => if r20 ≤ (6 : Int32) then (wX4_goes_154 Q th (some th) (1 : Int32) (bc - k18) (bs - n18) s20) else (wX4_goes_154 Q th (some th) (4 : Int32) (bc - k18) (bs - n18) s20))))))))) else (kd s15 th = 4 ∧ (wX4_here th s15 (fun r22 s22 => oc s22 x1 23 (fun a25 => ∃ k26 n26 : Nat, k26 ≤ bc ∧ n26 ≤ bs ∧ (wJ13_append a25 (((r22).toUInt32 % 65536).toInt32) k26 n26 s22 (fun r24 s24 => kd s24 th = 4 ∧ (xK ≤ th ∧ (K91 th x1 (bc - k26) (bs - n26) (pfi s24 th 3 ((fi s24 th 3) + (1 : Int32))))))))))))))
set_option maxHeartbeats 4000000 in
theorem BX4_goes_91 {l : Launch} {p : Program} {e : Env} {s : State} {m : MethodId} {args : Array Value} {below : List Frame} {meth : Method} {c : Code} {E : xx_E} {mc ms : Nat} {Q : XS → Prop} {K91 : Nat → Option Nat → Nat → Nat → XS → Prop} (cx : xx_X "StruckCounts$Reader" cX4_goes 2 none E p s m args meth c) (hK91 : ∀ (th : Nat) (x1 : Option Nat) (bc : Nat) (bs : Nat) (σ : XS), K91 th x1 bc bs σ → x_T p l e ({ frames := 6, cells := mc, slots := ms, locals := 240 } : Room) s m args below meth c E (va_Qv Q (fun σ' t => xW E σ' t) (xA E)) mc ms 2 91 bc bs σ [(0, xv E (some th)), (1, xv E x1)] []) : ∀ (th : Nat) (x1 : Option Nat) (bc : Nat) (bs : Nat) (σ : XS), wX4_goes_91 Q K91 th x1 bc bs σ → x_T p l e ({ frames := 6, cells := mc, slots := ms, locals := 240 } : Room) s m args below meth c E (va_Qv Q (fun σ' t => xW E σ' t) (xA E)) mc ms 2 91 bc bs σ [(0, xv E (some th)), (1, xv E x1)] [] := by
  intro th x1 bc bs σ hw H locs ls cells slots hR hS hl hcb hsb
  unfold wX4_goes_91 at hw
  obtain ⟨hx, hb, hml, hown, hts, hrt, hlk, hMK, hZ⟩ := id cx
  refine x_aload_n cx dX4_goes_91 rfl (lv_at hl 0 rfl) ?_
  obtain ⟨hk14, hw⟩ := hw
  refine CX4_here_X4_35 cx hR hS rfl hk14 hw ⟨Nat.le_of_ble_eq_true rfl, Nat.le_of_ble_eq_true rfl⟩ (Nat.le_of_ble_eq_true rfl) hl.1 ⟨by dsimp only; omega, by dsimp only; omega⟩ dX4_goes_92 (fun r13 s13 H locs hw hR hS => ?_)
  refine lv_bipush (v := (97 : Int32)) hx hb dX4_goes_95 (by decide) ?_
  refine lv_bipush (v := (122 : Int32)) hx hb dX4_goes_97 (by decide) ?_
  refine CX0_in_X4_48 cx hR hS  hw ⟨Nat.le_of_ble_eq_true rfl, Nat.le_of_ble_eq_true rfl⟩ (Nat.le_of_ble_eq_true rfl) hl.1 ⟨by dsimp only; omega, by dsimp only; omega⟩ dX4_goes_99 (fun r15 s15 H locs hw hR hS => ?_)
  refine lv_if_eq (tgt := 128) hx hb dX4_goes_102 (by decide) (fun hc => ?_) (fun hc => ?_)
  · have hw := mm_ip hc hw
    refine x_aload_n cx dX4_goes_128 rfl (lv_at hl 0 rfl) ?_
    refine x_aload_n cx dX4_goes_129 rfl (lv_at hl 1 rfl) ?_
    obtain ⟨a17, hr17, hk17, hw⟩ := hw
    obtain ⟨k18, n18, hb1, hb2, hw⟩ := hw
    refine CJ13_toString_X4_59 cx hR hS hr17 hk17 hw ⟨Nat.le_of_ble_eq_true rfl, Nat.le_of_ble_eq_true rfl⟩ (Nat.le_of_ble_eq_true rfl) hl.1 ⟨by dsimp only; omega, by dsimp only; omega⟩ dX4_goes_130 (fun r16 s16 H locs hw hR hS => ?_)
    have hcb := xadd hb1 hcb
    have hsb := xadd hb2 hsb
    obtain ⟨hk19, hw⟩ := hw
    obtain ⟨hge_th, hw⟩ := hw
    refine xp_X4_11_4 (v := r16) cx hR hS rfl hge_th hk19 dX4_goes_133 (fun H locs hR hS => ?_)
    refine x_aload_n cx dX4_goes_136 rfl (lv_at hl 0 rfl) ?_
    refine x_aload_n cx dX4_goes_137 rfl (lv_at hl 0 rfl) ?_
    refine xg_X4_11_4 cx hR rfl hk19 dX4_goes_138 ?_
    obtain ⟨a21, hr21, hk21, hw⟩ := hw
    refine CJ14_length_X4_63 cx hR hS hr21 hk21 hw ⟨Nat.le_of_ble_eq_true rfl, Nat.le_of_ble_eq_true rfl⟩ (Nat.le_of_ble_eq_true rfl) hl.1 ⟨by dsimp only; omega, by dsimp only; omega⟩ dX4_goes_141 (fun r20 s20 H locs hw hR hS => ?_)
    refine lv_bipush (v := (6 : Int32)) hx hb dX4_goes_144 (by decide) ?_
    refine lv_icmp_le (tgt := 153) hx hb dX4_goes_146 (by decide) (fun hc => ?_) (fun hc => ?_)
    · have hw := mm_ip hc hw
      refine lv_iconst (v := (1 : Int32)) hx hb dX4_goes_153 (by decide) ?_
      exact BX4_goes_154 cx _ _ _ _ _ _ hw _ _ _ _ _ hR hS (lv_sub hl [0] rfl) hcb hsb
    · have hw := mm_in hc hw
      refine lv_iconst (v := (4 : Int32)) hx hb dX4_goes_149 (by decide) ?_
      refine lv_goto (tgt := 154) hx hb dX4_goes_150 (by decide) ?_
      exact BX4_goes_154 cx _ _ _ _ _ _ hw _ _ _ _ _ hR hS (lv_sub hl [0] rfl) hcb hsb
  · have hw := mm_in hc hw
    refine x_aload_n cx dX4_goes_105 rfl (lv_at hl 1 rfl) ?_
    refine x_aload_n cx dX4_goes_106 rfl (lv_at hl 0 rfl) ?_
    obtain ⟨hk23, hw⟩ := hw
    refine CX4_here_X4_35 cx hR hS rfl hk23 hw ⟨Nat.le_of_ble_eq_true rfl, Nat.le_of_ble_eq_true rfl⟩ (Nat.le_of_ble_eq_true rfl) hl.1 ⟨by dsimp only; omega, by dsimp only; omega⟩ dX4_goes_107 (fun r22 s22 H locs hw hR hS => ?_)
    refine lv_i2c hx hb dX4_goes_110 rfl ?_
    obtain ⟨a25, hr25, hk25, hw⟩ := hw
    obtain ⟨k26, n26, hb1, hb2, hw⟩ := hw
    refine CJ13_append_X4_55 cx hR hS hr25 hk25 hw ⟨Nat.le_of_ble_eq_true rfl, Nat.le_of_ble_eq_true rfl⟩ (Nat.le_of_ble_eq_true rfl) hl.1 ⟨by dsimp only; omega, by dsimp only; omega⟩ dX4_goes_111 (fun r24 s24 H locs hw hR hS => ?_)
    have hcb := xadd hb1 hcb
    have hsb := xadd hb2 hsb
    refine lv_pop hx hb dX4_goes_114 (xv_cat _ _) ?_
    refine x_aload_n cx dX4_goes_115 rfl (lv_at hl 0 rfl) ?_
    refine lv_dup hx hb dX4_goes_116 (xv_cat _ _) ?_
    obtain ⟨hk27, hw⟩ := hw
    refine xg_X4_32_4 cx hR rfl hk27 dX4_goes_117 ?_
    refine lv_iconst (v := (1 : Int32)) hx hb dX4_goes_120 (by decide) ?_
    refine lv_iadd hx hb dX4_goes_121 ?_
    obtain ⟨hge_th, hw⟩ := hw
    refine xp_X4_32_4 (v := ((fi s24 th 3) + (1 : Int32))) cx hR hS rfl hge_th hk27 dX4_goes_122 (fun H locs hR hS => ?_)
    refine lv_goto (tgt := 91) hx hb dX4_goes_125 (by decide) ?_
    exact hK91 _ _ _ _ _ hw _ _ _ _ _ hR hS (lv_sub hl [0, 1] rfl) hcb hsb
theorem LX4_goes_91 {l : Launch} {p : Program} {e : Env} {s : State} {m : MethodId} {args : Array Value} {below : List Frame} {meth : Method} {c : Code} {E : xx_E} {mc ms : Nat} {Q : XS → Prop} (cx : xx_X "StruckCounts$Reader" cX4_goes 2 none E p s m args meth c) : ∀ (th : Nat) (x1 : Option Nat) (bc : Nat) (bs : Nat) (σ : XS), lp5F (wX4_goes_91 Q) th x1 bc bs σ → x_T p l e ({ frames := 6, cells := mc, slots := ms, locals := 240 } : Room) s m args below meth c E (va_Qv Q (fun σ' t => xW E σ' t) (xA E)) mc ms 2 91 bc bs σ [(0, xv E (some th)), (1, xv E x1)] [] :=
  lp5F_of (fun K hK => BX4_goes_91 cx hK)
def wX4_goes_18 (Q : XS → Prop) (K0 : Nat → Nat → Nat → XS → Prop) (th : Nat) (bc : Nat) (bs : Nat) (σ : XS) : Prop :=
  kd σ th = 4 ∧ (xK ≤ th ∧ (K0 th bc bs (pfi σ th 3 ((fi σ th 3) + (1 : Int32)))))
set_option maxHeartbeats 4000000 in
theorem BX4_goes_18 {l : Launch} {p : Program} {e : Env} {s : State} {m : MethodId} {args : Array Value} {below : List Frame} {meth : Method} {c : Code} {E : xx_E} {mc ms : Nat} {Q : XS → Prop} {K0 : Nat → Nat → Nat → XS → Prop} (cx : xx_X "StruckCounts$Reader" cX4_goes 2 none E p s m args meth c) (hK0 : ∀ (th : Nat) (bc : Nat) (bs : Nat) (σ : XS), K0 th bc bs σ → x_T p l e ({ frames := 6, cells := mc, slots := ms, locals := 240 } : Room) s m args below meth c E (va_Qv Q (fun σ' t => xW E σ' t) (xA E)) mc ms 2 0 bc bs σ [(0, xv E (some th))] []) : ∀ (th : Nat) (bc : Nat) (bs : Nat) (σ : XS), wX4_goes_18 Q K0 th bc bs σ → x_T p l e ({ frames := 6, cells := mc, slots := ms, locals := 240 } : Room) s m args below meth c E (va_Qv Q (fun σ' t => xW E σ' t) (xA E)) mc ms 2 18 bc bs σ [(0, xv E (some th))] [] := by
  intro th bc bs σ hw H locs ls cells slots hR hS hl hcb hsb
  unfold wX4_goes_18 at hw
  obtain ⟨hx, hb, hml, hown, hts, hrt, hlk, hMK, hZ⟩ := id cx
  refine x_aload_n cx dX4_goes_18 rfl (lv_at hl 0 rfl) ?_
  refine lv_dup hx hb dX4_goes_19 (xv_cat _ _) ?_
  obtain ⟨hk28, hw⟩ := hw
  refine xg_X4_32_4 cx hR rfl hk28 dX4_goes_20 ?_
  refine lv_iconst (v := (1 : Int32)) hx hb dX4_goes_23 (by decide) ?_
  refine lv_iadd hx hb dX4_goes_24 ?_
  obtain ⟨hge_th, hw⟩ := hw
  refine xp_X4_32_4 (v := ((fi σ th 3) + (1 : Int32))) cx hR hS rfl hge_th hk28 dX4_goes_25 (fun H locs hR hS => ?_)
  refine lv_goto (tgt := 0) hx hb dX4_goes_28 (by decide) ?_
  exact hK0 _ _ _ _ hw _ _ _ _ _ hR hS (lv_sub hl [0] rfl) hcb hsb
def wX4_goes_0 (Q : XS → Prop) (K0 : Nat → Nat → Nat → XS → Prop) (th : Nat) (bc : Nat) (bs : Nat) (σ : XS) : Prop :=
  kd σ th = 4 ∧ (wX4_here th σ (fun r29 s29 => if r29 = (32 : Int32) then (wX4_goes_18 Q K0 th bc bs s29) else (kd s29 th = 4 ∧ (wX4_here th s29 (fun r31 s31 => if r31 = (10 : Int32) then (wX4_goes_18 Q K0 th bc bs s31) else (kd s31 th = 4 ∧ (xK ≤ th ∧ (if (fi (pfi (pfr (pfi s31 th 4 (fi s31 th 3)) th 8 (some 0)) th 6 (0 : Int32)) th 3) = (fi (pfi (pfr (pfi s31 th 4 (fi s31 th 3)) th 8 (some 0)) th 6 (0 : Int32)) th 1) then (Q (pfi (pfi (pfr (pfi s31 th 4 (fi s31 th 3)) th 8 (some 0)) th 6 (0 : Int32)) th 5 (0 : Int32))) else (wX4_here th (pfi (pfr (pfi s31 th 4 (fi s31 th 3)) th 8 (some 0)) th 6 (0 : Int32)) (fun r34 s34 => wX0_in r34 (97 : Int32) (122 : Int32) s34 (fun r35 s35 => if r35 = 0 then (kd s35 th = 4 ∧ (wX4_here th s35 (fun r36 s36 => wX0_in r36 (48 : Int32) (57 : Int32) s36 (fun r38 s38 => if r38 = 0 then (kd s38 th = 4 ∧ (wX4_here th s38 (fun r39 s39 => kd s39 2 = 22 ∧ (wJ14_indexOf 2 (((r39).toUInt32 % 65536).toInt32) s39 (fun r41 s41 => if r41 < 0 then (wX4_goes_284 Q th (some th) (4 : Int32) bc bs s41) else (wX4_goes_284 Q th (some th) (3 : Int32) bc bs s41)))))) else (lp4F (wX4_goes_174 Q) th bc bs s38))))) else (1 ≤ bc ∧ 4 ≤ bs ∧ (kd (xal s35 23 0) (xn s35) = 23 ∧ (∃ k45 n45 : Nat, k45 ≤ (bc - 1) ∧ n45 ≤ (bs - 4) ∧ (wJ13_init (xn s35) k45 n45 (xal s35 23 0) (fun s43 => lp5F (wX4_goes_91 Q) th (some (xn s35)) ((bc - 1) - k45) ((bs - 4) - n45) s43))))))))))))))))
set_option maxHeartbeats 4000000 in
theorem BX4_goes_0 {l : Launch} {p : Program} {e : Env} {s : State} {m : MethodId} {args : Array Value} {below : List Frame} {meth : Method} {c : Code} {E : xx_E} {mc ms : Nat} {Q : XS → Prop} {K0 : Nat → Nat → Nat → XS → Prop} (cx : xx_X "StruckCounts$Reader" cX4_goes 2 none E p s m args meth c) (hK0 : ∀ (th : Nat) (bc : Nat) (bs : Nat) (σ : XS), K0 th bc bs σ → x_T p l e ({ frames := 6, cells := mc, slots := ms, locals := 240 } : Room) s m args below meth c E (va_Qv Q (fun σ' t => xW E σ' t) (xA E)) mc ms 2 0 bc bs σ [(0, xv E (some th))] []) : ∀ (th : Nat) (bc : Nat) (bs : Nat) (σ : XS), wX4_goes_0 Q K0 th bc bs σ → x_T p l e ({ frames := 6, cells := mc, slots := ms, locals := 240 } : Room) s m args below meth c E (va_Qv Q (fun σ' t => xW E σ' t) (xA E)) mc ms 2 0 bc bs σ [(0, xv E (some th))] [] := by
  intro th bc bs σ hw H locs ls cells slots hR hS hl hcb hsb
  unfold wX4_goes_0 at hw
  obtain ⟨hx, hb, hml, hown, hts, hrt, hlk, hMK, hZ⟩ := id cx
  refine x_aload_n cx dX4_goes_0 rfl (lv_at hl 0 rfl) ?_
  obtain ⟨hk30, hw⟩ := hw
  refine CX4_here_X4_35 cx hR hS rfl hk30 hw ⟨Nat.le_of_ble_eq_true rfl, Nat.le_of_ble_eq_true rfl⟩ (Nat.le_of_ble_eq_true rfl) hl.1 ⟨by dsimp only; omega, by dsimp only; omega⟩ dX4_goes_1 (fun r29 s29 H locs hw hR hS => ?_)
  refine lv_bipush (v := (32 : Int32)) hx hb dX4_goes_4 (by decide) ?_
  refine lv_icmp_eq (tgt := 18) hx hb dX4_goes_6 (by decide) (fun hc => ?_) (fun hc => ?_)
  · have hw := mm_ip hc hw
    exact BX4_goes_18 cx hK0 _ _ _ _ hw _ _ _ _ _ hR hS (lv_sub hl [0] rfl) hcb hsb
  · have hw := mm_in hc hw
    refine x_aload_n cx dX4_goes_9 rfl (lv_at hl 0 rfl) ?_
    obtain ⟨hk32, hw⟩ := hw
    refine CX4_here_X4_35 cx hR hS rfl hk32 hw ⟨Nat.le_of_ble_eq_true rfl, Nat.le_of_ble_eq_true rfl⟩ (Nat.le_of_ble_eq_true rfl) hl.1 ⟨by dsimp only; omega, by dsimp only; omega⟩ dX4_goes_10 (fun r31 s31 H locs hw hR hS => ?_)
    refine lv_bipush (v := (10 : Int32)) hx hb dX4_goes_13 (by decide) ?_
    refine lv_icmp_ne (tgt := 31) hx hb dX4_goes_15 (by decide) (fun hc => ?_) (fun hc => ?_)
    · have hw := mm_in hc hw
      refine x_aload_n cx dX4_goes_31 rfl (lv_at hl 0 rfl) ?_
      refine x_aload_n cx dX4_goes_32 rfl (lv_at hl 0 rfl) ?_
      obtain ⟨hk33, hw⟩ := hw
      refine xg_X4_32_4 cx hR rfl hk33 dX4_goes_33 ?_
      obtain ⟨hge_th, hw⟩ := hw
      refine xp_X4_39_4 (v := (fi s31 th 3)) cx hR hS rfl hge_th hk33 dX4_goes_36 (fun H locs hR hS => ?_)
      refine x_aload_n cx dX4_goes_39 rfl (lv_at hl 0 rfl) ?_
      refine x_ldcS cx 0 (by decide) rfl rfl dX4_goes_40 ?_
      refine xp_X4_11_4 (v := (some 0)) cx hR hS rfl hge_th hk33 dX4_goes_42 (fun H locs hR hS => ?_)
      refine x_aload_n cx dX4_goes_45 rfl (lv_at hl 0 rfl) ?_
      refine lv_iconst (v := (0 : Int32)) hx hb dX4_goes_46 (by decide) ?_
      refine xp_X4_42_4 (v := (0 : Int32)) cx hR hS rfl hge_th hk33 dX4_goes_47 (fun H locs hR hS => ?_)
      refine x_aload_n cx dX4_goes_50 rfl (lv_at hl 0 rfl) ?_
      refine xg_X4_32_4 cx hR rfl hk33 dX4_goes_51 ?_
      refine x_aload_n cx dX4_goes_54 rfl (lv_at hl 0 rfl) ?_
      refine xg_X4_21_4 cx hR rfl hk33 dX4_goes_55 ?_
      refine lv_icmp_ne (tgt := 69) hx hb dX4_goes_58 (by decide) (fun hc => ?_) (fun hc => ?_)
      · have hw := mm_in hc hw
        refine x_aload_n cx dX4_goes_69 rfl (lv_at hl 0 rfl) ?_
        refine CX4_here_X4_35 cx hR hS rfl hk33 hw ⟨Nat.le_of_ble_eq_true rfl, Nat.le_of_ble_eq_true rfl⟩ (Nat.le_of_ble_eq_true rfl) hl.1 ⟨by dsimp only; omega, by dsimp only; omega⟩ dX4_goes_70 (fun r34 s34 H locs hw hR hS => ?_)
        refine lv_bipush (v := (97 : Int32)) hx hb dX4_goes_73 (by decide) ?_
        refine lv_bipush (v := (122 : Int32)) hx hb dX4_goes_75 (by decide) ?_
        refine CX0_in_X4_48 cx hR hS  hw ⟨Nat.le_of_ble_eq_true rfl, Nat.le_of_ble_eq_true rfl⟩ (Nat.le_of_ble_eq_true rfl) hl.1 ⟨by dsimp only; omega, by dsimp only; omega⟩ dX4_goes_77 (fun r35 s35 H locs hw hR hS => ?_)
        refine lv_if_eq (tgt := 160) hx hb dX4_goes_80 (by decide) (fun hc => ?_) (fun hc => ?_)
        · have hw := mm_ip hc hw
          refine x_aload_n cx dX4_goes_160 rfl (lv_at hl 0 rfl) ?_
          obtain ⟨hk37, hw⟩ := hw
          refine CX4_here_X4_35 cx hR hS rfl hk37 hw ⟨Nat.le_of_ble_eq_true rfl, Nat.le_of_ble_eq_true rfl⟩ (Nat.le_of_ble_eq_true rfl) hl.1 ⟨by dsimp only; omega, by dsimp only; omega⟩ dX4_goes_161 (fun r36 s36 H locs hw hR hS => ?_)
          refine lv_bipush (v := (48 : Int32)) hx hb dX4_goes_164 (by decide) ?_
          refine lv_bipush (v := (57 : Int32)) hx hb dX4_goes_166 (by decide) ?_
          refine CX0_in_X4_48 cx hR hS  hw ⟨Nat.le_of_ble_eq_true rfl, Nat.le_of_ble_eq_true rfl⟩ (Nat.le_of_ble_eq_true rfl) hl.1 ⟨by dsimp only; omega, by dsimp only; omega⟩ dX4_goes_168 (fun r38 s38 H locs hw hR hS => ?_)
          refine lv_if_eq (tgt := 265) hx hb dX4_goes_171 (by decide) (fun hc => ?_) (fun hc => ?_)
          · have hw := mm_ip hc hw
            refine x_aload_n cx dX4_goes_265 rfl (lv_at hl 0 rfl) ?_
            refine x_ldcS cx 1 (by decide) rfl rfl dX4_goes_266 ?_
            refine x_aload_n cx dX4_goes_268 rfl (lv_at hl 0 rfl) ?_
            obtain ⟨hk40, hw⟩ := hw
            refine CX4_here_X4_35 cx hR hS rfl hk40 hw ⟨Nat.le_of_ble_eq_true rfl, Nat.le_of_ble_eq_true rfl⟩ (Nat.le_of_ble_eq_true rfl) hl.1 ⟨by dsimp only; omega, by dsimp only; omega⟩ dX4_goes_269 (fun r39 s39 H locs hw hR hS => ?_)
            refine lv_i2c hx hb dX4_goes_272 rfl ?_
            obtain ⟨hk42, hw⟩ := hw
            refine CJ14_indexOf_X4_70 cx hR hS rfl hk42 hw ⟨Nat.le_of_ble_eq_true rfl, Nat.le_of_ble_eq_true rfl⟩ (Nat.le_of_ble_eq_true rfl) hl.1 ⟨by dsimp only; omega, by dsimp only; omega⟩ dX4_goes_273 (fun r41 s41 H locs hw hR hS => ?_)
            refine lv_if_lt (tgt := 283) hx hb dX4_goes_276 (by decide) (fun hc => ?_) (fun hc => ?_)
            · have hw := mm_ip hc hw
              refine lv_iconst (v := (4 : Int32)) hx hb dX4_goes_283 (by decide) ?_
              exact BX4_goes_284 cx _ _ _ _ _ _ hw _ _ _ _ _ hR hS (lv_sub hl [0] rfl) hcb hsb
            · have hw := mm_in hc hw
              refine lv_iconst (v := (3 : Int32)) hx hb dX4_goes_279 (by decide) ?_
              refine lv_goto (tgt := 284) hx hb dX4_goes_280 (by decide) ?_
              exact BX4_goes_284 cx _ _ _ _ _ _ hw _ _ _ _ _ hR hS (lv_sub hl [0] rfl) hcb hsb
          · have hw := mm_in hc hw
            exact LX4_goes_174 cx _ _ _ _ hw _ _ _ _ _ hR hS (lv_sub hl [0] rfl) hcb hsb
        · have hw := mm_in hc hw
          obtain ⟨hb1, hb2, hw⟩ := hw
          refine xn_X4_52 cx hR hS (by dsimp only; omega) (by dsimp only; omega) dX4_goes_83 (fun H hR hS => ?_)
          have hcb := xadd hb1 hcb
          have hsb := xadd hb2 hsb
          refine lv_dup hx hb dX4_goes_86 (xv_cat _ _) ?_
          obtain ⟨hk44, hw⟩ := hw
          obtain ⟨k45, n45, hb1, hb2, hw⟩ := hw
          refine CJ13_init_X4_54 cx hR hS rfl hk44 hw ⟨Nat.le_of_ble_eq_true rfl, Nat.le_of_ble_eq_true rfl⟩ (Nat.le_of_ble_eq_true rfl) hl.1 ⟨by dsimp only; omega, by dsimp only; omega⟩ dX4_goes_87 (fun s43 H locs hw hR hS => ?_)
          have hcb := xadd hb1 hcb
          have hsb := xadd hb2 hsb
          refine x_astore_n (i := 1) (r := (some (xn s35))) (lv' := [(1, xv E (some (xn s35))), (0, xv E (some th))]) cx dX4_goes_90 rfl hl (by decide) (by simp [xv_cat]) (fun ls hl => ?_)
          exact LX4_goes_91 cx _ _ _ _ _ hw _ _ _ _ _ hR hS (lv_sub hl [1, 0] rfl) hcb hsb
      · have hw := mm_ip hc hw
        refine x_aload_n cx dX4_goes_61 rfl (lv_at hl 0 rfl) ?_
        refine lv_iconst (v := (0 : Int32)) hx hb dX4_goes_62 (by decide) ?_
        refine xp_X4_45_4 (v := (0 : Int32)) cx hR hS rfl hge_th hk33 dX4_goes_63 (fun H locs hR hS => ?_)
        refine lv_goto (tgt := 297) hx hb dX4_goes_66 (by decide) ?_
        exact x_vret cx hR hS (xle hcb) (xle hsb) hw dX4_goes_297
    · have hw := mm_ip hc hw
      exact BX4_goes_18 cx hK0 _ _ _ _ hw _ _ _ _ _ hR hS (lv_sub hl [0] rfl) hcb hsb
theorem LX4_goes_0 {l : Launch} {p : Program} {e : Env} {s : State} {m : MethodId} {args : Array Value} {below : List Frame} {meth : Method} {c : Code} {E : xx_E} {mc ms : Nat} {Q : XS → Prop} (cx : xx_X "StruckCounts$Reader" cX4_goes 2 none E p s m args meth c) : ∀ (th : Nat) (bc : Nat) (bs : Nat) (σ : XS), lp4F (wX4_goes_0 Q) th bc bs σ → x_T p l e ({ frames := 6, cells := mc, slots := ms, locals := 240 } : Room) s m args below meth c E (va_Qv Q (fun σ' t => xW E σ' t) (xA E)) mc ms 2 0 bc bs σ [(0, xv E (some th))] [] :=
  lp4F_of (fun K hK => BX4_goes_0 cx hK)
def wX4_goes (th : Nat) (bc : Nat) (bs : Nat) (σ : XS) (Q : XS → Prop) : Prop :=
  lp4F (wX4_goes_0 Q) th bc bs σ
set_option maxHeartbeats 4000000 in
theorem MX4_goes (l : Launch) (E : xx_E) (th : Nat) (bc : Nat) (bs : Nat) (σ : XS) (Q : XS → Prop) (hw : wX4_goes th bc bs σ Q) : xx_Mv l yX4_goes (ws_ yX4_goes cX4_goes 2 none) ({ frames := 6, cells := bc, slots := bs, locals := 240 } : Room) E [xv E (some th)] σ Q bc bs := by
  refine x_of (own := "StruckCounts$Reader") (by decide +kernel) rfl ?_
  intro p e s m args below meth c cx hR ha hnm
  refine x_entry [xv E (some th)] 2 [(0, xv E (some th))] ha (by simp [lg_sl, xv_cat, vc_i, vc_j, vc_f]) (by simp [lv_args, xv_cat, vc_i, vc_j, vc_f]) (fun ls hl => ?_)
  have hS : va_S (xA E) s.heap s.heap [] := va_S.rf
  have hcb : 0 + bc ≤ bc := Nat.le_of_eq (Nat.zero_add _)
  have hsb : 0 + bs ≤ bs := Nat.le_of_eq (Nat.zero_add _)
  unfold wX4_goes at hw
  obtain ⟨hx, hb, hml, hown, hts, hrt, hlk, hMK, hZ⟩ := id cx
  exact LX4_goes_0 cx _ _ _ _ hw _ _ _ _ _ hR hS (lv_sub hl [0] rfl) hcb hsb
