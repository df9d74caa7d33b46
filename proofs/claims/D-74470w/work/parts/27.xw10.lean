set_option maxRecDepth 100000
-- X0_add
theorem xg_X0_340_3 {l : Launch} {p : Program} {e : Env} {R : Room} {s : State} {m : MethodId} {args : Array Value} {below : List Frame} {meth : Method} {c : Code} {H : Heap} {locs : List Loc} {cells slots : Nat} {Qz : State → Prop} {cc : ByteArray} {nL : Nat} {ret : Option FieldType} {E : xx_E} {σ : XS} {pc : Nat} {ls : Array Slot} {rest : List Value} (cx : xx_X "StruckCounts" cc nL ret E p s m args meth c) (hR : xR E σ H) {a : Nat} {r : Option Nat} (hr : r = some a) (hk : kd σ a = 3) (hdg : decode cc pc = .ok (.getfield 340, 3)) (kk : W p l e R s m args below meth c H locs cells slots Qz (F0 m (pc + 3) ls (.int (fi σ a 11) :: rest))) : W p l e R s m args below meth c H locs cells slots Qz (F0 m pc ls (xv E r :: rest)) :=
  x_getN (ci := 2) cx hR hr hk (by decide) rfl in_X2 11 (by decide) (xx_nf_mem (i := 19) rfl) (fun _ h => h) (v := .int (fi σ a 11)) rfl hdg kk
theorem xp_X0_136_3 {l : Launch} {p : Program} {e : Env} {R : Room} {s : State} {m : MethodId} {args : Array Value} {below : List Frame} {meth : Method} {c : Code} {H : Heap} {locs : List Loc} {cells slots : Nat} {Qz : State → Prop} {cc : ByteArray} {nL : Nat} {ret : Option FieldType} {E : xx_E} {σ : XS} {pc : Nat} {ls : Array Slot} {rest : List Value} (cx : xx_X "StruckCounts" cc nL ret E p s m args meth c) (hR : xR E σ H) (hS0 : va_S (xA E) s.heap H locs) {a : Nat} {r : Option Nat} {v : Int32} (hr : r = some a) (ha : xK ≤ a) (hk : kd σ a = 3) (hdg : decode cc pc = .ok (.putfield 136, 3)) (kk : ∀ (H1 : Heap) (locs1 : List Loc), xR E (pfi σ a 9 v) H1 → va_S (xA E) s.heap H1 locs1 → W p l e R s m args below meth c H1 locs1 cells slots Qz (F0 m (pc + 3) ls rest)) : W p l e R s m args below meth c H locs cells slots Qz (F0 m pc ls (.int v :: xv E r :: rest)) :=
  x_put (ci := 2) cx hR hS0 hr ha hk (by decide) rfl in_X2 tyX2 tyX2_ok nmX2 9 (by decide) (Or.inr (Or.inr ⟨_, (xx_nf_mem (i := 17) rfl), rfl⟩)) (fun _ h => h) rfl rfl (xput_i rfl) hdg kk
theorem CX2_lays_X0_343 {l : Launch} {p : Program} {e : Env} {R : Room} {s : State} {m : MethodId} {args : Array Value} {below : List Frame} {meth : Method} {c : Code} {H : Heap} {locs : List Loc} {cells slots : Nat} {Qz : State → Prop} {cc : ByteArray} {nL : Nat} {ret : Option FieldType} {E : xx_E} {σ : XS} {pc : Nat} {ls : Array Slot} {rest : List Value} {th : Nat} {x1 : Int32} {x2 : Int32} {x3 : Int32} {x4 : Int32} {x5 : Int32} (cx : xx_X "StruckCounts" cc nL ret E p s m args meth c) (hR0 : xR E σ H) (hS0 : va_S (xA E) s.heap H locs) {r0 : Option Nat} (hr : r0 = some th) (hk : kd σ th = 3) {Qf : XS → Prop} (hw : wX2_lays th x1 x2 x3 x4 x5 σ Qf) (hR : (({ frames := 0, cells := 0, slots := 0, locals := 0 } : Room)).frames + 1 ≤ R.frames ∧ 8 + (6 + 11) + (({ frames := 0, cells := 0, slots := 0, locals := 0 } : Room)).locals ≤ R.locals) (hrest : rest.length ≤ 4) (hsize : ls.size = nL) (hf : cells + 0 ≤ R.cells ∧ slots + 0 ≤ R.slots) (hdg : decode cc pc = .ok (.invokevirtual 343, 3))
    (kk : ∀ (σ1 : XS) (H1 : Heap) (locs1 : List Loc), Qf σ1 → xR E σ1 H1 → va_S (xA E) s.heap H1 locs1 → W p l e R s m args below meth c H1 locs1 (cells + 0) (slots + 0) Qz (F0 m (pc + 3) ls rest)) : W p l e R s m args below meth c H locs cells slots Qz (F0 m pc ls (.int x5 :: .int x4 :: .int x3 :: .int x2 :: .int x1 :: xv E r0 :: rest)) := by
  subst hr
  obtain ⟨hx, hb, hml, hown, hts, hrt, hlk, hK, hZ⟩ := id cx
  exact x_gov (va_runV (As := [.int x1, .int x2, .int x3, .int x4, .int x5]) (rest := rest) (x_fix cx) (MX2_lays l E th x1 x2 x3 x4 x5 σ Qf hw) (cwV 5 hts (lw_V q2102 q545 q546 q168 q547) rfl rfl rfl (by decide +kernel) hR) (x_preV cx hR0 hS0 hk (by decide) (q := (RX2, TX2, 13)) rfl rfl [.int x1, .int x2, .int x3, .int x4, .int x5]) rfl rfl hsize rfl (lv_room (xroom hrest)) hdg hf) hS0 kk
def wX0_add (th : Nat) (x1 : Int32) (x2 : Int32) (x3 : Int32) (σ : XS) (Q : Int32 → XS → Prop) : Prop :=
  kd σ th = 1 ∧ (wX0_isCount th x1 σ (fun r1 s1 => if r1 = 0 then (Q (-1 : Int32) s1) else (wX0_in x2 (0 : Int32) (999 : Int32) s1 (fun r3 s3 => if r3 = 0 then (Q (-1 : Int32) s3) else (wX0_in x3 (0 : Int32) (999 : Int32) s3 (fun r4 s4 => if r4 = 0 then (Q (-1 : Int32) s4) else (kd s4 th = 1 ∧ (oc s4 (fr s4 th 6) 3 (fun a6 => if (fi s4 a6 9) = (8 : Int32) then (Q (-2 : Int32) s4) else (wX0_keeps th s4 (fun s7 => kd s7 th = 1 ∧ (oc s7 (fr s7 th 6) 3 (fun a9 => wX2_lays a9 (fi s7 a9 9) x1 x2 x3 (fi s7 a9 11) s7 (fun s10 => kd s10 th = 1 ∧ (oc s10 (fr s10 th 6) 3 (fun a12 => xK ≤ a12 ∧ (oc (pfi s10 a12 9 ((fi s10 a12 9) + (1 : Int32))) (fr (pfi s10 a12 9 ((fi s10 a12 9) + (1 : Int32))) th 6) 3 (fun a13 => Q ((fi (pfi s10 a12 9 ((fi s10 a12 9) + (1 : Int32))) a13 9) - (1 : Int32)) (pfi s10 a12 9 ((fi s10 a12 9) + (1 : Int32)))))))))))))))))))))
set_option maxHeartbeats 4000000 in
theorem MX0_add (l : Launch) (E : xx_E) (th : Nat) (x1 : Int32) (x2 : Int32) (x3 : Int32) (σ : XS) (Q : Int32 → XS → Prop) (hw : wX0_add th x1 x2 x3 σ Q) : xx_Mi l yX0_add (ws_ yX0_add cX0_add 4 (some .int)) ({ frames := 4, cells := 0, slots := 0, locals := 160 } : Room) E [xv E (some th), .int x1, .int x2, .int x3] σ Q 0 0 := by
  refine x_of (own := "StruckCounts") (by decide +kernel) rfl ?_
  intro p e s m args below meth c cx hR ha hnm
  refine x_entry [xv E (some th), .int x1, .int x2, .int x3] 4 [(0, xv E (some th)), (1, .int x1), (2, .int x2), (3, .int x3)] ha (by simp [lg_sl, xv_cat, vc_i, vc_j, vc_f]) (by simp [lv_args, xv_cat, vc_i, vc_j, vc_f]) (fun ls hl => ?_)
  have hS : va_S (xA E) s.heap s.heap [] := va_S.rf
  have hcb : 0 + 0 ≤ 0 := Nat.le_of_eq (Nat.zero_add _)
  have hsb : 0 + 0 ≤ 0 := Nat.le_of_eq (Nat.zero_add _)
  unfold wX0_add at hw
  obtain ⟨hx, hb, hml, hown, hts, hrt, hlk, hMK, hZ⟩ := id cx
  refine x_aload_n cx dX0_add_0 rfl (lv_at hl 0 rfl) ?_
  refine lv_iload_n hx hb dX0_add_1 rfl (lv_at hl 1 rfl) ?_
  obtain ⟨hk2, hw⟩ := hw
  refine CX0_isCount_X0_290 cx hR hS rfl hk2 hw ⟨Nat.le_of_ble_eq_true rfl, Nat.le_of_ble_eq_true rfl⟩ (Nat.le_of_ble_eq_true rfl) hl.1 ⟨by dsimp only; omega, by dsimp only; omega⟩ dX0_add_2 (fun r1 s1 H locs hw hR hS => ?_)
  refine lv_if_eq (tgt := 30) hx hb dX0_add_5 (by decide) (fun hc => ?_) (fun hc => ?_)
  · have hw := mm_ip hc hw
    refine lv_iconst (v := (-1 : Int32)) hx hb dX0_add_30 (by decide) ?_
    exact x_iret cx hR hS (xle hcb) (xle hsb) hw dX0_add_31
  · have hw := mm_in hc hw
    refine lv_iload_n hx hb dX0_add_8 rfl (lv_at hl 2 rfl) ?_
    refine lv_iconst (v := (0 : Int32)) hx hb dX0_add_9 (by decide) ?_
    refine lv_sipush (v := (999 : Int32)) hx hb dX0_add_10 (by decide) ?_
    refine CX0_in_X0_96 cx hR hS  hw ⟨Nat.le_of_ble_eq_true rfl, Nat.le_of_ble_eq_true rfl⟩ (Nat.le_of_ble_eq_true rfl) hl.1 ⟨by dsimp only; omega, by dsimp only; omega⟩ dX0_add_13 (fun r3 s3 H locs hw hR hS => ?_)
    refine lv_if_eq (tgt := 30) hx hb dX0_add_16 (by decide) (fun hc => ?_) (fun hc => ?_)
    · have hw := mm_ip hc hw
      refine lv_iconst (v := (-1 : Int32)) hx hb dX0_add_30 (by decide) ?_
      exact x_iret cx hR hS (xle hcb) (xle hsb) hw dX0_add_31
    · have hw := mm_in hc hw
      refine lv_iload_n hx hb dX0_add_19 rfl (lv_at hl 3 rfl) ?_
      refine lv_iconst (v := (0 : Int32)) hx hb dX0_add_20 (by decide) ?_
      refine lv_sipush (v := (999 : Int32)) hx hb dX0_add_21 (by decide) ?_
      refine CX0_in_X0_96 cx hR hS  hw ⟨Nat.le_of_ble_eq_true rfl, Nat.le_of_ble_eq_true rfl⟩ (Nat.le_of_ble_eq_true rfl) hl.1 ⟨by dsimp only; omega, by dsimp only; omega⟩ dX0_add_24 (fun r4 s4 H locs hw hR hS => ?_)
      refine lv_if_ne (tgt := 32) hx hb dX0_add_27 (by decide) (fun hc => ?_) (fun hc => ?_)
      · have hw := mm_in hc hw
        refine x_aload_n cx dX0_add_32 rfl (lv_at hl 0 rfl) ?_
        obtain ⟨hk5, hw⟩ := hw
        refine xg_X0_31_1 cx hR rfl hk5 dX0_add_33 ?_
        obtain ⟨a6, hr6, hk6, hw⟩ := hw
        refine xg_X0_136_3 cx hR hr6 hk6 dX0_add_36 ?_
        refine lv_bipush (v := (8 : Int32)) hx hb dX0_add_39 (by decide) ?_
        refine lv_icmp_ne (tgt := 47) hx hb dX0_add_41 (by decide) (fun hc => ?_) (fun hc => ?_)
        · have hw := mm_in hc hw
          refine x_aload_n cx dX0_add_47 rfl (lv_at hl 0 rfl) ?_
          refine CX0_keeps_X0_324 cx hR hS rfl hk5 hw ⟨Nat.le_of_ble_eq_true rfl, Nat.le_of_ble_eq_true rfl⟩ (Nat.le_of_ble_eq_true rfl) hl.1 ⟨by dsimp only; omega, by dsimp only; omega⟩ dX0_add_48 (fun s7 H locs hw hR hS => ?_)
          refine x_aload_n cx dX0_add_51 rfl (lv_at hl 0 rfl) ?_
          obtain ⟨hk8, hw⟩ := hw
          refine xg_X0_31_1 cx hR rfl hk8 dX0_add_52 ?_
          refine x_aload_n cx dX0_add_55 rfl (lv_at hl 0 rfl) ?_
          refine xg_X0_31_1 cx hR rfl hk8 dX0_add_56 ?_
          obtain ⟨a9, hr9, hk9, hw⟩ := hw
          refine xg_X0_136_3 cx hR hr9 hk9 dX0_add_59 ?_
          refine lv_iload_n hx hb dX0_add_62 rfl (lv_at hl 1 rfl) ?_
          refine lv_iload_n hx hb dX0_add_63 rfl (lv_at hl 2 rfl) ?_
          refine lv_iload_n hx hb dX0_add_64 rfl (lv_at hl 3 rfl) ?_
          refine x_aload_n cx dX0_add_65 rfl (lv_at hl 0 rfl) ?_
          refine xg_X0_31_1 cx hR rfl hk8 dX0_add_66 ?_
          refine xg_X0_340_3 cx hR hr9 hk9 dX0_add_69 ?_
          refine CX2_lays_X0_343 cx hR hS hr9 hk9 hw ⟨Nat.le_of_ble_eq_true rfl, Nat.le_of_ble_eq_true rfl⟩ (Nat.le_of_ble_eq_true rfl) hl.1 ⟨by dsimp only; omega, by dsimp only; omega⟩ dX0_add_72 (fun s10 H locs hw hR hS => ?_)
          refine x_aload_n cx dX0_add_75 rfl (lv_at hl 0 rfl) ?_
          obtain ⟨hk11, hw⟩ := hw
          refine xg_X0_31_1 cx hR rfl hk11 dX0_add_76 ?_
          refine lv_dup hx hb dX0_add_79 (xv_cat _ _) ?_
          obtain ⟨a12, hr12, hk12, hw⟩ := hw
          refine xg_X0_136_3 cx hR hr12 hk12 dX0_add_80 ?_
          refine lv_iconst (v := (1 : Int32)) hx hb dX0_add_83 (by decide) ?_
          refine lv_iadd hx hb dX0_add_84 ?_
          obtain ⟨hge_a12, hw⟩ := hw
          refine xp_X0_136_3 (v := ((fi s10 a12 9) + (1 : Int32))) cx hR hS hr12 hge_a12 hk12 dX0_add_85 (fun H locs hR hS => ?_)
          refine x_aload_n cx dX0_add_88 rfl (lv_at hl 0 rfl) ?_
          refine xg_X0_31_1 cx hR rfl hk11 dX0_add_89 ?_
          obtain ⟨a13, hr13, hk13, hw⟩ := hw
          refine xg_X0_136_3 cx hR hr13 hk13 dX0_add_92 ?_
          refine lv_iconst (v := (1 : Int32)) hx hb dX0_add_95 (by decide) ?_
          refine lv_isub hx hb dX0_add_96 ?_
          exact x_iret cx hR hS (xle hcb) (xle hsb) hw dX0_add_97
        · have hw := mm_ip hc hw
          refine lv_bipush (v := (-2 : Int32)) hx hb dX0_add_44 (by decide) ?_
          exact x_iret cx hR hS (xle hcb) (xle hsb) hw dX0_add_46
      · have hw := mm_ip hc hw
        refine lv_iconst (v := (-1 : Int32)) hx hb dX0_add_30 (by decide) ?_
        exact x_iret cx hR hS (xle hcb) (xle hsb) hw dX0_add_31
-- X0_strike
theorem xp_X0_220_3 {l : Launch} {p : Program} {e : Env} {R : Room} {s : State} {m : MethodId} {args : Array Value} {below : List Frame} {meth : Method} {c : Code} {H : Heap} {locs : List Loc} {cells slots : Nat} {Qz : State → Prop} {cc : ByteArray} {nL : Nat} {ret : Option FieldType} {E : xx_E} {σ : XS} {pc : Nat} {ls : Array Slot} {rest : List Value} (cx : xx_X "StruckCounts" cc nL ret E p s m args meth c) (hR : xR E σ H) (hS0 : va_S (xA E) s.heap H locs) {a : Nat} {r : Option Nat} {v : Int32} (hr : r = some a) (ha : xK ≤ a) (hk : kd σ a = 3) (hdg : decode cc pc = .ok (.putfield 220, 3)) (kk : ∀ (H1 : Heap) (locs1 : List Loc), xR E (pfi σ a 10 v) H1 → va_S (xA E) s.heap H1 locs1 → W p l e R s m args below meth c H1 locs1 cells slots Qz (F0 m (pc + 3) ls rest)) : W p l e R s m args below meth c H locs cells slots Qz (F0 m pc ls (.int v :: xv E r :: rest)) :=
  x_put (ci := 2) cx hR hS0 hr ha hk (by decide) rfl in_X2 tyX2 tyX2_ok nmX2 10 (by decide) (Or.inr (Or.inr ⟨_, (xx_nf_mem (i := 18) rfl), rfl⟩)) (fun _ h => h) rfl rfl (xput_i rfl) hdg kk
def wX0_strike (th : Nat) (x1 : Int32) (σ : XS) (Q : Int32 → XS → Prop) : Prop :=
  kd σ th = 1 ∧ (wX0_isCount th x1 σ (fun r1 s1 => if r1 = 0 then (Q (-1 : Int32) s1) else (kd s1 th = 1 ∧ (oc s1 (fr s1 th 6) 3 (fun a4 => wX0_has (fi s1 a4 10) x1 s1 (fun r5 s5 => if r5 = 0 then (kd s5 th = 1 ∧ (wX0_keeps th s5 (fun s6 => kd s6 th = 1 ∧ (oc s6 (fr s6 th 6) 3 (fun a9 => xK ≤ a9 ∧ (oc (pfi s6 a9 10 ((fi s6 a9 10) ||| ((1 : Int32) <<< (x1 &&& 31)))) (fr (pfi s6 a9 10 ((fi s6 a9 10) ||| ((1 : Int32) <<< (x1 &&& 31)))) th 6) 3 (fun a10 => wJ11_bitCount (fi (pfi s6 a9 10 ((fi s6 a9 10) ||| ((1 : Int32) <<< (x1 &&& 31)))) a10 10) (pfi s6 a9 10 ((fi s6 a9 10) ||| ((1 : Int32) <<< (x1 &&& 31)))) (fun r11 s11 => Q ((fi (pfi s6 a9 10 ((fi s6 a9 10) ||| ((1 : Int32) <<< (x1 &&& 31)))) a10 9) - r11) s11)))))))) else (Q (-2 : Int32) s5)))))))
set_option maxHeartbeats 4000000 in
theorem MX0_strike (l : Launch) (E : xx_E) (th : Nat) (x1 : Int32) (σ : XS) (Q : Int32 → XS → Prop) (hw : wX0_strike th x1 σ Q) : xx_Mi l yX0_strike (ws_ yX0_strike cX0_strike 2 (some .int)) ({ frames := 4, cells := 0, slots := 0, locals := 160 } : Room) E [xv E (some th), .int x1] σ Q 0 0 := by
  refine x_of (own := "StruckCounts") (by decide +kernel) rfl ?_
  intro p e s m args below meth c cx hR ha hnm
  refine x_entry [xv E (some th), .int x1] 2 [(0, xv E (some th)), (1, .int x1)] ha (by simp [lg_sl, xv_cat, vc_i, vc_j, vc_f]) (by simp [lv_args, xv_cat, vc_i, vc_j, vc_f]) (fun ls hl => ?_)
  have hS : va_S (xA E) s.heap s.heap [] := va_S.rf
  have hcb : 0 + 0 ≤ 0 := Nat.le_of_eq (Nat.zero_add _)
  have hsb : 0 + 0 ≤ 0 := Nat.le_of_eq (Nat.zero_add _)
  unfold wX0_strike at hw
  obtain ⟨hx, hb, hml, hown, hts, hrt, hlk, hMK, hZ⟩ := id cx
  refine x_aload_n cx dX0_strike_0 rfl (lv_at hl 0 rfl) ?_
  refine lv_iload_n hx hb dX0_strike_1 rfl (lv_at hl 1 rfl) ?_
  obtain ⟨hk2, hw⟩ := hw
  refine CX0_isCount_X0_290 cx hR hS rfl hk2 hw ⟨Nat.le_of_ble_eq_true rfl, Nat.le_of_ble_eq_true rfl⟩ (Nat.le_of_ble_eq_true rfl) hl.1 ⟨by dsimp only; omega, by dsimp only; omega⟩ dX0_strike_2 (fun r1 s1 H locs hw hR hS => ?_)
  refine lv_if_ne (tgt := 10) hx hb dX0_strike_5 (by decide) (fun hc => ?_) (fun hc => ?_)
  · have hw := mm_in hc hw
    refine x_aload_n cx dX0_strike_10 rfl (lv_at hl 0 rfl) ?_
    obtain ⟨hk3, hw⟩ := hw
    refine xg_X0_31_1 cx hR rfl hk3 dX0_strike_11 ?_
    obtain ⟨a4, hr4, hk4, hw⟩ := hw
    refine xg_X0_220_3 cx hR hr4 hk4 dX0_strike_14 ?_
    refine lv_iload_n hx hb dX0_strike_17 rfl (lv_at hl 1 rfl) ?_
    refine CX0_has_X0_223 cx hR hS  hw ⟨Nat.le_of_ble_eq_true rfl, Nat.le_of_ble_eq_true rfl⟩ (Nat.le_of_ble_eq_true rfl) hl.1 ⟨by dsimp only; omega, by dsimp only; omega⟩ dX0_strike_18 (fun r5 s5 H locs hw hR hS => ?_)
    refine lv_if_eq (tgt := 27) hx hb dX0_strike_21 (by decide) (fun hc => ?_) (fun hc => ?_)
    · have hw := mm_ip hc hw
      refine x_aload_n cx dX0_strike_27 rfl (lv_at hl 0 rfl) ?_
      obtain ⟨hk7, hw⟩ := hw
      refine CX0_keeps_X0_324 cx hR hS rfl hk7 hw ⟨Nat.le_of_ble_eq_true rfl, Nat.le_of_ble_eq_true rfl⟩ (Nat.le_of_ble_eq_true rfl) hl.1 ⟨by dsimp only; omega, by dsimp only; omega⟩ dX0_strike_28 (fun s6 H locs hw hR hS => ?_)
      refine x_aload_n cx dX0_strike_31 rfl (lv_at hl 0 rfl) ?_
      obtain ⟨hk8, hw⟩ := hw
      refine xg_X0_31_1 cx hR rfl hk8 dX0_strike_32 ?_
      refine lv_dup hx hb dX0_strike_35 (xv_cat _ _) ?_
      obtain ⟨a9, hr9, hk9, hw⟩ := hw
      refine xg_X0_220_3 cx hR hr9 hk9 dX0_strike_36 ?_
      refine lv_iconst (v := (1 : Int32)) hx hb dX0_strike_39 (by decide) ?_
      refine lv_iload_n hx hb dX0_strike_40 rfl (lv_at hl 1 rfl) ?_
      refine lv_ishl hx hb dX0_strike_41 ?_
      refine lv_ior hx hb dX0_strike_42 ?_
      obtain ⟨hge_a9, hw⟩ := hw
      refine xp_X0_220_3 (v := ((fi s6 a9 10) ||| ((1 : Int32) <<< (x1 &&& 31)))) cx hR hS hr9 hge_a9 hk9 dX0_strike_43 (fun H locs hR hS => ?_)
      refine x_aload_n cx dX0_strike_46 rfl (lv_at hl 0 rfl) ?_
      refine xg_X0_31_1 cx hR rfl hk8 dX0_strike_47 ?_
      obtain ⟨a10, hr10, hk10, hw⟩ := hw
      refine xg_X0_136_3 cx hR hr10 hk10 dX0_strike_50 ?_
      refine x_aload_n cx dX0_strike_53 rfl (lv_at hl 0 rfl) ?_
      refine xg_X0_31_1 cx hR rfl hk8 dX0_strike_54 ?_
      refine xg_X0_220_3 cx hR hr10 hk10 dX0_strike_57 ?_
      refine CJ11_bitCount_X0_198 cx hR hS  hw ⟨Nat.le_of_ble_eq_true rfl, Nat.le_of_ble_eq_true rfl⟩ (Nat.le_of_ble_eq_true rfl) hl.1 ⟨by dsimp only; omega, by dsimp only; omega⟩ dX0_strike_60 (fun r11 s11 H locs hw hR hS => ?_)
      refine lv_isub hx hb dX0_strike_63 ?_
      exact x_iret cx hR hS (xle hcb) (xle hsb) hw dX0_strike_64
    · have hw := mm_in hc hw
      refine lv_bipush (v := (-2 : Int32)) hx hb dX0_strike_24 (by decide) ?_
      exact x_iret cx hR hS (xle hcb) (xle hsb) hw dX0_strike_26
  · have hw := mm_ip hc hw
    refine lv_iconst (v := (-1 : Int32)) hx hb dX0_strike_8 (by decide) ?_
    exact x_iret cx hR hS (xle hcb) (xle hsb) hw dX0_strike_9
-- X0_days
theorem xp_X0_340_3 {l : Launch} {p : Program} {e : Env} {R : Room} {s : State} {m : MethodId} {args : Array Value} {below : List Frame} {meth : Method} {c : Code} {H : Heap} {locs : List Loc} {cells slots : Nat} {Qz : State → Prop} {cc : ByteArray} {nL : Nat} {ret : Option FieldType} {E : xx_E} {σ : XS} {pc : Nat} {ls : Array Slot} {rest : List Value} (cx : xx_X "StruckCounts" cc nL ret E p s m args meth c) (hR : xR E σ H) (hS0 : va_S (xA E) s.heap H locs) {a : Nat} {r : Option Nat} {v : Int32} (hr : r = some a) (ha : xK ≤ a) (hk : kd σ a = 3) (hdg : decode cc pc = .ok (.putfield 340, 3)) (kk : ∀ (H1 : Heap) (locs1 : List Loc), xR E (pfi σ a 11 v) H1 → va_S (xA E) s.heap H1 locs1 → W p l e R s m args below meth c H1 locs1 cells slots Qz (F0 m (pc + 3) ls rest)) : W p l e R s m args below meth c H locs cells slots Qz (F0 m pc ls (.int v :: xv E r :: rest)) :=
  x_put (ci := 2) cx hR hS0 hr ha hk (by decide) rfl in_X2 tyX2 tyX2_ok nmX2 11 (by decide) (Or.inr (Or.inr ⟨_, (xx_nf_mem (i := 19) rfl), rfl⟩)) (fun _ h => h) rfl rfl (xput_i rfl) hdg kk
def wX0_days (th : Nat) (x1 : Int32) (σ : XS) (Q : Int32 → XS → Prop) : Prop :=
  wX0_in x1 (1 : Int32) (999 : Int32) σ (fun r1 s1 => if r1 = 0 then (Q (-1 : Int32) s1) else (kd s1 th = 1 ∧ (oc s1 (fr s1 th 6) 3 (fun a3 => if ((fi s1 a3 11) + x1) ≤ (9999 : Int32) then (wX0_keeps th s1 (fun s4 => kd s4 th = 1 ∧ (oc s4 (fr s4 th 6) 3 (fun a6 => xK ≤ a6 ∧ (oc (pfi s4 a6 11 ((fi s4 a6 11) + x1)) (fr (pfi s4 a6 11 ((fi s4 a6 11) + x1)) th 6) 3 (fun a7 => Q (fi (pfi s4 a6 11 ((fi s4 a6 11) + x1)) a7 11) (pfi s4 a6 11 ((fi s4 a6 11) + x1)))))))) else (Q (-2 : Int32) s1)))))
set_option maxHeartbeats 4000000 in
theorem MX0_days (l : Launch) (E : xx_E) (th : Nat) (x1 : Int32) (σ : XS) (Q : Int32 → XS → Prop) (hw : wX0_days th x1 σ Q) : xx_Mi l yX0_days (ws_ yX0_days cX0_days 2 (some .int)) ({ frames := 4, cells := 0, slots := 0, locals := 160 } : Room) E [xv E (some th), .int x1] σ Q 0 0 := by
  refine x_of (own := "StruckCounts") (by decide +kernel) rfl ?_
  intro p e s m args below meth c cx hR ha hnm
  refine x_entry [xv E (some th), .int x1] 2 [(0, xv E (some th)), (1, .int x1)] ha (by simp [lg_sl, xv_cat, vc_i, vc_j, vc_f]) (by simp [lv_args, xv_cat, vc_i, vc_j, vc_f]) (fun ls hl => ?_)
  have hS : va_S (xA E) s.heap s.heap [] := va_S.rf
  have hcb : 0 + 0 ≤ 0 := Nat.le_of_eq (Nat.zero_add _)
  have hsb : 0 + 0 ≤ 0 := Nat.le_of_eq (Nat.zero_add _)
  unfold wX0_days at hw
  obtain ⟨hx, hb, hml, hown, hts, hrt, hlk, hMK, hZ⟩ := id cx
  refine lv_iload_n hx hb dX0_days_0 rfl (lv_at hl 1 rfl) ?_
  refine lv_iconst (v := (1 : Int32)) hx hb dX0_days_1 (by decide) ?_
  refine lv_sipush (v := (999 : Int32)) hx hb dX0_days_2 (by decide) ?_
  refine CX0_in_X0_96 cx hR hS  hw ⟨Nat.le_of_ble_eq_true rfl, Nat.le_of_ble_eq_true rfl⟩ (Nat.le_of_ble_eq_true rfl) hl.1 ⟨by dsimp only; omega, by dsimp only; omega⟩ dX0_days_5 (fun r1 s1 H locs hw hR hS => ?_)
  refine lv_if_ne (tgt := 13) hx hb dX0_days_8 (by decide) (fun hc => ?_) (fun hc => ?_)
  · have hw := mm_in hc hw
    refine x_aload_n cx dX0_days_13 rfl (lv_at hl 0 rfl) ?_
    obtain ⟨hk2, hw⟩ := hw
    refine xg_X0_31_1 cx hR rfl hk2 dX0_days_14 ?_
    obtain ⟨a3, hr3, hk3, hw⟩ := hw
    refine xg_X0_340_3 cx hR hr3 hk3 dX0_days_17 ?_
    refine lv_iload_n hx hb dX0_days_20 rfl (lv_at hl 1 rfl) ?_
    refine lv_iadd hx hb dX0_days_21 ?_
    refine lv_sipush (v := (9999 : Int32)) hx hb dX0_days_22 (by decide) ?_
    refine lv_icmp_le (tgt := 31) hx hb dX0_days_25 (by decide) (fun hc => ?_) (fun hc => ?_)
    · have hw := mm_ip hc hw
      refine x_aload_n cx dX0_days_31 rfl (lv_at hl 0 rfl) ?_
      refine CX0_keeps_X0_324 cx hR hS rfl hk2 hw ⟨Nat.le_of_ble_eq_true rfl, Nat.le_of_ble_eq_true rfl⟩ (Nat.le_of_ble_eq_true rfl) hl.1 ⟨by dsimp only; omega, by dsimp only; omega⟩ dX0_days_32 (fun s4 H locs hw hR hS => ?_)
      refine x_aload_n cx dX0_days_35 rfl (lv_at hl 0 rfl) ?_
      obtain ⟨hk5, hw⟩ := hw
      refine xg_X0_31_1 cx hR rfl hk5 dX0_days_36 ?_
      refine lv_dup hx hb dX0_days_39 (xv_cat _ _) ?_
      obtain ⟨a6, hr6, hk6, hw⟩ := hw
      refine xg_X0_340_3 cx hR hr6 hk6 dX0_days_40 ?_
      refine lv_iload_n hx hb dX0_days_43 rfl (lv_at hl 1 rfl) ?_
      refine lv_iadd hx hb dX0_days_44 ?_
      obtain ⟨hge_a6, hw⟩ := hw
      refine xp_X0_340_3 (v := ((fi s4 a6 11) + x1)) cx hR hS hr6 hge_a6 hk6 dX0_days_45 (fun H locs hR hS => ?_)
      refine x_aload_n cx dX0_days_48 rfl (lv_at hl 0 rfl) ?_
      refine xg_X0_31_1 cx hR rfl hk5 dX0_days_49 ?_
      obtain ⟨a7, hr7, hk7, hw⟩ := hw
      refine xg_X0_340_3 cx hR hr7 hk7 dX0_days_52 ?_
      exact x_iret cx hR hS (xle hcb) (xle hsb) hw dX0_days_55
    · have hw := mm_in hc hw
      refine lv_bipush (v := (-2 : Int32)) hx hb dX0_days_28 (by decide) ?_
      exact x_iret cx hR hS (xle hcb) (xle hsb) hw dX0_days_30
  · have hw := mm_ip hc hw
    refine lv_iconst (v := (-1 : Int32)) hx hb dX0_days_11 (by decide) ?_
    exact x_iret cx hR hS (xle hcb) (xle hsb) hw dX0_days_12
-- X0_undo
def wX0_undo (th : Nat) (σ : XS) (Q : Int32 → XS → Prop) : Prop :=
  kd σ th = 1 ∧ (if (fi σ th 4) = 0 then (Q (-1 : Int32) σ) else (xK ≤ th ∧ (oc (pfi σ th 4 ((fi σ th 4) - (1 : Int32))) (fr (pfi σ th 4 ((fi σ th 4) - (1 : Int32))) th 7) 104 (fun a2 => vp_in (fi (pfi σ th 4 ((fi σ th 4) - (1 : Int32))) th 4) (ln (pfi σ th 4 ((fi σ th 4) - (1 : Int32))) a2) ∧ (oc (pfi σ th 4 ((fi σ th 4) - (1 : Int32))) (fr (pfi σ th 4 ((fi σ th 4) - (1 : Int32))) th 6) 3 (fun a4 => wX2_be a4 (ar (pfi σ th 4 ((fi σ th 4) - (1 : Int32))) a2 ((fi (pfi σ th 4 ((fi σ th 4) - (1 : Int32))) th 4).toNatClampNeg)) (pfi σ th 4 ((fi σ th 4) - (1 : Int32))) (fun s3 => kd s3 th = 1 ∧ (Q (fi s3 th 4) s3))))))))
set_option maxHeartbeats 4000000 in
theorem MX0_undo (l : Launch) (E : xx_E) (th : Nat) (σ : XS) (Q : Int32 → XS → Prop) (hw : wX0_undo th σ Q) : xx_Mi l yX0_undo (ws_ yX0_undo cX0_undo 1 (some .int)) ({ frames := 3, cells := 0, slots := 0, locals := 120 } : Room) E [xv E (some th)] σ Q 0 0 := by
  refine x_of (own := "StruckCounts") (by decide +kernel) rfl ?_
  intro p e s m args below meth c cx hR ha hnm
  refine x_entry [xv E (some th)] 1 [(0, xv E (some th))] ha (by simp [lg_sl, xv_cat, vc_i, vc_j, vc_f]) (by simp [lv_args, xv_cat, vc_i, vc_j, vc_f]) (fun ls hl => ?_)
  have hS : va_S (xA E) s.heap s.heap [] := va_S.rf
  have hcb : 0 + 0 ≤ 0 := Nat.le_of_eq (Nat.zero_add _)
  have hsb : 0 + 0 ≤ 0 := Nat.le_of_eq (Nat.zero_add _)
  unfold wX0_undo at hw
  obtain ⟨hx, hb, hml, hown, hts, hrt, hlk, hMK, hZ⟩ := id cx
  refine x_aload_n cx dX0_undo_0 rfl (lv_at hl 0 rfl) ?_
  obtain ⟨hk1, hw⟩ := hw
  refine xg_X0_127_1 cx hR rfl hk1 dX0_undo_1 ?_
  refine lv_if_ne (tgt := 9) hx hb dX0_undo_4 (by decide) (fun hc => ?_) (fun hc => ?_)
  · have hw := mm_in hc hw
    refine x_aload_n cx dX0_undo_9 rfl (lv_at hl 0 rfl) ?_
    refine lv_dup hx hb dX0_undo_10 (xv_cat _ _) ?_
    refine xg_X0_127_1 cx hR rfl hk1 dX0_undo_11 ?_
    refine lv_iconst (v := (1 : Int32)) hx hb dX0_undo_14 (by decide) ?_
    refine lv_isub hx hb dX0_undo_15 ?_
    obtain ⟨hge_th, hw⟩ := hw
    refine xp_X0_127_1 (v := ((fi σ th 4) - (1 : Int32))) cx hR hS rfl hge_th hk1 dX0_undo_16 (fun H locs hR hS => ?_)
    refine x_aload_n cx dX0_undo_19 rfl (lv_at hl 0 rfl) ?_
    refine xg_X0_31_1 cx hR rfl hk1 dX0_undo_20 ?_
    refine x_aload_n cx dX0_undo_23 rfl (lv_at hl 0 rfl) ?_
    refine xg_X0_35_1 cx hR rfl hk1 dX0_undo_24 ?_
    refine x_aload_n cx dX0_undo_27 rfl (lv_at hl 0 rfl) ?_
    refine xg_X0_127_1 cx hR rfl hk1 dX0_undo_28 ?_
    obtain ⟨a2, hr2, hk2, hw⟩ := hw
    obtain ⟨hi, hw⟩ := hw
    refine x_aald cx hR hr2 4 hk2 (by decide) (by decide) (j := (fi (pfi σ th 4 ((fi σ th 4) - (1 : Int32))) th 4).toNatClampNeg) rfl hi dX0_undo_31 ?_
    obtain ⟨a4, hr4, hk4, hw⟩ := hw
    refine CX2_be_X0_312 cx hR hS hr4 hk4 hw ⟨Nat.le_of_ble_eq_true rfl, Nat.le_of_ble_eq_true rfl⟩ (Nat.le_of_ble_eq_true rfl) hl.1 ⟨by dsimp only; omega, by dsimp only; omega⟩ dX0_undo_32 (fun s3 H locs hw hR hS => ?_)
    refine x_aload_n cx dX0_undo_35 rfl (lv_at hl 0 rfl) ?_
    obtain ⟨hk5, hw⟩ := hw
    refine xg_X0_127_1 cx hR rfl hk5 dX0_undo_36 ?_
    exact x_iret cx hR hS (xle hcb) (xle hsb) hw dX0_undo_39
  · have hw := mm_ip hc hw
    refine lv_iconst (v := (-1 : Int32)) hx hb dX0_undo_7 (by decide) ?_
    exact x_iret cx hR hS (xle hcb) (xle hsb) hw dX0_undo_8
-- X0_keep
theorem xg_X0_42_1 {l : Launch} {p : Program} {e : Env} {R : Room} {s : State} {m : MethodId} {args : Array Value} {below : List Frame} {meth : Method} {c : Code} {H : Heap} {locs : List Loc} {cells slots : Nat} {Qz : State → Prop} {cc : ByteArray} {nL : Nat} {ret : Option FieldType} {E : xx_E} {σ : XS} {pc : Nat} {ls : Array Slot} {rest : List Value} (cx : xx_X "StruckCounts" cc nL ret E p s m args meth c) (hR : xR E σ H) {a : Nat} {r : Option Nat} (hr : r = some a) (hk : kd σ a = 1) (hdg : decode cc pc = .ok (.getfield 42, 3)) (kk : W p l e R s m args below meth c H locs cells slots Qz (F0 m (pc + 3) ls (xv E (fr σ a 9) :: rest))) : W p l e R s m args below meth c H locs cells slots Qz (F0 m pc ls (xv E r :: rest)) :=
  x_get (ci := 0) cx hR hr hk (by decide) rfl in_X0 9 (by decide) q580 (fun _ h => h) (v := xv E (fr σ a 9)) rfl hdg kk
def wX0_keep (th : Nat) (x1 : Int32) (σ : XS) (Q : Int32 → XS → Prop) : Prop :=
  wX0_in x1 (0 : Int32) (1 : Int32) σ (fun r1 s1 => if r1 = 0 then (Q (0 : Int32) s1) else (kd s1 th = 1 ∧ (oc s1 (fr s1 th 8) 104 (fun a3 => vp_in x1 (ln s1 a3) ∧ (oc s1 (ar s1 a3 x1.toNatClampNeg) 3 (fun a5 => wX2_be a5 (fr s1 th 6) s1 (fun s4 => kd s4 th = 1 ∧ (oc s4 (fr s4 th 9) 101 (fun a7 => xK ≤ a7 ∧ (vp_in x1 (ln s4 a7) ∧ (Q (1 : Int32) (pai s4 a7 x1.toNatClampNeg (1 : Int32)))))))))))))
set_option maxHeartbeats 4000000 in
theorem MX0_keep (l : Launch) (E : xx_E) (th : Nat) (x1 : Int32) (σ : XS) (Q : Int32 → XS → Prop) (hw : wX0_keep th x1 σ Q) : xx_Mi l yX0_keep (ws_ yX0_keep cX0_keep 2 (some .boolean)) ({ frames := 3, cells := 0, slots := 0, locals := 120 } : Room) E [xv E (some th), .int x1] σ Q 0 0 := by
  refine x_of (own := "StruckCounts") (by decide +kernel) rfl ?_
  intro p e s m args below meth c cx hR ha hnm
  refine x_entry [xv E (some th), .int x1] 2 [(0, xv E (some th)), (1, .int x1)] ha (by simp [lg_sl, xv_cat, vc_i, vc_j, vc_f]) (by simp [lv_args, xv_cat, vc_i, vc_j, vc_f]) (fun ls hl => ?_)
  have hS : va_S (xA E) s.heap s.heap [] := va_S.rf
  have hcb : 0 + 0 ≤ 0 := Nat.le_of_eq (Nat.zero_add _)
  have hsb : 0 + 0 ≤ 0 := Nat.le_of_eq (Nat.zero_add _)
  unfold wX0_keep at hw
  obtain ⟨hx, hb, hml, hown, hts, hrt, hlk, hMK, hZ⟩ := id cx
  refine lv_iload_n hx hb dX0_keep_0 rfl (lv_at hl 1 rfl) ?_
  refine lv_iconst (v := (0 : Int32)) hx hb dX0_keep_1 (by decide) ?_
  refine lv_iconst (v := (1 : Int32)) hx hb dX0_keep_2 (by decide) ?_
  refine CX0_in_X0_96 cx hR hS  hw ⟨Nat.le_of_ble_eq_true rfl, Nat.le_of_ble_eq_true rfl⟩ (Nat.le_of_ble_eq_true rfl) hl.1 ⟨by dsimp only; omega, by dsimp only; omega⟩ dX0_keep_3 (fun r1 s1 H locs hw hR hS => ?_)
  refine lv_if_ne (tgt := 11) hx hb dX0_keep_6 (by decide) (fun hc => ?_) (fun hc => ?_)
  · have hw := mm_in hc hw
    refine x_aload_n cx dX0_keep_11 rfl (lv_at hl 0 rfl) ?_
    obtain ⟨hk2, hw⟩ := hw
    refine xg_X0_39_1 cx hR rfl hk2 dX0_keep_12 ?_
    refine lv_iload_n hx hb dX0_keep_15 rfl (lv_at hl 1 rfl) ?_
    obtain ⟨a3, hr3, hk3, hw⟩ := hw
    obtain ⟨hi, hw⟩ := hw
    refine x_aald cx hR hr3 4 hk3 (by decide) (by decide) (j := x1.toNatClampNeg) rfl hi dX0_keep_16 ?_
    refine x_aload_n cx dX0_keep_17 rfl (lv_at hl 0 rfl) ?_
    refine xg_X0_31_1 cx hR rfl hk2 dX0_keep_18 ?_
    obtain ⟨a5, hr5, hk5, hw⟩ := hw
    refine CX2_be_X0_312 cx hR hS hr5 hk5 hw ⟨Nat.le_of_ble_eq_true rfl, Nat.le_of_ble_eq_true rfl⟩ (Nat.le_of_ble_eq_true rfl) hl.1 ⟨by dsimp only; omega, by dsimp only; omega⟩ dX0_keep_21 (fun s4 H locs hw hR hS => ?_)
    refine x_aload_n cx dX0_keep_24 rfl (lv_at hl 0 rfl) ?_
    obtain ⟨hk6, hw⟩ := hw
    refine xg_X0_42_1 cx hR rfl hk6 dX0_keep_25 ?_
    refine lv_iload_n hx hb dX0_keep_28 rfl (lv_at hl 1 rfl) ?_
    refine lv_iconst (v := (1 : Int32)) hx hb dX0_keep_29 (by decide) ?_
    obtain ⟨a7, hr7, hk7, hw⟩ := hw
    obtain ⟨hge_a7, hw⟩ := hw
    obtain ⟨hi, hw⟩ := hw
    refine x_zast cx hR hS hr7 hge_a7 hk7 (j := x1.toNatClampNeg) rfl hi (Or.inr rfl) dX0_keep_30 (fun H locs hR hS => ?_)
    refine lv_iconst (v := (1 : Int32)) hx hb dX0_keep_31 (by decide) ?_
    exact x_nret cx hR hS (xle hcb) (xle hsb) (zb_nar (Or.inr rfl)) hw dX0_keep_32
  · have hw := mm_ip hc hw
    refine lv_iconst (v := (0 : Int32)) hx hb dX0_keep_9 (by decide) ?_
    exact x_nret cx hR hS (xle hcb) (xle hsb) (zb_nar (Or.inl rfl)) hw dX0_keep_10
-- X0_again
def wX0_again (th : Nat) (x1 : Int32) (σ : XS) (Q : Int32 → XS → Prop) : Prop :=
  wX0_in x1 (0 : Int32) (1 : Int32) σ (fun r1 s1 => if r1 = 0 then (Q (0 : Int32) s1) else (kd s1 th = 1 ∧ (oc s1 (fr s1 th 9) 101 (fun a3 => vp_in x1 (ln s1 a3) ∧ (if (ai s1 a3 x1.toNatClampNeg) = 0 then (Q (0 : Int32) s1) else (wX0_keeps th s1 (fun s4 => kd s4 th = 1 ∧ (oc s4 (fr s4 th 8) 104 (fun a6 => vp_in x1 (ln s4 a6) ∧ (oc s4 (fr s4 th 6) 3 (fun a8 => wX2_be a8 (ar s4 a6 x1.toNatClampNeg) s4 (fun s7 => Q (1 : Int32) s7))))))))))))
set_option maxHeartbeats 4000000 in
theorem MX0_again (l : Launch) (E : xx_E) (th : Nat) (x1 : Int32) (σ : XS) (Q : Int32 → XS → Prop) (hw : wX0_again th x1 σ Q) : xx_Mi l yX0_again (ws_ yX0_again cX0_again 2 (some .boolean)) ({ frames := 4, cells := 0, slots := 0, locals := 160 } : Room) E [xv E (some th), .int x1] σ Q 0 0 := by
  refine x_of (own := "StruckCounts") (by decide +kernel) rfl ?_
  intro p e s m args below meth c cx hR ha hnm
  refine x_entry [xv E (some th), .int x1] 2 [(0, xv E (some th)), (1, .int x1)] ha (by simp [lg_sl, xv_cat, vc_i, vc_j, vc_f]) (by simp [lv_args, xv_cat, vc_i, vc_j, vc_f]) (fun ls hl => ?_)
  have hS : va_S (xA E) s.heap s.heap [] := va_S.rf
  have hcb : 0 + 0 ≤ 0 := Nat.le_of_eq (Nat.zero_add _)
  have hsb : 0 + 0 ≤ 0 := Nat.le_of_eq (Nat.zero_add _)
  unfold wX0_again at hw
  obtain ⟨hx, hb, hml, hown, hts, hrt, hlk, hMK, hZ⟩ := id cx
  refine lv_iload_n hx hb dX0_again_0 rfl (lv_at hl 1 rfl) ?_
  refine lv_iconst (v := (0 : Int32)) hx hb dX0_again_1 (by decide) ?_
  refine lv_iconst (v := (1 : Int32)) hx hb dX0_again_2 (by decide) ?_
  refine CX0_in_X0_96 cx hR hS  hw ⟨Nat.le_of_ble_eq_true rfl, Nat.le_of_ble_eq_true rfl⟩ (Nat.le_of_ble_eq_true rfl) hl.1 ⟨by dsimp only; omega, by dsimp only; omega⟩ dX0_again_3 (fun r1 s1 H locs hw hR hS => ?_)
  refine lv_if_eq (tgt := 18) hx hb dX0_again_6 (by decide) (fun hc => ?_) (fun hc => ?_)
  · have hw := mm_ip hc hw
    refine lv_iconst (v := (0 : Int32)) hx hb dX0_again_18 (by decide) ?_
    exact x_nret cx hR hS (xle hcb) (xle hsb) (zb_nar (Or.inl rfl)) hw dX0_again_19
  · have hw := mm_in hc hw
    refine x_aload_n cx dX0_again_9 rfl (lv_at hl 0 rfl) ?_
    obtain ⟨hk2, hw⟩ := hw
    refine xg_X0_42_1 cx hR rfl hk2 dX0_again_10 ?_
    refine lv_iload_n hx hb dX0_again_13 rfl (lv_at hl 1 rfl) ?_
    obtain ⟨a3, hr3, hk3, hw⟩ := hw
    obtain ⟨hi, hw⟩ := hw
    refine x_zald cx hR hr3 hk3 (j := x1.toNatClampNeg) rfl hi dX0_again_14 ?_
    refine lv_if_ne (tgt := 20) hx hb dX0_again_15 (by decide) (fun hc => ?_) (fun hc => ?_)
    · have hw := mm_in hc hw
      refine x_aload_n cx dX0_again_20 rfl (lv_at hl 0 rfl) ?_
      refine CX0_keeps_X0_324 cx hR hS rfl hk2 hw ⟨Nat.le_of_ble_eq_true rfl, Nat.le_of_ble_eq_true rfl⟩ (Nat.le_of_ble_eq_true rfl) hl.1 ⟨by dsimp only; omega, by dsimp only; omega⟩ dX0_again_21 (fun s4 H locs hw hR hS => ?_)
      refine x_aload_n cx dX0_again_24 rfl (lv_at hl 0 rfl) ?_
      obtain ⟨hk5, hw⟩ := hw
      refine xg_X0_31_1 cx hR rfl hk5 dX0_again_25 ?_
      refine x_aload_n cx dX0_again_28 rfl (lv_at hl 0 rfl) ?_
      refine xg_X0_39_1 cx hR rfl hk5 dX0_again_29 ?_
      refine lv_iload_n hx hb dX0_again_32 rfl (lv_at hl 1 rfl) ?_
      obtain ⟨a6, hr6, hk6, hw⟩ := hw
      obtain ⟨hi, hw⟩ := hw
      refine x_aald cx hR hr6 4 hk6 (by decide) (by decide) (j := x1.toNatClampNeg) rfl hi dX0_again_33 ?_
      obtain ⟨a8, hr8, hk8, hw⟩ := hw
      refine CX2_be_X0_312 cx hR hS hr8 hk8 hw ⟨Nat.le_of_ble_eq_true rfl, Nat.le_of_ble_eq_true rfl⟩ (Nat.le_of_ble_eq_true rfl) hl.1 ⟨by dsimp only; omega, by dsimp only; omega⟩ dX0_again_34 (fun s7 H locs hw hR hS => ?_)
      refine lv_iconst (v := (1 : Int32)) hx hb dX0_again_37 (by decide) ?_
      exact x_nret cx hR hS (xle hcb) (xle hsb) (zb_nar (Or.inr rfl)) hw dX0_again_38
    · have hw := mm_ip hc hw
      refine lv_iconst (v := (0 : Int32)) hx hb dX0_again_18 (by decide) ?_
      exact x_nret cx hR hS (xle hcb) (xle hsb) (zb_nar (Or.inl rfl)) hw dX0_again_19
-- X0_isNow
def wX0_isNow (th : Nat) (x1 : Int32) (σ : XS) (Q : Int32 → XS → Prop) : Prop :=
  kd σ th = 1 ∧ (oc σ (fr σ th 6) 3 (fun a2 => wX0_agrees th x1 (fi σ a2 7) (fi σ a2 8) σ (fun r3 s3 => zb r3 ∧ Q r3 s3)))
set_option maxHeartbeats 4000000 in
theorem MX0_isNow (l : Launch) (E : xx_E) (th : Nat) (x1 : Int32) (σ : XS) (Q : Int32 → XS → Prop) (hw : wX0_isNow th x1 σ Q) : xx_Mi l yX0_isNow (ws_ yX0_isNow cX0_isNow 2 (some .boolean)) ({ frames := 1, cells := 0, slots := 0, locals := 40 } : Room) E [xv E (some th), .int x1] σ Q 0 0 := by
  refine x_of (own := "StruckCounts") (by decide +kernel) rfl ?_
  intro p e s m args below meth c cx hR ha hnm
  refine x_entry [xv E (some th), .int x1] 2 [(0, xv E (some th)), (1, .int x1)] ha (by simp [lg_sl, xv_cat, vc_i, vc_j, vc_f]) (by simp [lv_args, xv_cat, vc_i, vc_j, vc_f]) (fun ls hl => ?_)
  have hS : va_S (xA E) s.heap s.heap [] := va_S.rf
  have hcb : 0 + 0 ≤ 0 := Nat.le_of_eq (Nat.zero_add _)
  have hsb : 0 + 0 ≤ 0 := Nat.le_of_eq (Nat.zero_add _)
  unfold wX0_isNow at hw
  obtain ⟨hx, hb, hml, hown, hts, hrt, hlk, hMK, hZ⟩ := id cx
  refine x_aload_n cx dX0_isNow_0 rfl (lv_at hl 0 rfl) ?_
  refine lv_iload_n hx hb dX0_isNow_1 rfl (lv_at hl 1 rfl) ?_
  refine x_aload_n cx dX0_isNow_2 rfl (lv_at hl 0 rfl) ?_
  obtain ⟨hk1, hw⟩ := hw
  refine xg_X0_31_1 cx hR rfl hk1 dX0_isNow_3 ?_
  obtain ⟨a2, hr2, hk2, hw⟩ := hw
  refine xg_X0_149_3 cx hR hr2 hk2 dX0_isNow_6 ?_
  refine x_aload_n cx dX0_isNow_9 rfl (lv_at hl 0 rfl) ?_
  refine xg_X0_31_1 cx hR rfl hk1 dX0_isNow_10 ?_
  refine xg_X0_152_3 cx hR hr2 hk2 dX0_isNow_13 ?_
  refine CX0_agrees_X0_146 cx hR hS rfl hk1 hw ⟨Nat.le_of_ble_eq_true rfl, Nat.le_of_ble_eq_true rfl⟩ (Nat.le_of_ble_eq_true rfl) hl.1 ⟨by dsimp only; omega, by dsimp only; omega⟩ dX0_isNow_16 (fun r3 s3 H locs hw hR hS => ?_)
  obtain ⟨hz, hw⟩ := hw
  exact x_nret cx hR hS (xle hcb) (xle hsb) (zb_nar hz) hw dX0_isNow_19
-- X0_worlds
theorem CX0_isNow_X0_347 {l : Launch} {p : Program} {e : Env} {R : Room} {s : State} {m : MethodId} {args : Array Value} {below : List Frame} {meth : Method} {c : Code} {H : Heap} {locs : List Loc} {cells slots : Nat} {Qz : State → Prop} {cc : ByteArray} {nL : Nat} {ret : Option FieldType} {E : xx_E} {σ : XS} {pc : Nat} {ls : Array Slot} {rest : List Value} {th : Nat} {x1 : Int32} (cx : xx_X "StruckCounts" cc nL ret E p s m args meth c) (hR0 : xR E σ H) (hS0 : va_S (xA E) s.heap H locs) {r0 : Option Nat} (hr : r0 = some th) (hk : kd σ th = 1) {Qf : Int32 → XS → Prop} (hw : wX0_isNow th x1 σ Qf) (hR : (({ frames := 1, cells := 0, slots := 0, locals := 40 } : Room)).frames + 1 ≤ R.frames ∧ 8 + (2 + 11) + (({ frames := 1, cells := 0, slots := 0, locals := 40 } : Room)).locals ≤ R.locals) (hrest : rest.length ≤ 4) (hsize : ls.size = nL) (hf : cells + 0 ≤ R.cells ∧ slots + 0 ≤ R.slots) (hdg : decode cc pc = .ok (.invokevirtual 347, 3))
    (kk : ∀ (r : Int32) (σ1 : XS) (H1 : Heap) (locs1 : List Loc), Qf r σ1 → xR E σ1 H1 → va_S (xA E) s.heap H1 locs1 → W p l e R s m args below meth c H1 locs1 (cells + 0) (slots + 0) Qz (F0 m (pc + 3) ls (.int r :: rest))) : W p l e R s m args below meth c H locs cells slots Qz (F0 m pc ls (.int x1 :: xv E r0 :: rest)) := by
  subst hr
  obtain ⟨hx, hb, hml, hown, hts, hrt, hlk, hK, hZ⟩ := id cx
  exact x_goi (va_runV (As := [.int x1]) (rest := rest) (x_fix cx) (MX0_isNow l E th x1 σ Qf hw) (cwV 1 hts (lw_V q2127 q2129 qs54 q156 q2130) rfl rfl rfl (by decide +kernel) hR) (x_preV cx hR0 hS0 hk (by decide) (q := (RX0, TX0, 24)) rfl rfl [.int x1]) rfl rfl hsize rfl (lv_room (xroom hrest)) hdg hf) hS0 kk
def wX0_worlds_56 (Q : Int32 → XS → Prop) (K15 : Nat → Int32 → Int32 → Int32 → XS → Prop) (th : Nat) (x1 : Int32) (x2 : Int32) (x3 : Int32) (σ : XS) : Prop :=
  ∀ v1 : Int32, v1 = x3 + (1 : Int32) → K15 th x1 x2 v1 σ
set_option maxHeartbeats 4000000 in
theorem BX0_worlds_56 {l : Launch} {p : Program} {e : Env} {s : State} {m : MethodId} {args : Array Value} {below : List Frame} {meth : Method} {c : Code} {E : xx_E} {Q : Int32 → XS → Prop} {K15 : Nat → Int32 → Int32 → Int32 → XS → Prop} (cx : xx_X "StruckCounts" cX0_worlds 4 (some .int) E p s m args meth c) (hK15 : ∀ (th : Nat) (x1 : Int32) (x2 : Int32) (x3 : Int32) (σ : XS), K15 th x1 x2 x3 σ → x_T p l e ({ frames := 2, cells := 0, slots := 0, locals := 80 } : Room) s m args below meth c E (va_Qi Q (fun σ' t => xW E σ' t) (xA E)) 0 0 4 15 0 0 σ [(0, xv E (some th)), (1, .int x1), (2, .int x2), (3, .int x3)] []) : ∀ (th : Nat) (x1 : Int32) (x2 : Int32) (x3 : Int32) (σ : XS), wX0_worlds_56 Q K15 th x1 x2 x3 σ → x_T p l e ({ frames := 2, cells := 0, slots := 0, locals := 80 } : Room) s m args below meth c E (va_Qi Q (fun σ' t => xW E σ' t) (xA E)) 0 0 4 56 0 0 σ [(0, xv E (some th)), (1, .int x1), (2, .int x2), (3, .int x3)] [] := by
  intro th x1 x2 x3 σ hw H locs ls cells slots hR hS hl hcb hsb
  unfold wX0_worlds_56 at hw
  obtain ⟨hx, hb, hml, hown, hts, hrt, hlk, hMK, hZ⟩ := id cx
  obtain ⟨v1, hv1⟩ : ∃ v : Int32, v = x3 + (1 : Int32) := ⟨_, rfl⟩
  have hw := hw v1 hv1
  refine lv_iinc (v := v1) (lv' := [(3, .int v1), (0, xv E (some th)), (1, .int x1), (2, .int x2)]) hx hb dX0_worlds_56 hl (k := 3) rfl (by rw [hv1]; rfl) (by decide) rfl (fun ls hl => ?_)
  refine lv_goto (tgt := 15) hx hb dX0_worlds_59 (by decide) ?_
  exact hK15 _ _ _ _ _ hw _ _ _ _ _ hR hS (lv_sub hl [1, 2, 3, 0] rfl) hcb hsb
def wX0_worlds_53 (Q : Int32 → XS → Prop) (K15 : Nat → Int32 → Int32 → Int32 → XS → Prop) (th : Nat) (x1 : Int32) (x2 : Int32) (x3 : Int32) (σ : XS) : Prop :=
  ∀ v2 : Int32, v2 = x2 + (1 : Int32) → wX0_worlds_56 Q K15 th x1 v2 x3 σ
set_option maxHeartbeats 4000000 in
theorem BX0_worlds_53 {l : Launch} {p : Program} {e : Env} {s : State} {m : MethodId} {args : Array Value} {below : List Frame} {meth : Method} {c : Code} {E : xx_E} {Q : Int32 → XS → Prop} {K15 : Nat → Int32 → Int32 → Int32 → XS → Prop} (cx : xx_X "StruckCounts" cX0_worlds 4 (some .int) E p s m args meth c) (hK15 : ∀ (th : Nat) (x1 : Int32) (x2 : Int32) (x3 : Int32) (σ : XS), K15 th x1 x2 x3 σ → x_T p l e ({ frames := 2, cells := 0, slots := 0, locals := 80 } : Room) s m args below meth c E (va_Qi Q (fun σ' t => xW E σ' t) (xA E)) 0 0 4 15 0 0 σ [(0, xv E (some th)), (1, .int x1), (2, .int x2), (3, .int x3)] []) : ∀ (th : Nat) (x1 : Int32) (x2 : Int32) (x3 : Int32) (σ : XS), wX0_worlds_53 Q K15 th x1 x2 x3 σ → x_T p l e ({ frames := 2, cells := 0, slots := 0, locals := 80 } : Room) s m args below meth c E (va_Qi Q (fun σ' t => xW E σ' t) (xA E)) 0 0 4 53 0 0 σ [(0, xv E (some th)), (1, .int x1), (2, .int x2), (3, .int x3)] [] := by
  intro th x1 x2 x3 σ hw H locs ls cells slots hR hS hl hcb hsb
  unfold wX0_worlds_53 at hw
  obtain ⟨hx, hb, hml, hown, hts, hrt, hlk, hMK, hZ⟩ := id cx
  obtain ⟨v2, hv2⟩ : ∃ v : Int32, v = x2 + (1 : Int32) := ⟨_, rfl⟩
  have hw := hw v2 hv2
  refine lv_iinc (v := v2) (lv' := [(2, .int v2), (0, xv E (some th)), (1, .int x1), (3, .int x3)]) hx hb dX0_worlds_53 hl (k := 2) rfl (by rw [hv2]; rfl) (by decide) rfl (fun ls hl => ?_)
  exact BX0_worlds_56 cx hK15 _ _ _ _ _ hw _ _ _ _ _ hR hS (lv_sub hl [1, 2, 0, 3] rfl) hcb hsb
def wX0_worlds_15 (Q : Int32 → XS → Prop) (K15 : Nat → Int32 → Int32 → Int32 → XS → Prop) (th : Nat) (x1 : Int32) (x2 : Int32) (x3 : Int32) (σ : XS) : Prop :=
  kd σ th = 1 ∧ (oc σ (fr σ th 5) 2 (fun a5 => wX1_sets a5 σ (fun r4 s4 => if r4 ≤ x3 then (Q x2 s4) else (if x1 = 0 then (kd s4 th = 1 ∧ (oc s4 (fr s4 th 5) 2 (fun a9 => oc s4 (fr s4 a9 10) 101 (fun a10 => vp_in x3 (ln s4 a10) ∧ (if (ai s4 a10 x3.toNatClampNeg) = 0 then (wX0_worlds_56 Q K15 th x1 x2 x3 s4) else (wX0_worlds_53 Q K15 th x1 x2 x3 s4)))))) else (kd s4 th = 1 ∧ (wX0_isNow th x3 s4 (fun r6 s6 => if r6 = 0 then (wX0_worlds_56 Q K15 th x1 x2 x3 s6) else (wX0_worlds_53 Q K15 th x1 x2 x3 s6))))))))
set_option maxHeartbeats 4000000 in
theorem BX0_worlds_15 {l : Launch} {p : Program} {e : Env} {s : State} {m : MethodId} {args : Array Value} {below : List Frame} {meth : Method} {c : Code} {E : xx_E} {Q : Int32 → XS → Prop} {K15 : Nat → Int32 → Int32 → Int32 → XS → Prop} (cx : xx_X "StruckCounts" cX0_worlds 4 (some .int) E p s m args meth c) (hK15 : ∀ (th : Nat) (x1 : Int32) (x2 : Int32) (x3 : Int32) (σ : XS), K15 th x1 x2 x3 σ → x_T p l e ({ frames := 2, cells := 0, slots := 0, locals := 80 } : Room) s m args below meth c E (va_Qi Q (fun σ' t => xW E σ' t) (xA E)) 0 0 4 15 0 0 σ [(0, xv E (some th)), (1, .int x1), (2, .int x2), (3, .int x3)] []) : ∀ (th : Nat) (x1 : Int32) (x2 : Int32) (x3 : Int32) (σ : XS), wX0_worlds_15 Q K15 th x1 x2 x3 σ → x_T p l e ({ frames := 2, cells := 0, slots := 0, locals := 80 } : Room) s m args below meth c E (va_Qi Q (fun σ' t => xW E σ' t) (xA E)) 0 0 4 15 0 0 σ [(0, xv E (some th)), (1, .int x1), (2, .int x2), (3, .int x3)] [] := by
  intro th x1 x2 x3 σ hw H locs ls cells slots hR hS hl hcb hsb
  unfold wX0_worlds_15 at hw
  obtain ⟨hx, hb, hml, hown, hts, hrt, hlk, hMK, hZ⟩ := id cx
  refine lv_iload_n hx hb dX0_worlds_15 rfl (lv_at hl 3 rfl) ?_
  refine x_aload_n cx dX0_worlds_16 rfl (lv_at hl 0 rfl) ?_
  obtain ⟨hk3, hw⟩ := hw
  refine xg_X0_24_1 cx hR rfl hk3 dX0_worlds_17 ?_
  obtain ⟨a5, hr5, hk5, hw⟩ := hw
  refine CX1_sets_X0_142 cx hR hS hr5 hk5 hw ⟨Nat.le_of_ble_eq_true rfl, Nat.le_of_ble_eq_true rfl⟩ (Nat.le_of_ble_eq_true rfl) hl.1 ⟨by dsimp only; omega, by dsimp only; omega⟩ dX0_worlds_20 (fun r4 s4 H locs hw hR hS => ?_)
  refine lv_icmp_ge (tgt := 62) hx hb dX0_worlds_23 (by decide) (fun hc => ?_) (fun hc => ?_)
  · have hw := mm_ip hc hw
    refine lv_iload_n hx hb dX0_worlds_62 rfl (lv_at hl 2 rfl) ?_
    exact x_iret cx hR hS (xle hcb) (xle hsb) hw dX0_worlds_63
  · have hw := mm_in hc hw
    refine lv_iload_n hx hb dX0_worlds_26 rfl (lv_at hl 1 rfl) ?_
    refine lv_if_ne (tgt := 45) hx hb dX0_worlds_27 (by decide) (fun hc => ?_) (fun hc => ?_)
    · have hw := mm_in hc hw
      refine x_aload_n cx dX0_worlds_45 rfl (lv_at hl 0 rfl) ?_
      refine lv_iload_n hx hb dX0_worlds_46 rfl (lv_at hl 3 rfl) ?_
      obtain ⟨hk7, hw⟩ := hw
      refine CX0_isNow_X0_347 cx hR hS rfl hk7 hw ⟨Nat.le_of_ble_eq_true rfl, Nat.le_of_ble_eq_true rfl⟩ (Nat.le_of_ble_eq_true rfl) hl.1 ⟨by dsimp only; omega, by dsimp only; omega⟩ dX0_worlds_47 (fun r6 s6 H locs hw hR hS => ?_)
      refine lv_if_eq (tgt := 56) hx hb dX0_worlds_50 (by decide) (fun hc => ?_) (fun hc => ?_)
      · have hw := mm_ip hc hw
        exact BX0_worlds_56 cx hK15 _ _ _ _ _ hw _ _ _ _ _ hR hS (lv_sub hl [0, 1, 2, 3] rfl) hcb hsb
      · have hw := mm_in hc hw
        exact BX0_worlds_53 cx hK15 _ _ _ _ _ hw _ _ _ _ _ hR hS (lv_sub hl [0, 1, 2, 3] rfl) hcb hsb
    · have hw := mm_ip hc hw
      refine x_aload_n cx dX0_worlds_30 rfl (lv_at hl 0 rfl) ?_
      obtain ⟨hk8, hw⟩ := hw
      refine xg_X0_24_1 cx hR rfl hk8 dX0_worlds_31 ?_
      obtain ⟨a9, hr9, hk9, hw⟩ := hw
      refine xg_X0_139_2 cx hR hr9 hk9 dX0_worlds_34 ?_
      refine lv_iload_n hx hb dX0_worlds_37 rfl (lv_at hl 3 rfl) ?_
      obtain ⟨a10, hr10, hk10, hw⟩ := hw
      obtain ⟨hi, hw⟩ := hw
      refine x_zald cx hR hr10 hk10 (j := x3.toNatClampNeg) rfl hi dX0_worlds_38 ?_
      refine lv_if_eq (tgt := 56) hx hb dX0_worlds_39 (by decide) (fun hc => ?_) (fun hc => ?_)
      · have hw := mm_ip hc hw
        exact BX0_worlds_56 cx hK15 _ _ _ _ _ hw _ _ _ _ _ hR hS (lv_sub hl [0, 1, 2, 3] rfl) hcb hsb
      · have hw := mm_in hc hw
        refine lv_goto (tgt := 53) hx hb dX0_worlds_42 (by decide) ?_
        exact BX0_worlds_53 cx hK15 _ _ _ _ _ hw _ _ _ _ _ hR hS (lv_sub hl [0, 1, 2, 3] rfl) hcb hsb
theorem LX0_worlds_15 {l : Launch} {p : Program} {e : Env} {s : State} {m : MethodId} {args : Array Value} {below : List Frame} {meth : Method} {c : Code} {E : xx_E} {Q : Int32 → XS → Prop} (cx : xx_X "StruckCounts" cX0_worlds 4 (some .int) E p s m args meth c) : ∀ (th : Nat) (x1 : Int32) (x2 : Int32) (x3 : Int32) (σ : XS), lp5F (wX0_worlds_15 Q) th x1 x2 x3 σ → x_T p l e ({ frames := 2, cells := 0, slots := 0, locals := 80 } : Room) s m args below meth c E (va_Qi Q (fun σ' t => xW E σ' t) (xA E)) 0 0 4 15 0 0 σ [(0, xv E (some th)), (1, .int x1), (2, .int x2), (3, .int x3)] [] :=
  lp5F_of (fun K hK => BX0_worlds_15 cx hK)
def wX0_worlds (th : Nat) (x1 : Int32) (σ : XS) (Q : Int32 → XS → Prop) : Prop :=
  wX0_in x1 (0 : Int32) (1 : Int32) σ (fun r11 s11 => if r11 = 0 then (Q (-1 : Int32) s11) else (lp5F (wX0_worlds_15 Q) th x1 (0 : Int32) (0 : Int32) s11))
set_option maxHeartbeats 4000000 in
theorem MX0_worlds (l : Launch) (E : xx_E) (th : Nat) (x1 : Int32) (σ : XS) (Q : Int32 → XS → Prop) (hw : wX0_worlds th x1 σ Q) : xx_Mi l yX0_worlds (ws_ yX0_worlds cX0_worlds 4 (some .int)) ({ frames := 2, cells := 0, slots := 0, locals := 80 } : Room) E [xv E (some th), .int x1] σ Q 0 0 := by
  refine x_of (own := "StruckCounts") (by decide +kernel) rfl ?_
  intro p e s m args below meth c cx hR ha hnm
  refine x_entry [xv E (some th), .int x1] 4 [(0, xv E (some th)), (1, .int x1)] ha (by simp [lg_sl, xv_cat, vc_i, vc_j, vc_f]) (by simp [lv_args, xv_cat, vc_i, vc_j, vc_f]) (fun ls hl => ?_)
  have hS : va_S (xA E) s.heap s.heap [] := va_S.rf
  have hcb : 0 + 0 ≤ 0 := Nat.le_of_eq (Nat.zero_add _)
  have hsb : 0 + 0 ≤ 0 := Nat.le_of_eq (Nat.zero_add _)
  unfold wX0_worlds at hw
  obtain ⟨hx, hb, hml, hown, hts, hrt, hlk, hMK, hZ⟩ := id cx
  refine lv_iload_n hx hb dX0_worlds_0 rfl (lv_at hl 1 rfl) ?_
  refine lv_iconst (v := (0 : Int32)) hx hb dX0_worlds_1 (by decide) ?_
  refine lv_iconst (v := (1 : Int32)) hx hb dX0_worlds_2 (by decide) ?_
  refine CX0_in_X0_96 cx hR hS  hw ⟨Nat.le_of_ble_eq_true rfl, Nat.le_of_ble_eq_true rfl⟩ (Nat.le_of_ble_eq_true rfl) hl.1 ⟨by dsimp only; omega, by dsimp only; omega⟩ dX0_worlds_3 (fun r11 s11 H locs hw hR hS => ?_)
  refine lv_if_ne (tgt := 11) hx hb dX0_worlds_6 (by decide) (fun hc => ?_) (fun hc => ?_)
  · have hw := mm_in hc hw
    refine lv_iconst (v := (0 : Int32)) hx hb dX0_worlds_11 (by decide) ?_
    refine lv_istore_n (i := 2) (lv' := [(2, .int (0 : Int32)), (0, xv E (some th)), (1, .int x1)]) hx hb dX0_worlds_12 rfl hl (by decide) rfl (fun ls hl => ?_)
    refine lv_iconst (v := (0 : Int32)) hx hb dX0_worlds_13 (by decide) ?_
    refine lv_istore_n (i := 3) (lv' := [(3, .int (0 : Int32)), (2, .int (0 : Int32)), (0, xv E (some th)), (1, .int x1)]) hx hb dX0_worlds_14 rfl hl (by decide) rfl (fun ls hl => ?_)
    exact LX0_worlds_15 cx _ _ _ _ _ hw _ _ _ _ _ hR hS (lv_sub hl [2, 3, 1, 0] rfl) hcb hsb
  · have hw := mm_ip hc hw
    refine lv_iconst (v := (-1 : Int32)) hx hb dX0_worlds_9 (by decide) ?_
    exact x_iret cx hR hS (xle hcb) (xle hsb) hw dX0_worlds_10
-- X0_clash
def wX0_clash_85 (Q : Int32 → XS → Prop) (K20 : Nat → Int32 → Int32 → Int32 → XS → Prop) (th : Nat) (x1 : Int32) (x2 : Int32) (x3 : Int32) (σ : XS) : Prop :=
  ∀ v1 : Int32, v1 = x3 + (1 : Int32) → K20 th x1 x2 v1 σ
set_option maxHeartbeats 4000000 in
theorem BX0_clash_85 {l : Launch} {p : Program} {e : Env} {s : State} {m : MethodId} {args : Array Value} {below : List Frame} {meth : Method} {c : Code} {E : xx_E} {Q : Int32 → XS → Prop} {K20 : Nat → Int32 → Int32 → Int32 → XS → Prop} (cx : xx_X "StruckCounts" cX0_clash 4 (some .int) E p s m args meth c) (hK20 : ∀ (th : Nat) (x1 : Int32) (x2 : Int32) (x3 : Int32) (σ : XS), K20 th x1 x2 x3 σ → x_T p l e ({ frames := 2, cells := 0, slots := 0, locals := 80 } : Room) s m args below meth c E (va_Qi Q (fun σ' t => xW E σ' t) (xA E)) 0 0 4 20 0 0 σ [(0, xv E (some th)), (1, .int x1), (2, .int x2), (3, .int x3)] []) : ∀ (th : Nat) (x1 : Int32) (x2 : Int32) (x3 : Int32) (σ : XS), wX0_clash_85 Q K20 th x1 x2 x3 σ → x_T p l e ({ frames := 2, cells := 0, slots := 0, locals := 80 } : Room) s m args below meth c E (va_Qi Q (fun σ' t => xW E σ' t) (xA E)) 0 0 4 85 0 0 σ [(0, xv E (some th)), (1, .int x1), (2, .int x2), (3, .int x3)] [] := by
  intro th x1 x2 x3 σ hw H locs ls cells slots hR hS hl hcb hsb
  unfold wX0_clash_85 at hw
  obtain ⟨hx, hb, hml, hown, hts, hrt, hlk, hMK, hZ⟩ := id cx
  obtain ⟨v1, hv1⟩ : ∃ v : Int32, v = x3 + (1 : Int32) := ⟨_, rfl⟩
  have hw := hw v1 hv1
  refine lv_iinc (v := v1) (lv' := [(3, .int v1), (0, xv E (some th)), (1, .int x1), (2, .int x2)]) hx hb dX0_clash_85 hl (k := 3) rfl (by rw [hv1]; rfl) (by decide) rfl (fun ls hl => ?_)
  refine lv_goto (tgt := 20) hx hb dX0_clash_88 (by decide) ?_
  exact hK20 _ _ _ _ _ hw _ _ _ _ _ hR hS (lv_sub hl [1, 2, 3, 0] rfl) hcb hsb
def wX0_clash_20 (Q : Int32 → XS → Prop) (K20 : Nat → Int32 → Int32 → Int32 → XS → Prop) (th : Nat) (x1 : Int32) (x2 : Int32) (x3 : Int32) (σ : XS) : Prop :=
  kd σ th = 1 ∧ (oc σ (fr σ th 5) 2 (fun a4 => wX1_sets a4 σ (fun r3 s3 => if r3 ≤ x3 then (Q (1 : Int32) s3) else (kd s3 th = 1 ∧ (oc s3 (fr s3 th 6) 3 (fun a6 => oc s3 (fr s3 a6 5) 100 (fun a7 => vp_in x1 (ln s3 a7) ∧ (oc s3 (fr s3 a6 6) 100 (fun a8 => vp_in x1 (ln s3 a8) ∧ (wX0_agrees th x3 (ai s3 a7 x1.toNatClampNeg) (ai s3 a8 x1.toNatClampNeg) s3 (fun r9 s9 => if r9 = 0 then (wX0_clash_85 Q K20 th x1 x2 x3 s9) else (kd s9 th = 1 ∧ (oc s9 (fr s9 th 6) 3 (fun a11 => oc s9 (fr s9 a11 5) 100 (fun a12 => vp_in x2 (ln s9 a12) ∧ (oc s9 (fr s9 a11 6) 100 (fun a13 => vp_in x2 (ln s9 a13) ∧ (wX0_agrees th x3 (ai s9 a12 x2.toNatClampNeg) (ai s9 a13 x2.toNatClampNeg) s9 (fun r14 s14 => if r14 = 0 then (wX0_clash_85 Q K20 th x1 x2 x3 s14) else (Q (0 : Int32) s14))))))))))))))))))))
set_option maxHeartbeats 4000000 in
theorem BX0_clash_20 {l : Launch} {p : Program} {e : Env} {s : State} {m : MethodId} {args : Array Value} {below : List Frame} {meth : Method} {c : Code} {E : xx_E} {Q : Int32 → XS → Prop} {K20 : Nat → Int32 → Int32 → Int32 → XS → Prop} (cx : xx_X "StruckCounts" cX0_clash 4 (some .int) E p s m args meth c) (hK20 : ∀ (th : Nat) (x1 : Int32) (x2 : Int32) (x3 : Int32) (σ : XS), K20 th x1 x2 x3 σ → x_T p l e ({ frames := 2, cells := 0, slots := 0, locals := 80 } : Room) s m args below meth c E (va_Qi Q (fun σ' t => xW E σ' t) (xA E)) 0 0 4 20 0 0 σ [(0, xv E (some th)), (1, .int x1), (2, .int x2), (3, .int x3)] []) : ∀ (th : Nat) (x1 : Int32) (x2 : Int32) (x3 : Int32) (σ : XS), wX0_clash_20 Q K20 th x1 x2 x3 σ → x_T p l e ({ frames := 2, cells := 0, slots := 0, locals := 80 } : Room) s m args below meth c E (va_Qi Q (fun σ' t => xW E σ' t) (xA E)) 0 0 4 20 0 0 σ [(0, xv E (some th)), (1, .int x1), (2, .int x2), (3, .int x3)] [] := by
  intro th x1 x2 x3 σ hw H locs ls cells slots hR hS hl hcb hsb
  unfold wX0_clash_20 at hw
  obtain ⟨hx, hb, hml, hown, hts, hrt, hlk, hMK, hZ⟩ := id cx
  refine lv_iload_n hx hb dX0_clash_20 rfl (lv_at hl 3 rfl) ?_
  refine x_aload_n cx dX0_clash_21 rfl (lv_at hl 0 rfl) ?_
  obtain ⟨hk2, hw⟩ := hw
  refine xg_X0_24_1 cx hR rfl hk2 dX0_clash_22 ?_
  obtain ⟨a4, hr4, hk4, hw⟩ := hw
  refine CX1_sets_X0_142 cx hR hS hr4 hk4 hw ⟨Nat.le_of_ble_eq_true rfl, Nat.le_of_ble_eq_true rfl⟩ (Nat.le_of_ble_eq_true rfl) hl.1 ⟨by dsimp only; omega, by dsimp only; omega⟩ dX0_clash_25 (fun r3 s3 H locs hw hR hS => ?_)
  refine lv_icmp_ge (tgt := 91) hx hb dX0_clash_28 (by decide) (fun hc => ?_) (fun hc => ?_)
  · have hw := mm_ip hc hw
    refine lv_iconst (v := (1 : Int32)) hx hb dX0_clash_91 (by decide) ?_
    exact x_iret cx hR hS (xle hcb) (xle hsb) hw dX0_clash_92
  · have hw := mm_in hc hw
    refine x_aload_n cx dX0_clash_31 rfl (lv_at hl 0 rfl) ?_
    refine lv_iload_n hx hb dX0_clash_32 rfl (lv_at hl 3 rfl) ?_
    refine x_aload_n cx dX0_clash_33 rfl (lv_at hl 0 rfl) ?_
    obtain ⟨hk5, hw⟩ := hw
    refine xg_X0_31_1 cx hR rfl hk5 dX0_clash_34 ?_
    obtain ⟨a6, hr6, hk6, hw⟩ := hw
    refine xg_X0_195_3 cx hR hr6 hk6 dX0_clash_37 ?_
    refine lv_iload_n hx hb dX0_clash_40 rfl (lv_at hl 1 rfl) ?_
    obtain ⟨a7, hr7, hk7, hw⟩ := hw
    obtain ⟨hi, hw⟩ := hw
    refine x_iald cx hR hr7 hk7 (j := x1.toNatClampNeg) rfl hi dX0_clash_41 ?_
    refine x_aload_n cx dX0_clash_42 rfl (lv_at hl 0 rfl) ?_
    refine xg_X0_31_1 cx hR rfl hk5 dX0_clash_43 ?_
    refine xg_X0_247_3 cx hR hr6 hk6 dX0_clash_46 ?_
    refine lv_iload_n hx hb dX0_clash_49 rfl (lv_at hl 1 rfl) ?_
    obtain ⟨a8, hr8, hk8, hw⟩ := hw
    obtain ⟨hi, hw⟩ := hw
    refine x_iald cx hR hr8 hk8 (j := x1.toNatClampNeg) rfl hi dX0_clash_50 ?_
    refine CX0_agrees_X0_146 cx hR hS rfl hk5 hw ⟨Nat.le_of_ble_eq_true rfl, Nat.le_of_ble_eq_true rfl⟩ (Nat.le_of_ble_eq_true rfl) hl.1 ⟨by dsimp only; omega, by dsimp only; omega⟩ dX0_clash_51 (fun r9 s9 H locs hw hR hS => ?_)
    refine lv_if_eq (tgt := 85) hx hb dX0_clash_54 (by decide) (fun hc => ?_) (fun hc => ?_)
    · have hw := mm_ip hc hw
      exact BX0_clash_85 cx hK20 _ _ _ _ _ hw _ _ _ _ _ hR hS (lv_sub hl [0, 1, 2, 3] rfl) hcb hsb
    · have hw := mm_in hc hw
      refine x_aload_n cx dX0_clash_57 rfl (lv_at hl 0 rfl) ?_
      refine lv_iload_n hx hb dX0_clash_58 rfl (lv_at hl 3 rfl) ?_
      refine x_aload_n cx dX0_clash_59 rfl (lv_at hl 0 rfl) ?_
      obtain ⟨hk10, hw⟩ := hw
      refine xg_X0_31_1 cx hR rfl hk10 dX0_clash_60 ?_
      obtain ⟨a11, hr11, hk11, hw⟩ := hw
      refine xg_X0_195_3 cx hR hr11 hk11 dX0_clash_63 ?_
      refine lv_iload_n hx hb dX0_clash_66 rfl (lv_at hl 2 rfl) ?_
      obtain ⟨a12, hr12, hk12, hw⟩ := hw
      obtain ⟨hi, hw⟩ := hw
      refine x_iald cx hR hr12 hk12 (j := x2.toNatClampNeg) rfl hi dX0_clash_67 ?_
      refine x_aload_n cx dX0_clash_68 rfl (lv_at hl 0 rfl) ?_
      refine xg_X0_31_1 cx hR rfl hk10 dX0_clash_69 ?_
      refine xg_X0_247_3 cx hR hr11 hk11 dX0_clash_72 ?_
      refine lv_iload_n hx hb dX0_clash_75 rfl (lv_at hl 2 rfl) ?_
      obtain ⟨a13, hr13, hk13, hw⟩ := hw
      obtain ⟨hi, hw⟩ := hw
      refine x_iald cx hR hr13 hk13 (j := x2.toNatClampNeg) rfl hi dX0_clash_76 ?_
      refine CX0_agrees_X0_146 cx hR hS rfl hk10 hw ⟨Nat.le_of_ble_eq_true rfl, Nat.le_of_ble_eq_true rfl⟩ (Nat.le_of_ble_eq_true rfl) hl.1 ⟨by dsimp only; omega, by dsimp only; omega⟩ dX0_clash_77 (fun r14 s14 H locs hw hR hS => ?_)
      refine lv_if_eq (tgt := 85) hx hb dX0_clash_80 (by decide) (fun hc => ?_) (fun hc => ?_)
      · have hw := mm_ip hc hw
        exact BX0_clash_85 cx hK20 _ _ _ _ _ hw _ _ _ _ _ hR hS (lv_sub hl [0, 1, 2, 3] rfl) hcb hsb
      · have hw := mm_in hc hw
        refine lv_iconst (v := (0 : Int32)) hx hb dX0_clash_83 (by decide) ?_
        exact x_iret cx hR hS (xle hcb) (xle hsb) hw dX0_clash_84
theorem LX0_clash_20 {l : Launch} {p : Program} {e : Env} {s : State} {m : MethodId} {args : Array Value} {below : List Frame} {meth : Method} {c : Code} {E : xx_E} {Q : Int32 → XS → Prop} (cx : xx_X "StruckCounts" cX0_clash 4 (some .int) E p s m args meth c) : ∀ (th : Nat) (x1 : Int32) (x2 : Int32) (x3 : Int32) (σ : XS), lp5F (wX0_clash_20 Q) th x1 x2 x3 σ → x_T p l e ({ frames := 2, cells := 0, slots := 0, locals := 80 } : Room) s m args below meth c E (va_Qi Q (fun σ' t => xW E σ' t) (xA E)) 0 0 4 20 0 0 σ [(0, xv E (some th)), (1, .int x1), (2, .int x2), (3, .int x3)] [] :=
  lp5F_of (fun K hK => BX0_clash_20 cx hK)
def wX0_clash (th : Nat) (x1 : Int32) (x2 : Int32) (σ : XS) (Q : Int32 → XS → Prop) : Prop :=
  kd σ th = 1 ∧ (wX0_isCount th x1 σ (fun r15 s15 => if r15 = 0 then (Q (-1 : Int32) s15) else (kd s15 th = 1 ∧ (wX0_isCount th x2 s15 (fun r17 s17 => if r17 = 0 then (Q (-1 : Int32) s17) else (lp5F (wX0_clash_20 Q) th x1 x2 (0 : Int32) s17))))))
set_option maxHeartbeats 4000000 in
theorem MX0_clash (l : Launch) (E : xx_E) (th : Nat) (x1 : Int32) (x2 : Int32) (σ : XS) (Q : Int32 → XS → Prop) (hw : wX0_clash th x1 x2 σ Q) : xx_Mi l yX0_clash (ws_ yX0_clash cX0_clash 4 (some .int)) ({ frames := 2, cells := 0, slots := 0, locals := 80 } : Room) E [xv E (some th), .int x1, .int x2] σ Q 0 0 := by
  refine x_of (own := "StruckCounts") (by decide +kernel) rfl ?_
  intro p e s m args below meth c cx hR ha hnm
  refine x_entry [xv E (some th), .int x1, .int x2] 4 [(0, xv E (some th)), (1, .int x1), (2, .int x2)] ha (by simp [lg_sl, xv_cat, vc_i, vc_j, vc_f]) (by simp [lv_args, xv_cat, vc_i, vc_j, vc_f]) (fun ls hl => ?_)
  have hS : va_S (xA E) s.heap s.heap [] := va_S.rf
  have hcb : 0 + 0 ≤ 0 := Nat.le_of_eq (Nat.zero_add _)
  have hsb : 0 + 0 ≤ 0 := Nat.le_of_eq (Nat.zero_add _)
  unfold wX0_clash at hw
  obtain ⟨hx, hb, hml, hown, hts, hrt, hlk, hMK, hZ⟩ := id cx
  refine x_aload_n cx dX0_clash_0 rfl (lv_at hl 0 rfl) ?_
  refine lv_iload_n hx hb dX0_clash_1 rfl (lv_at hl 1 rfl) ?_
  obtain ⟨hk16, hw⟩ := hw
  refine CX0_isCount_X0_290 cx hR hS rfl hk16 hw ⟨Nat.le_of_ble_eq_true rfl, Nat.le_of_ble_eq_true rfl⟩ (Nat.le_of_ble_eq_true rfl) hl.1 ⟨by dsimp only; omega, by dsimp only; omega⟩ dX0_clash_2 (fun r15 s15 H locs hw hR hS => ?_)
  refine lv_if_eq (tgt := 16) hx hb dX0_clash_5 (by decide) (fun hc => ?_) (fun hc => ?_)
  · have hw := mm_ip hc hw
    refine lv_iconst (v := (-1 : Int32)) hx hb dX0_clash_16 (by decide) ?_
    exact x_iret cx hR hS (xle hcb) (xle hsb) hw dX0_clash_17
  · have hw := mm_in hc hw
    refine x_aload_n cx dX0_clash_8 rfl (lv_at hl 0 rfl) ?_
    refine lv_iload_n hx hb dX0_clash_9 rfl (lv_at hl 2 rfl) ?_
    obtain ⟨hk18, hw⟩ := hw
    refine CX0_isCount_X0_290 cx hR hS rfl hk18 hw ⟨Nat.le_of_ble_eq_true rfl, Nat.le_of_ble_eq_true rfl⟩ (Nat.le_of_ble_eq_true rfl) hl.1 ⟨by dsimp only; omega, by dsimp only; omega⟩ dX0_clash_10 (fun r17 s17 H locs hw hR hS => ?_)
    refine lv_if_ne (tgt := 18) hx hb dX0_clash_13 (by decide) (fun hc => ?_) (fun hc => ?_)
    · have hw := mm_in hc hw
      refine lv_iconst (v := (0 : Int32)) hx hb dX0_clash_18 (by decide) ?_
      refine lv_istore_n (i := 3) (lv' := [(3, .int (0 : Int32)), (0, xv E (some th)), (1, .int x1), (2, .int x2)]) hx hb dX0_clash_19 rfl hl (by decide) rfl (fun ls hl => ?_)
      exact LX0_clash_20 cx _ _ _ _ _ hw _ _ _ _ _ hR hS (lv_sub hl [1, 2, 3, 0] rfl) hcb hsb
    · have hw := mm_ip hc hw
      refine lv_iconst (v := (-1 : Int32)) hx hb dX0_clash_16 (by decide) ?_
      exact x_iret cx hR hS (xle hcb) (xle hsb) hw dX0_clash_17
-- X0_holdsAny
def wX0_holdsAny_2 (Q : Int32 → XS → Prop) (K2 : Option Nat → Int32 → Int32 → XS → Prop) (x0 : Option Nat) (x1 : Int32) (x2 : Int32) (σ : XS) : Prop :=
  oc σ x0 16 (fun a2 => wJ7_size a2 σ (fun r1 s1 => if r1 ≤ x2 then (Q (0 : Int32) s1) else (oc s1 x0 16 (fun a4 => wJ7_get a4 x2 s1 (fun r3 s3 => xck [13] s3 r3 ∧ (oc s3 r3 13 (fun a5 => oc s3 (fr s3 a5 1) 101 (fun a6 => vp_in x1 (ln s3 a6) ∧ (if (ai s3 a6 x1.toNatClampNeg) = 0 then (∀ v7 : Int32, v7 = x2 + (1 : Int32) → K2 x0 x1 v7 s3) else (Q (1 : Int32) s3))))))))))
set_option maxHeartbeats 4000000 in
theorem BX0_holdsAny_2 {l : Launch} {p : Program} {e : Env} {s : State} {m : MethodId} {args : Array Value} {below : List Frame} {meth : Method} {c : Code} {E : xx_E} {Q : Int32 → XS → Prop} {K2 : Option Nat → Int32 → Int32 → XS → Prop} (cx : xx_X "StruckCounts" cX0_holdsAny 3 (some .boolean) E p s m args meth c) (hK2 : ∀ (x0 : Option Nat) (x1 : Int32) (x2 : Int32) (σ : XS), K2 x0 x1 x2 σ → x_T p l e ({ frames := 3, cells := 0, slots := 0, locals := 120 } : Room) s m args below meth c E (va_Qi Q (fun σ' t => xW E σ' t) (xA E)) 0 0 3 2 0 0 σ [(0, xv E x0), (1, .int x1), (2, .int x2)] []) : ∀ (x0 : Option Nat) (x1 : Int32) (x2 : Int32) (σ : XS), wX0_holdsAny_2 Q K2 x0 x1 x2 σ → x_T p l e ({ frames := 3, cells := 0, slots := 0, locals := 120 } : Room) s m args below meth c E (va_Qi Q (fun σ' t => xW E σ' t) (xA E)) 0 0 3 2 0 0 σ [(0, xv E x0), (1, .int x1), (2, .int x2)] [] := by
  intro x0 x1 x2 σ hw H locs ls cells slots hR hS hl hcb hsb
  unfold wX0_holdsAny_2 at hw
  obtain ⟨hx, hb, hml, hown, hts, hrt, hlk, hMK, hZ⟩ := id cx
  refine lv_iload_n hx hb dX0_holdsAny_2 rfl (lv_at hl 2 rfl) ?_
  refine x_aload_n cx dX0_holdsAny_3 rfl (lv_at hl 0 rfl) ?_
  obtain ⟨a2, hr2, hk2, hw⟩ := hw
  refine CJ7_size_X0_159 cx hR hS hr2 hk2 hw ⟨Nat.le_of_ble_eq_true rfl, Nat.le_of_ble_eq_true rfl⟩ (Nat.le_of_ble_eq_true rfl) hl.1 ⟨by dsimp only; omega, by dsimp only; omega⟩ dX0_holdsAny_4 (fun r1 s1 H locs hw hR hS => ?_)
  refine lv_icmp_ge (tgt := 34) hx hb dX0_holdsAny_7 (by decide) (fun hc => ?_) (fun hc => ?_)
  · have hw := mm_ip hc hw
    refine lv_iconst (v := (0 : Int32)) hx hb dX0_holdsAny_34 (by decide) ?_
    exact x_nret cx hR hS (xle hcb) (xle hsb) (zb_nar (Or.inl rfl)) hw dX0_holdsAny_35
  · have hw := mm_in hc hw
    refine x_aload_n cx dX0_holdsAny_10 rfl (lv_at hl 0 rfl) ?_
    refine lv_iload_n hx hb dX0_holdsAny_11 rfl (lv_at hl 2 rfl) ?_
    obtain ⟨a4, hr4, hk4, hw⟩ := hw
    refine CJ7_get_X0_167 cx hR hS hr4 hk4 hw ⟨Nat.le_of_ble_eq_true rfl, Nat.le_of_ble_eq_true rfl⟩ (Nat.le_of_ble_eq_true rfl) hl.1 ⟨by dsimp only; omega, by dsimp only; omega⟩ dX0_holdsAny_12 (fun r3 s3 H locs hw hR hS => ?_)
    obtain ⟨hv, hw⟩ := hw
    refine x_cast cx hR q1965 (xcc_1 hv) dX0_holdsAny_15 ?_
    obtain ⟨a5, hr5, hk5, hw⟩ := hw
    refine xg_X0_175_13 cx hR hr5 hk5 dX0_holdsAny_18 ?_
    refine lv_iload_n hx hb dX0_holdsAny_21 rfl (lv_at hl 1 rfl) ?_
    obtain ⟨a6, hr6, hk6, hw⟩ := hw
    obtain ⟨hi, hw⟩ := hw
    refine x_zald cx hR hr6 hk6 (j := x1.toNatClampNeg) rfl hi dX0_holdsAny_22 ?_
    refine lv_if_eq (tgt := 28) hx hb dX0_holdsAny_23 (by decide) (fun hc => ?_) (fun hc => ?_)
    · have hw := mm_ip hc hw
      obtain ⟨v7, hv7⟩ : ∃ v : Int32, v = x2 + (1 : Int32) := ⟨_, rfl⟩
      have hw := hw v7 hv7
      refine lv_iinc (v := v7) (lv' := [(2, .int v7), (0, xv E x0), (1, .int x1)]) hx hb dX0_holdsAny_28 hl (k := 2) rfl (by rw [hv7]; rfl) (by decide) rfl (fun ls hl => ?_)
      refine lv_goto (tgt := 2) hx hb dX0_holdsAny_31 (by decide) ?_
      exact hK2 _ _ _ _ hw _ _ _ _ _ hR hS (lv_sub hl [1, 2, 0] rfl) hcb hsb
    · have hw := mm_in hc hw
      refine lv_iconst (v := (1 : Int32)) hx hb dX0_holdsAny_26 (by decide) ?_
      exact x_nret cx hR hS (xle hcb) (xle hsb) (zb_nar (Or.inr rfl)) hw dX0_holdsAny_27
theorem LX0_holdsAny_2 {l : Launch} {p : Program} {e : Env} {s : State} {m : MethodId} {args : Array Value} {below : List Frame} {meth : Method} {c : Code} {E : xx_E} {Q : Int32 → XS → Prop} (cx : xx_X "StruckCounts" cX0_holdsAny 3 (some .boolean) E p s m args meth c) : ∀ (x0 : Option Nat) (x1 : Int32) (x2 : Int32) (σ : XS), lp4F (wX0_holdsAny_2 Q) x0 x1 x2 σ → x_T p l e ({ frames := 3, cells := 0, slots := 0, locals := 120 } : Room) s m args below meth c E (va_Qi Q (fun σ' t => xW E σ' t) (xA E)) 0 0 3 2 0 0 σ [(0, xv E x0), (1, .int x1), (2, .int x2)] [] :=
  lp4F_of (fun K hK => BX0_holdsAny_2 cx hK)
def wX0_holdsAny (x0 : Option Nat) (x1 : Int32) (σ : XS) (Q : Int32 → XS → Prop) : Prop :=
  lp4F (wX0_holdsAny_2 Q) x0 x1 (0 : Int32) σ
set_option maxHeartbeats 4000000 in
theorem MX0_holdsAny (l : Launch) (E : xx_E) (x0 : Option Nat) (x1 : Int32) (σ : XS) (Q : Int32 → XS → Prop) (hw : wX0_holdsAny x0 x1 σ Q) : xx_Mi l yX0_holdsAny (ws_ yX0_holdsAny cX0_holdsAny 3 (some .boolean)) ({ frames := 3, cells := 0, slots := 0, locals := 120 } : Room) E [xv E x0, .int x1] σ Q 0 0 := by
  refine x_of (own := "StruckCounts") (by decide +kernel) rfl ?_
  intro p e s m args below meth c cx hR ha hnm
  refine x_entry [xv E x0, .int x1] 3 [(0, xv E x0), (1, .int x1)] ha (by simp [lg_sl, xv_cat, vc_i, vc_j, vc_f]) (by simp [lv_args, xv_cat, vc_i, vc_j, vc_f]) (fun ls hl => ?_)
  have hS : va_S (xA E) s.heap s.heap [] := va_S.rf
  have hcb : 0 + 0 ≤ 0 := Nat.le_of_eq (Nat.zero_add _)
  have hsb : 0 + 0 ≤ 0 := Nat.le_of_eq (Nat.zero_add _)
  unfold wX0_holdsAny at hw
  obtain ⟨hx, hb, hml, hown, hts, hrt, hlk, hMK, hZ⟩ := id cx
  refine lv_iconst (v := (0 : Int32)) hx hb dX0_holdsAny_0 (by decide) ?_
  refine lv_istore_n (i := 2) (lv' := [(2, .int (0 : Int32)), (0, xv E x0), (1, .int x1)]) hx hb dX0_holdsAny_1 rfl hl (by decide) rfl (fun ls hl => ?_)
  exact LX0_holdsAny_2 cx _ _ _ _ hw _ _ _ _ _ hR hS (lv_sub hl [1, 2, 0] rfl) hcb hsb
-- X0_isWon
theorem CX0_holdsAny_X0_188 {l : Launch} {p : Program} {e : Env} {R : Room} {s : State} {m : MethodId} {args : Array Value} {below : List Frame} {meth : Method} {c : Code} {H : Heap} {locs : List Loc} {cells slots : Nat} {Qz : State → Prop} {cc : ByteArray} {nL : Nat} {ret : Option FieldType} {E : xx_E} {σ : XS} {pc : Nat} {ls : Array Slot} {rest : List Value} {x0 : Option Nat} {x1 : Int32} (cx : xx_X "StruckCounts" cc nL ret E p s m args meth c) (hR0 : xR E σ H) (hS0 : va_S (xA E) s.heap H locs) {Qf : Int32 → XS → Prop} (hw : wX0_holdsAny x0 x1 σ Qf) (hR : (({ frames := 3, cells := 0, slots := 0, locals := 120 } : Room)).frames + 1 ≤ R.frames ∧ 8 + (3 + 11) + (({ frames := 3, cells := 0, slots := 0, locals := 120 } : Room)).locals ≤ R.locals) (hrest : rest.length ≤ 4) (hsize : ls.size = nL) (hf : cells + 0 ≤ R.cells ∧ slots + 0 ≤ R.slots) (hdg : decode cc pc = .ok (.invokestatic 188, 3))
    (kk : ∀ (r : Int32) (σ1 : XS) (H1 : Heap) (locs1 : List Loc), Qf r σ1 → xR E σ1 H1 → va_S (xA E) s.heap H1 locs1 → W p l e R s m args below meth c H1 locs1 (cells + 0) (slots + 0) Qz (F0 m (pc + 3) ls (.int r :: rest))) : W p l e R s m args below meth c H locs cells slots Qz (F0 m pc ls (.int x1 :: xv E x0 :: rest)) := by
  obtain ⟨hx, hb, hml, hown, hts, hrt, hlk, hK, hZ⟩ := id cx
  exact x_goi (va_runS (As := [xv E x0, .int x1]) (rest := rest) (x_fix cx) (MX0_holdsAny l E x0 x1 σ Qf hw) (va_cwS 2 hts (lw_S q2143 q2144 q156 q2145) rfl rfl rfl (by decide +kernel) hR) ⟨xblind, x_pre cx hR0 hS0 [xv E x0, .int x1]⟩ rfl rfl hsize rfl (lv_room (xroom hrest)) hdg hf) hS0 kk
def wX0_isWon_9 (Q : Int32 → XS → Prop) (K9 : Nat → Int32 → Option Nat → Int32 → XS → Prop) (th : Nat) (x2 : Int32) (x3 : Option Nat) (x4 : Int32) (σ : XS) : Prop :=
  oc σ x3 12 (fun a1 => oc σ (fr σ a1 2) 16 (fun a3 => wJ7_size a3 σ (fun r2 s2 => if r2 ≤ x4 then (oc s2 x3 12 (fun a4 => wX0_holdsAny (fr s2 a4 3) x2 s2 (fun r5 s5 => if r5 = 0 then (Q (1 : Int32) s5) else (Q (0 : Int32) s5)))) else (oc s2 x3 12 (fun a6 => oc s2 (fr s2 a6 2) 16 (fun a8 => wJ7_get a8 x4 s2 (fun r7 s7 => xck [13] s7 r7 ∧ (oc s7 r7 13 (fun a9 => oc s7 (fr s7 a9 1) 101 (fun a10 => vp_in x2 (ln s7 a10) ∧ (if (ai s7 a10 x2.toNatClampNeg) = 0 then (Q (0 : Int32) s7) else (∀ v11 : Int32, v11 = x4 + (1 : Int32) → K9 th x2 x3 v11 s7))))))))))))
set_option maxHeartbeats 4000000 in
theorem BX0_isWon_9 {l : Launch} {p : Program} {e : Env} {s : State} {m : MethodId} {args : Array Value} {below : List Frame} {meth : Method} {c : Code} {E : xx_E} {Q : Int32 → XS → Prop} {K9 : Nat → Int32 → Option Nat → Int32 → XS → Prop} (cx : xx_X "StruckCounts" cX0_isWon 5 (some .boolean) E p s m args meth c) (hK9 : ∀ (th : Nat) (x2 : Int32) (x3 : Option Nat) (x4 : Int32) (σ : XS), K9 th x2 x3 x4 σ → x_T p l e ({ frames := 4, cells := 0, slots := 0, locals := 160 } : Room) s m args below meth c E (va_Qi Q (fun σ' t => xW E σ' t) (xA E)) 0 0 5 9 0 0 σ [(0, xv E (some th)), (2, .int x2), (3, xv E x3), (4, .int x4)] []) : ∀ (th : Nat) (x2 : Int32) (x3 : Option Nat) (x4 : Int32) (σ : XS), wX0_isWon_9 Q K9 th x2 x3 x4 σ → x_T p l e ({ frames := 4, cells := 0, slots := 0, locals := 160 } : Room) s m args below meth c E (va_Qi Q (fun σ' t => xW E σ' t) (xA E)) 0 0 5 9 0 0 σ [(0, xv E (some th)), (2, .int x2), (3, xv E x3), (4, .int x4)] [] := by
  intro th x2 x3 x4 σ hw H locs ls cells slots hR hS hl hcb hsb
  unfold wX0_isWon_9 at hw
  obtain ⟨hx, hb, hml, hown, hts, hrt, hlk, hMK, hZ⟩ := id cx
  refine lv_iload hx hb dX0_isWon_9 (lv_at hl 3 rfl) ?_
  refine x_aload_n cx dX0_isWon_11 rfl (lv_at hl 2 rfl) ?_
  obtain ⟨a1, hr1, hk1, hw⟩ := hw
  refine xg_X0_182_12 cx hR hr1 hk1 dX0_isWon_12 ?_
  obtain ⟨a3, hr3, hk3, hw⟩ := hw
  refine CJ7_size_X0_159 cx hR hS hr3 hk3 hw ⟨Nat.le_of_ble_eq_true rfl, Nat.le_of_ble_eq_true rfl⟩ (Nat.le_of_ble_eq_true rfl) hl.1 ⟨by dsimp only; omega, by dsimp only; omega⟩ dX0_isWon_15 (fun r2 s2 H locs hw hR hS => ?_)
  refine lv_icmp_ge (tgt := 49) hx hb dX0_isWon_18 (by decide) (fun hc => ?_) (fun hc => ?_)
  · have hw := mm_ip hc hw
    refine x_aload_n cx dX0_isWon_49 rfl (lv_at hl 2 rfl) ?_
    obtain ⟨a4, hr4, hk4, hw⟩ := hw
    refine xg_X0_185_12 cx hR hr4 hk4 dX0_isWon_50 ?_
    refine lv_iload_n hx hb dX0_isWon_53 rfl (lv_at hl 1 rfl) ?_
    refine CX0_holdsAny_X0_188 cx hR hS  hw ⟨Nat.le_of_ble_eq_true rfl, Nat.le_of_ble_eq_true rfl⟩ (Nat.le_of_ble_eq_true rfl) hl.1 ⟨by dsimp only; omega, by dsimp only; omega⟩ dX0_isWon_54 (fun r5 s5 H locs hw hR hS => ?_)
    refine lv_if_ne (tgt := 64) hx hb dX0_isWon_57 (by decide) (fun hc => ?_) (fun hc => ?_)
    · have hw := mm_in hc hw
      refine lv_iconst (v := (0 : Int32)) hx hb dX0_isWon_64 (by decide) ?_
      exact x_nret cx hR hS (xle hcb) (xle hsb) (zb_nar (Or.inl rfl)) hw dX0_isWon_65
    · have hw := mm_ip hc hw
      refine lv_iconst (v := (1 : Int32)) hx hb dX0_isWon_60 (by decide) ?_
      refine lv_goto (tgt := 65) hx hb dX0_isWon_61 (by decide) ?_
      exact x_nret cx hR hS (xle hcb) (xle hsb) (zb_nar (Or.inr rfl)) hw dX0_isWon_65
  · have hw := mm_in hc hw
    refine x_aload_n cx dX0_isWon_21 rfl (lv_at hl 2 rfl) ?_
    obtain ⟨a6, hr6, hk6, hw⟩ := hw
    refine xg_X0_182_12 cx hR hr6 hk6 dX0_isWon_22 ?_
    refine lv_iload hx hb dX0_isWon_25 (lv_at hl 3 rfl) ?_
    obtain ⟨a8, hr8, hk8, hw⟩ := hw
    refine CJ7_get_X0_167 cx hR hS hr8 hk8 hw ⟨Nat.le_of_ble_eq_true rfl, Nat.le_of_ble_eq_true rfl⟩ (Nat.le_of_ble_eq_true rfl) hl.1 ⟨by dsimp only; omega, by dsimp only; omega⟩ dX0_isWon_27 (fun r7 s7 H locs hw hR hS => ?_)
    obtain ⟨hv, hw⟩ := hw
    refine x_cast cx hR q1965 (xcc_1 hv) dX0_isWon_30 ?_
    obtain ⟨a9, hr9, hk9, hw⟩ := hw
    refine xg_X0_175_13 cx hR hr9 hk9 dX0_isWon_33 ?_
    refine lv_iload_n hx hb dX0_isWon_36 rfl (lv_at hl 1 rfl) ?_
    obtain ⟨a10, hr10, hk10, hw⟩ := hw
    obtain ⟨hi, hw⟩ := hw
    refine x_zald cx hR hr10 hk10 (j := x2.toNatClampNeg) rfl hi dX0_isWon_37 ?_
    refine lv_if_ne (tgt := 43) hx hb dX0_isWon_38 (by decide) (fun hc => ?_) (fun hc => ?_)
    · have hw := mm_in hc hw
      obtain ⟨v11, hv11⟩ : ∃ v : Int32, v = x4 + (1 : Int32) := ⟨_, rfl⟩
      have hw := hw v11 hv11
      refine lv_iinc (v := v11) (lv' := [(4, .int v11), (0, xv E (some th)), (2, .int x2), (3, xv E x3)]) hx hb dX0_isWon_43 hl (k := 3) rfl (by rw [hv11]; rfl) (by decide) (by simp [xv_cat]) (fun ls hl => ?_)
      refine lv_goto (tgt := 9) hx hb dX0_isWon_46 (by decide) ?_
      exact hK9 _ _ _ _ _ hw _ _ _ _ _ hR hS (lv_sub hl [1, 2, 3, 0] rfl) hcb hsb
    · have hw := mm_ip hc hw
      refine lv_iconst (v := (0 : Int32)) hx hb dX0_isWon_41 (by decide) ?_
      exact x_nret cx hR hS (xle hcb) (xle hsb) (zb_nar (Or.inl rfl)) hw dX0_isWon_42
theorem LX0_isWon_9 {l : Launch} {p : Program} {e : Env} {s : State} {m : MethodId} {args : Array Value} {below : List Frame} {meth : Method} {c : Code} {E : xx_E} {Q : Int32 → XS → Prop} (cx : xx_X "StruckCounts" cX0_isWon 5 (some .boolean) E p s m args meth c) : ∀ (th : Nat) (x2 : Int32) (x3 : Option Nat) (x4 : Int32) (σ : XS), lp5F (wX0_isWon_9 Q) th x2 x3 x4 σ → x_T p l e ({ frames := 4, cells := 0, slots := 0, locals := 160 } : Room) s m args below meth c E (va_Qi Q (fun σ' t => xW E σ' t) (xA E)) 0 0 5 9 0 0 σ [(0, xv E (some th)), (2, .int x2), (3, xv E x3), (4, .int x4)] [] :=
  lp5F_of (fun K hK => BX0_isWon_9 cx hK)
def wX0_isWon (th : Nat) (x1 : Int32) (x2 : Int32) (σ : XS) (Q : Int32 → XS → Prop) : Prop :=
  kd σ th = 1 ∧ (wX0_told th x1 σ (fun r12 s12 => lp5F (wX0_isWon_9 Q) th x2 r12 (0 : Int32) s12))
set_option maxHeartbeats 4000000 in
theorem MX0_isWon (l : Launch) (E : xx_E) (th : Nat) (x1 : Int32) (x2 : Int32) (σ : XS) (Q : Int32 → XS → Prop) (hw : wX0_isWon th x1 x2 σ Q) : xx_Mi l yX0_isWon (ws_ yX0_isWon cX0_isWon 5 (some .boolean)) ({ frames := 4, cells := 0, slots := 0, locals := 160 } : Room) E [xv E (some th), .int x1, .int x2] σ Q 0 0 := by
  refine x_of (own := "StruckCounts") (by decide +kernel) rfl ?_
  intro p e s m args below meth c cx hR ha hnm
  refine x_entry [xv E (some th), .int x1, .int x2] 5 [(0, xv E (some th)), (1, .int x1), (2, .int x2)] ha (by simp [lg_sl, xv_cat, vc_i, vc_j, vc_f]) (by simp [lv_args, xv_cat, vc_i, vc_j, vc_f]) (fun ls hl => ?_)
  have hS : va_S (xA E) s.heap s.heap [] := va_S.rf
  have hcb : 0 + 0 ≤ 0 := Nat.le_of_eq (Nat.zero_add _)
  have hsb : 0 + 0 ≤ 0 := Nat.le_of_eq (Nat.zero_add _)
  unfold wX0_isWon at hw
  obtain ⟨hx, hb, hml, hown, hts, hrt, hlk, hMK, hZ⟩ := id cx
  refine x_aload_n cx dX0_isWon_0 rfl (lv_at hl 0 rfl) ?_
  refine lv_iload_n hx hb dX0_isWon_1 rfl (lv_at hl 1 rfl) ?_
  obtain ⟨hk13, hw⟩ := hw
  refine CX0_told_X0_178 cx hR hS rfl hk13 hw ⟨Nat.le_of_ble_eq_true rfl, Nat.le_of_ble_eq_true rfl⟩ (Nat.le_of_ble_eq_true rfl) hl.1 ⟨by dsimp only; omega, by dsimp only; omega⟩ dX0_isWon_2 (fun r12 s12 H locs hw hR hS => ?_)
  refine x_astore_n (i := 3) (r := r12) (lv' := [(3, xv E r12), (0, xv E (some th)), (1, .int x1), (2, .int x2)]) cx dX0_isWon_5 rfl hl (by decide) rfl (fun ls hl => ?_)
  refine lv_iconst (v := (0 : Int32)) hx hb dX0_isWon_6 (by decide) ?_
  refine lv_istore (i := 4) (lv' := [(4, .int (0 : Int32)), (3, xv E r12), (0, xv E (some th)), (1, .int x1), (2, .int x2)]) hx hb dX0_isWon_7 hl (by decide) (by simp [xv_cat]) (fun ls hl => ?_)
  exact LX0_isWon_9 cx _ _ _ _ _ hw _ _ _ _ _ hR hS (lv_sub hl [2, 4, 1, 0] rfl) hcb hsb
-- X0_implied
theorem CX0_isWon_X0_350 {l : Launch} {p : Program} {e : Env} {R : Room} {s : State} {m : MethodId} {args : Array Value} {below : List Frame} {meth : Method} {c : Code} {H : Heap} {locs : List Loc} {cells slots : Nat} {Qz : State → Prop} {cc : ByteArray} {nL : Nat} {ret : Option FieldType} {E : xx_E} {σ : XS} {pc : Nat} {ls : Array Slot} {rest : List Value} {th : Nat} {x1 : Int32} {x2 : Int32} (cx : xx_X "StruckCounts" cc nL ret E p s m args meth c) (hR0 : xR E σ H) (hS0 : va_S (xA E) s.heap H locs) {r0 : Option Nat} (hr : r0 = some th) (hk : kd σ th = 1) {Qf : Int32 → XS → Prop} (hw : wX0_isWon th x1 x2 σ Qf) (hR : (({ frames := 4, cells := 0, slots := 0, locals := 160 } : Room)).frames + 1 ≤ R.frames ∧ 8 + (5 + 11) + (({ frames := 4, cells := 0, slots := 0, locals := 160 } : Room)).locals ≤ R.locals) (hrest : rest.length ≤ 4) (hsize : ls.size = nL) (hf : cells + 0 ≤ R.cells ∧ slots + 0 ≤ R.slots) (hdg : decode cc pc = .ok (.invokevirtual 350, 3))
    (kk : ∀ (r : Int32) (σ1 : XS) (H1 : Heap) (locs1 : List Loc), Qf r σ1 → xR E σ1 H1 → va_S (xA E) s.heap H1 locs1 → W p l e R s m args below meth c H1 locs1 (cells + 0) (slots + 0) Qz (F0 m (pc + 3) ls (.int r :: rest))) : W p l e R s m args below meth c H locs cells slots Qz (F0 m pc ls (.int x2 :: .int x1 :: xv E r0 :: rest)) := by
  subst hr
  obtain ⟨hx, hb, hml, hown, hts, hrt, hlk, hK, hZ⟩ := id cx
  exact x_goi (va_runV (As := [.int x1, .int x2]) (rest := rest) (x_fix cx) (MX0_isWon l E th x1 x2 σ Qf hw) (cwV 2 hts (lw_V q2139 q2141 qs55 q156 q2142) rfl rfl rfl (by decide +kernel) hR) (x_preV cx hR0 hS0 hk (by decide) (q := (RX0, TX0, 24)) rfl rfl [.int x1, .int x2]) rfl rfl hsize rfl (lv_room (xroom hrest)) hdg hf) hS0 kk
def wX0_implied_59 (Q : Int32 → XS → Prop) (K20 : Nat → Int32 → Int32 → Int32 → XS → Prop) (th : Nat) (x1 : Int32) (x2 : Int32) (x3 : Int32) (σ : XS) : Prop :=
  ∀ v1 : Int32, v1 = x3 + (1 : Int32) → K20 th x1 x2 v1 σ
set_option maxHeartbeats 4000000 in
theorem BX0_implied_59 {l : Launch} {p : Program} {e : Env} {s : State} {m : MethodId} {args : Array Value} {below : List Frame} {meth : Method} {c : Code} {E : xx_E} {Q : Int32 → XS → Prop} {K20 : Nat → Int32 → Int32 → Int32 → XS → Prop} (cx : xx_X "StruckCounts" cX0_implied 4 (some .int) E p s m args meth c) (hK20 : ∀ (th : Nat) (x1 : Int32) (x2 : Int32) (x3 : Int32) (σ : XS), K20 th x1 x2 x3 σ → x_T p l e ({ frames := 5, cells := 0, slots := 0, locals := 200 } : Room) s m args below meth c E (va_Qi Q (fun σ' t => xW E σ' t) (xA E)) 0 0 4 20 0 0 σ [(0, xv E (some th)), (1, .int x1), (2, .int x2), (3, .int x3)] []) : ∀ (th : Nat) (x1 : Int32) (x2 : Int32) (x3 : Int32) (σ : XS), wX0_implied_59 Q K20 th x1 x2 x3 σ → x_T p l e ({ frames := 5, cells := 0, slots := 0, locals := 200 } : Room) s m args below meth c E (va_Qi Q (fun σ' t => xW E σ' t) (xA E)) 0 0 4 59 0 0 σ [(0, xv E (some th)), (1, .int x1), (2, .int x2), (3, .int x3)] [] := by
  intro th x1 x2 x3 σ hw H locs ls cells slots hR hS hl hcb hsb
  unfold wX0_implied_59 at hw
  obtain ⟨hx, hb, hml, hown, hts, hrt, hlk, hMK, hZ⟩ := id cx
  obtain ⟨v1, hv1⟩ : ∃ v : Int32, v = x3 + (1 : Int32) := ⟨_, rfl⟩
  have hw := hw v1 hv1
  refine lv_iinc (v := v1) (lv' := [(3, .int v1), (0, xv E (some th)), (1, .int x1), (2, .int x2)]) hx hb dX0_implied_59 hl (k := 3) rfl (by rw [hv1]; rfl) (by decide) rfl (fun ls hl => ?_)
  refine lv_goto (tgt := 20) hx hb dX0_implied_62 (by decide) ?_
  exact hK20 _ _ _ _ _ hw _ _ _ _ _ hR hS (lv_sub hl [1, 2, 3, 0] rfl) hcb hsb
def wX0_implied_20 (Q : Int32 → XS → Prop) (K20 : Nat → Int32 → Int32 → Int32 → XS → Prop) (th : Nat) (x1 : Int32) (x2 : Int32) (x3 : Int32) (σ : XS) : Prop :=
  kd σ th = 1 ∧ (oc σ (fr σ th 5) 2 (fun a4 => wX1_sets a4 σ (fun r3 s3 => if r3 ≤ x3 then (Q (1 : Int32) s3) else (kd s3 th = 1 ∧ (wX0_isNow th x3 s3 (fun r5 s5 => if r5 = 0 then (wX0_implied_59 Q K20 th x1 x2 x3 s5) else (kd s5 th = 1 ∧ (wX0_isWon th x1 x3 s5 (fun r7 s7 => if r7 = 0 then (wX0_implied_59 Q K20 th x1 x2 x3 s7) else (kd s7 th = 1 ∧ (wX0_isWon th x2 x3 s7 (fun r9 s9 => if r9 = 0 then (Q (0 : Int32) s9) else (wX0_implied_59 Q K20 th x1 x2 x3 s9)))))))))))))
set_option maxHeartbeats 4000000 in
theorem BX0_implied_20 {l : Launch} {p : Program} {e : Env} {s : State} {m : MethodId} {args : Array Value} {below : List Frame} {meth : Method} {c : Code} {E : xx_E} {Q : Int32 → XS → Prop} {K20 : Nat → Int32 → Int32 → Int32 → XS → Prop} (cx : xx_X "StruckCounts" cX0_implied 4 (some .int) E p s m args meth c) (hK20 : ∀ (th : Nat) (x1 : Int32) (x2 : Int32) (x3 : Int32) (σ : XS), K20 th x1 x2 x3 σ → x_T p l e ({ frames := 5, cells := 0, slots := 0, locals := 200 } : Room) s m args below meth c E (va_Qi Q (fun σ' t => xW E σ' t) (xA E)) 0 0 4 20 0 0 σ [(0, xv E (some th)), (1, .int x1), (2, .int x2), (3, .int x3)] []) : ∀ (th : Nat) (x1 : Int32) (x2 : Int32) (x3 : Int32) (σ : XS), wX0_implied_20 Q K20 th x1 x2 x3 σ → x_T p l e ({ frames := 5, cells := 0, slots := 0, locals := 200 } : Room) s m args below meth c E (va_Qi Q (fun σ' t => xW E σ' t) (xA E)) 0 0 4 20 0 0 σ [(0, xv E (some th)), (1, .int x1), (2, .int x2), (3, .int x3)] [] := by
  intro th x1 x2 x3 σ hw H locs ls cells slots hR hS hl hcb hsb
  unfold wX0_implied_20 at hw
  obtain ⟨hx, hb, hml, hown, hts, hrt, hlk, hMK, hZ⟩ := id cx
  refine lv_iload_n hx hb dX0_implied_20 rfl (lv_at hl 3 rfl) ?_
  refine x_aload_n cx dX0_implied_21 rfl (lv_at hl 0 rfl) ?_
  obtain ⟨hk2, hw⟩ := hw
  refine xg_X0_24_1 cx hR rfl hk2 dX0_implied_22 ?_
  obtain ⟨a4, hr4, hk4, hw⟩ := hw
  refine CX1_sets_X0_142 cx hR hS hr4 hk4 hw ⟨Nat.le_of_ble_eq_true rfl, Nat.le_of_ble_eq_true rfl⟩ (Nat.le_of_ble_eq_true rfl) hl.1 ⟨by dsimp only; omega, by dsimp only; omega⟩ dX0_implied_25 (fun r3 s3 H locs hw hR hS => ?_)
  refine lv_icmp_ge (tgt := 65) hx hb dX0_implied_28 (by decide) (fun hc => ?_) (fun hc => ?_)
  · have hw := mm_ip hc hw
    refine lv_iconst (v := (1 : Int32)) hx hb dX0_implied_65 (by decide) ?_
    exact x_iret cx hR hS (xle hcb) (xle hsb) hw dX0_implied_66
  · have hw := mm_in hc hw
    refine x_aload_n cx dX0_implied_31 rfl (lv_at hl 0 rfl) ?_
    refine lv_iload_n hx hb dX0_implied_32 rfl (lv_at hl 3 rfl) ?_
    obtain ⟨hk6, hw⟩ := hw
    refine CX0_isNow_X0_347 cx hR hS rfl hk6 hw ⟨Nat.le_of_ble_eq_true rfl, Nat.le_of_ble_eq_true rfl⟩ (Nat.le_of_ble_eq_true rfl) hl.1 ⟨by dsimp only; omega, by dsimp only; omega⟩ dX0_implied_33 (fun r5 s5 H locs hw hR hS => ?_)
    refine lv_if_eq (tgt := 59) hx hb dX0_implied_36 (by decide) (fun hc => ?_) (fun hc => ?_)
    · have hw := mm_ip hc hw
      exact BX0_implied_59 cx hK20 _ _ _ _ _ hw _ _ _ _ _ hR hS (lv_sub hl [0, 1, 2, 3] rfl) hcb hsb
    · have hw := mm_in hc hw
      refine x_aload_n cx dX0_implied_39 rfl (lv_at hl 0 rfl) ?_
      refine lv_iload_n hx hb dX0_implied_40 rfl (lv_at hl 1 rfl) ?_
      refine lv_iload_n hx hb dX0_implied_41 rfl (lv_at hl 3 rfl) ?_
      obtain ⟨hk8, hw⟩ := hw
      refine CX0_isWon_X0_350 cx hR hS rfl hk8 hw ⟨Nat.le_of_ble_eq_true rfl, Nat.le_of_ble_eq_true rfl⟩ (Nat.le_of_ble_eq_true rfl) hl.1 ⟨by dsimp only; omega, by dsimp only; omega⟩ dX0_implied_42 (fun r7 s7 H locs hw hR hS => ?_)
      refine lv_if_eq (tgt := 59) hx hb dX0_implied_45 (by decide) (fun hc => ?_) (fun hc => ?_)
      · have hw := mm_ip hc hw
        exact BX0_implied_59 cx hK20 _ _ _ _ _ hw _ _ _ _ _ hR hS (lv_sub hl [0, 1, 2, 3] rfl) hcb hsb
      · have hw := mm_in hc hw
        refine x_aload_n cx dX0_implied_48 rfl (lv_at hl 0 rfl) ?_
        refine lv_iload_n hx hb dX0_implied_49 rfl (lv_at hl 2 rfl) ?_
        refine lv_iload_n hx hb dX0_implied_50 rfl (lv_at hl 3 rfl) ?_
        obtain ⟨hk10, hw⟩ := hw
        refine CX0_isWon_X0_350 cx hR hS rfl hk10 hw ⟨Nat.le_of_ble_eq_true rfl, Nat.le_of_ble_eq_true rfl⟩ (Nat.le_of_ble_eq_true rfl) hl.1 ⟨by dsimp only; omega, by dsimp only; omega⟩ dX0_implied_51 (fun r9 s9 H locs hw hR hS => ?_)
        refine lv_if_ne (tgt := 59) hx hb dX0_implied_54 (by decide) (fun hc => ?_) (fun hc => ?_)
        · have hw := mm_in hc hw
          exact BX0_implied_59 cx hK20 _ _ _ _ _ hw _ _ _ _ _ hR hS (lv_sub hl [0, 1, 2, 3] rfl) hcb hsb
        · have hw := mm_ip hc hw
          refine lv_iconst (v := (0 : Int32)) hx hb dX0_implied_57 (by decide) ?_
          exact x_iret cx hR hS (xle hcb) (xle hsb) hw dX0_implied_58
theorem LX0_implied_20 {l : Launch} {p : Program} {e : Env} {s : State} {m : MethodId} {args : Array Value} {below : List Frame} {meth : Method} {c : Code} {E : xx_E} {Q : Int32 → XS → Prop} (cx : xx_X "StruckCounts" cX0_implied 4 (some .int) E p s m args meth c) : ∀ (th : Nat) (x1 : Int32) (x2 : Int32) (x3 : Int32) (σ : XS), lp5F (wX0_implied_20 Q) th x1 x2 x3 σ → x_T p l e ({ frames := 5, cells := 0, slots := 0, locals := 200 } : Room) s m args below meth c E (va_Qi Q (fun σ' t => xW E σ' t) (xA E)) 0 0 4 20 0 0 σ [(0, xv E (some th)), (1, .int x1), (2, .int x2), (3, .int x3)] [] :=
  lp5F_of (fun K hK => BX0_implied_20 cx hK)
def wX0_implied (th : Nat) (x1 : Int32) (x2 : Int32) (σ : XS) (Q : Int32 → XS → Prop) : Prop :=
  kd σ th = 1 ∧ (wX0_isCount th x1 σ (fun r11 s11 => if r11 = 0 then (Q (-1 : Int32) s11) else (kd s11 th = 1 ∧ (wX0_isCount th x2 s11 (fun r13 s13 => if r13 = 0 then (Q (-1 : Int32) s13) else (lp5F (wX0_implied_20 Q) th x1 x2 (0 : Int32) s13))))))
set_option maxHeartbeats 4000000 in
theorem MX0_implied (l : Launch) (E : xx_E) (th : Nat) (x1 : Int32) (x2 : Int32) (σ : XS) (Q : Int32 → XS → Prop) (hw : wX0_implied th x1 x2 σ Q) : xx_Mi l yX0_implied (ws_ yX0_implied cX0_implied 4 (some .int)) ({ frames := 5, cells := 0, slots := 0, locals := 200 } : Room) E [xv E (some th), .int x1, .int x2] σ Q 0 0 := by
  refine x_of (own := "StruckCounts") (by decide +kernel) rfl ?_
  intro p e s m args below meth c cx hR ha hnm
  refine x_entry [xv E (some th), .int x1, .int x2] 4 [(0, xv E (some th)), (1, .int x1), (2, .int x2)] ha (by simp [lg_sl, xv_cat, vc_i, vc_j, vc_f]) (by simp [lv_args, xv_cat, vc_i, vc_j, vc_f]) (fun ls hl => ?_)
  have hS : va_S (xA E) s.heap s.heap [] := va_S.rf
  have hcb : 0 + 0 ≤ 0 := Nat.le_of_eq (Nat.zero_add _)
  have hsb : 0 + 0 ≤ 0 := Nat.le_of_eq (Nat.zero_add _)
  unfold wX0_implied at hw
  obtain ⟨hx, hb, hml, hown, hts, hrt, hlk, hMK, hZ⟩ := id cx
  refine x_aload_n cx dX0_implied_0 rfl (lv_at hl 0 rfl) ?_
  refine lv_iload_n hx hb dX0_implied_1 rfl (lv_at hl 1 rfl) ?_
  obtain ⟨hk12, hw⟩ := hw
  refine CX0_isCount_X0_290 cx hR hS rfl hk12 hw ⟨Nat.le_of_ble_eq_true rfl, Nat.le_of_ble_eq_true rfl⟩ (Nat.le_of_ble_eq_true rfl) hl.1 ⟨by dsimp only; omega, by dsimp only; omega⟩ dX0_implied_2 (fun r11 s11 H locs hw hR hS => ?_)
  refine lv_if_eq (tgt := 16) hx hb dX0_implied_5 (by decide) (fun hc => ?_) (fun hc => ?_)
  · have hw := mm_ip hc hw
    refine lv_iconst (v := (-1 : Int32)) hx hb dX0_implied_16 (by decide) ?_
    exact x_iret cx hR hS (xle hcb) (xle hsb) hw dX0_implied_17
  · have hw := mm_in hc hw
    refine x_aload_n cx dX0_implied_8 rfl (lv_at hl 0 rfl) ?_
    refine lv_iload_n hx hb dX0_implied_9 rfl (lv_at hl 2 rfl) ?_
    obtain ⟨hk14, hw⟩ := hw
    refine CX0_isCount_X0_290 cx hR hS rfl hk14 hw ⟨Nat.le_of_ble_eq_true rfl, Nat.le_of_ble_eq_true rfl⟩ (Nat.le_of_ble_eq_true rfl) hl.1 ⟨by dsimp only; omega, by dsimp only; omega⟩ dX0_implied_10 (fun r13 s13 H locs hw hR hS => ?_)
    refine lv_if_ne (tgt := 18) hx hb dX0_implied_13 (by decide) (fun hc => ?_) (fun hc => ?_)
    · have hw := mm_in hc hw
      refine lv_iconst (v := (0 : Int32)) hx hb dX0_implied_18 (by decide) ?_
      refine lv_istore_n (i := 3) (lv' := [(3, .int (0 : Int32)), (0, xv E (some th)), (1, .int x1), (2, .int x2)]) hx hb dX0_implied_19 rfl hl (by decide) rfl (fun ls hl => ?_)
      exact LX0_implied_20 cx _ _ _ _ _ hw _ _ _ _ _ hR hS (lv_sub hl [1, 2, 3, 0] rfl) hcb hsb
    · have hw := mm_ip hc hw
      refine lv_iconst (v := (-1 : Int32)) hx hb dX0_implied_16 (by decide) ?_
      exact x_iret cx hR hS (xle hcb) (xle hsb) hw dX0_implied_17
-- X0_lacksBy
theorem xp_X0_356_1 {l : Launch} {p : Program} {e : Env} {R : Room} {s : State} {m : MethodId} {args : Array Value} {below : List Frame} {meth : Method} {c : Code} {H : Heap} {locs : List Loc} {cells slots : Nat} {Qz : State → Prop} {cc : ByteArray} {nL : Nat} {ret : Option FieldType} {E : xx_E} {σ : XS} {pc : Nat} {ls : Array Slot} {rest : List Value} (cx : xx_X "StruckCounts" cc nL ret E p s m args meth c) (hR : xR E σ H) (hS0 : va_S (xA E) s.heap H locs) {a : Nat} {r : Option Nat} {v : Int32} (hr : r = some a) (ha : xK ≤ a) (hk : kd σ a = 1) (hdg : decode cc pc = .ok (.putfield 356, 3)) (kk : ∀ (H1 : Heap) (locs1 : List Loc), xR E (pfi σ a 13 v) H1 → va_S (xA E) s.heap H1 locs1 → W p l e R s m args below meth c H1 locs1 cells slots Qz (F0 m (pc + 3) ls rest)) : W p l e R s m args below meth c H locs cells slots Qz (F0 m pc ls (.int v :: xv E r :: rest)) :=
  x_put (ci := 0) cx hR hS0 hr ha hk (by decide) rfl in_X0 tyX0 tyX0_ok nmX0 13 (by decide) (Or.inl ⟨q584, rfl⟩) (fun _ h => h) rfl rfl (xput_i rfl) hdg kk
theorem xp_X0_359_1 {l : Launch} {p : Program} {e : Env} {R : Room} {s : State} {m : MethodId} {args : Array Value} {below : List Frame} {meth : Method} {c : Code} {H : Heap} {locs : List Loc} {cells slots : Nat} {Qz : State → Prop} {cc : ByteArray} {nL : Nat} {ret : Option FieldType} {E : xx_E} {σ : XS} {pc : Nat} {ls : Array Slot} {rest : List Value} (cx : xx_X "StruckCounts" cc nL ret E p s m args meth c) (hR : xR E σ H) (hS0 : va_S (xA E) s.heap H locs) {a : Nat} {r : Option Nat} {v : Int32} (hr : r = some a) (ha : xK ≤ a) (hk : kd σ a = 1) (hdg : decode cc pc = .ok (.putfield 359, 3)) (kk : ∀ (H1 : Heap) (locs1 : List Loc), xR E (pfi σ a 14 v) H1 → va_S (xA E) s.heap H1 locs1 → W p l e R s m args below meth c H1 locs1 cells slots Qz (F0 m (pc + 3) ls rest)) : W p l e R s m args below meth c H locs cells slots Qz (F0 m pc ls (.int v :: xv E r :: rest)) :=
  x_put (ci := 0) cx hR hS0 hr ha hk (by decide) rfl in_X0 tyX0 tyX0_ok nmX0 14 (by decide) (Or.inl ⟨q585, rfl⟩) (fun _ h => h) rfl rfl (xput_i rfl) hdg kk
def wX0_lacksBy_85 (d : Nat) (Q : Int32 → XS → Prop) (K2 : Nat → Int32 → Int32 → Int32 → XS → Prop) (th : Nat) (x1 : Int32) (x2 : Int32) (x3 : Int32) (σ : XS) : Prop :=
  ∀ v1 : Int32, v1 = x3 + (1 : Int32) → K2 th x1 x2 v1 σ
set_option maxHeartbeats 4000000 in
theorem BX0_lacksBy_85 {l : Launch} {p : Program} {e : Env} {s : State} {m : MethodId} {args : Array Value} {below : List Frame} {meth : Method} {c : Code} {E : xx_E} {Q : Int32 → XS → Prop} {K2 : Nat → Int32 → Int32 → Int32 → XS → Prop} (d : Nat) (cx : xx_X "StruckCounts" cX0_lacksBy 4 (some .boolean) E p s m args meth c) (hK2 : ∀ (th : Nat) (x1 : Int32) (x2 : Int32) (x3 : Int32) (σ : XS), K2 th x1 x2 x3 σ → x_T p l e ({ frames := (5 + 1 * d), cells := 0, slots := 0, locals := 40 * (5 + 1 * d) } : Room) s m args below meth c E (va_Qi Q (fun σ' t => xW E σ' t) (xA E)) 0 0 4 2 0 0 σ [(0, xv E (some th)), (1, .int x1), (2, .int x2), (3, .int x3)] []) : ∀ (th : Nat) (x1 : Int32) (x2 : Int32) (x3 : Int32) (σ : XS), wX0_lacksBy_85 d Q K2 th x1 x2 x3 σ → x_T p l e ({ frames := (5 + 1 * d), cells := 0, slots := 0, locals := 40 * (5 + 1 * d) } : Room) s m args below meth c E (va_Qi Q (fun σ' t => xW E σ' t) (xA E)) 0 0 4 85 0 0 σ [(0, xv E (some th)), (1, .int x1), (2, .int x2), (3, .int x3)] [] := by
  intro th x1 x2 x3 σ hw H locs ls cells slots hR hS hl hcb hsb
  unfold wX0_lacksBy_85 at hw
  obtain ⟨hx, hb, hml, hown, hts, hrt, hlk, hMK, hZ⟩ := id cx
  obtain ⟨v1, hv1⟩ : ∃ v : Int32, v = x3 + (1 : Int32) := ⟨_, rfl⟩
  have hw := hw v1 hv1
  refine lv_iinc (v := v1) (lv' := [(3, .int v1), (0, xv E (some th)), (1, .int x1), (2, .int x2)]) hx hb dX0_lacksBy_85 hl (k := 3) rfl (by rw [hv1]; rfl) (by decide) rfl (fun ls hl => ?_)
  refine lv_goto (tgt := 2) hx hb dX0_lacksBy_88 (by decide) ?_
  exact hK2 _ _ _ _ _ hw _ _ _ _ _ hR hS (lv_sub hl [1, 2, 3, 0] rfl) hcb hsb
def wX0_lacksBy_2 (d : Nat) (Q : Int32 → XS → Prop) (K2 : Nat → Int32 → Int32 → Int32 → XS → Prop) (th : Nat) (x1 : Int32) (x2 : Int32) (x3 : Int32) (σ : XS) : Prop :=
  if x2 < x3 then (Q (0 : Int32) σ) else (if (x3 &&& (x2 ^^^ (-1 : Int32))) = 0 then (kd σ th = 1 ∧ (oc σ (fr σ th 6) 3 (fun a3 => if (((x3 ^^^ (fi σ a3 8)) &&& x2) &&& (fi σ a3 7)) = 0 then (oc σ (fr σ a3 5) 100 (fun a4 => vp_in x1 (ln σ a4) ∧ (oc σ (fr σ a3 6) 100 (fun a5 => vp_in x1 (ln σ a5) ∧ (wX0_failing_2 d th x1 ((ai σ a4 x1.toNatClampNeg) ||| x2) ((ai σ a5 x1.toNatClampNeg) ||| x3) σ (fun r6 s6 => if r6 = 0 then (kd s6 th = 1 ∧ (xK ≤ th ∧ (Q (1 : Int32) (pfi (pfi s6 th 13 x2) th 14 x3)))) else (wX0_lacksBy_85 d Q K2 th x1 x2 x3 s6))))))) else (wX0_lacksBy_85 d Q K2 th x1 x2 x3 σ)))) else (wX0_lacksBy_85 d Q K2 th x1 x2 x3 σ))
set_option maxHeartbeats 4000000 in
theorem BX0_lacksBy_2 {l : Launch} {p : Program} {e : Env} {s : State} {m : MethodId} {args : Array Value} {below : List Frame} {meth : Method} {c : Code} {E : xx_E} {Q : Int32 → XS → Prop} {K2 : Nat → Int32 → Int32 → Int32 → XS → Prop} (d : Nat) (cx : xx_X "StruckCounts" cX0_lacksBy 4 (some .boolean) E p s m args meth c) (hK2 : ∀ (th : Nat) (x1 : Int32) (x2 : Int32) (x3 : Int32) (σ : XS), K2 th x1 x2 x3 σ → x_T p l e ({ frames := (5 + 1 * d), cells := 0, slots := 0, locals := 40 * (5 + 1 * d) } : Room) s m args below meth c E (va_Qi Q (fun σ' t => xW E σ' t) (xA E)) 0 0 4 2 0 0 σ [(0, xv E (some th)), (1, .int x1), (2, .int x2), (3, .int x3)] []) : ∀ (th : Nat) (x1 : Int32) (x2 : Int32) (x3 : Int32) (σ : XS), wX0_lacksBy_2 d Q K2 th x1 x2 x3 σ → x_T p l e ({ frames := (5 + 1 * d), cells := 0, slots := 0, locals := 40 * (5 + 1 * d) } : Room) s m args below meth c E (va_Qi Q (fun σ' t => xW E σ' t) (xA E)) 0 0 4 2 0 0 σ [(0, xv E (some th)), (1, .int x1), (2, .int x2), (3, .int x3)] [] := by
  intro th x1 x2 x3 σ hw H locs ls cells slots hR hS hl hcb hsb
  unfold wX0_lacksBy_2 at hw
  obtain ⟨hx, hb, hml, hown, hts, hrt, hlk, hMK, hZ⟩ := id cx
  refine lv_iload_n hx hb dX0_lacksBy_2 rfl (lv_at hl 3 rfl) ?_
  refine lv_iload_n hx hb dX0_lacksBy_3 rfl (lv_at hl 2 rfl) ?_
  refine lv_icmp_gt (tgt := 91) hx hb dX0_lacksBy_4 (by decide) (fun hc => ?_) (fun hc => ?_)
  · have hw := mm_ip hc hw
    refine lv_iconst (v := (0 : Int32)) hx hb dX0_lacksBy_91 (by decide) ?_
    exact x_nret cx hR hS (xle hcb) (xle hsb) (zb_nar (Or.inl rfl)) hw dX0_lacksBy_92
  · have hw := mm_in hc hw
    refine lv_iload_n hx hb dX0_lacksBy_7 rfl (lv_at hl 3 rfl) ?_
    refine lv_iload_n hx hb dX0_lacksBy_8 rfl (lv_at hl 2 rfl) ?_
    refine lv_iconst (v := (-1 : Int32)) hx hb dX0_lacksBy_9 (by decide) ?_
    refine lv_ixor hx hb dX0_lacksBy_10 ?_
    refine lv_iand hx hb dX0_lacksBy_11 ?_
    refine lv_if_ne (tgt := 85) hx hb dX0_lacksBy_12 (by decide) (fun hc => ?_) (fun hc => ?_)
    · have hw := mm_in hc hw
      exact BX0_lacksBy_85 d cx hK2 _ _ _ _ _ hw _ _ _ _ _ hR hS (lv_sub hl [0, 1, 2, 3] rfl) hcb hsb
    · have hw := mm_ip hc hw
      refine lv_iload_n hx hb dX0_lacksBy_15 rfl (lv_at hl 3 rfl) ?_
      refine x_aload_n cx dX0_lacksBy_16 rfl (lv_at hl 0 rfl) ?_
      obtain ⟨hk2, hw⟩ := hw
      refine xg_X0_31_1 cx hR rfl hk2 dX0_lacksBy_17 ?_
      obtain ⟨a3, hr3, hk3, hw⟩ := hw
      refine xg_X0_152_3 cx hR hr3 hk3 dX0_lacksBy_20 ?_
      refine lv_ixor hx hb dX0_lacksBy_23 ?_
      refine lv_iload_n hx hb dX0_lacksBy_24 rfl (lv_at hl 2 rfl) ?_
      refine lv_iand hx hb dX0_lacksBy_25 ?_
      refine x_aload_n cx dX0_lacksBy_26 rfl (lv_at hl 0 rfl) ?_
      refine xg_X0_31_1 cx hR rfl hk2 dX0_lacksBy_27 ?_
      refine xg_X0_149_3 cx hR hr3 hk3 dX0_lacksBy_30 ?_
      refine lv_iand hx hb dX0_lacksBy_33 ?_
      refine lv_if_eq (tgt := 40) hx hb dX0_lacksBy_34 (by decide) (fun hc => ?_) (fun hc => ?_)
      · have hw := mm_ip hc hw
        refine x_aload_n cx dX0_lacksBy_40 rfl (lv_at hl 0 rfl) ?_
        refine lv_iload_n hx hb dX0_lacksBy_41 rfl (lv_at hl 1 rfl) ?_
        refine x_aload_n cx dX0_lacksBy_42 rfl (lv_at hl 0 rfl) ?_
        refine xg_X0_31_1 cx hR rfl hk2 dX0_lacksBy_43 ?_
        refine xg_X0_195_3 cx hR hr3 hk3 dX0_lacksBy_46 ?_
        refine lv_iload_n hx hb dX0_lacksBy_49 rfl (lv_at hl 1 rfl) ?_
        obtain ⟨a4, hr4, hk4, hw⟩ := hw
        obtain ⟨hi, hw⟩ := hw
        refine x_iald cx hR hr4 hk4 (j := x1.toNatClampNeg) rfl hi dX0_lacksBy_50 ?_
        refine lv_iload_n hx hb dX0_lacksBy_51 rfl (lv_at hl 2 rfl) ?_
        refine lv_ior hx hb dX0_lacksBy_52 ?_
        refine x_aload_n cx dX0_lacksBy_53 rfl (lv_at hl 0 rfl) ?_
        refine xg_X0_31_1 cx hR rfl hk2 dX0_lacksBy_54 ?_
        refine xg_X0_247_3 cx hR hr3 hk3 dX0_lacksBy_57 ?_
        refine lv_iload_n hx hb dX0_lacksBy_60 rfl (lv_at hl 1 rfl) ?_
        obtain ⟨a5, hr5, hk5, hw⟩ := hw
        obtain ⟨hi, hw⟩ := hw
        refine x_iald cx hR hr5 hk5 (j := x1.toNatClampNeg) rfl hi dX0_lacksBy_61 ?_
        refine lv_iload_n hx hb dX0_lacksBy_62 rfl (lv_at hl 3 rfl) ?_
        refine lv_ior hx hb dX0_lacksBy_63 ?_
        refine CX0_failing_2_X0_250 d cx hR hS rfl hk2 hw (by constructor <;> dsimp only <;> omega) (Nat.le_of_ble_eq_true rfl) hl.1 ⟨by dsimp only; omega, by dsimp only; omega⟩ dX0_lacksBy_64 (fun r6 s6 H locs hw hR hS => ?_)
        refine lv_if_eq (tgt := 73) hx hb dX0_lacksBy_67 (by decide) (fun hc => ?_) (fun hc => ?_)
        · have hw := mm_ip hc hw
          refine x_aload_n cx dX0_lacksBy_73 rfl (lv_at hl 0 rfl) ?_
          refine lv_iload_n hx hb dX0_lacksBy_74 rfl (lv_at hl 2 rfl) ?_
          obtain ⟨hk7, hw⟩ := hw
          obtain ⟨hge_th, hw⟩ := hw
          refine xp_X0_356_1 (v := x2) cx hR hS rfl hge_th hk7 dX0_lacksBy_75 (fun H locs hR hS => ?_)
          refine x_aload_n cx dX0_lacksBy_78 rfl (lv_at hl 0 rfl) ?_
          refine lv_iload_n hx hb dX0_lacksBy_79 rfl (lv_at hl 3 rfl) ?_
          refine xp_X0_359_1 (v := x3) cx hR hS rfl hge_th hk7 dX0_lacksBy_80 (fun H locs hR hS => ?_)
          refine lv_iconst (v := (1 : Int32)) hx hb dX0_lacksBy_83 (by decide) ?_
          exact x_nret cx hR hS (xle hcb) (xle hsb) (zb_nar (Or.inr rfl)) hw dX0_lacksBy_84
        · have hw := mm_in hc hw
          refine lv_goto (tgt := 85) hx hb dX0_lacksBy_70 (by decide) ?_
          exact BX0_lacksBy_85 d cx hK2 _ _ _ _ _ hw _ _ _ _ _ hR hS (lv_sub hl [0, 1, 2, 3] rfl) hcb hsb
      · have hw := mm_in hc hw
        refine lv_goto (tgt := 85) hx hb dX0_lacksBy_37 (by decide) ?_
        exact BX0_lacksBy_85 d cx hK2 _ _ _ _ _ hw _ _ _ _ _ hR hS (lv_sub hl [0, 1, 2, 3] rfl) hcb hsb
theorem LX0_lacksBy_2 {l : Launch} {p : Program} {e : Env} {s : State} {m : MethodId} {args : Array Value} {below : List Frame} {meth : Method} {c : Code} {E : xx_E} {Q : Int32 → XS → Prop} (d : Nat) (cx : xx_X "StruckCounts" cX0_lacksBy 4 (some .boolean) E p s m args meth c) : ∀ (th : Nat) (x1 : Int32) (x2 : Int32) (x3 : Int32) (σ : XS), lp5F (wX0_lacksBy_2 d Q) th x1 x2 x3 σ → x_T p l e ({ frames := (5 + 1 * d), cells := 0, slots := 0, locals := 40 * (5 + 1 * d) } : Room) s m args below meth c E (va_Qi Q (fun σ' t => xW E σ' t) (xA E)) 0 0 4 2 0 0 σ [(0, xv E (some th)), (1, .int x1), (2, .int x2), (3, .int x3)] [] :=
  lp5F_of (fun K hK => BX0_lacksBy_2 d cx hK)
def wX0_lacksBy (d : Nat) (th : Nat) (x1 : Int32) (x2 : Int32) (σ : XS) (Q : Int32 → XS → Prop) : Prop :=
  lp5F (wX0_lacksBy_2 d Q) th x1 x2 (0 : Int32) σ
set_option maxHeartbeats 4000000 in
theorem MX0_lacksBy (l : Launch) (E : xx_E) (d : Nat) (th : Nat) (x1 : Int32) (x2 : Int32) (σ : XS) (Q : Int32 → XS → Prop) (hw : wX0_lacksBy d th x1 x2 σ Q) : xx_Mi l yX0_lacksBy (ws_ yX0_lacksBy cX0_lacksBy 4 (some .boolean)) ({ frames := (5 + 1 * d), cells := 0, slots := 0, locals := 40 * (5 + 1 * d) } : Room) E [xv E (some th), .int x1, .int x2] σ Q 0 0 := by
  refine x_of (own := "StruckCounts") (by decide +kernel) rfl ?_
  intro p e s m args below meth c cx hR ha hnm
  refine x_entry [xv E (some th), .int x1, .int x2] 4 [(0, xv E (some th)), (1, .int x1), (2, .int x2)] ha (by simp [lg_sl, xv_cat, vc_i, vc_j, vc_f]) (by simp [lv_args, xv_cat, vc_i, vc_j, vc_f]) (fun ls hl => ?_)
  have hS : va_S (xA E) s.heap s.heap [] := va_S.rf
  have hcb : 0 + 0 ≤ 0 := Nat.le_of_eq (Nat.zero_add _)
  have hsb : 0 + 0 ≤ 0 := Nat.le_of_eq (Nat.zero_add _)
  unfold wX0_lacksBy at hw
  obtain ⟨hx, hb, hml, hown, hts, hrt, hlk, hMK, hZ⟩ := id cx
  refine lv_iconst (v := (0 : Int32)) hx hb dX0_lacksBy_0 (by decide) ?_
  refine lv_istore_n (i := 3) (lv' := [(3, .int (0 : Int32)), (0, xv E (some th)), (1, .int x1), (2, .int x2)]) hx hb dX0_lacksBy_1 rfl hl (by decide) rfl (fun ls hl => ?_)
  exact LX0_lacksBy_2 d cx _ _ _ _ _ hw _ _ _ _ _ hR hS (lv_sub hl [1, 2, 3, 0] rfl) hcb hsb
-- X0_hasLack
theorem CX0_lacksBy_X0_353 {l : Launch} {p : Program} {e : Env} {R : Room} {s : State} {m : MethodId} {args : Array Value} {below : List Frame} {meth : Method} {c : Code} {H : Heap} {locs : List Loc} {cells slots : Nat} {Qz : State → Prop} {cc : ByteArray} {nL : Nat} {ret : Option FieldType} {E : xx_E} {σ : XS} {pc : Nat} {ls : Array Slot} {rest : List Value} (d : Nat) {th : Nat} {x1 : Int32} {x2 : Int32} (cx : xx_X "StruckCounts" cc nL ret E p s m args meth c) (hR0 : xR E σ H) (hS0 : va_S (xA E) s.heap H locs) {r0 : Option Nat} (hr : r0 = some th) (hk : kd σ th = 1) {Qf : Int32 → XS → Prop} (hw : wX0_lacksBy d th x1 x2 σ Qf) (hR : (({ frames := (5 + 1 * d), cells := 0, slots := 0, locals := 40 * (5 + 1 * d) } : Room)).frames + 1 ≤ R.frames ∧ 8 + (4 + 11) + (({ frames := (5 + 1 * d), cells := 0, slots := 0, locals := 40 * (5 + 1 * d) } : Room)).locals ≤ R.locals) (hrest : rest.length ≤ 4) (hsize : ls.size = nL) (hf : cells + 0 ≤ R.cells ∧ slots + 0 ≤ R.slots) (hdg : decode cc pc = .ok (.invokevirtual 353, 3))
    (kk : ∀ (r : Int32) (σ1 : XS) (H1 : Heap) (locs1 : List Loc), Qf r σ1 → xR E σ1 H1 → va_S (xA E) s.heap H1 locs1 → W p l e R s m args below meth c H1 locs1 (cells + 0) (slots + 0) Qz (F0 m (pc + 3) ls (.int r :: rest))) : W p l e R s m args below meth c H locs cells slots Qz (F0 m pc ls (.int x2 :: .int x1 :: xv E r0 :: rest)) := by
  subst hr
  obtain ⟨hx, hb, hml, hown, hts, hrt, hlk, hK, hZ⟩ := id cx
  exact x_goi (va_runV (As := [.int x1, .int x2]) (rest := rest) (x_fix cx) (MX0_lacksBy l E d th x1 x2 σ Qf hw) (cwV 2 hts (lw_V q2154 q2156 qs57 q156 q2157) rfl rfl rfl (by decide +kernel) hR) (x_preV cx hR0 hS0 hk (by decide) (q := (RX0, TX0, 24)) rfl rfl [.int x1, .int x2]) rfl rfl hsize rfl (lv_room (xroom hrest)) hdg hf) hS0 kk
def wX0_hasLack_53 (d : Nat) (Q : Int32 → XS → Prop) (K2 : Nat → Int32 → Int32 → Int32 → XS → Prop) (K11 : Nat → Int32 → Int32 → Int32 → Int32 → XS → Prop) (th : Nat) (x1 : Int32) (x2 : Int32) (x3 : Int32) (x4 : Int32) (σ : XS) : Prop :=
  ∀ v1 : Int32, v1 = x4 + (1 : Int32) → K11 th x1 x2 x3 v1 σ
set_option maxHeartbeats 4000000 in
theorem BX0_hasLack_53 {l : Launch} {p : Program} {e : Env} {s : State} {m : MethodId} {args : Array Value} {below : List Frame} {meth : Method} {c : Code} {E : xx_E} {Q : Int32 → XS → Prop} {K2 : Nat → Int32 → Int32 → Int32 → XS → Prop} {K11 : Nat → Int32 → Int32 → Int32 → Int32 → XS → Prop} (d : Nat) (cx : xx_X "StruckCounts" cX0_hasLack 5 (some .boolean) E p s m args meth c) (hK2 : ∀ (th : Nat) (x1 : Int32) (x2 : Int32) (x3 : Int32) (σ : XS), K2 th x1 x2 x3 σ → x_T p l e ({ frames := (6 + 1 * d), cells := 0, slots := 0, locals := 40 * (6 + 1 * d) } : Room) s m args below meth c E (va_Qi Q (fun σ' t => xW E σ' t) (xA E)) 0 0 5 2 0 0 σ [(0, xv E (some th)), (1, .int x1), (2, .int x2), (3, .int x3)] []) (hK11 : ∀ (th : Nat) (x1 : Int32) (x2 : Int32) (x3 : Int32) (x4 : Int32) (σ : XS), K11 th x1 x2 x3 x4 σ → x_T p l e ({ frames := (6 + 1 * d), cells := 0, slots := 0, locals := 40 * (6 + 1 * d) } : Room) s m args below meth c E (va_Qi Q (fun σ' t => xW E σ' t) (xA E)) 0 0 5 11 0 0 σ [(0, xv E (some th)), (1, .int x1), (2, .int x2), (3, .int x3), (4, .int x4)] []) : ∀ (th : Nat) (x1 : Int32) (x2 : Int32) (x3 : Int32) (x4 : Int32) (σ : XS), wX0_hasLack_53 d Q K2 K11 th x1 x2 x3 x4 σ → x_T p l e ({ frames := (6 + 1 * d), cells := 0, slots := 0, locals := 40 * (6 + 1 * d) } : Room) s m args below meth c E (va_Qi Q (fun σ' t => xW E σ' t) (xA E)) 0 0 5 53 0 0 σ [(0, xv E (some th)), (1, .int x1), (2, .int x2), (3, .int x3), (4, .int x4)] [] := by
  intro th x1 x2 x3 x4 σ hw H locs ls cells slots hR hS hl hcb hsb
  unfold wX0_hasLack_53 at hw
  obtain ⟨hx, hb, hml, hown, hts, hrt, hlk, hMK, hZ⟩ := id cx
  obtain ⟨v1, hv1⟩ : ∃ v : Int32, v = x4 + (1 : Int32) := ⟨_, rfl⟩
  have hw := hw v1 hv1
  refine lv_iinc (v := v1) (lv' := [(4, .int v1), (0, xv E (some th)), (1, .int x1), (2, .int x2), (3, .int x3)]) hx hb dX0_hasLack_53 hl (k := 4) rfl (by rw [hv1]; rfl) (by decide) rfl (fun ls hl => ?_)
  refine lv_goto (tgt := 11) hx hb dX0_hasLack_56 (by decide) ?_
  exact hK11 _ _ _ _ _ _ hw _ _ _ _ _ hR hS (lv_sub hl [1, 2, 3, 4, 0] rfl) hcb hsb
def wX0_hasLack_11 (d : Nat) (Q : Int32 → XS → Prop) (K2 : Nat → Int32 → Int32 → Int32 → XS → Prop) (K11 : Nat → Int32 → Int32 → Int32 → Int32 → XS → Prop) (th : Nat) (x1 : Int32) (x2 : Int32) (x3 : Int32) (x4 : Int32) (σ : XS) : Prop :=
  kd σ th = 1 ∧ (oc σ (fr σ th 5) 2 (fun a4 => wX1_sets a4 σ (fun r3 s3 => if r3 ≤ x4 then (∀ v5 : Int32, v5 = x3 + (1 : Int32) → K2 th x1 x2 v5 s3) else (if (x4 &&& (x2 ^^^ (-1 : Int32))) = 0 then (wJ11_bitCount x4 s3 (fun r6 s6 => if r6 = x3 then (kd s6 th = 1 ∧ (wX0_lacksBy d th x1 x4 s6 (fun r7 s7 => if r7 = 0 then (wX0_hasLack_53 d Q K2 K11 th x1 x2 x3 x4 s7) else (Q (1 : Int32) s7)))) else (wX0_hasLack_53 d Q K2 K11 th x1 x2 x3 x4 s6))) else (wX0_hasLack_53 d Q K2 K11 th x1 x2 x3 x4 s3)))))
set_option maxHeartbeats 4000000 in
theorem BX0_hasLack_11 {l : Launch} {p : Program} {e : Env} {s : State} {m : MethodId} {args : Array Value} {below : List Frame} {meth : Method} {c : Code} {E : xx_E} {Q : Int32 → XS → Prop} {K2 : Nat → Int32 → Int32 → Int32 → XS → Prop} {K11 : Nat → Int32 → Int32 → Int32 → Int32 → XS → Prop} (d : Nat) (cx : xx_X "StruckCounts" cX0_hasLack 5 (some .boolean) E p s m args meth c) (hK2 : ∀ (th : Nat) (x1 : Int32) (x2 : Int32) (x3 : Int32) (σ : XS), K2 th x1 x2 x3 σ → x_T p l e ({ frames := (6 + 1 * d), cells := 0, slots := 0, locals := 40 * (6 + 1 * d) } : Room) s m args below meth c E (va_Qi Q (fun σ' t => xW E σ' t) (xA E)) 0 0 5 2 0 0 σ [(0, xv E (some th)), (1, .int x1), (2, .int x2), (3, .int x3)] []) (hK11 : ∀ (th : Nat) (x1 : Int32) (x2 : Int32) (x3 : Int32) (x4 : Int32) (σ : XS), K11 th x1 x2 x3 x4 σ → x_T p l e ({ frames := (6 + 1 * d), cells := 0, slots := 0, locals := 40 * (6 + 1 * d) } : Room) s m args below meth c E (va_Qi Q (fun σ' t => xW E σ' t) (xA E)) 0 0 5 11 0 0 σ [(0, xv E (some th)), (1, .int x1), (2, .int x2), (3, .int x3), (4, .int x4)] []) : ∀ (th : Nat) (x1 : Int32) (x2 : Int32) (x3 : Int32) (x4 : Int32) (σ : XS), wX0_hasLack_11 d Q K2 K11 th x1 x2 x3 x4 σ → x_T p l e ({ frames := (6 + 1 * d), cells := 0, slots := 0, locals := 40 * (6 + 1 * d) } : Room) s m args below meth c E (va_Qi Q (fun σ' t => xW E σ' t) (xA E)) 0 0 5 11 0 0 σ [(0, xv E (some th)), (1, .int x1), (2, .int x2), (3, .int x3), (4, .int x4)] [] := by
  intro th x1 x2 x3 x4 σ hw H locs ls cells slots hR hS hl hcb hsb
  unfold wX0_hasLack_11 at hw
  obtain ⟨hx, hb, hml, hown, hts, hrt, hlk, hMK, hZ⟩ := id cx
  refine lv_iload hx hb dX0_hasLack_11 (lv_at hl 4 rfl) ?_
  refine x_aload_n cx dX0_hasLack_13 rfl (lv_at hl 0 rfl) ?_
  obtain ⟨hk2, hw⟩ := hw
  refine xg_X0_24_1 cx hR rfl hk2 dX0_hasLack_14 ?_
  obtain ⟨a4, hr4, hk4, hw⟩ := hw
  refine CX1_sets_X0_142 cx hR hS hr4 hk4 hw (by constructor <;> dsimp only <;> omega) (Nat.le_of_ble_eq_true rfl) hl.1 ⟨by dsimp only; omega, by dsimp only; omega⟩ dX0_hasLack_17 (fun r3 s3 H locs hw hR hS => ?_)
  refine lv_icmp_ge (tgt := 59) hx hb dX0_hasLack_20 (by decide) (fun hc => ?_) (fun hc => ?_)
  · have hw := mm_ip hc hw
    obtain ⟨v5, hv5⟩ : ∃ v : Int32, v = x3 + (1 : Int32) := ⟨_, rfl⟩
    have hw := hw v5 hv5
    refine lv_iinc (v := v5) (lv' := [(3, .int v5), (0, xv E (some th)), (1, .int x1), (2, .int x2), (4, .int x4)]) hx hb dX0_hasLack_59 hl (k := 3) rfl (by rw [hv5]; rfl) (by decide) rfl (fun ls hl => ?_)
    refine lv_goto (tgt := 2) hx hb dX0_hasLack_62 (by decide) ?_
    exact hK2 _ _ _ _ _ hw _ _ _ _ _ hR hS (lv_sub hl [1, 2, 3, 0] rfl) hcb hsb
  · have hw := mm_in hc hw
    refine lv_iload hx hb dX0_hasLack_23 (lv_at hl 4 rfl) ?_
    refine lv_iload_n hx hb dX0_hasLack_25 rfl (lv_at hl 2 rfl) ?_
    refine lv_iconst (v := (-1 : Int32)) hx hb dX0_hasLack_26 (by decide) ?_
    refine lv_ixor hx hb dX0_hasLack_27 ?_
    refine lv_iand hx hb dX0_hasLack_28 ?_
    refine lv_if_ne (tgt := 53) hx hb dX0_hasLack_29 (by decide) (fun hc => ?_) (fun hc => ?_)
    · have hw := mm_in hc hw
      exact BX0_hasLack_53 d cx hK2 hK11 _ _ _ _ _ _ hw _ _ _ _ _ hR hS (lv_sub hl [0, 1, 2, 3, 4] rfl) hcb hsb
    · have hw := mm_ip hc hw
      refine lv_iload hx hb dX0_hasLack_32 (lv_at hl 4 rfl) ?_
      refine CJ11_bitCount_X0_198 cx hR hS  hw (by constructor <;> dsimp only <;> omega) (Nat.le_of_ble_eq_true rfl) hl.1 ⟨by dsimp only; omega, by dsimp only; omega⟩ dX0_hasLack_34 (fun r6 s6 H locs hw hR hS => ?_)
      refine lv_iload_n hx hb dX0_hasLack_37 rfl (lv_at hl 3 rfl) ?_
      refine lv_icmp_ne (tgt := 53) hx hb dX0_hasLack_38 (by decide) (fun hc => ?_) (fun hc => ?_)
      · have hw := mm_in hc hw
        exact BX0_hasLack_53 d cx hK2 hK11 _ _ _ _ _ _ hw _ _ _ _ _ hR hS (lv_sub hl [0, 1, 2, 3, 4] rfl) hcb hsb
      · have hw := mm_ip hc hw
        refine x_aload_n cx dX0_hasLack_41 rfl (lv_at hl 0 rfl) ?_
        refine lv_iload_n hx hb dX0_hasLack_42 rfl (lv_at hl 1 rfl) ?_
        refine lv_iload hx hb dX0_hasLack_43 (lv_at hl 4 rfl) ?_
        obtain ⟨hk8, hw⟩ := hw
        refine CX0_lacksBy_X0_353 d cx hR hS rfl hk8 hw (by constructor <;> dsimp only <;> omega) (Nat.le_of_ble_eq_true rfl) hl.1 ⟨by dsimp only; omega, by dsimp only; omega⟩ dX0_hasLack_45 (fun r7 s7 H locs hw hR hS => ?_)
        refine lv_if_eq (tgt := 53) hx hb dX0_hasLack_48 (by decide) (fun hc => ?_) (fun hc => ?_)
        · have hw := mm_ip hc hw
          exact BX0_hasLack_53 d cx hK2 hK11 _ _ _ _ _ _ hw _ _ _ _ _ hR hS (lv_sub hl [0, 1, 2, 3, 4] rfl) hcb hsb
        · have hw := mm_in hc hw
          refine lv_iconst (v := (1 : Int32)) hx hb dX0_hasLack_51 (by decide) ?_
          exact x_nret cx hR hS (xle hcb) (xle hsb) (zb_nar (Or.inr rfl)) hw dX0_hasLack_52
theorem LX0_hasLack_11 {l : Launch} {p : Program} {e : Env} {s : State} {m : MethodId} {args : Array Value} {below : List Frame} {meth : Method} {c : Code} {E : xx_E} {Q : Int32 → XS → Prop} {K2 : Nat → Int32 → Int32 → Int32 → XS → Prop} (d : Nat) (cx : xx_X "StruckCounts" cX0_hasLack 5 (some .boolean) E p s m args meth c) (hK2 : ∀ (th : Nat) (x1 : Int32) (x2 : Int32) (x3 : Int32) (σ : XS), K2 th x1 x2 x3 σ → x_T p l e ({ frames := (6 + 1 * d), cells := 0, slots := 0, locals := 40 * (6 + 1 * d) } : Room) s m args below meth c E (va_Qi Q (fun σ' t => xW E σ' t) (xA E)) 0 0 5 2 0 0 σ [(0, xv E (some th)), (1, .int x1), (2, .int x2), (3, .int x3)] []) : ∀ (th : Nat) (x1 : Int32) (x2 : Int32) (x3 : Int32) (x4 : Int32) (σ : XS), lp6F (wX0_hasLack_11 d Q K2) th x1 x2 x3 x4 σ → x_T p l e ({ frames := (6 + 1 * d), cells := 0, slots := 0, locals := 40 * (6 + 1 * d) } : Room) s m args below meth c E (va_Qi Q (fun σ' t => xW E σ' t) (xA E)) 0 0 5 11 0 0 σ [(0, xv E (some th)), (1, .int x1), (2, .int x2), (3, .int x3), (4, .int x4)] [] :=
  lp6F_of (fun K hK => BX0_hasLack_11 d cx hK2 hK)
def wX0_hasLack_2 (d : Nat) (Q : Int32 → XS → Prop) (K2 : Nat → Int32 → Int32 → Int32 → XS → Prop) (th : Nat) (x1 : Int32) (x2 : Int32) (x3 : Int32) (σ : XS) : Prop :=
  if (8 : Int32) < x3 then (Q (0 : Int32) σ) else (lp6F (wX0_hasLack_11 d Q K2) th x1 x2 x3 (0 : Int32) σ)
set_option maxHeartbeats 4000000 in
theorem BX0_hasLack_2 {l : Launch} {p : Program} {e : Env} {s : State} {m : MethodId} {args : Array Value} {below : List Frame} {meth : Method} {c : Code} {E : xx_E} {Q : Int32 → XS → Prop} {K2 : Nat → Int32 → Int32 → Int32 → XS → Prop} (d : Nat) (cx : xx_X "StruckCounts" cX0_hasLack 5 (some .boolean) E p s m args meth c) (hK2 : ∀ (th : Nat) (x1 : Int32) (x2 : Int32) (x3 : Int32) (σ : XS), K2 th x1 x2 x3 σ → x_T p l e ({ frames := (6 + 1 * d), cells := 0, slots := 0, locals := 40 * (6 + 1 * d) } : Room) s m args below meth c E (va_Qi Q (fun σ' t => xW E σ' t) (xA E)) 0 0 5 2 0 0 σ [(0, xv E (some th)), (1, .int x1), (2, .int x2), (3, .int x3)] []) : ∀ (th : Nat) (x1 : Int32) (x2 : Int32) (x3 : Int32) (σ : XS), wX0_hasLack_2 d Q K2 th x1 x2 x3 σ → x_T p l e ({ frames := (6 + 1 * d), cells := 0, slots := 0, locals := 40 * (6 + 1 * d) } : Room) s m args below meth c E (va_Qi Q (fun σ' t => xW E σ' t) (xA E)) 0 0 5 2 0 0 σ [(0, xv E (some th)), (1, .int x1), (2, .int x2), (3, .int x3)] [] := by
  intro th x1 x2 x3 σ hw H locs ls cells slots hR hS hl hcb hsb
  unfold wX0_hasLack_2 at hw
  obtain ⟨hx, hb, hml, hown, hts, hrt, hlk, hMK, hZ⟩ := id cx
  refine lv_iload_n hx hb dX0_hasLack_2 rfl (lv_at hl 3 rfl) ?_
  refine lv_bipush (v := (8 : Int32)) hx hb dX0_hasLack_3 (by decide) ?_
  refine lv_icmp_gt (tgt := 65) hx hb dX0_hasLack_5 (by decide) (fun hc => ?_) (fun hc => ?_)
  · have hw := mm_ip hc hw
    refine lv_iconst (v := (0 : Int32)) hx hb dX0_hasLack_65 (by decide) ?_
    exact x_nret cx hR hS (xle hcb) (xle hsb) (zb_nar (Or.inl rfl)) hw dX0_hasLack_66
  · have hw := mm_in hc hw
    refine lv_iconst (v := (0 : Int32)) hx hb dX0_hasLack_8 (by decide) ?_
    refine lv_istore (i := 4) (lv' := [(4, .int (0 : Int32)), (0, xv E (some th)), (1, .int x1), (2, .int x2), (3, .int x3)]) hx hb dX0_hasLack_9 hl (by decide) rfl (fun ls hl => ?_)
    exact LX0_hasLack_11 d cx hK2 _ _ _ _ _ _ hw _ _ _ _ _ hR hS (lv_sub hl [1, 2, 3, 4, 0] rfl) hcb hsb
theorem LX0_hasLack_2 {l : Launch} {p : Program} {e : Env} {s : State} {m : MethodId} {args : Array Value} {below : List Frame} {meth : Method} {c : Code} {E : xx_E} {Q : Int32 → XS → Prop} (d : Nat) (cx : xx_X "StruckCounts" cX0_hasLack 5 (some .boolean) E p s m args meth c) : ∀ (th : Nat) (x1 : Int32) (x2 : Int32) (x3 : Int32) (σ : XS), lp5F (wX0_hasLack_2 d Q) th x1 x2 x3 σ → x_T p l e ({ frames := (6 + 1 * d), cells := 0, slots := 0, locals := 40 * (6 + 1 * d) } : Room) s m args below meth c E (va_Qi Q (fun σ' t => xW E σ' t) (xA E)) 0 0 5 2 0 0 σ [(0, xv E (some th)), (1, .int x1), (2, .int x2), (3, .int x3)] [] :=
  lp5F_of (fun K hK => BX0_hasLack_2 d cx hK)
def wX0_hasLack (d : Nat) (th : Nat) (x1 : Int32) (x2 : Int32) (σ : XS) (Q : Int32 → XS → Prop) : Prop :=
  lp5F (wX0_hasLack_2 d Q) th x1 x2 (0 : Int32) σ
set_option maxHeartbeats 4000000 in
theorem MX0_hasLack (l : Launch) (E : xx_E) (d : Nat) (th : Nat) (x1 : Int32) (x2 : Int32) (σ : XS) (Q : Int32 → XS → Prop) (hw : wX0_hasLack d th x1 x2 σ Q) : xx_Mi l yX0_hasLack (ws_ yX0_hasLack cX0_hasLack 5 (some .boolean)) ({ frames := (6 + 1 * d), cells := 0, slots := 0, locals := 40 * (6 + 1 * d) } : Room) E [xv E (some th), .int x1, .int x2] σ Q 0 0 := by
  refine x_of (own := "StruckCounts") (by decide +kernel) rfl ?_
  intro p e s m args below meth c cx hR ha hnm
  refine x_entry [xv E (some th), .int x1, .int x2] 5 [(0, xv E (some th)), (1, .int x1), (2, .int x2)] ha (by simp [lg_sl, xv_cat, vc_i, vc_j, vc_f]) (by simp [lv_args, xv_cat, vc_i, vc_j, vc_f]) (fun ls hl => ?_)
  have hS : va_S (xA E) s.heap s.heap [] := va_S.rf
  have hcb : 0 + 0 ≤ 0 := Nat.le_of_eq (Nat.zero_add _)
  have hsb : 0 + 0 ≤ 0 := Nat.le_of_eq (Nat.zero_add _)
  unfold wX0_hasLack at hw
  obtain ⟨hx, hb, hml, hown, hts, hrt, hlk, hMK, hZ⟩ := id cx
  refine lv_iconst (v := (0 : Int32)) hx hb dX0_hasLack_0 (by decide) ?_
  refine lv_istore_n (i := 3) (lv' := [(3, .int (0 : Int32)), (0, xv E (some th)), (1, .int x1), (2, .int x2)]) hx hb dX0_hasLack_1 rfl hl (by decide) rfl (fun ls hl => ?_)
  exact LX0_hasLack_2 d cx _ _ _ _ _ hw _ _ _ _ _ hR hS (lv_sub hl [1, 2, 3, 0] rfl) hcb hsb
-- X0_lacks
theorem xg_X0_359_1 {l : Launch} {p : Program} {e : Env} {R : Room} {s : State} {m : MethodId} {args : Array Value} {below : List Frame} {meth : Method} {c : Code} {H : Heap} {locs : List Loc} {cells slots : Nat} {Qz : State → Prop} {cc : ByteArray} {nL : Nat} {ret : Option FieldType} {E : xx_E} {σ : XS} {pc : Nat} {ls : Array Slot} {rest : List Value} (cx : xx_X "StruckCounts" cc nL ret E p s m args meth c) (hR : xR E σ H) {a : Nat} {r : Option Nat} (hr : r = some a) (hk : kd σ a = 1) (hdg : decode cc pc = .ok (.getfield 359, 3)) (kk : W p l e R s m args below meth c H locs cells slots Qz (F0 m (pc + 3) ls (.int (fi σ a 14) :: rest))) : W p l e R s m args below meth c H locs cells slots Qz (F0 m pc ls (xv E r :: rest)) :=
  x_get (ci := 0) cx hR hr hk (by decide) rfl in_X0 14 (by decide) q585 (fun _ h => h) (v := .int (fi σ a 14)) rfl hdg kk
theorem xg_X0_356_1 {l : Launch} {p : Program} {e : Env} {R : Room} {s : State} {m : MethodId} {args : Array Value} {below : List Frame} {meth : Method} {c : Code} {H : Heap} {locs : List Loc} {cells slots : Nat} {Qz : State → Prop} {cc : ByteArray} {nL : Nat} {ret : Option FieldType} {E : xx_E} {σ : XS} {pc : Nat} {ls : Array Slot} {rest : List Value} (cx : xx_X "StruckCounts" cc nL ret E p s m args meth c) (hR : xR E σ H) {a : Nat} {r : Option Nat} (hr : r = some a) (hk : kd σ a = 1) (hdg : decode cc pc = .ok (.getfield 356, 3)) (kk : W p l e R s m args below meth c H locs cells slots Qz (F0 m (pc + 3) ls (.int (fi σ a 13) :: rest))) : W p l e R s m args below meth c H locs cells slots Qz (F0 m pc ls (xv E r :: rest)) :=
  x_get (ci := 0) cx hR hr hk (by decide) rfl in_X0 13 (by decide) q584 (fun _ h => h) (v := .int (fi σ a 13)) rfl hdg kk
theorem CX0_hasLack_X0_362 {l : Launch} {p : Program} {e : Env} {R : Room} {s : State} {m : MethodId} {args : Array Value} {below : List Frame} {meth : Method} {c : Code} {H : Heap} {locs : List Loc} {cells slots : Nat} {Qz : State → Prop} {cc : ByteArray} {nL : Nat} {ret : Option FieldType} {E : xx_E} {σ : XS} {pc : Nat} {ls : Array Slot} {rest : List Value} (d : Nat) {th : Nat} {x1 : Int32} {x2 : Int32} (cx : xx_X "StruckCounts" cc nL ret E p s m args meth c) (hR0 : xR E σ H) (hS0 : va_S (xA E) s.heap H locs) {r0 : Option Nat} (hr : r0 = some th) (hk : kd σ th = 1) {Qf : Int32 → XS → Prop} (hw : wX0_hasLack d th x1 x2 σ Qf) (hR : (({ frames := (6 + 1 * d), cells := 0, slots := 0, locals := 40 * (6 + 1 * d) } : Room)).frames + 1 ≤ R.frames ∧ 8 + (5 + 11) + (({ frames := (6 + 1 * d), cells := 0, slots := 0, locals := 40 * (6 + 1 * d) } : Room)).locals ≤ R.locals) (hrest : rest.length ≤ 4) (hsize : ls.size = nL) (hf : cells + 0 ≤ R.cells ∧ slots + 0 ≤ R.slots) (hdg : decode cc pc = .ok (.invokevirtual 362, 3))
    (kk : ∀ (r : Int32) (σ1 : XS) (H1 : Heap) (locs1 : List Loc), Qf r σ1 → xR E σ1 H1 → va_S (xA E) s.heap H1 locs1 → W p l e R s m args below meth c H1 locs1 (cells + 0) (slots + 0) Qz (F0 m (pc + 3) ls (.int r :: rest))) : W p l e R s m args below meth c H locs cells slots Qz (F0 m pc ls (.int x2 :: .int x1 :: xv E r0 :: rest)) := by
  subst hr
  obtain ⟨hx, hb, hml, hown, hts, hrt, hlk, hK, hZ⟩ := id cx
  exact x_goi (va_runV (As := [.int x1, .int x2]) (rest := rest) (x_fix cx) (MX0_hasLack l E d th x1 x2 σ Qf hw) (cwV 2 hts (lw_V q2150 q2152 qs56 q156 q2153) rfl rfl rfl (by decide +kernel) hR) (x_preV cx hR0 hS0 hk (by decide) (q := (RX0, TX0, 24)) rfl rfl [.int x1, .int x2]) rfl rfl hsize rfl (lv_room (xroom hrest)) hdg hf) hS0 kk
def wX0_lacks (d : Nat) (th : Nat) (x1 : Int32) (x2 : Int32) (σ : XS) (Q : Int32 → XS → Prop) : Prop :=
  kd σ th = 1 ∧ (wX0_isCount th x1 σ (fun r1 s1 => if r1 = 0 then (Q (-1 : Int32) s1) else (wX0_in x2 (0 : Int32) (2 : Int32) s1 (fun r3 s3 => if r3 = 0 then (Q (-1 : Int32) s3) else (kd s3 th = 1 ∧ (oc s3 (fr s3 th 6) 3 (fun a5 => wX0_has (fi s3 a5 10) x1 s3 (fun r6 s6 => if r6 = 0 then (kd s6 th = 1 ∧ (oc s6 (fr s6 th 5) 2 (fun a9 => wX1_sets a9 s6 (fun r8 s8 => kd s8 th = 1 ∧ (oc s8 (fr s8 th 6) 3 (fun a11 => oc s8 (fr s8 a11 5) 100 (fun a12 => vp_in x1 (ln s8 a12) ∧ (wX0_hasLack d th x1 ((r8 - (1 : Int32)) &&& ((ai s8 a12 x1.toNatClampNeg) ^^^ (-1 : Int32))) s8 (fun r13 s13 => if r13 = 0 then (Q (-2 : Int32) s13) else (if x2 = 0 then (kd s13 th = 1 ∧ (wJ11_bitCount (fi s13 th 13) s13 (fun r17 s17 => Q r17 s17))) else (if x2 = (1 : Int32) then (kd s13 th = 1 ∧ (Q (fi s13 th 13) s13)) else (kd s13 th = 1 ∧ (Q (fi s13 th 14) s13))))))))))))) else (Q (-2 : Int32) s6)))))))))
set_option maxHeartbeats 4000000 in
theorem MX0_lacks (l : Launch) (E : xx_E) (d : Nat) (th : Nat) (x1 : Int32) (x2 : Int32) (σ : XS) (Q : Int32 → XS → Prop) (hw : wX0_lacks d th x1 x2 σ Q) : xx_Mi l yX0_lacks (ws_ yX0_lacks cX0_lacks 3 (some .int)) ({ frames := (7 + 1 * d), cells := 0, slots := 0, locals := 40 * (7 + 1 * d) } : Room) E [xv E (some th), .int x1, .int x2] σ Q 0 0 := by
  refine x_of (own := "StruckCounts") (by decide +kernel) rfl ?_
  intro p e s m args below meth c cx hR ha hnm
  refine x_entry [xv E (some th), .int x1, .int x2] 3 [(0, xv E (some th)), (1, .int x1), (2, .int x2)] ha (by simp [lg_sl, xv_cat, vc_i, vc_j, vc_f]) (by simp [lv_args, xv_cat, vc_i, vc_j, vc_f]) (fun ls hl => ?_)
  have hS : va_S (xA E) s.heap s.heap [] := va_S.rf
  have hcb : 0 + 0 ≤ 0 := Nat.le_of_eq (Nat.zero_add _)
  have hsb : 0 + 0 ≤ 0 := Nat.le_of_eq (Nat.zero_add _)
  unfold wX0_lacks at hw
  obtain ⟨hx, hb, hml, hown, hts, hrt, hlk, hMK, hZ⟩ := id cx
  refine x_aload_n cx dX0_lacks_0 rfl (lv_at hl 0 rfl) ?_
  refine lv_iload_n hx hb dX0_lacks_1 rfl (lv_at hl 1 rfl) ?_
  obtain ⟨hk2, hw⟩ := hw
  refine CX0_isCount_X0_290 cx hR hS rfl hk2 hw (by constructor <;> dsimp only <;> omega) (Nat.le_of_ble_eq_true rfl) hl.1 ⟨by dsimp only; omega, by dsimp only; omega⟩ dX0_lacks_2 (fun r1 s1 H locs hw hR hS => ?_)
  refine lv_if_eq (tgt := 17) hx hb dX0_lacks_5 (by decide) (fun hc => ?_) (fun hc => ?_)
  · have hw := mm_ip hc hw
    refine lv_iconst (v := (-1 : Int32)) hx hb dX0_lacks_17 (by decide) ?_
    exact x_iret cx hR hS (xle hcb) (xle hsb) hw dX0_lacks_18
  · have hw := mm_in hc hw
    refine lv_iload_n hx hb dX0_lacks_8 rfl (lv_at hl 2 rfl) ?_
    refine lv_iconst (v := (0 : Int32)) hx hb dX0_lacks_9 (by decide) ?_
    refine lv_iconst (v := (2 : Int32)) hx hb dX0_lacks_10 (by decide) ?_
    refine CX0_in_X0_96 cx hR hS  hw (by constructor <;> dsimp only <;> omega) (Nat.le_of_ble_eq_true rfl) hl.1 ⟨by dsimp only; omega, by dsimp only; omega⟩ dX0_lacks_11 (fun r3 s3 H locs hw hR hS => ?_)
    refine lv_if_ne (tgt := 19) hx hb dX0_lacks_14 (by decide) (fun hc => ?_) (fun hc => ?_)
    · have hw := mm_in hc hw
      refine x_aload_n cx dX0_lacks_19 rfl (lv_at hl 0 rfl) ?_
      obtain ⟨hk4, hw⟩ := hw
      refine xg_X0_31_1 cx hR rfl hk4 dX0_lacks_20 ?_
      obtain ⟨a5, hr5, hk5, hw⟩ := hw
      refine xg_X0_220_3 cx hR hr5 hk5 dX0_lacks_23 ?_
      refine lv_iload_n hx hb dX0_lacks_26 rfl (lv_at hl 1 rfl) ?_
      refine CX0_has_X0_223 cx hR hS  hw (by constructor <;> dsimp only <;> omega) (Nat.le_of_ble_eq_true rfl) hl.1 ⟨by dsimp only; omega, by dsimp only; omega⟩ dX0_lacks_27 (fun r6 s6 H locs hw hR hS => ?_)
      refine lv_if_ne (tgt := 62) hx hb dX0_lacks_30 (by decide) (fun hc => ?_) (fun hc => ?_)
      · have hw := mm_in hc hw
        refine lv_bipush (v := (-2 : Int32)) hx hb dX0_lacks_62 (by decide) ?_
        exact x_iret cx hR hS (xle hcb) (xle hsb) hw dX0_lacks_64
      · have hw := mm_ip hc hw
        refine x_aload_n cx dX0_lacks_33 rfl (lv_at hl 0 rfl) ?_
        refine lv_iload_n hx hb dX0_lacks_34 rfl (lv_at hl 1 rfl) ?_
        refine x_aload_n cx dX0_lacks_35 rfl (lv_at hl 0 rfl) ?_
        obtain ⟨hk7, hw⟩ := hw
        refine xg_X0_24_1 cx hR rfl hk7 dX0_lacks_36 ?_
        obtain ⟨a9, hr9, hk9, hw⟩ := hw
        refine CX1_sets_X0_142 cx hR hS hr9 hk9 hw (by constructor <;> dsimp only <;> omega) (Nat.le_of_ble_eq_true rfl) hl.1 ⟨by dsimp only; omega, by dsimp only; omega⟩ dX0_lacks_39 (fun r8 s8 H locs hw hR hS => ?_)
        refine lv_iconst (v := (1 : Int32)) hx hb dX0_lacks_42 (by decide) ?_
        refine lv_isub hx hb dX0_lacks_43 ?_
        refine x_aload_n cx dX0_lacks_44 rfl (lv_at hl 0 rfl) ?_
        obtain ⟨hk10, hw⟩ := hw
        refine xg_X0_31_1 cx hR rfl hk10 dX0_lacks_45 ?_
        obtain ⟨a11, hr11, hk11, hw⟩ := hw
        refine xg_X0_195_3 cx hR hr11 hk11 dX0_lacks_48 ?_
        refine lv_iload_n hx hb dX0_lacks_51 rfl (lv_at hl 1 rfl) ?_
        obtain ⟨a12, hr12, hk12, hw⟩ := hw
        obtain ⟨hi, hw⟩ := hw
        refine x_iald cx hR hr12 hk12 (j := x1.toNatClampNeg) rfl hi dX0_lacks_52 ?_
        refine lv_iconst (v := (-1 : Int32)) hx hb dX0_lacks_53 (by decide) ?_
        refine lv_ixor hx hb dX0_lacks_54 ?_
        refine lv_iand hx hb dX0_lacks_55 ?_
        refine CX0_hasLack_X0_362 d cx hR hS rfl hk10 hw (by constructor <;> dsimp only <;> omega) (Nat.le_of_ble_eq_true rfl) hl.1 ⟨by dsimp only; omega, by dsimp only; omega⟩ dX0_lacks_56 (fun r13 s13 H locs hw hR hS => ?_)
        refine lv_if_ne (tgt := 65) hx hb dX0_lacks_59 (by decide) (fun hc => ?_) (fun hc => ?_)
        · have hw := mm_in hc hw
          refine lv_iload_n hx hb dX0_lacks_65 rfl (lv_at hl 2 rfl) ?_
          refine lv_if_ne (tgt := 79) hx hb dX0_lacks_66 (by decide) (fun hc => ?_) (fun hc => ?_)
          · have hw := mm_in hc hw
            refine lv_iload_n hx hb dX0_lacks_79 rfl (lv_at hl 2 rfl) ?_
            refine lv_iconst (v := (1 : Int32)) hx hb dX0_lacks_80 (by decide) ?_
            refine lv_icmp_ne (tgt := 91) hx hb dX0_lacks_81 (by decide) (fun hc => ?_) (fun hc => ?_)
            · have hw := mm_in hc hw
              refine x_aload_n cx dX0_lacks_91 rfl (lv_at hl 0 rfl) ?_
              obtain ⟨hk14, hw⟩ := hw
              refine xg_X0_359_1 cx hR rfl hk14 dX0_lacks_92 ?_
              exact x_iret cx hR hS (xle hcb) (xle hsb) hw dX0_lacks_95
            · have hw := mm_ip hc hw
              refine x_aload_n cx dX0_lacks_84 rfl (lv_at hl 0 rfl) ?_
              obtain ⟨hk15, hw⟩ := hw
              refine xg_X0_356_1 cx hR rfl hk15 dX0_lacks_85 ?_
              refine lv_goto (tgt := 95) hx hb dX0_lacks_88 (by decide) ?_
              exact x_iret cx hR hS (xle hcb) (xle hsb) hw dX0_lacks_95
          · have hw := mm_ip hc hw
            refine x_aload_n cx dX0_lacks_69 rfl (lv_at hl 0 rfl) ?_
            obtain ⟨hk16, hw⟩ := hw
            refine xg_X0_356_1 cx hR rfl hk16 dX0_lacks_70 ?_
            refine CJ11_bitCount_X0_198 cx hR hS  hw (by constructor <;> dsimp only <;> omega) (Nat.le_of_ble_eq_true rfl) hl.1 ⟨by dsimp only; omega, by dsimp only; omega⟩ dX0_lacks_73 (fun r17 s17 H locs hw hR hS => ?_)
            refine lv_goto (tgt := 95) hx hb dX0_lacks_76 (by decide) ?_
            exact x_iret cx hR hS (xle hcb) (xle hsb) hw dX0_lacks_95
        · have hw := mm_ip hc hw
          refine lv_bipush (v := (-2 : Int32)) hx hb dX0_lacks_62 (by decide) ?_
          exact x_iret cx hR hS (xle hcb) (xle hsb) hw dX0_lacks_64
    · have hw := mm_ip hc hw
      refine lv_iconst (v := (-1 : Int32)) hx hb dX0_lacks_17 (by decide) ?_
      exact x_iret cx hR hS (xle hcb) (xle hsb) hw dX0_lacks_18
-- X0_laysWon
theorem xg_X0_63_1 {l : Launch} {p : Program} {e : Env} {R : Room} {s : State} {m : MethodId} {args : Array Value} {below : List Frame} {meth : Method} {c : Code} {H : Heap} {locs : List Loc} {cells slots : Nat} {Qz : State → Prop} {cc : ByteArray} {nL : Nat} {ret : Option FieldType} {E : xx_E} {σ : XS} {pc : Nat} {ls : Array Slot} {rest : List Value} (cx : xx_X "StruckCounts" cc nL ret E p s m args meth c) (hR : xR E σ H) {a : Nat} {r : Option Nat} (hr : r = some a) (hk : kd σ a = 1) (hdg : decode cc pc = .ok (.getfield 63, 3)) (kk : W p l e R s m args below meth c H locs cells slots Qz (F0 m (pc + 3) ls (xv E (fr σ a 16) :: rest))) : W p l e R s m args below meth c H locs cells slots Qz (F0 m pc ls (xv E r :: rest)) :=
  x_get (ci := 0) cx hR hr hk (by decide) rfl in_X0 16 (by decide) q587 (fun _ h => h) (v := xv E (fr σ a 16)) rfl hdg kk
theorem xg_X0_66_1 {l : Launch} {p : Program} {e : Env} {R : Room} {s : State} {m : MethodId} {args : Array Value} {below : List Frame} {meth : Method} {c : Code} {H : Heap} {locs : List Loc} {cells slots : Nat} {Qz : State → Prop} {cc : ByteArray} {nL : Nat} {ret : Option FieldType} {E : xx_E} {σ : XS} {pc : Nat} {ls : Array Slot} {rest : List Value} (cx : xx_X "StruckCounts" cc nL ret E p s m args meth c) (hR : xR E σ H) {a : Nat} {r : Option Nat} (hr : r = some a) (hk : kd σ a = 1) (hdg : decode cc pc = .ok (.getfield 66, 3)) (kk : W p l e R s m args below meth c H locs cells slots Qz (F0 m (pc + 3) ls (xv E (fr σ a 17) :: rest))) : W p l e R s m args below meth c H locs cells slots Qz (F0 m pc ls (xv E r :: rest)) :=
  x_get (ci := 0) cx hR hr hk (by decide) rfl in_X0 17 (by decide) q588 (fun _ h => h) (v := xv E (fr σ a 17)) rfl hdg kk
theorem xg_X0_60_1 {l : Launch} {p : Program} {e : Env} {R : Room} {s : State} {m : MethodId} {args : Array Value} {below : List Frame} {meth : Method} {c : Code} {H : Heap} {locs : List Loc} {cells slots : Nat} {Qz : State → Prop} {cc : ByteArray} {nL : Nat} {ret : Option FieldType} {E : xx_E} {σ : XS} {pc : Nat} {ls : Array Slot} {rest : List Value} (cx : xx_X "StruckCounts" cc nL ret E p s m args meth c) (hR : xR E σ H) {a : Nat} {r : Option Nat} (hr : r = some a) (hk : kd σ a = 1) (hdg : decode cc pc = .ok (.getfield 60, 3)) (kk : W p l e R s m args below meth c H locs cells slots Qz (F0 m (pc + 3) ls (xv E (fr σ a 15) :: rest))) : W p l e R s m args below meth c H locs cells slots Qz (F0 m pc ls (xv E r :: rest)) :=
  x_get (ci := 0) cx hR hr hk (by decide) rfl in_X0 15 (by decide) q586 (fun _ h => h) (v := xv E (fr σ a 15)) rfl hdg kk
def wX0_laysWon_53 (Q : XS → Prop) (K53 : Nat → Int32 → XS → Prop) (th : Nat) (x2 : Int32) (σ : XS) : Prop :=
  if (6561 : Int32) ≤ x2 then (Q σ) else (kd σ th = 1 ∧ (oc σ (fr σ th 16) 100 (fun a2 => xK ≤ a2 ∧ (vp_in x2 (ln σ a2) ∧ (oc (pai σ a2 x2.toNatClampNeg (-1 : Int32)) (fr (pai σ a2 x2.toNatClampNeg (-1 : Int32)) th 17) 100 (fun a3 => xK ≤ a3 ∧ (vp_in x2 (ln (pai σ a2 x2.toNatClampNeg (-1 : Int32)) a3) ∧ (∀ v4 : Int32, v4 = x2 + (1 : Int32) → K53 th v4 (pai (pai σ a2 x2.toNatClampNeg (-1 : Int32)) a3 x2.toNatClampNeg (-1 : Int32))))))))))
set_option maxHeartbeats 4000000 in
theorem BX0_laysWon_53 {l : Launch} {p : Program} {e : Env} {s : State} {m : MethodId} {args : Array Value} {below : List Frame} {meth : Method} {c : Code} {E : xx_E} {Q : XS → Prop} {K53 : Nat → Int32 → XS → Prop} (cx : xx_X "StruckCounts" cX0_laysWon 3 none E p s m args meth c) (hK53 : ∀ (th : Nat) (x2 : Int32) (σ : XS), K53 th x2 σ → x_T p l e ({ frames := 5, cells := 0, slots := 0, locals := 200 } : Room) s m args below meth c E (va_Qv Q (fun σ' t => xW E σ' t) (xA E)) 0 0 3 53 0 0 σ [(0, xv E (some th)), (2, .int x2)] []) : ∀ (th : Nat) (x2 : Int32) (σ : XS), wX0_laysWon_53 Q K53 th x2 σ → x_T p l e ({ frames := 5, cells := 0, slots := 0, locals := 200 } : Room) s m args below meth c E (va_Qv Q (fun σ' t => xW E σ' t) (xA E)) 0 0 3 53 0 0 σ [(0, xv E (some th)), (2, .int x2)] [] := by
  intro th x2 σ hw H locs ls cells slots hR hS hl hcb hsb
  unfold wX0_laysWon_53 at hw
  obtain ⟨hx, hb, hml, hown, hts, hrt, hlk, hMK, hZ⟩ := id cx
  refine lv_iload_n hx hb dX0_laysWon_53 rfl (lv_at hl 1 rfl) ?_
  refine lv_sipush (v := (6561 : Int32)) hx hb dX0_laysWon_54 (by decide) ?_
  refine lv_icmp_ge (tgt := 80) hx hb dX0_laysWon_57 (by decide) (fun hc => ?_) (fun hc => ?_)
  · have hw := mm_ip hc hw
    exact x_vret cx hR hS (xle hcb) (xle hsb) hw dX0_laysWon_80
  · have hw := mm_in hc hw
    refine x_aload_n cx dX0_laysWon_60 rfl (lv_at hl 0 rfl) ?_
    obtain ⟨hk1, hw⟩ := hw
    refine xg_X0_63_1 cx hR rfl hk1 dX0_laysWon_61 ?_
    refine lv_iload_n hx hb dX0_laysWon_64 rfl (lv_at hl 1 rfl) ?_
    refine lv_iconst (v := (-1 : Int32)) hx hb dX0_laysWon_65 (by decide) ?_
    obtain ⟨a2, hr2, hk2, hw⟩ := hw
    obtain ⟨hge_a2, hw⟩ := hw
    obtain ⟨hi, hw⟩ := hw
    refine x_iast cx hR hS hr2 hge_a2 hk2 (j := x2.toNatClampNeg) rfl hi dX0_laysWon_66 (fun H locs hR hS => ?_)
    refine x_aload_n cx dX0_laysWon_67 rfl (lv_at hl 0 rfl) ?_
    refine xg_X0_66_1 cx hR rfl hk1 dX0_laysWon_68 ?_
    refine lv_iload_n hx hb dX0_laysWon_71 rfl (lv_at hl 1 rfl) ?_
    refine lv_iconst (v := (-1 : Int32)) hx hb dX0_laysWon_72 (by decide) ?_
    obtain ⟨a3, hr3, hk3, hw⟩ := hw
    obtain ⟨hge_a3, hw⟩ := hw
    obtain ⟨hi, hw⟩ := hw
    refine x_iast cx hR hS hr3 hge_a3 hk3 (j := x2.toNatClampNeg) rfl hi dX0_laysWon_73 (fun H locs hR hS => ?_)
    obtain ⟨v4, hv4⟩ : ∃ v : Int32, v = x2 + (1 : Int32) := ⟨_, rfl⟩
    have hw := hw v4 hv4
    refine lv_iinc (v := v4) (lv' := [(2, .int v4), (0, xv E (some th))]) hx hb dX0_laysWon_74 hl (k := 1) rfl (by rw [hv4]; rfl) (by decide) rfl (fun ls hl => ?_)
    refine lv_goto (tgt := 53) hx hb dX0_laysWon_77 (by decide) ?_
    exact hK53 _ _ _ hw _ _ _ _ _ hR hS (lv_sub hl [1, 0] rfl) hcb hsb
theorem LX0_laysWon_53 {l : Launch} {p : Program} {e : Env} {s : State} {m : MethodId} {args : Array Value} {below : List Frame} {meth : Method} {c : Code} {E : xx_E} {Q : XS → Prop} (cx : xx_X "StruckCounts" cX0_laysWon 3 none E p s m args meth c) : ∀ (th : Nat) (x2 : Int32) (σ : XS), lp3F (wX0_laysWon_53 Q) th x2 σ → x_T p l e ({ frames := 5, cells := 0, slots := 0, locals := 200 } : Room) s m args below meth c E (va_Qv Q (fun σ' t => xW E σ' t) (xA E)) 0 0 3 53 0 0 σ [(0, xv E (some th)), (2, .int x2)] [] :=
  lp3F_of (fun K hK => BX0_laysWon_53 cx hK)
def wX0_laysWon_44 (Q : XS → Prop) (K2 : Nat → Int32 → Int32 → XS → Prop) (th : Nat) (x1 : Int32) (x2 : Int32) (t0 : Option Nat) (t1 : Int32) (t2 : Int32) (σ : XS) : Prop :=
  oc σ t0 101 (fun a5 => xK ≤ a5 ∧ (vp_in t1 (ln σ a5) ∧ (zb t2 ∧ (∀ v6 : Int32, v6 = x2 + (1 : Int32) → K2 th x1 v6 (pai σ a5 t1.toNatClampNeg t2)))))
set_option maxHeartbeats 4000000 in
theorem BX0_laysWon_44 {l : Launch} {p : Program} {e : Env} {s : State} {m : MethodId} {args : Array Value} {below : List Frame} {meth : Method} {c : Code} {E : xx_E} {Q : XS → Prop} {K2 : Nat → Int32 → Int32 → XS → Prop} (cx : xx_X "StruckCounts" cX0_laysWon 3 none E p s m args meth c) (hK2 : ∀ (th : Nat) (x1 : Int32) (x2 : Int32) (σ : XS), K2 th x1 x2 σ → x_T p l e ({ frames := 5, cells := 0, slots := 0, locals := 200 } : Room) s m args below meth c E (va_Qv Q (fun σ' t => xW E σ' t) (xA E)) 0 0 3 2 0 0 σ [(0, xv E (some th)), (1, .int x1), (2, .int x2)] []) : ∀ (th : Nat) (x1 : Int32) (x2 : Int32) (t0 : Option Nat) (t1 : Int32) (t2 : Int32) (σ : XS), wX0_laysWon_44 Q K2 th x1 x2 t0 t1 t2 σ → x_T p l e ({ frames := 5, cells := 0, slots := 0, locals := 200 } : Room) s m args below meth c E (va_Qv Q (fun σ' t => xW E σ' t) (xA E)) 0 0 3 44 0 0 σ [(0, xv E (some th)), (1, .int x1), (2, .int x2)] [.int t2, .int t1, xv E t0] := by
  intro th x1 x2 t0 t1 t2 σ hw H locs ls cells slots hR hS hl hcb hsb
  unfold wX0_laysWon_44 at hw
  obtain ⟨hx, hb, hml, hown, hts, hrt, hlk, hMK, hZ⟩ := id cx
  obtain ⟨a5, hr5, hk5, hw⟩ := hw
  obtain ⟨hge_a5, hw⟩ := hw
  obtain ⟨hi, hw⟩ := hw
  obtain ⟨hz, hw⟩ := hw
  refine x_zast cx hR hS hr5 hge_a5 hk5 (j := t1.toNatClampNeg) rfl hi hz dX0_laysWon_44 (fun H locs hR hS => ?_)
  obtain ⟨v6, hv6⟩ : ∃ v : Int32, v = x2 + (1 : Int32) := ⟨_, rfl⟩
  have hw := hw v6 hv6
  refine lv_iinc (v := v6) (lv' := [(2, .int v6), (0, xv E (some th)), (1, .int x1)]) hx hb dX0_laysWon_45 hl (k := 2) rfl (by rw [hv6]; rfl) (by decide) rfl (fun ls hl => ?_)
  refine lv_goto (tgt := 2) hx hb dX0_laysWon_48 (by decide) ?_
  exact hK2 _ _ _ _ hw _ _ _ _ _ hR hS (lv_sub hl [1, 2, 0] rfl) hcb hsb
def wX0_laysWon_43 (Q : XS → Prop) (K2 : Nat → Int32 → Int32 → XS → Prop) (th : Nat) (x1 : Int32) (x2 : Int32) (t0 : Option Nat) (t1 : Int32) (σ : XS) : Prop :=
  wX0_laysWon_44 Q K2 th x1 x2 t0 t1 (0 : Int32) σ
set_option maxHeartbeats 4000000 in
theorem BX0_laysWon_43 {l : Launch} {p : Program} {e : Env} {s : State} {m : MethodId} {args : Array Value} {below : List Frame} {meth : Method} {c : Code} {E : xx_E} {Q : XS → Prop} {K2 : Nat → Int32 → Int32 → XS → Prop} (cx : xx_X "StruckCounts" cX0_laysWon 3 none E p s m args meth c) (hK2 : ∀ (th : Nat) (x1 : Int32) (x2 : Int32) (σ : XS), K2 th x1 x2 σ → x_T p l e ({ frames := 5, cells := 0, slots := 0, locals := 200 } : Room) s m args below meth c E (va_Qv Q (fun σ' t => xW E σ' t) (xA E)) 0 0 3 2 0 0 σ [(0, xv E (some th)), (1, .int x1), (2, .int x2)] []) : ∀ (th : Nat) (x1 : Int32) (x2 : Int32) (t0 : Option Nat) (t1 : Int32) (σ : XS), wX0_laysWon_43 Q K2 th x1 x2 t0 t1 σ → x_T p l e ({ frames := 5, cells := 0, slots := 0, locals := 200 } : Room) s m args below meth c E (va_Qv Q (fun σ' t => xW E σ' t) (xA E)) 0 0 3 43 0 0 σ [(0, xv E (some th)), (1, .int x1), (2, .int x2)] [.int t1, xv E t0] := by
  intro th x1 x2 t0 t1 σ hw H locs ls cells slots hR hS hl hcb hsb
  unfold wX0_laysWon_43 at hw
  obtain ⟨hx, hb, hml, hown, hts, hrt, hlk, hMK, hZ⟩ := id cx
  refine lv_iconst (v := (0 : Int32)) hx hb dX0_laysWon_43 (by decide) ?_
  exact BX0_laysWon_44 cx hK2 _ _ _ _ _ _ _ hw _ _ _ _ _ hR hS (lv_sub hl [0, 1, 2] rfl) hcb hsb
def wX0_laysWon_2 (Q : XS → Prop) (K2 : Nat → Int32 → Int32 → XS → Prop) (th : Nat) (x1 : Int32) (x2 : Int32) (σ : XS) : Prop :=
  kd σ th = 1 ∧ (oc σ (fr σ th 5) 2 (fun a9 => wX1_sets a9 σ (fun r8 s8 => if r8 ≤ x2 then (lp3F (wX0_laysWon_53 Q) th (0 : Int32) s8) else (kd s8 th = 1 ∧ (oc s8 (fr s8 th 5) 2 (fun a11 => oc s8 (fr s8 a11 10) 101 (fun a12 => vp_in x2 (ln s8 a12) ∧ (if (ai s8 a12 x2.toNatClampNeg) = 0 then (wX0_laysWon_43 Q K2 th x1 x2 (fr s8 th 15) x2 s8) else (wX0_isWon th x1 x2 s8 (fun r13 s13 => if r13 = 0 then (wX0_laysWon_43 Q K2 th x1 x2 (fr s8 th 15) x2 s13) else (wX0_laysWon_44 Q K2 th x1 x2 (fr s8 th 15) x2 (1 : Int32) s13)))))))))))
set_option maxHeartbeats 4000000 in
theorem BX0_laysWon_2 {l : Launch} {p : Program} {e : Env} {s : State} {m : MethodId} {args : Array Value} {below : List Frame} {meth : Method} {c : Code} {E : xx_E} {Q : XS → Prop} {K2 : Nat → Int32 → Int32 → XS → Prop} (cx : xx_X "StruckCounts" cX0_laysWon 3 none E p s m args meth c) (hK2 : ∀ (th : Nat) (x1 : Int32) (x2 : Int32) (σ : XS), K2 th x1 x2 σ → x_T p l e ({ frames := 5, cells := 0, slots := 0, locals := 200 } : Room) s m args below meth c E (va_Qv Q (fun σ' t => xW E σ' t) (xA E)) 0 0 3 2 0 0 σ [(0, xv E (some th)), (1, .int x1), (2, .int x2)] []) : ∀ (th : Nat) (x1 : Int32) (x2 : Int32) (σ : XS), wX0_laysWon_2 Q K2 th x1 x2 σ → x_T p l e ({ frames := 5, cells := 0, slots := 0, locals := 200 } : Room) s m args below meth c E (va_Qv Q (fun σ' t => xW E σ' t) (xA E)) 0 0 3 2 0 0 σ [(0, xv E (some th)), (1, .int x1), (2, .int x2)] [] := by
  intro th x1 x2 σ hw H locs ls cells slots hR hS hl hcb hsb
  unfold wX0_laysWon_2 at hw
  obtain ⟨hx, hb, hml, hown, hts, hrt, hlk, hMK, hZ⟩ := id cx
  refine lv_iload_n hx hb dX0_laysWon_2 rfl (lv_at hl 2 rfl) ?_
  refine x_aload_n cx dX0_laysWon_3 rfl (lv_at hl 0 rfl) ?_
  obtain ⟨hk7, hw⟩ := hw
  refine xg_X0_24_1 cx hR rfl hk7 dX0_laysWon_4 ?_
  obtain ⟨a9, hr9, hk9, hw⟩ := hw
  refine CX1_sets_X0_142 cx hR hS hr9 hk9 hw ⟨Nat.le_of_ble_eq_true rfl, Nat.le_of_ble_eq_true rfl⟩ (Nat.le_of_ble_eq_true rfl) hl.1 ⟨by dsimp only; omega, by dsimp only; omega⟩ dX0_laysWon_7 (fun r8 s8 H locs hw hR hS => ?_)
  refine lv_icmp_ge (tgt := 51) hx hb dX0_laysWon_10 (by decide) (fun hc => ?_) (fun hc => ?_)
  · have hw := mm_ip hc hw
    refine lv_iconst (v := (0 : Int32)) hx hb dX0_laysWon_51 (by decide) ?_
    refine lv_istore_n (i := 2) (lv' := [(2, .int (0 : Int32)), (0, xv E (some th)), (1, .int x1)]) hx hb dX0_laysWon_52 rfl hl (by decide) rfl (fun ls hl => ?_)
    exact LX0_laysWon_53 cx _ _ _ hw _ _ _ _ _ hR hS (lv_sub hl [1, 0] rfl) hcb hsb
  · have hw := mm_in hc hw
    refine x_aload_n cx dX0_laysWon_13 rfl (lv_at hl 0 rfl) ?_
    obtain ⟨hk10, hw⟩ := hw
    refine xg_X0_60_1 cx hR rfl hk10 dX0_laysWon_14 ?_
    refine lv_iload_n hx hb dX0_laysWon_17 rfl (lv_at hl 2 rfl) ?_
    refine x_aload_n cx dX0_laysWon_18 rfl (lv_at hl 0 rfl) ?_
    refine xg_X0_24_1 cx hR rfl hk10 dX0_laysWon_19 ?_
    obtain ⟨a11, hr11, hk11, hw⟩ := hw
    refine xg_X0_139_2 cx hR hr11 hk11 dX0_laysWon_22 ?_
    refine lv_iload_n hx hb dX0_laysWon_25 rfl (lv_at hl 2 rfl) ?_
    obtain ⟨a12, hr12, hk12, hw⟩ := hw
    obtain ⟨hi, hw⟩ := hw
    refine x_zald cx hR hr12 hk12 (j := x2.toNatClampNeg) rfl hi dX0_laysWon_26 ?_
    refine lv_if_eq (tgt := 43) hx hb dX0_laysWon_27 (by decide) (fun hc => ?_) (fun hc => ?_)
    · have hw := mm_ip hc hw
      exact BX0_laysWon_43 cx hK2 _ _ _ _ _ _ hw _ _ _ _ _ hR hS (lv_sub hl [0, 1, 2] rfl) hcb hsb
    · have hw := mm_in hc hw
      refine x_aload_n cx dX0_laysWon_30 rfl (lv_at hl 0 rfl) ?_
      refine lv_iload_n hx hb dX0_laysWon_31 rfl (lv_at hl 1 rfl) ?_
      refine lv_iload_n hx hb dX0_laysWon_32 rfl (lv_at hl 2 rfl) ?_
      refine CX0_isWon_X0_350 cx hR hS rfl hk10 hw ⟨Nat.le_of_ble_eq_true rfl, Nat.le_of_ble_eq_true rfl⟩ (Nat.le_of_ble_eq_true rfl) hl.1 ⟨by dsimp only; omega, by dsimp only; omega⟩ dX0_laysWon_33 (fun r13 s13 H locs hw hR hS => ?_)
      refine lv_if_eq (tgt := 43) hx hb dX0_laysWon_36 (by decide) (fun hc => ?_) (fun hc => ?_)
      · have hw := mm_ip hc hw
        exact BX0_laysWon_43 cx hK2 _ _ _ _ _ _ hw _ _ _ _ _ hR hS (lv_sub hl [0, 1, 2] rfl) hcb hsb
      · have hw := mm_in hc hw
        refine lv_iconst (v := (1 : Int32)) hx hb dX0_laysWon_39 (by decide) ?_
        refine lv_goto (tgt := 44) hx hb dX0_laysWon_40 (by decide) ?_
        exact BX0_laysWon_44 cx hK2 _ _ _ _ _ _ _ hw _ _ _ _ _ hR hS (lv_sub hl [0, 1, 2] rfl) hcb hsb
theorem LX0_laysWon_2 {l : Launch} {p : Program} {e : Env} {s : State} {m : MethodId} {args : Array Value} {below : List Frame} {meth : Method} {c : Code} {E : xx_E} {Q : XS → Prop} (cx : xx_X "StruckCounts" cX0_laysWon 3 none E p s m args meth c) : ∀ (th : Nat) (x1 : Int32) (x2 : Int32) (σ : XS), lp4F (wX0_laysWon_2 Q) th x1 x2 σ → x_T p l e ({ frames := 5, cells := 0, slots := 0, locals := 200 } : Room) s m args below meth c E (va_Qv Q (fun σ' t => xW E σ' t) (xA E)) 0 0 3 2 0 0 σ [(0, xv E (some th)), (1, .int x1), (2, .int x2)] [] :=
  lp4F_of (fun K hK => BX0_laysWon_2 cx hK)
def wX0_laysWon (th : Nat) (x1 : Int32) (σ : XS) (Q : XS → Prop) : Prop :=
  lp4F (wX0_laysWon_2 Q) th x1 (0 : Int32) σ
set_option maxHeartbeats 4000000 in
theorem MX0_laysWon (l : Launch) (E : xx_E) (th : Nat) (x1 : Int32) (σ : XS) (Q : XS → Prop) (hw : wX0_laysWon th x1 σ Q) : xx_Mv l yX0_laysWon (ws_ yX0_laysWon cX0_laysWon 3 none) ({ frames := 5, cells := 0, slots := 0, locals := 200 } : Room) E [xv E (some th), .int x1] σ Q 0 0 := by
  refine x_of (own := "StruckCounts") (by decide +kernel) rfl ?_
  intro p e s m args below meth c cx hR ha hnm
  refine x_entry [xv E (some th), .int x1] 3 [(0, xv E (some th)), (1, .int x1)] ha (by simp [lg_sl, xv_cat, vc_i, vc_j, vc_f]) (by simp [lv_args, xv_cat, vc_i, vc_j, vc_f]) (fun ls hl => ?_)
  have hS : va_S (xA E) s.heap s.heap [] := va_S.rf
  have hcb : 0 + 0 ≤ 0 := Nat.le_of_eq (Nat.zero_add _)
  have hsb : 0 + 0 ≤ 0 := Nat.le_of_eq (Nat.zero_add _)
  unfold wX0_laysWon at hw
  obtain ⟨hx, hb, hml, hown, hts, hrt, hlk, hMK, hZ⟩ := id cx
  refine lv_iconst (v := (0 : Int32)) hx hb dX0_laysWon_0 (by decide) ?_
  refine lv_istore_n (i := 2) (lv' := [(2, .int (0 : Int32)), (0, xv E (some th)), (1, .int x1)]) hx hb dX0_laysWon_1 rfl hl (by decide) rfl (fun ls hl => ?_)
  exact LX0_laysWon_2 cx _ _ _ _ hw _ _ _ _ _ hR hS (lv_sub hl [1, 2, 0] rfl) hcb hsb
-- X0_issues
theorem CX0_laysWon_X0_373 {l : Launch} {p : Program} {e : Env} {R : Room} {s : State} {m : MethodId} {args : Array Value} {below : List Frame} {meth : Method} {c : Code} {H : Heap} {locs : List Loc} {cells slots : Nat} {Qz : State → Prop} {cc : ByteArray} {nL : Nat} {ret : Option FieldType} {E : xx_E} {σ : XS} {pc : Nat} {ls : Array Slot} {rest : List Value} {th : Nat} {x1 : Int32} (cx : xx_X "StruckCounts" cc nL ret E p s m args meth c) (hR0 : xR E σ H) (hS0 : va_S (xA E) s.heap H locs) {r0 : Option Nat} (hr : r0 = some th) (hk : kd σ th = 1) {Qf : XS → Prop} (hw : wX0_laysWon th x1 σ Qf) (hR : (({ frames := 5, cells := 0, slots := 0, locals := 200 } : Room)).frames + 1 ≤ R.frames ∧ 8 + (3 + 11) + (({ frames := 5, cells := 0, slots := 0, locals := 200 } : Room)).locals ≤ R.locals) (hrest : rest.length ≤ 4) (hsize : ls.size = nL) (hf : cells + 0 ≤ R.cells ∧ slots + 0 ≤ R.slots) (hdg : decode cc pc = .ok (.invokevirtual 373, 3))
    (kk : ∀ (σ1 : XS) (H1 : Heap) (locs1 : List Loc), Qf σ1 → xR E σ1 H1 → va_S (xA E) s.heap H1 locs1 → W p l e R s m args below meth c H1 locs1 (cells + 0) (slots + 0) Qz (F0 m (pc + 3) ls rest)) : W p l e R s m args below meth c H locs cells slots Qz (F0 m pc ls (.int x1 :: xv E r0 :: rest)) := by
  subst hr
  obtain ⟨hx, hb, hml, hown, hts, hrt, hlk, hK, hZ⟩ := id cx
  exact x_gov (va_runV (As := [.int x1]) (rest := rest) (x_fix cx) (MX0_laysWon l E th x1 σ Qf hw) (cwV 1 hts (lw_V q2196 q2198 qs58 q156 q2199) rfl rfl rfl (by decide +kernel) hR) (x_preV cx hR0 hS0 hk (by decide) (q := (RX0, TX0, 24)) rfl rfl [.int x1]) rfl rfl hsize rfl (lv_room (xroom hrest)) hdg hf) hS0 kk
def wX0_issues_93 (Q : Int32 → XS → Prop) (K19 : Nat → Int32 → Int32 → XS → Prop) (K33 : Nat → Int32 → Int32 → Int32 → XS → Prop) (th : Nat) (x2 : Int32) (x3 : Int32) (x4 : Int32) (σ : XS) : Prop :=
  ∀ v1 : Int32, v1 = x4 + (1 : Int32) → K33 th x2 x3 v1 σ
set_option maxHeartbeats 4000000 in
theorem BX0_issues_93 {l : Launch} {p : Program} {e : Env} {s : State} {m : MethodId} {args : Array Value} {below : List Frame} {meth : Method} {c : Code} {E : xx_E} {Q : Int32 → XS → Prop} {K19 : Nat → Int32 → Int32 → XS → Prop} {K33 : Nat → Int32 → Int32 → Int32 → XS → Prop} (cx : xx_X "StruckCounts" cX0_issues 6 (some .int) E p s m args meth c) (hK19 : ∀ (th : Nat) (x2 : Int32) (x3 : Int32) (σ : XS), K19 th x2 x3 σ → x_T p l e ({ frames := 6, cells := 0, slots := 0, locals := 240 } : Room) s m args below meth c E (va_Qi Q (fun σ' t => xW E σ' t) (xA E)) 0 0 6 19 0 0 σ [(0, xv E (some th)), (2, .int x2), (3, .int x3)] []) (hK33 : ∀ (th : Nat) (x2 : Int32) (x3 : Int32) (x4 : Int32) (σ : XS), K33 th x2 x3 x4 σ → x_T p l e ({ frames := 6, cells := 0, slots := 0, locals := 240 } : Room) s m args below meth c E (va_Qi Q (fun σ' t => xW E σ' t) (xA E)) 0 0 6 33 0 0 σ [(0, xv E (some th)), (2, .int x2), (3, .int x3), (4, .int x4)] []) : ∀ (th : Nat) (x2 : Int32) (x3 : Int32) (x4 : Int32) (σ : XS), wX0_issues_93 Q K19 K33 th x2 x3 x4 σ → x_T p l e ({ frames := 6, cells := 0, slots := 0, locals := 240 } : Room) s m args below meth c E (va_Qi Q (fun σ' t => xW E σ' t) (xA E)) 0 0 6 93 0 0 σ [(0, xv E (some th)), (2, .int x2), (3, .int x3), (4, .int x4)] [] := by
  intro th x2 x3 x4 σ hw H locs ls cells slots hR hS hl hcb hsb
  unfold wX0_issues_93 at hw
  obtain ⟨hx, hb, hml, hown, hts, hrt, hlk, hMK, hZ⟩ := id cx
  obtain ⟨v1, hv1⟩ : ∃ v : Int32, v = x4 + (1 : Int32) := ⟨_, rfl⟩
  have hw := hw v1 hv1
  refine lv_iinc (v := v1) (lv' := [(4, .int v1), (0, xv E (some th)), (2, .int x2), (3, .int x3)]) hx hb dX0_issues_93 hl (k := 3) rfl (by rw [hv1]; rfl) (by decide) rfl (fun ls hl => ?_)
  refine lv_goto (tgt := 33) hx hb dX0_issues_96 (by decide) ?_
  exact hK33 _ _ _ _ _ hw _ _ _ _ _ hR hS (lv_sub hl [1, 2, 3, 0] rfl) hcb hsb
def wX0_issues_33 (Q : Int32 → XS → Prop) (K19 : Nat → Int32 → Int32 → XS → Prop) (K33 : Nat → Int32 → Int32 → Int32 → XS → Prop) (th : Nat) (x2 : Int32) (x3 : Int32) (x4 : Int32) (σ : XS) : Prop :=
  kd σ th = 1 ∧ (oc σ (fr σ th 5) 2 (fun a3 => if (fi σ a3 5) ≤ x4 then (∀ v4 : Int32, v4 = x3 + (1 : Int32) → K19 th x2 v4 σ) else (∀ v5 : Int32, v5 = (x3 ^^^ ((1 : Int32) <<< (x4 &&& 31))) → wX0_isNow th x3 σ (fun r6 s6 => if r6 = 0 then (wX0_issues_93 Q K19 K33 th x2 x3 x4 s6) else (kd s6 th = 1 ∧ (wX0_isNow th v5 s6 (fun r7 s7 => if r7 = 0 then (wX0_issues_93 Q K19 K33 th x2 x3 x4 s7) else (kd s7 th = 1 ∧ (oc s7 (fr s7 th 15) 101 (fun a10 => vp_in x3 (ln s7 a10) ∧ (vp_in v5 (ln s7 a10) ∧ (if (ai s7 a10 x3.toNatClampNeg) = (ai s7 a10 v5.toNatClampNeg) then (wX0_issues_93 Q K19 K33 th x2 x3 x4 s7) else (∀ v11 : Int32, v11 = (x2 ||| ((1 : Int32) <<< (x4 &&& 31))) → wX0_issues_93 Q K19 K33 th v11 x3 x4 s7)))))))))))))
set_option maxHeartbeats 4000000 in
theorem BX0_issues_33 {l : Launch} {p : Program} {e : Env} {s : State} {m : MethodId} {args : Array Value} {below : List Frame} {meth : Method} {c : Code} {E : xx_E} {Q : Int32 → XS → Prop} {K19 : Nat → Int32 → Int32 → XS → Prop} {K33 : Nat → Int32 → Int32 → Int32 → XS → Prop} (cx : xx_X "StruckCounts" cX0_issues 6 (some .int) E p s m args meth c) (hK19 : ∀ (th : Nat) (x2 : Int32) (x3 : Int32) (σ : XS), K19 th x2 x3 σ → x_T p l e ({ frames := 6, cells := 0, slots := 0, locals := 240 } : Room) s m args below meth c E (va_Qi Q (fun σ' t => xW E σ' t) (xA E)) 0 0 6 19 0 0 σ [(0, xv E (some th)), (2, .int x2), (3, .int x3)] []) (hK33 : ∀ (th : Nat) (x2 : Int32) (x3 : Int32) (x4 : Int32) (σ : XS), K33 th x2 x3 x4 σ → x_T p l e ({ frames := 6, cells := 0, slots := 0, locals := 240 } : Room) s m args below meth c E (va_Qi Q (fun σ' t => xW E σ' t) (xA E)) 0 0 6 33 0 0 σ [(0, xv E (some th)), (2, .int x2), (3, .int x3), (4, .int x4)] []) : ∀ (th : Nat) (x2 : Int32) (x3 : Int32) (x4 : Int32) (σ : XS), wX0_issues_33 Q K19 K33 th x2 x3 x4 σ → x_T p l e ({ frames := 6, cells := 0, slots := 0, locals := 240 } : Room) s m args below meth c E (va_Qi Q (fun σ' t => xW E σ' t) (xA E)) 0 0 6 33 0 0 σ [(0, xv E (some th)), (2, .int x2), (3, .int x3), (4, .int x4)] [] := by
  intro th x2 x3 x4 σ hw H locs ls cells slots hR hS hl hcb hsb
  unfold wX0_issues_33 at hw
  obtain ⟨hx, hb, hml, hown, hts, hrt, hlk, hMK, hZ⟩ := id cx
  refine lv_iload hx hb dX0_issues_33 (lv_at hl 3 rfl) ?_
  refine x_aload_n cx dX0_issues_35 rfl (lv_at hl 0 rfl) ?_
  obtain ⟨hk2, hw⟩ := hw
  refine xg_X0_24_1 cx hR rfl hk2 dX0_issues_36 ?_
  obtain ⟨a3, hr3, hk3, hw⟩ := hw
  refine xg_X0_133_2 cx hR hr3 hk3 dX0_issues_39 ?_
  refine lv_icmp_ge (tgt := 99) hx hb dX0_issues_42 (by decide) (fun hc => ?_) (fun hc => ?_)
  · have hw := mm_ip hc hw
    obtain ⟨v4, hv4⟩ : ∃ v : Int32, v = x3 + (1 : Int32) := ⟨_, rfl⟩
    have hw := hw v4 hv4
    refine lv_iinc (v := v4) (lv' := [(3, .int v4), (0, xv E (some th)), (2, .int x2), (4, .int x4)]) hx hb dX0_issues_99 hl (k := 2) rfl (by rw [hv4]; rfl) (by decide) rfl (fun ls hl => ?_)
    refine lv_goto (tgt := 19) hx hb dX0_issues_102 (by decide) ?_
    exact hK19 _ _ _ _ hw _ _ _ _ _ hR hS (lv_sub hl [1, 2, 0] rfl) hcb hsb
  · have hw := mm_in hc hw
    refine lv_iload_n hx hb dX0_issues_45 rfl (lv_at hl 2 rfl) ?_
    refine lv_iconst (v := (1 : Int32)) hx hb dX0_issues_46 (by decide) ?_
    refine lv_iload hx hb dX0_issues_47 (lv_at hl 3 rfl) ?_
    refine lv_ishl hx hb dX0_issues_49 ?_
    refine lv_ixor hx hb dX0_issues_50 ?_
    refine lv_topi (fun v5 hv5 => ?_)
    have hw := hw v5 hv5
    refine lv_istore (i := 5) (lv' := [(5, .int v5), (0, xv E (some th)), (2, .int x2), (3, .int x3), (4, .int x4)]) hx hb dX0_issues_51 hl (by decide) rfl (fun ls hl => ?_)
    refine x_aload_n cx dX0_issues_53 rfl (lv_at hl 1 rfl) ?_
    refine lv_iload_n hx hb dX0_issues_54 rfl (lv_at hl 3 rfl) ?_
    refine CX0_isNow_X0_347 cx hR hS rfl hk2 hw ⟨Nat.le_of_ble_eq_true rfl, Nat.le_of_ble_eq_true rfl⟩ (Nat.le_of_ble_eq_true rfl) hl.1 ⟨by dsimp only; omega, by dsimp only; omega⟩ dX0_issues_55 (fun r6 s6 H locs hw hR hS => ?_)
    refine lv_if_eq (tgt := 93) hx hb dX0_issues_58 (by decide) (fun hc => ?_) (fun hc => ?_)
    · have hw := mm_ip hc hw
      exact BX0_issues_93 cx hK19 hK33 _ _ _ _ _ hw _ _ _ _ _ hR hS (lv_sub hl [1, 2, 3, 4] rfl) hcb hsb
    · have hw := mm_in hc hw
      refine x_aload_n cx dX0_issues_61 rfl (lv_at hl 1 rfl) ?_
      refine lv_iload hx hb dX0_issues_62 (lv_at hl 0 rfl) ?_
      obtain ⟨hk8, hw⟩ := hw
      refine CX0_isNow_X0_347 cx hR hS rfl hk8 hw ⟨Nat.le_of_ble_eq_true rfl, Nat.le_of_ble_eq_true rfl⟩ (Nat.le_of_ble_eq_true rfl) hl.1 ⟨by dsimp only; omega, by dsimp only; omega⟩ dX0_issues_64 (fun r7 s7 H locs hw hR hS => ?_)
      refine lv_if_eq (tgt := 93) hx hb dX0_issues_67 (by decide) (fun hc => ?_) (fun hc => ?_)
      · have hw := mm_ip hc hw
        exact BX0_issues_93 cx hK19 hK33 _ _ _ _ _ hw _ _ _ _ _ hR hS (lv_sub hl [1, 2, 3, 4] rfl) hcb hsb
      · have hw := mm_in hc hw
        refine x_aload_n cx dX0_issues_70 rfl (lv_at hl 1 rfl) ?_
        obtain ⟨hk9, hw⟩ := hw
        refine xg_X0_60_1 cx hR rfl hk9 dX0_issues_71 ?_
        refine lv_iload_n hx hb dX0_issues_74 rfl (lv_at hl 3 rfl) ?_
        obtain ⟨a10, hr10, hk10, hw⟩ := hw
        obtain ⟨hi, hw⟩ := hw
        refine x_zald cx hR hr10 hk10 (j := x3.toNatClampNeg) rfl hi dX0_issues_75 ?_
        refine x_aload_n cx dX0_issues_76 rfl (lv_at hl 1 rfl) ?_
        refine xg_X0_60_1 cx hR rfl hk9 dX0_issues_77 ?_
        refine lv_iload hx hb dX0_issues_80 (lv_at hl 0 rfl) ?_
        obtain ⟨hi, hw⟩ := hw
        refine x_zald cx hR hr10 hk10 (j := v5.toNatClampNeg) rfl hi dX0_issues_82 ?_
        refine lv_icmp_eq (tgt := 93) hx hb dX0_issues_83 (by decide) (fun hc => ?_) (fun hc => ?_)
        · have hw := mm_ip hc hw
          exact BX0_issues_93 cx hK19 hK33 _ _ _ _ _ hw _ _ _ _ _ hR hS (lv_sub hl [1, 2, 3, 4] rfl) hcb hsb
        · have hw := mm_in hc hw
          refine lv_iload_n hx hb dX0_issues_86 rfl (lv_at hl 2 rfl) ?_
          refine lv_iconst (v := (1 : Int32)) hx hb dX0_issues_87 (by decide) ?_
          refine lv_iload hx hb dX0_issues_88 (lv_at hl 4 rfl) ?_
          refine lv_ishl hx hb dX0_issues_90 ?_
          refine lv_ior hx hb dX0_issues_91 ?_
          refine lv_topi (fun v11 hv11 => ?_)
          have hw := hw v11 hv11
          refine lv_istore_n (i := 2) (lv' := [(2, .int v11), (5, .int v5), (0, xv E (some th)), (3, .int x3), (4, .int x4)]) hx hb dX0_issues_92 rfl hl (by decide) rfl (fun ls hl => ?_)
          exact BX0_issues_93 cx hK19 hK33 _ _ _ _ _ hw _ _ _ _ _ hR hS (lv_sub hl [2, 0, 3, 4] rfl) hcb hsb
theorem LX0_issues_33 {l : Launch} {p : Program} {e : Env} {s : State} {m : MethodId} {args : Array Value} {below : List Frame} {meth : Method} {c : Code} {E : xx_E} {Q : Int32 → XS → Prop} {K19 : Nat → Int32 → Int32 → XS → Prop} (cx : xx_X "StruckCounts" cX0_issues 6 (some .int) E p s m args meth c) (hK19 : ∀ (th : Nat) (x2 : Int32) (x3 : Int32) (σ : XS), K19 th x2 x3 σ → x_T p l e ({ frames := 6, cells := 0, slots := 0, locals := 240 } : Room) s m args below meth c E (va_Qi Q (fun σ' t => xW E σ' t) (xA E)) 0 0 6 19 0 0 σ [(0, xv E (some th)), (2, .int x2), (3, .int x3)] []) : ∀ (th : Nat) (x2 : Int32) (x3 : Int32) (x4 : Int32) (σ : XS), lp5F (wX0_issues_33 Q K19) th x2 x3 x4 σ → x_T p l e ({ frames := 6, cells := 0, slots := 0, locals := 240 } : Room) s m args below meth c E (va_Qi Q (fun σ' t => xW E σ' t) (xA E)) 0 0 6 33 0 0 σ [(0, xv E (some th)), (2, .int x2), (3, .int x3), (4, .int x4)] [] :=
  lp5F_of (fun K hK => BX0_issues_33 cx hK19 hK)
def wX0_issues_19 (Q : Int32 → XS → Prop) (K19 : Nat → Int32 → Int32 → XS → Prop) (th : Nat) (x2 : Int32) (x3 : Int32) (σ : XS) : Prop :=
  kd σ th = 1 ∧ (oc σ (fr σ th 5) 2 (fun a14 => wX1_sets a14 σ (fun r13 s13 => if r13 ≤ x3 then (Q x2 s13) else (lp5F (wX0_issues_33 Q K19) th x2 x3 (0 : Int32) s13))))
set_option maxHeartbeats 4000000 in
theorem BX0_issues_19 {l : Launch} {p : Program} {e : Env} {s : State} {m : MethodId} {args : Array Value} {below : List Frame} {meth : Method} {c : Code} {E : xx_E} {Q : Int32 → XS → Prop} {K19 : Nat → Int32 → Int32 → XS → Prop} (cx : xx_X "StruckCounts" cX0_issues 6 (some .int) E p s m args meth c) (hK19 : ∀ (th : Nat) (x2 : Int32) (x3 : Int32) (σ : XS), K19 th x2 x3 σ → x_T p l e ({ frames := 6, cells := 0, slots := 0, locals := 240 } : Room) s m args below meth c E (va_Qi Q (fun σ' t => xW E σ' t) (xA E)) 0 0 6 19 0 0 σ [(0, xv E (some th)), (2, .int x2), (3, .int x3)] []) : ∀ (th : Nat) (x2 : Int32) (x3 : Int32) (σ : XS), wX0_issues_19 Q K19 th x2 x3 σ → x_T p l e ({ frames := 6, cells := 0, slots := 0, locals := 240 } : Room) s m args below meth c E (va_Qi Q (fun σ' t => xW E σ' t) (xA E)) 0 0 6 19 0 0 σ [(0, xv E (some th)), (2, .int x2), (3, .int x3)] [] := by
  intro th x2 x3 σ hw H locs ls cells slots hR hS hl hcb hsb
  unfold wX0_issues_19 at hw
  obtain ⟨hx, hb, hml, hown, hts, hrt, hlk, hMK, hZ⟩ := id cx
  refine lv_iload_n hx hb dX0_issues_19 rfl (lv_at hl 2 rfl) ?_
  refine x_aload_n cx dX0_issues_20 rfl (lv_at hl 0 rfl) ?_
  obtain ⟨hk12, hw⟩ := hw
  refine xg_X0_24_1 cx hR rfl hk12 dX0_issues_21 ?_
  obtain ⟨a14, hr14, hk14, hw⟩ := hw
  refine CX1_sets_X0_142 cx hR hS hr14 hk14 hw ⟨Nat.le_of_ble_eq_true rfl, Nat.le_of_ble_eq_true rfl⟩ (Nat.le_of_ble_eq_true rfl) hl.1 ⟨by dsimp only; omega, by dsimp only; omega⟩ dX0_issues_24 (fun r13 s13 H locs hw hR hS => ?_)
  refine lv_icmp_ge (tgt := 105) hx hb dX0_issues_27 (by decide) (fun hc => ?_) (fun hc => ?_)
  · have hw := mm_ip hc hw
    refine lv_iload_n hx hb dX0_issues_105 rfl (lv_at hl 1 rfl) ?_
    exact x_iret cx hR hS (xle hcb) (xle hsb) hw dX0_issues_106
  · have hw := mm_in hc hw
    refine lv_iconst (v := (0 : Int32)) hx hb dX0_issues_30 (by decide) ?_
    refine lv_istore (i := 4) (lv' := [(4, .int (0 : Int32)), (0, xv E (some th)), (2, .int x2), (3, .int x3)]) hx hb dX0_issues_31 hl (by decide) rfl (fun ls hl => ?_)
    exact LX0_issues_33 cx hK19 _ _ _ _ _ hw _ _ _ _ _ hR hS (lv_sub hl [1, 2, 3, 0] rfl) hcb hsb
theorem LX0_issues_19 {l : Launch} {p : Program} {e : Env} {s : State} {m : MethodId} {args : Array Value} {below : List Frame} {meth : Method} {c : Code} {E : xx_E} {Q : Int32 → XS → Prop} (cx : xx_X "StruckCounts" cX0_issues 6 (some .int) E p s m args meth c) : ∀ (th : Nat) (x2 : Int32) (x3 : Int32) (σ : XS), lp4F (wX0_issues_19 Q) th x2 x3 σ → x_T p l e ({ frames := 6, cells := 0, slots := 0, locals := 240 } : Room) s m args below meth c E (va_Qi Q (fun σ' t => xW E σ' t) (xA E)) 0 0 6 19 0 0 σ [(0, xv E (some th)), (2, .int x2), (3, .int x3)] [] :=
  lp4F_of (fun K hK => BX0_issues_19 cx hK)
def wX0_issues (th : Nat) (x1 : Int32) (σ : XS) (Q : Int32 → XS → Prop) : Prop :=
  kd σ th = 1 ∧ (wX0_isCount th x1 σ (fun r15 s15 => if r15 = 0 then (Q (-1 : Int32) s15) else (kd s15 th = 1 ∧ (wX0_laysWon th x1 s15 (fun s17 => lp4F (wX0_issues_19 Q) th (0 : Int32) (0 : Int32) s17)))))
set_option maxHeartbeats 4000000 in
theorem MX0_issues (l : Launch) (E : xx_E) (th : Nat) (x1 : Int32) (σ : XS) (Q : Int32 → XS → Prop) (hw : wX0_issues th x1 σ Q) : xx_Mi l yX0_issues (ws_ yX0_issues cX0_issues 6 (some .int)) ({ frames := 6, cells := 0, slots := 0, locals := 240 } : Room) E [xv E (some th), .int x1] σ Q 0 0 := by
  refine x_of (own := "StruckCounts") (by decide +kernel) rfl ?_
  intro p e s m args below meth c cx hR ha hnm
  refine x_entry [xv E (some th), .int x1] 6 [(0, xv E (some th)), (1, .int x1)] ha (by simp [lg_sl, xv_cat, vc_i, vc_j, vc_f]) (by simp [lv_args, xv_cat, vc_i, vc_j, vc_f]) (fun ls hl => ?_)
  have hS : va_S (xA E) s.heap s.heap [] := va_S.rf
  have hcb : 0 + 0 ≤ 0 := Nat.le_of_eq (Nat.zero_add _)
  have hsb : 0 + 0 ≤ 0 := Nat.le_of_eq (Nat.zero_add _)
  unfold wX0_issues at hw
  obtain ⟨hx, hb, hml, hown, hts, hrt, hlk, hMK, hZ⟩ := id cx
  refine x_aload_n cx dX0_issues_0 rfl (lv_at hl 0 rfl) ?_
  refine lv_iload_n hx hb dX0_issues_1 rfl (lv_at hl 1 rfl) ?_
  obtain ⟨hk16, hw⟩ := hw
  refine CX0_isCount_X0_290 cx hR hS rfl hk16 hw ⟨Nat.le_of_ble_eq_true rfl, Nat.le_of_ble_eq_true rfl⟩ (Nat.le_of_ble_eq_true rfl) hl.1 ⟨by dsimp only; omega, by dsimp only; omega⟩ dX0_issues_2 (fun r15 s15 H locs hw hR hS => ?_)
  refine lv_if_ne (tgt := 10) hx hb dX0_issues_5 (by decide) (fun hc => ?_) (fun hc => ?_)
  · have hw := mm_in hc hw
    refine x_aload_n cx dX0_issues_10 rfl (lv_at hl 0 rfl) ?_
    refine lv_iload_n hx hb dX0_issues_11 rfl (lv_at hl 1 rfl) ?_
    obtain ⟨hk18, hw⟩ := hw
    refine CX0_laysWon_X0_373 cx hR hS rfl hk18 hw ⟨Nat.le_of_ble_eq_true rfl, Nat.le_of_ble_eq_true rfl⟩ (Nat.le_of_ble_eq_true rfl) hl.1 ⟨by dsimp only; omega, by dsimp only; omega⟩ dX0_issues_12 (fun s17 H locs hw hR hS => ?_)
    refine lv_iconst (v := (0 : Int32)) hx hb dX0_issues_15 (by decide) ?_
    refine lv_istore_n (i := 2) (lv' := [(2, .int (0 : Int32)), (0, xv E (some th)), (1, .int x1)]) hx hb dX0_issues_16 rfl hl (by decide) rfl (fun ls hl => ?_)
    refine lv_iconst (v := (0 : Int32)) hx hb dX0_issues_17 (by decide) ?_
    refine lv_istore_n (i := 3) (lv' := [(3, .int (0 : Int32)), (2, .int (0 : Int32)), (0, xv E (some th)), (1, .int x1)]) hx hb dX0_issues_18 rfl hl (by decide) rfl (fun ls hl => ?_)
    exact LX0_issues_19 cx _ _ _ _ hw _ _ _ _ _ hR hS (lv_sub hl [2, 1, 0] rfl) hcb hsb
  · have hw := mm_ip hc hw
    refine lv_iconst (v := (-1 : Int32)) hx hb dX0_issues_8 (by decide) ?_
    exact x_iret cx hR hS (xle hcb) (xle hsb) hw dX0_issues_9
-- X0_code
def wX0_code_37 (Q : Int32 → XS → Prop) (K5 : Int32 → Int32 → Int32 → Int32 → XS → Prop) (x0 : Int32) (x1 : Int32) (x3 : Int32) (t0 : Int32) (t1 : Int32) (σ : XS) : Prop :=
  ∀ v1 : Int32, v1 = (t0 + t1) → ∀ v2 : Int32, v2 = x3 + (-1 : Int32) → K5 x0 x1 v1 v2 σ
set_option maxHeartbeats 4000000 in
theorem BX0_code_37 {l : Launch} {p : Program} {e : Env} {s : State} {m : MethodId} {args : Array Value} {below : List Frame} {meth : Method} {c : Code} {E : xx_E} {Q : Int32 → XS → Prop} {K5 : Int32 → Int32 → Int32 → Int32 → XS → Prop} (cx : xx_X "StruckCounts" cX0_code 4 (some .int) E p s m args meth c) (hK5 : ∀ (x0 : Int32) (x1 : Int32) (x2 : Int32) (x3 : Int32) (σ : XS), K5 x0 x1 x2 x3 σ → x_T p l e ({ frames := 1, cells := 0, slots := 0, locals := 40 } : Room) s m args below meth c E (va_Qi Q (fun σ' t => xW E σ' t) (xA E)) 0 0 4 5 0 0 σ [(0, .int x0), (1, .int x1), (2, .int x2), (3, .int x3)] []) : ∀ (x0 : Int32) (x1 : Int32) (x3 : Int32) (t0 : Int32) (t1 : Int32) (σ : XS), wX0_code_37 Q K5 x0 x1 x3 t0 t1 σ → x_T p l e ({ frames := 1, cells := 0, slots := 0, locals := 40 } : Room) s m args below meth c E (va_Qi Q (fun σ' t => xW E σ' t) (xA E)) 0 0 4 37 0 0 σ [(0, .int x0), (1, .int x1), (3, .int x3)] [.int t1, .int t0] := by
  intro x0 x1 x3 t0 t1 σ hw H locs ls cells slots hR hS hl hcb hsb
  unfold wX0_code_37 at hw
  obtain ⟨hx, hb, hml, hown, hts, hrt, hlk, hMK, hZ⟩ := id cx
  refine lv_iadd hx hb dX0_code_37 ?_
  refine lv_topi (fun v1 hv1 => ?_)
  have hw := hw v1 hv1
  refine lv_istore_n (i := 2) (lv' := [(2, .int v1), (0, .int x0), (1, .int x1), (3, .int x3)]) hx hb dX0_code_38 rfl hl (by decide) rfl (fun ls hl => ?_)
  obtain ⟨v2, hv2⟩ : ∃ v : Int32, v = x3 + (-1 : Int32) := ⟨_, rfl⟩
  have hw := hw v2 hv2
  refine lv_iinc (v := v2) (lv' := [(3, .int v2), (2, .int v1), (0, .int x0), (1, .int x1)]) hx hb dX0_code_39 hl (k := 3) rfl (by rw [hv2]; rfl) (by decide) rfl (fun ls hl => ?_)
  refine lv_goto (tgt := 5) hx hb dX0_code_42 (by decide) ?_
  exact hK5 _ _ _ _ _ hw _ _ _ _ _ hR hS (lv_sub hl [2, 3, 1, 0] rfl) hcb hsb
def wX0_code_5 (Q : Int32 → XS → Prop) (K5 : Int32 → Int32 → Int32 → Int32 → XS → Prop) (x0 : Int32) (x1 : Int32) (x2 : Int32) (x3 : Int32) (σ : XS) : Prop :=
  if x3 < 0 then (Q x2 σ) else (wX0_has x0 x3 σ (fun r3 s3 => if r3 = 0 then (wX0_code_37 Q K5 x0 x1 x3 ((3 : Int32) * x2) (0 : Int32) s3) else (wX0_has x1 x3 s3 (fun r4 s4 => if r4 = 0 then (wX0_code_37 Q K5 x0 x1 x3 ((3 : Int32) * x2) (1 : Int32) s4) else (wX0_code_37 Q K5 x0 x1 x3 ((3 : Int32) * x2) (2 : Int32) s4)))))
set_option maxHeartbeats 4000000 in
theorem BX0_code_5 {l : Launch} {p : Program} {e : Env} {s : State} {m : MethodId} {args : Array Value} {below : List Frame} {meth : Method} {c : Code} {E : xx_E} {Q : Int32 → XS → Prop} {K5 : Int32 → Int32 → Int32 → Int32 → XS → Prop} (cx : xx_X "StruckCounts" cX0_code 4 (some .int) E p s m args meth c) (hK5 : ∀ (x0 : Int32) (x1 : Int32) (x2 : Int32) (x3 : Int32) (σ : XS), K5 x0 x1 x2 x3 σ → x_T p l e ({ frames := 1, cells := 0, slots := 0, locals := 40 } : Room) s m args below meth c E (va_Qi Q (fun σ' t => xW E σ' t) (xA E)) 0 0 4 5 0 0 σ [(0, .int x0), (1, .int x1), (2, .int x2), (3, .int x3)] []) : ∀ (x0 : Int32) (x1 : Int32) (x2 : Int32) (x3 : Int32) (σ : XS), wX0_code_5 Q K5 x0 x1 x2 x3 σ → x_T p l e ({ frames := 1, cells := 0, slots := 0, locals := 40 } : Room) s m args below meth c E (va_Qi Q (fun σ' t => xW E σ' t) (xA E)) 0 0 4 5 0 0 σ [(0, .int x0), (1, .int x1), (2, .int x2), (3, .int x3)] [] := by
  intro x0 x1 x2 x3 σ hw H locs ls cells slots hR hS hl hcb hsb
  unfold wX0_code_5 at hw
  obtain ⟨hx, hb, hml, hown, hts, hrt, hlk, hMK, hZ⟩ := id cx
  refine lv_iload_n hx hb dX0_code_5 rfl (lv_at hl 3 rfl) ?_
  refine lv_if_lt (tgt := 45) hx hb dX0_code_6 (by decide) (fun hc => ?_) (fun hc => ?_)
  · have hw := mm_ip hc hw
    refine lv_iload_n hx hb dX0_code_45 rfl (lv_at hl 2 rfl) ?_
    exact x_iret cx hR hS (xle hcb) (xle hsb) hw dX0_code_46
  · have hw := mm_in hc hw
    refine lv_iconst (v := (3 : Int32)) hx hb dX0_code_9 (by decide) ?_
    refine lv_iload_n hx hb dX0_code_10 rfl (lv_at hl 2 rfl) ?_
    refine lv_imul hx hb dX0_code_11 ?_
    refine lv_iload_n hx hb dX0_code_12 rfl (lv_at hl 0 rfl) ?_
    refine lv_iload_n hx hb dX0_code_13 rfl (lv_at hl 3 rfl) ?_
    refine CX0_has_X0_223 cx hR hS  hw ⟨Nat.le_of_ble_eq_true rfl, Nat.le_of_ble_eq_true rfl⟩ (Nat.le_of_ble_eq_true rfl) hl.1 ⟨by dsimp only; omega, by dsimp only; omega⟩ dX0_code_14 (fun r3 s3 H locs hw hR hS => ?_)
    refine lv_if_ne (tgt := 24) hx hb dX0_code_17 (by decide) (fun hc => ?_) (fun hc => ?_)
    · have hw := mm_in hc hw
      refine lv_iload_n hx hb dX0_code_24 rfl (lv_at hl 1 rfl) ?_
      refine lv_iload_n hx hb dX0_code_25 rfl (lv_at hl 3 rfl) ?_
      refine CX0_has_X0_223 cx hR hS  hw ⟨Nat.le_of_ble_eq_true rfl, Nat.le_of_ble_eq_true rfl⟩ (Nat.le_of_ble_eq_true rfl) hl.1 ⟨by dsimp only; omega, by dsimp only; omega⟩ dX0_code_26 (fun r4 s4 H locs hw hR hS => ?_)
      refine lv_if_eq (tgt := 36) hx hb dX0_code_29 (by decide) (fun hc => ?_) (fun hc => ?_)
      · have hw := mm_ip hc hw
        refine lv_iconst (v := (1 : Int32)) hx hb dX0_code_36 (by decide) ?_
        exact BX0_code_37 cx hK5 _ _ _ _ _ _ hw _ _ _ _ _ hR hS (lv_sub hl [0, 1, 3] rfl) hcb hsb
      · have hw := mm_in hc hw
        refine lv_iconst (v := (2 : Int32)) hx hb dX0_code_32 (by decide) ?_
        refine lv_goto (tgt := 37) hx hb dX0_code_33 (by decide) ?_
        exact BX0_code_37 cx hK5 _ _ _ _ _ _ hw _ _ _ _ _ hR hS (lv_sub hl [0, 1, 3] rfl) hcb hsb
    · have hw := mm_ip hc hw
      refine lv_iconst (v := (0 : Int32)) hx hb dX0_code_20 (by decide) ?_
      refine lv_goto (tgt := 37) hx hb dX0_code_21 (by decide) ?_
      exact BX0_code_37 cx hK5 _ _ _ _ _ _ hw _ _ _ _ _ hR hS (lv_sub hl [0, 1, 3] rfl) hcb hsb
theorem LX0_code_5 {l : Launch} {p : Program} {e : Env} {s : State} {m : MethodId} {args : Array Value} {below : List Frame} {meth : Method} {c : Code} {E : xx_E} {Q : Int32 → XS → Prop} (cx : xx_X "StruckCounts" cX0_code 4 (some .int) E p s m args meth c) : ∀ (x0 : Int32) (x1 : Int32) (x2 : Int32) (x3 : Int32) (σ : XS), lp5F (wX0_code_5 Q) x0 x1 x2 x3 σ → x_T p l e ({ frames := 1, cells := 0, slots := 0, locals := 40 } : Room) s m args below meth c E (va_Qi Q (fun σ' t => xW E σ' t) (xA E)) 0 0 4 5 0 0 σ [(0, .int x0), (1, .int x1), (2, .int x2), (3, .int x3)] [] :=
  lp5F_of (fun K hK => BX0_code_5 cx hK)
def wX0_code (x0 : Int32) (x1 : Int32) (σ : XS) (Q : Int32 → XS → Prop) : Prop :=
  lp5F (wX0_code_5 Q) x0 x1 (0 : Int32) (7 : Int32) σ
set_option maxHeartbeats 4000000 in
theorem MX0_code (l : Launch) (E : xx_E) (x0 : Int32) (x1 : Int32) (σ : XS) (Q : Int32 → XS → Prop) (hw : wX0_code x0 x1 σ Q) : xx_Mi l yX0_code (ws_ yX0_code cX0_code 4 (some .int)) ({ frames := 1, cells := 0, slots := 0, locals := 40 } : Room) E [.int x0, .int x1] σ Q 0 0 := by
  refine x_of (own := "StruckCounts") (by decide +kernel) rfl ?_
  intro p e s m args below meth c cx hR ha hnm
  refine x_entry [.int x0, .int x1] 4 [(0, .int x0), (1, .int x1)] ha (Nat.le_of_ble_eq_true rfl) rfl (fun ls hl => ?_)
  have hS : va_S (xA E) s.heap s.heap [] := va_S.rf
  have hcb : 0 + 0 ≤ 0 := Nat.le_of_eq (Nat.zero_add _)
  have hsb : 0 + 0 ≤ 0 := Nat.le_of_eq (Nat.zero_add _)
  unfold wX0_code at hw
  obtain ⟨hx, hb, hml, hown, hts, hrt, hlk, hMK, hZ⟩ := id cx
  refine lv_iconst (v := (0 : Int32)) hx hb dX0_code_0 (by decide) ?_
  refine lv_istore_n (i := 2) (lv' := [(2, .int (0 : Int32)), (0, .int x0), (1, .int x1)]) hx hb dX0_code_1 rfl hl (by decide) rfl (fun ls hl => ?_)
  refine lv_bipush (v := (7 : Int32)) hx hb dX0_code_2 (by decide) ?_
  refine lv_istore_n (i := 3) (lv' := [(3, .int (7 : Int32)), (2, .int (0 : Int32)), (0, .int x0), (1, .int x1)]) hx hb dX0_code_4 rfl hl (by decide) rfl (fun ls hl => ?_)
  exact LX0_code_5 cx _ _ _ _ _ hw _ _ _ _ _ hR hS (lv_sub hl [2, 3, 1, 0] rfl) hcb hsb
-- X0_judgedBy
theorem CX0_code_X0_370 {l : Launch} {p : Program} {e : Env} {R : Room} {s : State} {m : MethodId} {args : Array Value} {below : List Frame} {meth : Method} {c : Code} {H : Heap} {locs : List Loc} {cells slots : Nat} {Qz : State → Prop} {cc : ByteArray} {nL : Nat} {ret : Option FieldType} {E : xx_E} {σ : XS} {pc : Nat} {ls : Array Slot} {rest : List Value} {x0 : Int32} {x1 : Int32} (cx : xx_X "StruckCounts" cc nL ret E p s m args meth c) (hR0 : xR E σ H) (hS0 : va_S (xA E) s.heap H locs) {Qf : Int32 → XS → Prop} (hw : wX0_code x0 x1 σ Qf) (hR : (({ frames := 1, cells := 0, slots := 0, locals := 40 } : Room)).frames + 1 ≤ R.frames ∧ 8 + (4 + 11) + (({ frames := 1, cells := 0, slots := 0, locals := 40 } : Room)).locals ≤ R.locals) (hrest : rest.length ≤ 4) (hsize : ls.size = nL) (hf : cells + 0 ≤ R.cells ∧ slots + 0 ≤ R.slots) (hdg : decode cc pc = .ok (.invokestatic 370, 3))
    (kk : ∀ (r : Int32) (σ1 : XS) (H1 : Heap) (locs1 : List Loc), Qf r σ1 → xR E σ1 H1 → va_S (xA E) s.heap H1 locs1 → W p l e R s m args below meth c H1 locs1 (cells + 0) (slots + 0) Qz (F0 m (pc + 3) ls (.int r :: rest))) : W p l e R s m args below meth c H locs cells slots Qz (F0 m pc ls (.int x1 :: .int x0 :: rest)) := by
  obtain ⟨hx, hb, hml, hown, hts, hrt, hlk, hK, hZ⟩ := id cx
  exact x_goi (va_runS (As := [.int x0, .int x1]) (rest := rest) (x_fix cx) (MX0_code l E x0 x1 σ Qf hw) (va_cwS 2 hts (lw_S q2208 q2209 q156 q2210) rfl rfl rfl (by decide +kernel) hR) ⟨xblind, x_pre cx hR0 hS0 [.int x0, .int x1]⟩ rfl rfl hsize rfl (lv_room (xroom hrest)) hdg hf) hS0 kk
def wX0_judgedBy_45 (Q : Int32 → XS → Prop) (th : Nat) (x3 : Int32) (σ : XS) : Prop :=
  kd σ th = 1 ∧ (oc σ (fr σ th 17) 100 (fun a2 => vp_in x3 (ln σ a2) ∧ (Q (ai σ a2 x3.toNatClampNeg) σ)))
set_option maxHeartbeats 4000000 in
theorem BX0_judgedBy_45 {l : Launch} {p : Program} {e : Env} {s : State} {m : MethodId} {args : Array Value} {below : List Frame} {meth : Method} {c : Code} {E : xx_E} {Q : Int32 → XS → Prop} (cx : xx_X "StruckCounts" cX0_judgedBy 4 (some .int) E p s m args meth c) : ∀ (th : Nat) (x3 : Int32) (σ : XS), wX0_judgedBy_45 Q th x3 σ → x_T p l e ({ frames := 2, cells := 0, slots := 0, locals := 80 } : Room) s m args below meth c E (va_Qi Q (fun σ' t => xW E σ' t) (xA E)) 0 0 4 45 0 0 σ [(0, xv E (some th)), (3, .int x3)] [] := by
  intro th x3 σ hw H locs ls cells slots hR hS hl hcb hsb
  unfold wX0_judgedBy_45 at hw
  obtain ⟨hx, hb, hml, hown, hts, hrt, hlk, hMK, hZ⟩ := id cx
  refine x_aload_n cx dX0_judgedBy_45 rfl (lv_at hl 0 rfl) ?_
  obtain ⟨hk1, hw⟩ := hw
  refine xg_X0_66_1 cx hR rfl hk1 dX0_judgedBy_46 ?_
  refine lv_iload_n hx hb dX0_judgedBy_49 rfl (lv_at hl 1 rfl) ?_
  obtain ⟨a2, hr2, hk2, hw⟩ := hw
  obtain ⟨hi, hw⟩ := hw
  refine x_iald cx hR hr2 hk2 (j := x3.toNatClampNeg) rfl hi dX0_judgedBy_50 ?_
  exact x_iret cx hR hS (xle hcb) (xle hsb) hw dX0_judgedBy_51
def wX0_judgedBy_44 (Q : Int32 → XS → Prop) (th : Nat) (x3 : Int32) (t0 : Option Nat) (t1 : Int32) (t2 : Int32) (σ : XS) : Prop :=
  oc σ t0 100 (fun a3 => xK ≤ a3 ∧ (vp_in t1 (ln σ a3) ∧ (wX0_judgedBy_45 Q th x3 (pai σ a3 t1.toNatClampNeg t2))))
set_option maxHeartbeats 4000000 in
theorem BX0_judgedBy_44 {l : Launch} {p : Program} {e : Env} {s : State} {m : MethodId} {args : Array Value} {below : List Frame} {meth : Method} {c : Code} {E : xx_E} {Q : Int32 → XS → Prop} (cx : xx_X "StruckCounts" cX0_judgedBy 4 (some .int) E p s m args meth c) : ∀ (th : Nat) (x3 : Int32) (t0 : Option Nat) (t1 : Int32) (t2 : Int32) (σ : XS), wX0_judgedBy_44 Q th x3 t0 t1 t2 σ → x_T p l e ({ frames := 2, cells := 0, slots := 0, locals := 80 } : Room) s m args below meth c E (va_Qi Q (fun σ' t => xW E σ' t) (xA E)) 0 0 4 44 0 0 σ [(0, xv E (some th)), (3, .int x3)] [.int t2, .int t1, xv E t0] := by
  intro th x3 t0 t1 t2 σ hw H locs ls cells slots hR hS hl hcb hsb
  unfold wX0_judgedBy_44 at hw
  obtain ⟨hx, hb, hml, hown, hts, hrt, hlk, hMK, hZ⟩ := id cx
  obtain ⟨a3, hr3, hk3, hw⟩ := hw
  obtain ⟨hge_a3, hw⟩ := hw
  obtain ⟨hi, hw⟩ := hw
  refine x_iast cx hR hS hr3 hge_a3 hk3 (j := t1.toNatClampNeg) rfl hi dX0_judgedBy_44 (fun H locs hR hS => ?_)
  exact BX0_judgedBy_45 cx _ _ _ hw _ _ _ _ _ hR hS (lv_sub hl [0, 1] rfl) hcb hsb
def wX0_judgedBy (th : Nat) (x1 : Int32) (x2 : Int32) (σ : XS) (Q : Int32 → XS → Prop) : Prop :=
  wX0_code x1 x2 σ (fun r4 s4 => kd s4 th = 1 ∧ (oc s4 (fr s4 th 17) 100 (fun a6 => vp_in r4 (ln s4 a6) ∧ (if (ai s4 a6 r4.toNatClampNeg) = (-1 : Int32) then (wX0_isLeft th x1 x2 s4 (fun r7 s7 => if r7 = 0 then (wX0_judgedBy_44 Q th r4 (fr s4 th 17) r4 (3 : Int32) s7) else (kd s7 th = 1 ∧ (wX0_holdsIn th (fr s7 th 15) x1 x2 s7 (fun r9 s9 => wX0_judgedBy_44 Q th r4 (fr s4 th 17) r4 r9 s9))))) else (wX0_judgedBy_45 Q th r4 s4)))))
set_option maxHeartbeats 4000000 in
theorem MX0_judgedBy (l : Launch) (E : xx_E) (th : Nat) (x1 : Int32) (x2 : Int32) (σ : XS) (Q : Int32 → XS → Prop) (hw : wX0_judgedBy th x1 x2 σ Q) : xx_Mi l yX0_judgedBy (ws_ yX0_judgedBy cX0_judgedBy 4 (some .int)) ({ frames := 2, cells := 0, slots := 0, locals := 80 } : Room) E [xv E (some th), .int x1, .int x2] σ Q 0 0 := by
  refine x_of (own := "StruckCounts") (by decide +kernel) rfl ?_
  intro p e s m args below meth c cx hR ha hnm
  refine x_entry [xv E (some th), .int x1, .int x2] 4 [(0, xv E (some th)), (1, .int x1), (2, .int x2)] ha (by simp [lg_sl, xv_cat, vc_i, vc_j, vc_f]) (by simp [lv_args, xv_cat, vc_i, vc_j, vc_f]) (fun ls hl => ?_)
  have hS : va_S (xA E) s.heap s.heap [] := va_S.rf
  have hcb : 0 + 0 ≤ 0 := Nat.le_of_eq (Nat.zero_add _)
  have hsb : 0 + 0 ≤ 0 := Nat.le_of_eq (Nat.zero_add _)
  unfold wX0_judgedBy at hw
  obtain ⟨hx, hb, hml, hown, hts, hrt, hlk, hMK, hZ⟩ := id cx
  refine lv_iload_n hx hb dX0_judgedBy_0 rfl (lv_at hl 1 rfl) ?_
  refine lv_iload_n hx hb dX0_judgedBy_1 rfl (lv_at hl 2 rfl) ?_
  refine CX0_code_X0_370 cx hR hS  hw ⟨Nat.le_of_ble_eq_true rfl, Nat.le_of_ble_eq_true rfl⟩ (Nat.le_of_ble_eq_true rfl) hl.1 ⟨by dsimp only; omega, by dsimp only; omega⟩ dX0_judgedBy_2 (fun r4 s4 H locs hw hR hS => ?_)
  refine lv_istore_n (i := 3) (lv' := [(3, .int r4), (0, xv E (some th)), (1, .int x1), (2, .int x2)]) hx hb dX0_judgedBy_5 rfl hl (by decide) rfl (fun ls hl => ?_)
  refine x_aload_n cx dX0_judgedBy_6 rfl (lv_at hl 1 rfl) ?_
  obtain ⟨hk5, hw⟩ := hw
  refine xg_X0_66_1 cx hR rfl hk5 dX0_judgedBy_7 ?_
  refine lv_iload_n hx hb dX0_judgedBy_10 rfl (lv_at hl 0 rfl) ?_
  obtain ⟨a6, hr6, hk6, hw⟩ := hw
  obtain ⟨hi, hw⟩ := hw
  refine x_iald cx hR hr6 hk6 (j := r4.toNatClampNeg) rfl hi dX0_judgedBy_11 ?_
  refine lv_iconst (v := (-1 : Int32)) hx hb dX0_judgedBy_12 (by decide) ?_
  refine lv_icmp_ne (tgt := 45) hx hb dX0_judgedBy_13 (by decide) (fun hc => ?_) (fun hc => ?_)
  · have hw := mm_in hc hw
    exact BX0_judgedBy_45 cx _ _ _ hw _ _ _ _ _ hR hS (lv_sub hl [1, 0] rfl) hcb hsb
  · have hw := mm_ip hc hw
    refine x_aload_n cx dX0_judgedBy_16 rfl (lv_at hl 1 rfl) ?_
    refine xg_X0_66_1 cx hR rfl hk5 dX0_judgedBy_17 ?_
    refine lv_iload_n hx hb dX0_judgedBy_20 rfl (lv_at hl 0 rfl) ?_
    refine x_aload_n cx dX0_judgedBy_21 rfl (lv_at hl 1 rfl) ?_
    refine lv_iload_n hx hb dX0_judgedBy_22 rfl (lv_at hl 2 rfl) ?_
    refine lv_iload_n hx hb dX0_judgedBy_23 rfl (lv_at hl 3 rfl) ?_
    refine CX0_isLeft_X0_227 cx hR hS rfl hk5 hw ⟨Nat.le_of_ble_eq_true rfl, Nat.le_of_ble_eq_true rfl⟩ (Nat.le_of_ble_eq_true rfl) hl.1 ⟨by dsimp only; omega, by dsimp only; omega⟩ dX0_judgedBy_24 (fun r7 s7 H locs hw hR hS => ?_)
    refine lv_if_eq (tgt := 43) hx hb dX0_judgedBy_27 (by decide) (fun hc => ?_) (fun hc => ?_)
    · have hw := mm_ip hc hw
      refine lv_iconst (v := (3 : Int32)) hx hb dX0_judgedBy_43 (by decide) ?_
      exact BX0_judgedBy_44 cx _ _ _ _ _ _ hw _ _ _ _ _ hR hS (lv_sub hl [1, 0] rfl) hcb hsb
    · have hw := mm_in hc hw
      refine x_aload_n cx dX0_judgedBy_30 rfl (lv_at hl 1 rfl) ?_
      refine x_aload_n cx dX0_judgedBy_31 rfl (lv_at hl 1 rfl) ?_
      obtain ⟨hk8, hw⟩ := hw
      refine xg_X0_60_1 cx hR rfl hk8 dX0_judgedBy_32 ?_
      refine lv_iload_n hx hb dX0_judgedBy_35 rfl (lv_at hl 2 rfl) ?_
      refine lv_iload_n hx hb dX0_judgedBy_36 rfl (lv_at hl 3 rfl) ?_
      refine CX0_holdsIn_X0_216 cx hR hS rfl hk8 hw ⟨Nat.le_of_ble_eq_true rfl, Nat.le_of_ble_eq_true rfl⟩ (Nat.le_of_ble_eq_true rfl) hl.1 ⟨by dsimp only; omega, by dsimp only; omega⟩ dX0_judgedBy_37 (fun r9 s9 H locs hw hR hS => ?_)
      refine lv_goto (tgt := 44) hx hb dX0_judgedBy_40 (by decide) ?_
      exact BX0_judgedBy_44 cx _ _ _ _ _ _ hw _ _ _ _ _ hR hS (lv_sub hl [1, 0] rfl) hcb hsb
