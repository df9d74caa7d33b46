set_option maxRecDepth 100000
-- X4_names
theorem xn_X4_135 {l : Launch} {p : Program} {e : Env} {R : Room} {s : State} {m : MethodId} {args : Array Value} {below : List Frame} {meth : Method} {c : Code} {H : Heap} {locs : List Loc} {cells slots : Nat} {Qz : State → Prop} {cc : ByteArray} {nL : Nat} {ret : Option FieldType} {E : xx_E} {σ : XS} {pc : Nat} {ls : Array Slot} {rest : List Value} (cx : xx_X "StruckCounts$Reader" cc nL ret E p s m args meth c) (hR : xR E σ H) (hS0 : va_S (xA E) s.heap H locs) (hcells : cells + 1 ≤ R.cells) (hslots : slots + 2 ≤ R.slots) (hdg : decode cc pc = .ok (.new 135, 3)) (kk : ∀ (H1 : Heap), xR E (xal σ 6 0) H1 → va_S (xA E) s.heap H1 locs → W p l e R s m args below meth c H1 locs (cells + 1) (slots + 2) Qz (F0 m (pc + 3) ls (xv E (some (xn σ)) :: rest))) : W p l e R s m args below meth c H locs cells slots Qz (F0 m pc ls rest) :=
  x_new cx hR hS0 5 (by decide) rfl in_X6 tyX6 tyX6_ok q1435 q1436 q190 (fun j hj => by
    match j, hj with
    | 0, _ => exact xnew_i rfl
    | 1, _ => exact xnew_i rfl) hcells hslots hdg kk
theorem CJ1_containsKeyL_X4_130 {l : Launch} {p : Program} {e : Env} {R : Room} {s : State} {m : MethodId} {args : Array Value} {below : List Frame} {meth : Method} {c : Code} {H : Heap} {locs : List Loc} {cells slots : Nat} {Qz : State → Prop} {cc : ByteArray} {nL : Nat} {ret : Option FieldType} {E : xx_E} {σ : XS} {pc : Nat} {ls : Array Slot} {rest : List Value} {th : Nat} {x1 : Option Nat} (cx : xx_X "StruckCounts$Reader" cc nL ret E p s m args meth c) (hR0 : xR E σ H) (hS0 : va_S (xA E) s.heap H locs) {r0 : Option Nat} (hr : r0 = some th) (hk : kd σ th = 18) {Qf : Int32 → XS → Prop} (hw : wJ1_containsKeyL th x1 σ Qf) (hR : (({ frames := 10, cells := 0, slots := 0, locals := 400 } : Room)).frames + 1 ≤ R.frames ∧ 8 + (2 + 11) + (({ frames := 10, cells := 0, slots := 0, locals := 400 } : Room)).locals ≤ R.locals) (hrest : rest.length ≤ 4) (hsize : ls.size = nL) (hf : cells + 0 ≤ R.cells ∧ slots + 0 ≤ R.slots) (hdg : decode cc pc = .ok (.invokevirtual 130, 3))
    (kk : ∀ (r : Int32) (σ1 : XS) (H1 : Heap) (locs1 : List Loc), Qf r σ1 → xR E σ1 H1 → va_S (xA E) s.heap H1 locs1 → W p l e R s m args below meth c H1 locs1 (cells + 0) (slots + 0) Qz (F0 m (pc + 3) ls (.int r :: rest))) : W p l e R s m args below meth c H locs cells slots Qz (F0 m pc ls (xv E x1 :: xv E r0 :: rest)) := by
  subst hr
  obtain ⟨hx, hb, hml, hown, hts, hrt, hlk, hK, hZ⟩ := id cx
  exact x_goi (va_runU (C := "java/util/LinkedHashMap") (owner := "java/util/HashMap") (As := [xv E x1]) (rest := rest) (x_fix cx) (MJ1_containsKeyL l E th x1 σ Qf hw) (va_cwU (C := "java/util/LinkedHashMap") (owner := "java/util/HashMap") (x := ⟨"java/util/LinkedHashMap", "containsKey", "(Ljava/lang/Object;)Z"⟩) 1 hts (lw_app (xin5 q1127 q1128 q1130 q1131 q159) (lw_meth q1132)) rfl rfl rfl rfl (by decide +kernel) hR) (x_preV cx hR0 hS0 hk (by decide) (q := (RJ2, TJ2, 12)) rfl rfl [xv E x1]) rfl rfl hsize rfl (lv_room (xroom hrest)) hdg hf) hS0 kk
theorem CX6_init_X4_137 {l : Launch} {p : Program} {e : Env} {R : Room} {s : State} {m : MethodId} {args : Array Value} {below : List Frame} {meth : Method} {c : Code} {H : Heap} {locs : List Loc} {cells slots : Nat} {Qz : State → Prop} {cc : ByteArray} {nL : Nat} {ret : Option FieldType} {E : xx_E} {σ : XS} {pc : Nat} {ls : Array Slot} {rest : List Value} {th : Nat} {x1 : Int32} {x2 : Int32} (cx : xx_X "StruckCounts$Reader" cc nL ret E p s m args meth c) (hR0 : xR E σ H) (hS0 : va_S (xA E) s.heap H locs) {r0 : Option Nat} (hr : r0 = some th) (hk : kd σ th = 6) {Qf : XS → Prop} (hw : wX6_init th x1 x2 σ Qf) (hR : (({ frames := 1, cells := 0, slots := 0, locals := 40 } : Room)).frames + 1 ≤ R.frames ∧ 8 + (3 + 11) + (({ frames := 1, cells := 0, slots := 0, locals := 40 } : Room)).locals ≤ R.locals) (hrest : rest.length ≤ 4) (hsize : ls.size = nL) (hf : cells + 0 ≤ R.cells ∧ slots + 0 ≤ R.slots) (hdg : decode cc pc = .ok (.invokespecial 137, 3))
    (kk : ∀ (σ1 : XS) (H1 : Heap) (locs1 : List Loc), Qf σ1 → xR E σ1 H1 → va_S (xA E) s.heap H1 locs1 → W p l e R s m args below meth c H1 locs1 (cells + 0) (slots + 0) Qz (F0 m (pc + 3) ls rest)) : W p l e R s m args below meth c H locs cells slots Qz (F0 m pc ls (.int x2 :: .int x1 :: xv E r0 :: rest)) := by
  subst hr
  obtain ⟨hx, hb, hml, hown, hts, hrt, hlk, hK, hZ⟩ := id cx
  exact x_gov (va_runI (As := [.int x1, .int x2]) (rest := rest) (x_fix cx) (MX6_init l E th x1 x2 σ Qf hw) (cwI 2 hts (lw_meth q1439) rfl rfl rfl (hts _ q190) (hts _ q1437) (hts _ q1438) rfl (by decide +kernel) hR) ⟨xblind, x_pre cx hR0 hS0 (.ref (xr E th) :: [.int x1, .int x2])⟩ rfl rfl hsize rfl (lv_room (xroom hrest)) hdg hf) hS0 kk
theorem CJ1_putL_X4_139 {l : Launch} {p : Program} {e : Env} {R : Room} {s : State} {m : MethodId} {args : Array Value} {below : List Frame} {meth : Method} {c : Code} {H : Heap} {locs : List Loc} {cells slots : Nat} {Qz : State → Prop} {cc : ByteArray} {nL : Nat} {ret : Option FieldType} {E : xx_E} {σ : XS} {pc : Nat} {ls : Array Slot} {rest : List Value} {th : Nat} {x1 : Option Nat} {x2 : Option Nat} {k n : Nat} (cx : xx_X "StruckCounts$Reader" cc nL ret E p s m args meth c) (hR0 : xR E σ H) (hS0 : va_S (xA E) s.heap H locs) {r0 : Option Nat} (hr : r0 = some th) (hk : kd σ th = 18) {Qf : Option Nat → XS → Prop} (hw : wJ1_putL th x1 x2 k n σ Qf) (hR : (({ frames := 9, cells := k, slots := n, locals := 360 } : Room)).frames + 1 ≤ R.frames ∧ 8 + (3 + 11) + (({ frames := 9, cells := k, slots := n, locals := 360 } : Room)).locals ≤ R.locals) (hrest : rest.length ≤ 4) (hsize : ls.size = nL) (hf : cells + k ≤ R.cells ∧ slots + n ≤ R.slots) (hdg : decode cc pc = .ok (.invokevirtual 139, 3))
    (kk : ∀ (r : Option Nat) (σ1 : XS) (H1 : Heap) (locs1 : List Loc), Qf r σ1 → xR E σ1 H1 → va_S (xA E) s.heap H1 locs1 → W p l e R s m args below meth c H1 locs1 (cells + k) (slots + n) Qz (F0 m (pc + 3) ls (xv E r :: rest))) : W p l e R s m args below meth c H locs cells slots Qz (F0 m pc ls (xv E x2 :: xv E x1 :: xv E r0 :: rest)) := by
  subst hr
  obtain ⟨hx, hb, hml, hown, hts, hrt, hlk, hK, hZ⟩ := id cx
  exact x_gor (va_runU (C := "java/util/LinkedHashMap") (owner := "java/util/HashMap") (As := [xv E x1, xv E x2]) (rest := rest) (x_fix cx) (MJ1_putL l E th x1 x2 k n σ Qf hw) (va_cwU (C := "java/util/LinkedHashMap") (owner := "java/util/HashMap") (x := ⟨"java/util/LinkedHashMap", "put", "(Ljava/lang/Object;Ljava/lang/Object;)Ljava/lang/Object;"⟩) 2 hts (lw_app (xin5 q1450 q1451 q1453 q1454 q159) (lw_meth q1455)) rfl rfl rfl rfl (by decide +kernel) hR) (x_preV cx hR0 hS0 hk (by decide) (q := (RJ2, TJ2, 12)) rfl rfl [xv E x1, xv E x2]) rfl rfl hsize rfl (lv_room (xroom hrest)) hdg hf) hS0 kk
def wX4_names_32 (Q : XS → Prop) (T : Nat → XS → Prop) (th : Nat) (x1 : Int32) (x2 : Int32) (t0 : Option Nat) (t1 : Int32) (bc : Nat) (bs : Nat) (σ : XS) : Prop :=
  oc σ t0 4 (fun a2 => ∃ k3 n3 : Nat, k3 ≤ bc ∧ n3 ≤ bs ∧ (wX4_must a2 t1 (3 : Int32) k3 n3 σ (fun s1 => kd s1 th = 4 ∧ (oc s1 (fr s1 th 2) 2 (fun a5 => 1 ≤ (bc - k3) ∧ 2 ≤ (bs - n3) ∧ (kd (xal s1 6 0) (xn s1) = 6 ∧ (wX6_init (xn s1) x1 x2 (xal s1 6 0) (fun s6 => oc s6 (fr s1 a5 0) 18 (fun a9 => ∃ k10 n10 : Nat, k10 ≤ ((bc - k3) - 1) ∧ n10 ≤ ((bs - n3) - 2) ∧ (wJ1_putL a9 (fr s1 th 8) (some (xn s1)) k10 n10 s6 (fun r8 s8 => kd s8 th = 4 ∧ (∃ k13 n13 : Nat, k13 ≤ (((bc - k3) - 1) - k10) ∧ n13 ≤ (((bs - n3) - 2) - n10) ∧ (wX4_goes th k13 n13 s8 (fun s11 => Q s11)))))))))))) T))
set_option maxHeartbeats 4000000 in
theorem BX4_names_32 {l : Launch} {p : Program} {e : Env} {s : State} {m : MethodId} {args : Array Value} {below : List Frame} {meth : Method} {c : Code} {E : xx_E} {mc ms : Nat} {Q : XS → Prop} {T : Nat → XS → Prop} (cx : xx_X "StruckCounts$Reader" cX4_names 3 none E p s m args meth c) (hnt : xnt c) : ∀ (th : Nat) (x1 : Int32) (x2 : Int32) (t0 : Option Nat) (t1 : Int32) (bc : Nat) (bs : Nat) (σ : XS), wX4_names_32 Q T th x1 x2 t0 t1 bc bs σ → x_TT p l e ({ frames := 11, cells := mc, slots := ms, locals := 440 } : Room) s m args below meth c E T (va_Qv Q (fun σ' t => xW E σ' t) (xA E)) mc ms 3 32 bc bs σ [(0, xv E (some th)), (1, .int x1), (2, .int x2)] [.int t1, xv E t0] := by
  intro th x1 x2 t0 t1 bc bs σ hw H locs ls cells slots hR hS hl hcb hsb
  unfold wX4_names_32 at hw
  obtain ⟨hx, hb, hml, hown, hts, hrt, hlk, hMK, hZ⟩ := id cx
  refine lv_iconst (v := (3 : Int32)) hx hb dX4_names_32 (by decide) ?_
  obtain ⟨a2, hr2, hk2, hw⟩ := hw
  obtain ⟨k3, n3, hb1, hb2, hw⟩ := hw
  refine CX4_must_X4_112T cx hnt hR hS hr2 hk2 hw ⟨Nat.le_of_ble_eq_true rfl, Nat.le_of_ble_eq_true rfl⟩ (Nat.le_of_ble_eq_true rfl) hl.1 ⟨by dsimp only; omega, by dsimp only; omega⟩ (xle (xadd hb1 hcb)) (xle (xadd hb2 hsb)) dX4_names_33 (fun s1 H locs hw hR hS => ?_)
  have hcb := xadd hb1 hcb
  have hsb := xadd hb2 hsb
  refine x_aload_n cx dX4_names_36 rfl (lv_at hl 0 rfl) ?_
  obtain ⟨hk4, hw⟩ := hw
  refine xg_X4_25_4 cx hR rfl hk4 dX4_names_37 ?_
  obtain ⟨a5, hr5, hk5, hw⟩ := hw
  refine xg_X4_124_2 cx hR hr5 hk5 dX4_names_40 ?_
  refine x_aload_n cx dX4_names_43 rfl (lv_at hl 0 rfl) ?_
  refine xg_X4_11_4 cx hR rfl hk4 dX4_names_44 ?_
  obtain ⟨hb1, hb2, hw⟩ := hw
  refine xn_X4_135 cx hR hS (by dsimp only; omega) (by dsimp only; omega) dX4_names_47 (fun H hR hS => ?_)
  have hcb := xadd hb1 hcb
  have hsb := xadd hb2 hsb
  refine lv_dup hx hb dX4_names_50 (xv_cat _ _) ?_
  refine lv_iload_n hx hb dX4_names_51 rfl (lv_at hl 1 rfl) ?_
  refine lv_iload_n hx hb dX4_names_52 rfl (lv_at hl 2 rfl) ?_
  obtain ⟨hk7, hw⟩ := hw
  refine CX6_init_X4_137 cx hR hS rfl hk7 hw ⟨Nat.le_of_ble_eq_true rfl, Nat.le_of_ble_eq_true rfl⟩ (Nat.le_of_ble_eq_true rfl) hl.1 ⟨by dsimp only; omega, by dsimp only; omega⟩ dX4_names_53 (fun s6 H locs hw hR hS => ?_)
  obtain ⟨a9, hr9, hk9, hw⟩ := hw
  obtain ⟨k10, n10, hb1, hb2, hw⟩ := hw
  refine CJ1_putL_X4_139 cx hR hS hr9 hk9 hw ⟨Nat.le_of_ble_eq_true rfl, Nat.le_of_ble_eq_true rfl⟩ (Nat.le_of_ble_eq_true rfl) hl.1 ⟨by dsimp only; omega, by dsimp only; omega⟩ dX4_names_56 (fun r8 s8 H locs hw hR hS => ?_)
  have hcb := xadd hb1 hcb
  have hsb := xadd hb2 hsb
  refine lv_pop hx hb dX4_names_59 (xv_cat _ _) ?_
  refine x_aload_n cx dX4_names_60 rfl (lv_at hl 0 rfl) ?_
  obtain ⟨hk12, hw⟩ := hw
  obtain ⟨k13, n13, hb1, hb2, hw⟩ := hw
  refine CX4_goes_X4_29 cx hR hS rfl hk12 hw ⟨Nat.le_of_ble_eq_true rfl, Nat.le_of_ble_eq_true rfl⟩ (Nat.le_of_ble_eq_true rfl) hl.1 ⟨by dsimp only; omega, by dsimp only; omega⟩ dX4_names_61 (fun s11 H locs hw hR hS => ?_)
  have hcb := xadd hb1 hcb
  have hsb := xadd hb2 hsb
  exact vx_ret (x_vret cx hR hS (xle hcb) (xle hsb) hw dX4_names_64)
def wX4_names (th : Nat) (x1 : Int32) (x2 : Int32) (bc : Nat) (bs : Nat) (σ : XS) (Q : XS → Prop) (T : Nat → XS → Prop) : Prop :=
  kd σ th = 4 ∧ (wX4_isName th σ (fun r14 s14 => kd s14 th = 4 ∧ (∃ k18 n18 : Nat, k18 ≤ bc ∧ n18 ≤ bs ∧ (wX4_must th r14 (1 : Int32) k18 n18 s14 (fun s16 => kd s16 th = 4 ∧ (oc s16 (fr s16 th 2) 2 (fun a20 => oc s16 (fr s16 a20 0) 18 (fun a22 => wJ1_containsKeyL a22 (fr s16 th 8) s16 (fun r21 s21 => if r21 = 0 then (wX4_names_32 Q T th x1 x2 (some th) (1 : Int32) (bc - k18) (bs - n18) s21) else (wX4_names_32 Q T th x1 x2 (some th) (0 : Int32) (bc - k18) (bs - n18) s21)))))) T))))
set_option maxHeartbeats 4000000 in
theorem MX4_names (l : Launch) (E : xx_E) (th : Nat) (x1 : Int32) (x2 : Int32) (bc : Nat) (bs : Nat) (σ : XS) (Q : XS → Prop) (T : Nat → XS → Prop) (hw : wX4_names th x1 x2 bc bs σ Q T) : xx_Tv l yX4_names (ws_ yX4_names cX4_names 3 none) ({ frames := 11, cells := bc, slots := bs, locals := 440 } : Room) E [xv E (some th), .int x1, .int x2] σ Q T bc bs := by
  refine x_ofT (own := "StruckCounts$Reader") (by decide +kernel) rfl ?_
  intro p e s m args below meth c cx hnt hR ha hnm
  refine x_entry [xv E (some th), .int x1, .int x2] 3 [(0, xv E (some th)), (1, .int x1), (2, .int x2)] ha (by simp [lg_sl, xv_cat, vc_i, vc_j, vc_f]) (by simp [lv_args, xv_cat, vc_i, vc_j, vc_f]) (fun ls hl => ?_)
  have hS : va_S (xA E) s.heap s.heap [] := va_S.rf
  have hcb : 0 + bc ≤ bc := Nat.le_of_eq (Nat.zero_add _)
  have hsb : 0 + bs ≤ bs := Nat.le_of_eq (Nat.zero_add _)
  unfold wX4_names at hw
  obtain ⟨hx, hb, hml, hown, hts, hrt, hlk, hMK, hZ⟩ := id cx
  refine x_aload_n cx dX4_names_0 rfl (lv_at hl 0 rfl) ?_
  refine x_aload_n cx dX4_names_1 rfl (lv_at hl 0 rfl) ?_
  obtain ⟨hk15, hw⟩ := hw
  refine CX4_isName_X4_120 cx hR hS rfl hk15 hw ⟨Nat.le_of_ble_eq_true rfl, Nat.le_of_ble_eq_true rfl⟩ (Nat.le_of_ble_eq_true rfl) hl.1 ⟨by dsimp only; omega, by dsimp only; omega⟩ dX4_names_2 (fun r14 s14 H locs hw hR hS => ?_)
  refine lv_iconst (v := (1 : Int32)) hx hb dX4_names_5 (by decide) ?_
  obtain ⟨hk17, hw⟩ := hw
  obtain ⟨k18, n18, hb1, hb2, hw⟩ := hw
  refine CX4_must_X4_112T cx hnt hR hS rfl hk17 hw ⟨Nat.le_of_ble_eq_true rfl, Nat.le_of_ble_eq_true rfl⟩ (Nat.le_of_ble_eq_true rfl) hl.1 ⟨by dsimp only; omega, by dsimp only; omega⟩ (xle (xadd hb1 hcb)) (xle (xadd hb2 hsb)) dX4_names_6 (fun s16 H locs hw hR hS => ?_)
  have hcb := xadd hb1 hcb
  have hsb := xadd hb2 hsb
  refine x_aload_n cx dX4_names_9 rfl (lv_at hl 0 rfl) ?_
  refine x_aload_n cx dX4_names_10 rfl (lv_at hl 0 rfl) ?_
  obtain ⟨hk19, hw⟩ := hw
  refine xg_X4_25_4 cx hR rfl hk19 dX4_names_11 ?_
  obtain ⟨a20, hr20, hk20, hw⟩ := hw
  refine xg_X4_124_2 cx hR hr20 hk20 dX4_names_14 ?_
  refine x_aload_n cx dX4_names_17 rfl (lv_at hl 0 rfl) ?_
  refine xg_X4_11_4 cx hR rfl hk19 dX4_names_18 ?_
  obtain ⟨a22, hr22, hk22, hw⟩ := hw
  refine CJ1_containsKeyL_X4_130 cx hR hS hr22 hk22 hw ⟨Nat.le_of_ble_eq_true rfl, Nat.le_of_ble_eq_true rfl⟩ (Nat.le_of_ble_eq_true rfl) hl.1 ⟨by dsimp only; omega, by dsimp only; omega⟩ dX4_names_21 (fun r21 s21 H locs hw hR hS => ?_)
  refine lv_if_ne (tgt := 31) hx hb dX4_names_24 (by decide) (fun hc => ?_) (fun hc => ?_)
  · have hw := mm_in hc hw
    refine lv_iconst (v := (0 : Int32)) hx hb dX4_names_31 (by decide) ?_
    exact BX4_names_32 cx hnt _ _ _ _ _ _ _ _ hw _ _ _ _ _ hR hS (lv_sub hl [0, 1, 2] rfl) hcb hsb
  · have hw := mm_ip hc hw
    refine lv_iconst (v := (1 : Int32)) hx hb dX4_names_27 (by decide) ?_
    refine lv_goto (tgt := 32) hx hb dX4_names_28 (by decide) ?_
    exact BX4_names_32 cx hnt _ _ _ _ _ _ _ _ hw _ _ _ _ _ hR hS (lv_sub hl [0, 1, 2] rfl) hcb hsb
-- X4_count
theorem xg_X4_289_12 {l : Launch} {p : Program} {e : Env} {R : Room} {s : State} {m : MethodId} {args : Array Value} {below : List Frame} {meth : Method} {c : Code} {H : Heap} {locs : List Loc} {cells slots : Nat} {Qz : State → Prop} {cc : ByteArray} {nL : Nat} {ret : Option FieldType} {E : xx_E} {σ : XS} {pc : Nat} {ls : Array Slot} {rest : List Value} (cx : xx_X "StruckCounts$Reader" cc nL ret E p s m args meth c) (hR : xR E σ H) {a : Nat} {r : Option Nat} (hr : r = some a) (hk : kd σ a = 12) (hdg : decode cc pc = .ok (.getfield 289, 3)) (kk : W p l e R s m args below meth c H locs cells slots Qz (F0 m (pc + 3) ls (xv E (fr σ a 2) :: rest))) : W p l e R s m args below meth c H locs cells slots Qz (F0 m pc ls (xv E r :: rest)) :=
  x_getN (ci := 11) cx hR hr hk (by decide) rfl in_X12 2 (by decide) (xx_nf_mem (i := 49) rfl) (fun _ h => h) (v := xv E (fr σ a 2)) rfl hdg kk
theorem xn_X4_269 {l : Launch} {p : Program} {e : Env} {R : Room} {s : State} {m : MethodId} {args : Array Value} {below : List Frame} {meth : Method} {c : Code} {H : Heap} {locs : List Loc} {cells slots : Nat} {Qz : State → Prop} {cc : ByteArray} {nL : Nat} {ret : Option FieldType} {E : xx_E} {σ : XS} {pc : Nat} {ls : Array Slot} {rest : List Value} (cx : xx_X "StruckCounts$Reader" cc nL ret E p s m args meth c) (hR : xR E σ H) (hS0 : va_S (xA E) s.heap H locs) (hcells : cells + 1 ≤ R.cells) (hslots : slots + 6 ≤ R.slots) (hdg : decode cc pc = .ok (.new 269, 3)) (kk : ∀ (H1 : Heap), xR E (xal σ 12 0) H1 → va_S (xA E) s.heap H1 locs → W p l e R s m args below meth c H1 locs (cells + 1) (slots + 6) Qz (F0 m (pc + 3) ls (xv E (some (xn σ)) :: rest))) : W p l e R s m args below meth c H locs cells slots Qz (F0 m pc ls rest) :=
  x_new cx hR hS0 11 (by decide) rfl in_X12 tyX12 tyX12_ok q1798 q1799 q199 (fun j hj => by
    match j, hj with
    | 0, _ => exact xnew_i rfl
    | 1, _ => exact xnew_i rfl
    | 2, _ => exact xnew_r rfl
    | 3, _ => exact xnew_r rfl
    | 4, _ => exact xnew_i rfl
    | 5, _ => exact xnew_i rfl) hcells hslots hdg kk
theorem xn_X4_230 {l : Launch} {p : Program} {e : Env} {R : Room} {s : State} {m : MethodId} {args : Array Value} {below : List Frame} {meth : Method} {c : Code} {H : Heap} {locs : List Loc} {cells slots : Nat} {Qz : State → Prop} {cc : ByteArray} {nL : Nat} {ret : Option FieldType} {E : xx_E} {σ : XS} {pc : Nat} {ls : Array Slot} {rest : List Value} (cx : xx_X "StruckCounts$Reader" cc nL ret E p s m args meth c) (hR : xR E σ H) (hS0 : va_S (xA E) s.heap H locs) (hcells : cells + 1 ≤ R.cells) (hslots : slots + 2 ≤ R.slots) (hdg : decode cc pc = .ok (.new 230, 3)) (kk : ∀ (H1 : Heap), xR E (xal σ 13 0) H1 → va_S (xA E) s.heap H1 locs → W p l e R s m args below meth c H1 locs (cells + 1) (slots + 2) Qz (F0 m (pc + 3) ls (xv E (some (xn σ)) :: rest))) : W p l e R s m args below meth c H locs cells slots Qz (F0 m pc ls rest) :=
  x_new cx hR hS0 12 (by decide) rfl in_X13 tyX13 tyX13_ok q1835 q1836 q200 (fun j hj => by
    match j, hj with
    | 0, _ => exact xnew_r rfl
    | 1, _ => exact xnew_r rfl) hcells hslots hdg kk
theorem CX4_names_X4_282T {l : Launch} {p : Program} {e : Env} {R : Room} {s : State} {m : MethodId} {args : Array Value} {below : List Frame} {meth : Method} {c : Code} {H : Heap} {locs : List Loc} {cells slots : Nat} {cc : ByteArray} {nL : Nat} {ret : Option FieldType} {E : xx_E} {σ : XS} {pc : Nat} {ls : Array Slot} {rest : List Value} {th : Nat} {x1 : Int32} {x2 : Int32} {k n : Nat} {T : Nat → XS → Prop} {Qc : Array Value → State → Outcome → State → Prop} {MC MS : Nat} (cx : xx_X "StruckCounts$Reader" cc nL ret E p s m args meth c) (hnt : xnt c) (hR0 : xR E σ H) (hS0 : va_S (xA E) s.heap H locs) {r0 : Option Nat} (hr : r0 = some th) (hk : kd σ th = 4) {Qf : XS → Prop} (hw : wX4_names th x1 x2 k n σ Qf T) (hR : (({ frames := 11, cells := k, slots := n, locals := 440 } : Room)).frames + 1 ≤ R.frames ∧ 8 + (3 + 11) + (({ frames := 11, cells := k, slots := n, locals := 440 } : Room)).locals ≤ R.locals) (hrest : rest.length ≤ 4) (hsize : ls.size = nL) (hf : cells + k ≤ R.cells ∧ slots + n ≤ R.slots) (hc : cells + k ≤ MC) (hs : slots + n ≤ MS) (hdg : decode cc pc = .ok (.invokevirtual 282, 3))
    (kk : ∀ (σ1 : XS) (H1 : Heap) (locs1 : List Loc), Qf σ1 → xR E σ1 H1 → va_S (xA E) s.heap H1 locs1 → W p l e R s m args below meth c H1 locs1 (cells + k) (slots + n) (vx_MQ below Qc (xTX T E) args s MC MS (xA E)) (F0 m (pc + 3) ls rest)) : W p l e R s m args below meth c H locs cells slots (vx_MQ below Qc (xTX T E) args s MC MS (xA E)) (F0 m pc ls (.int x2 :: .int x1 :: xv E r0 :: rest)) := by
  subst hr
  obtain ⟨hx, hb, hml, hown, hts, hrt, hlk, hK, hZ⟩ := id cx
  exact x_goTv cx hnt (vx_runV (As := [.int x1, .int x2]) (rest := rest) (x_fix cx) (MX4_names l E th x1 x2 k n σ Qf T hw) (cwV 2 hts (lw_V q1115 q1117 qs9 q173 q1118) rfl rfl rfl (by decide +kernel) hR) (x_preV cx hR0 hS0 hk (by decide) (q := (RX4, TX4, 9)) rfl rfl [.int x1, .int x2]) rfl rfl hsize rfl (lv_room (xroom hrest)) hdg hf) hS0 hc hs kk
theorem CX12_init_X4_288 {l : Launch} {p : Program} {e : Env} {R : Room} {s : State} {m : MethodId} {args : Array Value} {below : List Frame} {meth : Method} {c : Code} {H : Heap} {locs : List Loc} {cells slots : Nat} {Qz : State → Prop} {cc : ByteArray} {nL : Nat} {ret : Option FieldType} {E : xx_E} {σ : XS} {pc : Nat} {ls : Array Slot} {rest : List Value} {th : Nat} {x1 : Int32} {x2 : Int32} {k n : Nat} (cx : xx_X "StruckCounts$Reader" cc nL ret E p s m args meth c) (hR0 : xR E σ H) (hS0 : va_S (xA E) s.heap H locs) {r0 : Option Nat} (hr : r0 = some th) (hk : kd σ th = 12) {Qf : XS → Prop} (hw : wX12_init th x1 x2 k n σ Qf) (hR : (({ frames := 4, cells := k, slots := n, locals := 160 } : Room)).frames + 1 ≤ R.frames ∧ 8 + (3 + 11) + (({ frames := 4, cells := k, slots := n, locals := 160 } : Room)).locals ≤ R.locals) (hrest : rest.length ≤ 4) (hsize : ls.size = nL) (hf : cells + k ≤ R.cells ∧ slots + n ≤ R.slots) (hdg : decode cc pc = .ok (.invokespecial 288, 3))
    (kk : ∀ (σ1 : XS) (H1 : Heap) (locs1 : List Loc), Qf σ1 → xR E σ1 H1 → va_S (xA E) s.heap H1 locs1 → W p l e R s m args below meth c H1 locs1 (cells + k) (slots + n) Qz (F0 m (pc + 3) ls rest)) : W p l e R s m args below meth c H locs cells slots Qz (F0 m pc ls (.int x2 :: .int x1 :: xv E r0 :: rest)) := by
  subst hr
  obtain ⟨hx, hb, hml, hown, hts, hrt, hlk, hK, hZ⟩ := id cx
  exact x_gov (va_runI (As := [.int x1, .int x2]) (rest := rest) (x_fix cx) (MX12_init l E th x1 x2 k n σ Qf hw) (cwI 2 hts (lw_meth q1802) rfl rfl rfl (hts _ q199) (hts _ q1800) (hts _ q1801) rfl (by decide +kernel) hR) ⟨xblind, x_pre cx hR0 hS0 (.ref (xr E th) :: [.int x1, .int x2])⟩ rfl rfl hsize rfl (lv_room (xroom hrest)) hdg hf) hS0 kk
theorem CX13_init_X4_232 {l : Launch} {p : Program} {e : Env} {R : Room} {s : State} {m : MethodId} {args : Array Value} {below : List Frame} {meth : Method} {c : Code} {H : Heap} {locs : List Loc} {cells slots : Nat} {Qz : State → Prop} {cc : ByteArray} {nL : Nat} {ret : Option FieldType} {E : xx_E} {σ : XS} {pc : Nat} {ls : Array Slot} {rest : List Value} {th : Nat} {x1 : Option Nat} {k n : Nat} (cx : xx_X "StruckCounts$Reader" cc nL ret E p s m args meth c) (hR0 : xR E σ H) (hS0 : va_S (xA E) s.heap H locs) {r0 : Option Nat} (hr : r0 = some th) (hk : kd σ th = 13) {Qf : XS → Prop} (hw : wX13_init th x1 k n σ Qf) (hR : (({ frames := 1, cells := k, slots := n, locals := 40 } : Room)).frames + 1 ≤ R.frames ∧ 8 + (2 + 11) + (({ frames := 1, cells := k, slots := n, locals := 40 } : Room)).locals ≤ R.locals) (hrest : rest.length ≤ 4) (hsize : ls.size = nL) (hf : cells + k ≤ R.cells ∧ slots + n ≤ R.slots) (hdg : decode cc pc = .ok (.invokespecial 232, 3))
    (kk : ∀ (σ1 : XS) (H1 : Heap) (locs1 : List Loc), Qf σ1 → xR E σ1 H1 → va_S (xA E) s.heap H1 locs1 → W p l e R s m args below meth c H1 locs1 (cells + k) (slots + n) Qz (F0 m (pc + 3) ls rest)) : W p l e R s m args below meth c H locs cells slots Qz (F0 m pc ls (xv E x1 :: xv E r0 :: rest)) := by
  subst hr
  obtain ⟨hx, hb, hml, hown, hts, hrt, hlk, hK, hZ⟩ := id cx
  exact x_gov (va_runI (As := [xv E x1]) (rest := rest) (x_fix cx) (MX13_init l E th x1 k n σ Qf hw) (cwI 1 hts (lw_meth q1839) rfl rfl rfl (hts _ q200) (hts _ q1837) (hts _ q1838) rfl (by decide +kernel) hR) ⟨xblind, x_pre cx hR0 hS0 (.ref (xr E th) :: [xv E x1])⟩ rfl rfl hsize rfl (lv_room (xroom hrest)) hdg hf) hS0 kk
def wX4_count_118 (d : Nat) (Q : XS → Prop) (T : Nat → XS → Prop) (K92 : Nat → Option Nat → Nat → Nat → XS → Prop) (th : Nat) (x2 : Option Nat) (t0 : Option Nat) (t1 : Int32) (bc : Nat) (bs : Nat) (σ : XS) : Prop :=
  oc σ t0 4 (fun a2 => ∃ k3 n3 : Nat, k3 ≤ bc ∧ n3 ≤ bs ∧ (wX4_must a2 t1 (4 : Int32) k3 n3 σ (fun s1 => kd s1 th = 4 ∧ (∃ k6 n6 : Nat, k6 ≤ (bc - k3) ∧ n6 ≤ (bs - n3) ∧ (wX4_goes th k6 n6 s1 (fun s4 => oc s4 x2 12 (fun a7 => 1 ≤ ((bc - k3) - k6) ∧ 2 ≤ ((bs - n3) - n6) ∧ (kd (xal s4 13 0) th = 4 ∧ (∃ k10 n10 : Nat, k10 ≤ (((bc - k3) - k6) - 1) ∧ n10 ≤ (((bs - n3) - n6) - 2) ∧ (wX4_any (wX4_one d) th k10 n10 (xal s4 13 0) (fun r8 s8 => kd s8 (xn s4) = 13 ∧ (∃ k13 n13 : Nat, k13 ≤ ((((bc - k3) - k6) - 1) - k10) ∧ n13 ≤ ((((bs - n3) - n6) - 2) - n10) ∧ (wX13_init (xn s4) r8 k13 n13 s8 (fun s11 => oc s11 (fr s4 a7 2) 16 (fun a15 => ∃ k16 n16 : Nat, k16 ≤ (((((bc - k3) - k6) - 1) - k10) - k13) ∧ n16 ≤ (((((bs - n3) - n6) - 2) - n10) - n13) ∧ (wJ7_add a15 (some (xn s4)) k16 n16 s11 (fun r14 s14 => K92 th x2 ((((((bc - k3) - k6) - 1) - k10) - k13) - k16) ((((((bs - n3) - n6) - 2) - n10) - n13) - n16) s14))))))) T)))))))) T))
set_option maxHeartbeats 4000000 in
theorem BX4_count_118 {l : Launch} {p : Program} {e : Env} {s : State} {m : MethodId} {args : Array Value} {below : List Frame} {meth : Method} {c : Code} {E : xx_E} {mc ms : Nat} {Q : XS → Prop} {T : Nat → XS → Prop} {K92 : Nat → Option Nat → Nat → Nat → XS → Prop} (d : Nat) (cx : xx_X "StruckCounts$Reader" cX4_count 3 none E p s m args meth c) (hnt : xnt c) (hK92 : ∀ (th : Nat) (x2 : Option Nat) (bc : Nat) (bs : Nat) (σ : XS), K92 th x2 bc bs σ → x_TT p l e ({ frames := (16 + 4 * d), cells := mc, slots := ms, locals := 40 * (16 + 4 * d) } : Room) s m args below meth c E T (va_Qv Q (fun σ' t => xW E σ' t) (xA E)) mc ms 3 92 bc bs σ [(0, xv E (some th)), (2, xv E x2)] []) : ∀ (th : Nat) (x2 : Option Nat) (t0 : Option Nat) (t1 : Int32) (bc : Nat) (bs : Nat) (σ : XS), wX4_count_118 d Q T K92 th x2 t0 t1 bc bs σ → x_TT p l e ({ frames := (16 + 4 * d), cells := mc, slots := ms, locals := 40 * (16 + 4 * d) } : Room) s m args below meth c E T (va_Qv Q (fun σ' t => xW E σ' t) (xA E)) mc ms 3 118 bc bs σ [(0, xv E (some th)), (2, xv E x2)] [.int t1, xv E t0] := by
  intro th x2 t0 t1 bc bs σ hw H locs ls cells slots hR hS hl hcb hsb
  unfold wX4_count_118 at hw
  obtain ⟨hx, hb, hml, hown, hts, hrt, hlk, hMK, hZ⟩ := id cx
  refine lv_iconst (v := (4 : Int32)) hx hb dX4_count_118 (by decide) ?_
  obtain ⟨a2, hr2, hk2, hw⟩ := hw
  obtain ⟨k3, n3, hb1, hb2, hw⟩ := hw
  refine CX4_must_X4_112T cx hnt hR hS hr2 hk2 hw (by constructor <;> dsimp only <;> omega) (Nat.le_of_ble_eq_true rfl) hl.1 ⟨by dsimp only; omega, by dsimp only; omega⟩ (xle (xadd hb1 hcb)) (xle (xadd hb2 hsb)) dX4_count_119 (fun s1 H locs hw hR hS => ?_)
  have hcb := xadd hb1 hcb
  have hsb := xadd hb2 hsb
  refine x_aload_n cx dX4_count_122 rfl (lv_at hl 0 rfl) ?_
  obtain ⟨hk5, hw⟩ := hw
  obtain ⟨k6, n6, hb1, hb2, hw⟩ := hw
  refine CX4_goes_X4_29 cx hR hS rfl hk5 hw (by constructor <;> dsimp only <;> omega) (Nat.le_of_ble_eq_true rfl) hl.1 ⟨by dsimp only; omega, by dsimp only; omega⟩ dX4_count_123 (fun s4 H locs hw hR hS => ?_)
  have hcb := xadd hb1 hcb
  have hsb := xadd hb2 hsb
  refine x_aload_n cx dX4_count_126 rfl (lv_at hl 1 rfl) ?_
  obtain ⟨a7, hr7, hk7, hw⟩ := hw
  refine xg_X4_289_12 cx hR hr7 hk7 dX4_count_127 ?_
  obtain ⟨hb1, hb2, hw⟩ := hw
  refine xn_X4_230 cx hR hS (by dsimp only; omega) (by dsimp only; omega) dX4_count_130 (fun H hR hS => ?_)
  have hcb := xadd hb1 hcb
  have hsb := xadd hb2 hsb
  refine lv_dup hx hb dX4_count_133 (xv_cat _ _) ?_
  refine x_aload_n cx dX4_count_134 rfl (lv_at hl 0 rfl) ?_
  obtain ⟨hk9, hw⟩ := hw
  obtain ⟨k10, n10, hb1, hb2, hw⟩ := hw
  refine CX4_any_X4_198T d (MX4_one l E d) cx hnt hR hS rfl hk9 hw (by constructor <;> dsimp only <;> omega) (Nat.le_of_ble_eq_true rfl) hl.1 ⟨by dsimp only; omega, by dsimp only; omega⟩ (xle (xadd hb1 hcb)) (xle (xadd hb2 hsb)) dX4_count_135 (fun r8 s8 H locs hw hR hS => ?_)
  have hcb := xadd hb1 hcb
  have hsb := xadd hb2 hsb
  obtain ⟨hk12, hw⟩ := hw
  obtain ⟨k13, n13, hb1, hb2, hw⟩ := hw
  refine CX13_init_X4_232 cx hR hS rfl hk12 hw (by constructor <;> dsimp only <;> omega) (Nat.le_of_ble_eq_true rfl) hl.1 ⟨by dsimp only; omega, by dsimp only; omega⟩ dX4_count_138 (fun s11 H locs hw hR hS => ?_)
  have hcb := xadd hb1 hcb
  have hsb := xadd hb2 hsb
  obtain ⟨a15, hr15, hk15, hw⟩ := hw
  obtain ⟨k16, n16, hb1, hb2, hw⟩ := hw
  refine CJ7_add_X4_163 cx hR hS hr15 hk15 hw (by constructor <;> dsimp only <;> omega) (Nat.le_of_ble_eq_true rfl) hl.1 ⟨by dsimp only; omega, by dsimp only; omega⟩ dX4_count_141 (fun r14 s14 H locs hw hR hS => ?_)
  have hcb := xadd hb1 hcb
  have hsb := xadd hb2 hsb
  refine lv_pop hx hb dX4_count_144 rfl ?_
  refine lv_goto (tgt := 92) hx hb dX4_count_145 (by decide) ?_
  exact hK92 _ _ _ _ _ hw _ _ _ _ _ hR hS (lv_sub hl [0, 1] rfl) hcb hsb
def wX4_count_92 (d : Nat) (Q : XS → Prop) (T : Nat → XS → Prop) (K92 : Nat → Option Nat → Nat → Nat → XS → Prop) (th : Nat) (x2 : Option Nat) (bc : Nat) (bs : Nat) (σ : XS) : Prop :=
  kd σ th = 4 ∧ (wX4_isWord th (some 14) σ (fun r17 s17 => if r17 = 0 then (kd s17 th = 4 ∧ (oc s17 (fr s17 th 2) 2 (fun a20 => oc s17 (fr s17 a20 2) 16 (fun a22 => ∃ k23 n23 : Nat, k23 ≤ bc ∧ n23 ≤ bs ∧ (wJ7_add a22 x2 k23 n23 s17 (fun r21 s21 => Q s21)))))) else (oc s17 x2 12 (fun a24 => oc s17 (fr s17 a24 2) 16 (fun a26 => wJ7_size a26 s17 (fun r25 s25 => if (4 : Int32) ≤ r25 then (wX4_count_118 d Q T K92 th x2 (some th) (0 : Int32) bc bs s25) else (wX4_count_118 d Q T K92 th x2 (some th) (1 : Int32) bc bs s25)))))))
set_option maxHeartbeats 4000000 in
theorem BX4_count_92 {l : Launch} {p : Program} {e : Env} {s : State} {m : MethodId} {args : Array Value} {below : List Frame} {meth : Method} {c : Code} {E : xx_E} {mc ms : Nat} {Q : XS → Prop} {T : Nat → XS → Prop} {K92 : Nat → Option Nat → Nat → Nat → XS → Prop} (d : Nat) (cx : xx_X "StruckCounts$Reader" cX4_count 3 none E p s m args meth c) (hnt : xnt c) (hK92 : ∀ (th : Nat) (x2 : Option Nat) (bc : Nat) (bs : Nat) (σ : XS), K92 th x2 bc bs σ → x_TT p l e ({ frames := (16 + 4 * d), cells := mc, slots := ms, locals := 40 * (16 + 4 * d) } : Room) s m args below meth c E T (va_Qv Q (fun σ' t => xW E σ' t) (xA E)) mc ms 3 92 bc bs σ [(0, xv E (some th)), (2, xv E x2)] []) : ∀ (th : Nat) (x2 : Option Nat) (bc : Nat) (bs : Nat) (σ : XS), wX4_count_92 d Q T K92 th x2 bc bs σ → x_TT p l e ({ frames := (16 + 4 * d), cells := mc, slots := ms, locals := 40 * (16 + 4 * d) } : Room) s m args below meth c E T (va_Qv Q (fun σ' t => xW E σ' t) (xA E)) mc ms 3 92 bc bs σ [(0, xv E (some th)), (2, xv E x2)] [] := by
  intro th x2 bc bs σ hw H locs ls cells slots hR hS hl hcb hsb
  unfold wX4_count_92 at hw
  obtain ⟨hx, hb, hml, hown, hts, hrt, hlk, hMK, hZ⟩ := id cx
  refine x_aload_n cx dX4_count_92 rfl (lv_at hl 0 rfl) ?_
  refine x_ldcS cx 7 (by decide) rfl rfl dX4_count_93 ?_
  obtain ⟨hk18, hw⟩ := hw
  refine CX4_isWord_X4_116 cx hR hS rfl hk18 hw (by constructor <;> dsimp only <;> omega) (Nat.le_of_ble_eq_true rfl) hl.1 ⟨by dsimp only; omega, by dsimp only; omega⟩ dX4_count_95 (fun r17 s17 H locs hw hR hS => ?_)
  refine lv_if_eq (tgt := 148) hx hb dX4_count_98 (by decide) (fun hc => ?_) (fun hc => ?_)
  · have hw := mm_ip hc hw
    refine x_aload_n cx dX4_count_148 rfl (lv_at hl 0 rfl) ?_
    obtain ⟨hk19, hw⟩ := hw
    refine xg_X4_25_4 cx hR rfl hk19 dX4_count_149 ?_
    obtain ⟨a20, hr20, hk20, hw⟩ := hw
    refine xg_X4_263_2 cx hR hr20 hk20 dX4_count_152 ?_
    refine x_aload_n cx dX4_count_155 rfl (lv_at hl 1 rfl) ?_
    obtain ⟨a22, hr22, hk22, hw⟩ := hw
    obtain ⟨k23, n23, hb1, hb2, hw⟩ := hw
    refine CJ7_add_X4_163 cx hR hS hr22 hk22 hw (by constructor <;> dsimp only <;> omega) (Nat.le_of_ble_eq_true rfl) hl.1 ⟨by dsimp only; omega, by dsimp only; omega⟩ dX4_count_156 (fun r21 s21 H locs hw hR hS => ?_)
    have hcb := xadd hb1 hcb
    have hsb := xadd hb2 hsb
    refine lv_pop hx hb dX4_count_159 rfl ?_
    exact vx_ret (x_vret cx hR hS (xle hcb) (xle hsb) hw dX4_count_160)
  · have hw := mm_in hc hw
    refine x_aload_n cx dX4_count_101 rfl (lv_at hl 0 rfl) ?_
    refine x_aload_n cx dX4_count_102 rfl (lv_at hl 1 rfl) ?_
    obtain ⟨a24, hr24, hk24, hw⟩ := hw
    refine xg_X4_289_12 cx hR hr24 hk24 dX4_count_103 ?_
    obtain ⟨a26, hr26, hk26, hw⟩ := hw
    refine CJ7_size_X4_166 cx hR hS hr26 hk26 hw (by constructor <;> dsimp only <;> omega) (Nat.le_of_ble_eq_true rfl) hl.1 ⟨by dsimp only; omega, by dsimp only; omega⟩ dX4_count_106 (fun r25 s25 H locs hw hR hS => ?_)
    refine lv_iconst (v := (4 : Int32)) hx hb dX4_count_109 (by decide) ?_
    refine lv_icmp_ge (tgt := 117) hx hb dX4_count_110 (by decide) (fun hc => ?_) (fun hc => ?_)
    · have hw := mm_ip hc hw
      refine lv_iconst (v := (0 : Int32)) hx hb dX4_count_117 (by decide) ?_
      exact BX4_count_118 d cx hnt hK92 _ _ _ _ _ _ _ hw _ _ _ _ _ hR hS (lv_sub hl [0, 1] rfl) hcb hsb
    · have hw := mm_in hc hw
      refine lv_iconst (v := (1 : Int32)) hx hb dX4_count_113 (by decide) ?_
      refine lv_goto (tgt := 118) hx hb dX4_count_114 (by decide) ?_
      exact BX4_count_118 d cx hnt hK92 _ _ _ _ _ _ _ hw _ _ _ _ _ hR hS (lv_sub hl [0, 1] rfl) hcb hsb
theorem LX4_count_92 {l : Launch} {p : Program} {e : Env} {s : State} {m : MethodId} {args : Array Value} {below : List Frame} {meth : Method} {c : Code} {E : xx_E} {mc ms : Nat} {Q : XS → Prop} {T : Nat → XS → Prop} (d : Nat) (cx : xx_X "StruckCounts$Reader" cX4_count 3 none E p s m args meth c) (hnt : xnt c) : ∀ (th : Nat) (x2 : Option Nat) (bc : Nat) (bs : Nat) (σ : XS), lp5F (wX4_count_92 d Q T) th x2 bc bs σ → x_TT p l e ({ frames := (16 + 4 * d), cells := mc, slots := ms, locals := 40 * (16 + 4 * d) } : Room) s m args below meth c E T (va_Qv Q (fun σ' t => xW E σ' t) (xA E)) mc ms 3 92 bc bs σ [(0, xv E (some th)), (2, xv E x2)] [] :=
  lp5F_of (fun K hK => BX4_count_92 d cx hnt hK)
def wX4_count_20 (d : Nat) (Q : XS → Prop) (T : Nat → XS → Prop) (th : Nat) (t0 : Option Nat) (t1 : Int32) (bc : Nat) (bs : Nat) (σ : XS) : Prop :=
  oc σ t0 4 (fun a28 => ∃ k29 n29 : Nat, k29 ≤ bc ∧ n29 ≤ bs ∧ (wX4_must a28 t1 (4 : Int32) k29 n29 σ (fun s27 => kd s27 th = 4 ∧ (∃ k32 n32 : Nat, k32 ≤ (bc - k29) ∧ n32 ≤ (bs - n29) ∧ (wX4_goes th k32 n32 s27 (fun s30 => kd s30 th = 4 ∧ (oc s30 (fr s30 th 2) 2 (fun a34 => oc s30 (fr s30 a34 2) 16 (fun a36 => wJ7_size a36 s30 (fun r35 s35 => kd s35 th = 4 ∧ (∃ k39 n39 : Nat, k39 ≤ ((bc - k29) - k32) ∧ n39 ≤ ((bs - n29) - n32) ∧ (wX4_names th (0 : Int32) r35 k39 n39 s35 (fun s37 => kd s37 th = 4 ∧ (∃ k42 n42 : Nat, k42 ≤ (((bc - k29) - k32) - k39) ∧ n42 ≤ (((bs - n29) - n32) - n39) ∧ (wX4_takes th (some 10) k42 n42 s37 (fun s40 => kd s40 th = 4 ∧ (∃ k45 n45 : Nat, k45 ≤ ((((bc - k29) - k32) - k39) - k42) ∧ n45 ≤ ((((bs - n29) - n32) - n39) - n42) ∧ (wX4_number th (0 : Int32) (999 : Int32) k45 n45 s40 (fun r43 s43 => kd s43 th = 4 ∧ (∃ k48 n48 : Nat, k48 ≤ (((((bc - k29) - k32) - k39) - k42) - k45) ∧ n48 ≤ (((((bs - n29) - n32) - n39) - n42) - n45) ∧ (wX4_takes th (some 12) k48 n48 s43 (fun s46 => 1 ≤ ((((((bc - k29) - k32) - k39) - k42) - k45) - k48) ∧ 6 ≤ ((((((bs - n29) - n32) - n39) - n42) - n45) - n48) ∧ (kd (xal s46 12 0) th = 4 ∧ (∃ k51 n51 : Nat, k51 ≤ (((((((bc - k29) - k32) - k39) - k42) - k45) - k48) - 1) ∧ n51 ≤ (((((((bs - n29) - n32) - n39) - n42) - n45) - n48) - 6) ∧ (wX4_number th (0 : Int32) (999 : Int32) k51 n51 (xal s46 12 0) (fun r49 s49 => kd s49 (xn s46) = 12 ∧ (∃ k54 n54 : Nat, k54 ≤ ((((((((bc - k29) - k32) - k39) - k42) - k45) - k48) - 1) - k51) ∧ n54 ≤ ((((((((bs - n29) - n32) - n39) - n42) - n45) - n48) - 6) - n51) ∧ (wX12_init (xn s46) r43 r49 k54 n54 s49 (fun s52 => kd s52 th = 4 ∧ (wX4_isWord th (some 14) s52 (fun r55 s55 => kd s55 th = 4 ∧ (∃ k59 n59 : Nat, k59 ≤ (((((((((bc - k29) - k32) - k39) - k42) - k45) - k48) - 1) - k51) - k54) ∧ n59 ≤ (((((((((bs - n29) - n32) - n39) - n42) - n45) - n48) - 6) - n51) - n54) ∧ (wX4_must th r55 (1 : Int32) k59 n59 s55 (fun s57 => lp5F (wX4_count_92 d Q T) th (some (xn s46)) ((((((((((bc - k29) - k32) - k39) - k42) - k45) - k48) - 1) - k51) - k54) - k59) ((((((((((bs - n29) - n32) - n39) - n42) - n45) - n48) - 6) - n51) - n54) - n59) s57) T)))))))) T)))) T))) T))) T))) T)))))))))) T))
set_option maxHeartbeats 4000000 in
theorem BX4_count_20 {l : Launch} {p : Program} {e : Env} {s : State} {m : MethodId} {args : Array Value} {below : List Frame} {meth : Method} {c : Code} {E : xx_E} {mc ms : Nat} {Q : XS → Prop} {T : Nat → XS → Prop} (d : Nat) (cx : xx_X "StruckCounts$Reader" cX4_count 3 none E p s m args meth c) (hnt : xnt c) : ∀ (th : Nat) (t0 : Option Nat) (t1 : Int32) (bc : Nat) (bs : Nat) (σ : XS), wX4_count_20 d Q T th t0 t1 bc bs σ → x_TT p l e ({ frames := (16 + 4 * d), cells := mc, slots := ms, locals := 40 * (16 + 4 * d) } : Room) s m args below meth c E T (va_Qv Q (fun σ' t => xW E σ' t) (xA E)) mc ms 3 20 bc bs σ [(0, xv E (some th))] [.int t1, xv E t0] := by
  intro th t0 t1 bc bs σ hw H locs ls cells slots hR hS hl hcb hsb
  unfold wX4_count_20 at hw
  obtain ⟨hx, hb, hml, hown, hts, hrt, hlk, hMK, hZ⟩ := id cx
  refine lv_iconst (v := (4 : Int32)) hx hb dX4_count_20 (by decide) ?_
  obtain ⟨a28, hr28, hk28, hw⟩ := hw
  obtain ⟨k29, n29, hb1, hb2, hw⟩ := hw
  refine CX4_must_X4_112T cx hnt hR hS hr28 hk28 hw (by constructor <;> dsimp only <;> omega) (Nat.le_of_ble_eq_true rfl) hl.1 ⟨by dsimp only; omega, by dsimp only; omega⟩ (xle (xadd hb1 hcb)) (xle (xadd hb2 hsb)) dX4_count_21 (fun s27 H locs hw hR hS => ?_)
  have hcb := xadd hb1 hcb
  have hsb := xadd hb2 hsb
  refine x_aload_n cx dX4_count_24 rfl (lv_at hl 0 rfl) ?_
  obtain ⟨hk31, hw⟩ := hw
  obtain ⟨k32, n32, hb1, hb2, hw⟩ := hw
  refine CX4_goes_X4_29 cx hR hS rfl hk31 hw (by constructor <;> dsimp only <;> omega) (Nat.le_of_ble_eq_true rfl) hl.1 ⟨by dsimp only; omega, by dsimp only; omega⟩ dX4_count_25 (fun s30 H locs hw hR hS => ?_)
  have hcb := xadd hb1 hcb
  have hsb := xadd hb2 hsb
  refine x_aload_n cx dX4_count_28 rfl (lv_at hl 0 rfl) ?_
  refine lv_iconst (v := (0 : Int32)) hx hb dX4_count_29 (by decide) ?_
  refine x_aload_n cx dX4_count_30 rfl (lv_at hl 0 rfl) ?_
  obtain ⟨hk33, hw⟩ := hw
  refine xg_X4_25_4 cx hR rfl hk33 dX4_count_31 ?_
  obtain ⟨a34, hr34, hk34, hw⟩ := hw
  refine xg_X4_263_2 cx hR hr34 hk34 dX4_count_34 ?_
  obtain ⟨a36, hr36, hk36, hw⟩ := hw
  refine CJ7_size_X4_166 cx hR hS hr36 hk36 hw (by constructor <;> dsimp only <;> omega) (Nat.le_of_ble_eq_true rfl) hl.1 ⟨by dsimp only; omega, by dsimp only; omega⟩ dX4_count_37 (fun r35 s35 H locs hw hR hS => ?_)
  obtain ⟨hk38, hw⟩ := hw
  obtain ⟨k39, n39, hb1, hb2, hw⟩ := hw
  refine CX4_names_X4_282T cx hnt hR hS rfl hk38 hw (by constructor <;> dsimp only <;> omega) (Nat.le_of_ble_eq_true rfl) hl.1 ⟨by dsimp only; omega, by dsimp only; omega⟩ (xle (xadd hb1 hcb)) (xle (xadd hb2 hsb)) dX4_count_40 (fun s37 H locs hw hR hS => ?_)
  have hcb := xadd hb1 hcb
  have hsb := xadd hb2 hsb
  refine x_aload_n cx dX4_count_43 rfl (lv_at hl 0 rfl) ?_
  refine x_ldcS cx 5 (by decide) rfl rfl dX4_count_44 ?_
  obtain ⟨hk41, hw⟩ := hw
  obtain ⟨k42, n42, hb1, hb2, hw⟩ := hw
  refine CX4_takes_X4_218T cx hnt hR hS rfl hk41 hw (by constructor <;> dsimp only <;> omega) (Nat.le_of_ble_eq_true rfl) hl.1 ⟨by dsimp only; omega, by dsimp only; omega⟩ (xle (xadd hb1 hcb)) (xle (xadd hb2 hsb)) dX4_count_46 (fun s40 H locs hw hR hS => ?_)
  have hcb := xadd hb1 hcb
  have hsb := xadd hb2 hsb
  refine x_aload_n cx dX4_count_49 rfl (lv_at hl 0 rfl) ?_
  refine lv_iconst (v := (0 : Int32)) hx hb dX4_count_50 (by decide) ?_
  refine lv_sipush (v := (999 : Int32)) hx hb dX4_count_51 (by decide) ?_
  obtain ⟨hk44, hw⟩ := hw
  obtain ⟨k45, n45, hb1, hb2, hw⟩ := hw
  refine CX4_number_X4_215T cx hnt hR hS rfl hk44 hw (by constructor <;> dsimp only <;> omega) (Nat.le_of_ble_eq_true rfl) hl.1 ⟨by dsimp only; omega, by dsimp only; omega⟩ (xle (xadd hb1 hcb)) (xle (xadd hb2 hsb)) dX4_count_54 (fun r43 s43 H locs hw hR hS => ?_)
  have hcb := xadd hb1 hcb
  have hsb := xadd hb2 hsb
  refine lv_istore_n (i := 1) (lv' := [(1, .int r43), (0, xv E (some th))]) hx hb dX4_count_57 rfl hl (by decide) (by simp [xv_cat]) (fun ls hl => ?_)
  refine x_aload_n cx dX4_count_58 rfl (lv_at hl 1 rfl) ?_
  refine x_ldcS cx 6 (by decide) rfl rfl dX4_count_59 ?_
  obtain ⟨hk47, hw⟩ := hw
  obtain ⟨k48, n48, hb1, hb2, hw⟩ := hw
  refine CX4_takes_X4_218T cx hnt hR hS rfl hk47 hw (by constructor <;> dsimp only <;> omega) (Nat.le_of_ble_eq_true rfl) hl.1 ⟨by dsimp only; omega, by dsimp only; omega⟩ (xle (xadd hb1 hcb)) (xle (xadd hb2 hsb)) dX4_count_61 (fun s46 H locs hw hR hS => ?_)
  have hcb := xadd hb1 hcb
  have hsb := xadd hb2 hsb
  obtain ⟨hb1, hb2, hw⟩ := hw
  refine xn_X4_269 cx hR hS (by dsimp only; omega) (by dsimp only; omega) dX4_count_64 (fun H hR hS => ?_)
  have hcb := xadd hb1 hcb
  have hsb := xadd hb2 hsb
  refine lv_dup hx hb dX4_count_67 (xv_cat _ _) ?_
  refine lv_iload_n hx hb dX4_count_68 rfl (lv_at hl 0 rfl) ?_
  refine x_aload_n cx dX4_count_69 rfl (lv_at hl 1 rfl) ?_
  refine lv_iconst (v := (0 : Int32)) hx hb dX4_count_70 (by decide) ?_
  refine lv_sipush (v := (999 : Int32)) hx hb dX4_count_71 (by decide) ?_
  obtain ⟨hk50, hw⟩ := hw
  obtain ⟨k51, n51, hb1, hb2, hw⟩ := hw
  refine CX4_number_X4_215T cx hnt hR hS rfl hk50 hw (by constructor <;> dsimp only <;> omega) (Nat.le_of_ble_eq_true rfl) hl.1 ⟨by dsimp only; omega, by dsimp only; omega⟩ (xle (xadd hb1 hcb)) (xle (xadd hb2 hsb)) dX4_count_74 (fun r49 s49 H locs hw hR hS => ?_)
  have hcb := xadd hb1 hcb
  have hsb := xadd hb2 hsb
  obtain ⟨hk53, hw⟩ := hw
  obtain ⟨k54, n54, hb1, hb2, hw⟩ := hw
  refine CX12_init_X4_288 cx hR hS rfl hk53 hw (by constructor <;> dsimp only <;> omega) (Nat.le_of_ble_eq_true rfl) hl.1 ⟨by dsimp only; omega, by dsimp only; omega⟩ dX4_count_77 (fun s52 H locs hw hR hS => ?_)
  have hcb := xadd hb1 hcb
  have hsb := xadd hb2 hsb
  refine x_astore_n (i := 2) (r := (some (xn s46))) (lv' := [(2, xv E (some (xn s46))), (1, .int r43), (0, xv E (some th))]) cx dX4_count_80 rfl hl (by decide) rfl (fun ls hl => ?_)
  refine x_aload_n cx dX4_count_81 rfl (lv_at hl 2 rfl) ?_
  refine x_aload_n cx dX4_count_82 rfl (lv_at hl 2 rfl) ?_
  refine x_ldcS cx 7 (by decide) rfl rfl dX4_count_83 ?_
  obtain ⟨hk56, hw⟩ := hw
  refine CX4_isWord_X4_116 cx hR hS rfl hk56 hw (by constructor <;> dsimp only <;> omega) (Nat.le_of_ble_eq_true rfl) hl.1 ⟨by dsimp only; omega, by dsimp only; omega⟩ dX4_count_85 (fun r55 s55 H locs hw hR hS => ?_)
  refine lv_iconst (v := (1 : Int32)) hx hb dX4_count_88 (by decide) ?_
  obtain ⟨hk58, hw⟩ := hw
  obtain ⟨k59, n59, hb1, hb2, hw⟩ := hw
  refine CX4_must_X4_112T cx hnt hR hS rfl hk58 hw (by constructor <;> dsimp only <;> omega) (Nat.le_of_ble_eq_true rfl) hl.1 ⟨by dsimp only; omega, by dsimp only; omega⟩ (xle (xadd hb1 hcb)) (xle (xadd hb2 hsb)) dX4_count_89 (fun s57 H locs hw hR hS => ?_)
  have hcb := xadd hb1 hcb
  have hsb := xadd hb2 hsb
  exact LX4_count_92 d cx hnt _ _ _ _ _ hw _ _ _ _ _ hR hS (lv_sub hl [2, 0] rfl) hcb hsb
def wX4_count (d : Nat) (th : Nat) (bc : Nat) (bs : Nat) (σ : XS) (Q : XS → Prop) (T : Nat → XS → Prop) : Prop :=
  kd σ th = 4 ∧ (oc σ (fr σ th 2) 2 (fun a61 => oc σ (fr σ a61 2) 16 (fun a63 => wJ7_size a63 σ (fun r62 s62 => if (5 : Int32) ≤ r62 then (wX4_count_20 d Q T th (some th) (0 : Int32) bc bs s62) else (wX4_count_20 d Q T th (some th) (1 : Int32) bc bs s62)))))
set_option maxHeartbeats 4000000 in
theorem MX4_count (l : Launch) (E : xx_E) (d : Nat) (th : Nat) (bc : Nat) (bs : Nat) (σ : XS) (Q : XS → Prop) (T : Nat → XS → Prop) (hw : wX4_count d th bc bs σ Q T) : xx_Tv l yX4_count (ws_ yX4_count cX4_count 3 none) ({ frames := (16 + 4 * d), cells := bc, slots := bs, locals := 40 * (16 + 4 * d) } : Room) E [xv E (some th)] σ Q T bc bs := by
  refine x_ofT (own := "StruckCounts$Reader") (by decide +kernel) rfl ?_
  intro p e s m args below meth c cx hnt hR ha hnm
  refine x_entry [xv E (some th)] 3 [(0, xv E (some th))] ha (by simp [lg_sl, xv_cat, vc_i, vc_j, vc_f]) (by simp [lv_args, xv_cat, vc_i, vc_j, vc_f]) (fun ls hl => ?_)
  have hS : va_S (xA E) s.heap s.heap [] := va_S.rf
  have hcb : 0 + bc ≤ bc := Nat.le_of_eq (Nat.zero_add _)
  have hsb : 0 + bs ≤ bs := Nat.le_of_eq (Nat.zero_add _)
  unfold wX4_count at hw
  obtain ⟨hx, hb, hml, hown, hts, hrt, hlk, hMK, hZ⟩ := id cx
  refine x_aload_n cx dX4_count_0 rfl (lv_at hl 0 rfl) ?_
  refine x_aload_n cx dX4_count_1 rfl (lv_at hl 0 rfl) ?_
  obtain ⟨hk60, hw⟩ := hw
  refine xg_X4_25_4 cx hR rfl hk60 dX4_count_2 ?_
  obtain ⟨a61, hr61, hk61, hw⟩ := hw
  refine xg_X4_263_2 cx hR hr61 hk61 dX4_count_5 ?_
  obtain ⟨a63, hr63, hk63, hw⟩ := hw
  refine CJ7_size_X4_166 cx hR hS hr63 hk63 hw (by constructor <;> dsimp only <;> omega) (Nat.le_of_ble_eq_true rfl) hl.1 ⟨by dsimp only; omega, by dsimp only; omega⟩ dX4_count_8 (fun r62 s62 H locs hw hR hS => ?_)
  refine lv_iconst (v := (5 : Int32)) hx hb dX4_count_11 (by decide) ?_
  refine lv_icmp_ge (tgt := 19) hx hb dX4_count_12 (by decide) (fun hc => ?_) (fun hc => ?_)
  · have hw := mm_ip hc hw
    refine lv_iconst (v := (0 : Int32)) hx hb dX4_count_19 (by decide) ?_
    exact BX4_count_20 d cx hnt _ _ _ _ _ _ hw _ _ _ _ _ hR hS (lv_sub hl [0] rfl) hcb hsb
  · have hw := mm_in hc hw
    refine lv_iconst (v := (1 : Int32)) hx hb dX4_count_15 (by decide) ?_
    refine lv_goto (tgt := 20) hx hb dX4_count_16 (by decide) ?_
    exact BX4_count_20 d cx hnt _ _ _ _ _ _ hw _ _ _ _ _ hR hS (lv_sub hl [0] rfl) hcb hsb
-- X4_fact
theorem xg_X4_233_2 {l : Launch} {p : Program} {e : Env} {R : Room} {s : State} {m : MethodId} {args : Array Value} {below : List Frame} {meth : Method} {c : Code} {H : Heap} {locs : List Loc} {cells slots : Nat} {Qz : State → Prop} {cc : ByteArray} {nL : Nat} {ret : Option FieldType} {E : xx_E} {σ : XS} {pc : Nat} {ls : Array Slot} {rest : List Value} (cx : xx_X "StruckCounts$Reader" cc nL ret E p s m args meth c) (hR : xR E σ H) {a : Nat} {r : Option Nat} (hr : r = some a) (hk : kd σ a = 2) (hdg : decode cc pc = .ok (.getfield 233, 3)) (kk : W p l e R s m args below meth c H locs cells slots Qz (F0 m (pc + 3) ls (.int (fi σ a 5) :: rest))) : W p l e R s m args below meth c H locs cells slots Qz (F0 m pc ls (xv E r :: rest)) :=
  x_getN (ci := 1) cx hR hr hk (by decide) rfl in_X1 5 (by decide) (xx_nf_mem (i := 42) rfl) (fun _ h => h) (v := .int (fi σ a 5)) rfl hdg kk
theorem xp_X4_233_2 {l : Launch} {p : Program} {e : Env} {R : Room} {s : State} {m : MethodId} {args : Array Value} {below : List Frame} {meth : Method} {c : Code} {H : Heap} {locs : List Loc} {cells slots : Nat} {Qz : State → Prop} {cc : ByteArray} {nL : Nat} {ret : Option FieldType} {E : xx_E} {σ : XS} {pc : Nat} {ls : Array Slot} {rest : List Value} (cx : xx_X "StruckCounts$Reader" cc nL ret E p s m args meth c) (hR : xR E σ H) (hS0 : va_S (xA E) s.heap H locs) {a : Nat} {r : Option Nat} {v : Int32} (hr : r = some a) (ha : xK ≤ a) (hk : kd σ a = 2) (hdg : decode cc pc = .ok (.putfield 233, 3)) (kk : ∀ (H1 : Heap) (locs1 : List Loc), xR E (pfi σ a 5 v) H1 → va_S (xA E) s.heap H1 locs1 → W p l e R s m args below meth c H1 locs1 cells slots Qz (F0 m (pc + 3) ls rest)) : W p l e R s m args below meth c H locs cells slots Qz (F0 m pc ls (.int v :: xv E r :: rest)) :=
  x_put (ci := 1) cx hR hS0 hr ha hk (by decide) rfl in_X1 tyX1 tyX1_ok nmX1 5 (by decide) (Or.inr (Or.inr ⟨_, (xx_nf_mem (i := 42) rfl), rfl⟩)) (fun _ h => h) rfl rfl (xput_i rfl) hdg kk
theorem xg_X4_284_2 {l : Launch} {p : Program} {e : Env} {R : Room} {s : State} {m : MethodId} {args : Array Value} {below : List Frame} {meth : Method} {c : Code} {H : Heap} {locs : List Loc} {cells slots : Nat} {Qz : State → Prop} {cc : ByteArray} {nL : Nat} {ret : Option FieldType} {E : xx_E} {σ : XS} {pc : Nat} {ls : Array Slot} {rest : List Value} (cx : xx_X "StruckCounts$Reader" cc nL ret E p s m args meth c) (hR : xR E σ H) {a : Nat} {r : Option Nat} (hr : r = some a) (hk : kd σ a = 2) (hdg : decode cc pc = .ok (.getfield 284, 3)) (kk : W p l e R s m args below meth c H locs cells slots Qz (F0 m (pc + 3) ls (xv E (fr σ a 4) :: rest))) : W p l e R s m args below meth c H locs cells slots Qz (F0 m pc ls (xv E r :: rest)) :=
  x_getN (ci := 1) cx hR hr hk (by decide) rfl in_X1 4 (by decide) (xx_nf_mem (i := 41) rfl) (fun _ h => h) (v := xv E (fr σ a 4)) rfl hdg kk
def wX4_fact_71 (Q : XS → Prop) (T : Nat → XS → Prop) (th : Nat) (t0 : Option Nat) (t1 : Int32) (t2 : Int32) (bc : Nat) (bs : Nat) (σ : XS) : Prop :=
  oc σ t0 100 (fun a1 => xK ≤ a1 ∧ (vp_in t1 (ln σ a1) ∧ (kd (pai σ a1 t1.toNatClampNeg t2) th = 4 ∧ (oc (pai σ a1 t1.toNatClampNeg t2) (fr (pai σ a1 t1.toNatClampNeg t2) th 2) 2 (fun a3 => xK ≤ a3 ∧ (Q (pfi (pai σ a1 t1.toNatClampNeg t2) a3 5 ((fi (pai σ a1 t1.toNatClampNeg t2) a3 5) + (1 : Int32)))))))))
set_option maxHeartbeats 4000000 in
theorem BX4_fact_71 {l : Launch} {p : Program} {e : Env} {s : State} {m : MethodId} {args : Array Value} {below : List Frame} {meth : Method} {c : Code} {E : xx_E} {mc ms : Nat} {Q : XS → Prop} {T : Nat → XS → Prop} (cx : xx_X "StruckCounts$Reader" cX4_fact 1 none E p s m args meth c) (hnt : xnt c) : ∀ (th : Nat) (t0 : Option Nat) (t1 : Int32) (t2 : Int32) (bc : Nat) (bs : Nat) (σ : XS), wX4_fact_71 Q T th t0 t1 t2 bc bs σ → x_TT p l e ({ frames := 12, cells := mc, slots := ms, locals := 480 } : Room) s m args below meth c E T (va_Qv Q (fun σ' t => xW E σ' t) (xA E)) mc ms 1 71 bc bs σ [(0, xv E (some th))] [.int t2, .int t1, xv E t0] := by
  intro th t0 t1 t2 bc bs σ hw H locs ls cells slots hR hS hl hcb hsb
  unfold wX4_fact_71 at hw
  obtain ⟨hx, hb, hml, hown, hts, hrt, hlk, hMK, hZ⟩ := id cx
  obtain ⟨a1, hr1, hk1, hw⟩ := hw
  obtain ⟨hge_a1, hw⟩ := hw
  obtain ⟨hi, hw⟩ := hw
  refine x_iast cx hR hS hr1 hge_a1 hk1 (j := t1.toNatClampNeg) rfl hi dX4_fact_71 (fun H locs hR hS => ?_)
  refine x_aload_n cx dX4_fact_72 rfl (lv_at hl 0 rfl) ?_
  obtain ⟨hk2, hw⟩ := hw
  refine xg_X4_25_4 cx hR rfl hk2 dX4_fact_73 ?_
  refine lv_dup hx hb dX4_fact_76 (xv_cat _ _) ?_
  obtain ⟨a3, hr3, hk3, hw⟩ := hw
  refine xg_X4_233_2 cx hR hr3 hk3 dX4_fact_77 ?_
  refine lv_iconst (v := (1 : Int32)) hx hb dX4_fact_80 (by decide) ?_
  refine lv_iadd hx hb dX4_fact_81 ?_
  obtain ⟨hge_a3, hw⟩ := hw
  refine xp_X4_233_2 (v := ((fi (pai σ a1 t1.toNatClampNeg t2) a3 5) + (1 : Int32))) cx hR hS hr3 hge_a3 hk3 dX4_fact_82 (fun H locs hR hS => ?_)
  exact vx_ret (x_vret cx hR hS (xle hcb) (xle hsb) hw dX4_fact_85)
def wX4_fact_18 (Q : XS → Prop) (T : Nat → XS → Prop) (th : Nat) (t0 : Option Nat) (t1 : Int32) (bc : Nat) (bs : Nat) (σ : XS) : Prop :=
  oc σ t0 4 (fun a5 => ∃ k6 n6 : Nat, k6 ≤ bc ∧ n6 ≤ bs ∧ (wX4_must a5 t1 (4 : Int32) k6 n6 σ (fun s4 => kd s4 th = 4 ∧ (∃ k9 n9 : Nat, k9 ≤ (bc - k6) ∧ n9 ≤ (bs - n6) ∧ (wX4_goes th k9 n9 s4 (fun s7 => kd s7 th = 4 ∧ (oc s7 (fr s7 th 2) 2 (fun a11 => ∃ k13 n13 : Nat, k13 ≤ ((bc - k6) - k9) ∧ n13 ≤ ((bs - n6) - n9) ∧ (wX4_names th (1 : Int32) (fi s7 a11 5) k13 n13 s7 (fun s12 => kd s12 th = 4 ∧ (oc s12 (fr s12 th 2) 2 (fun a15 => if (fi s12 th 5) = (2 : Int32) then (∃ k17 n17 : Nat, k17 ≤ (((bc - k6) - k9) - k13) ∧ n17 ≤ (((bs - n6) - n9) - n13) ∧ (wX4_number th (1 : Int32) (9 : Int32) k17 n17 s12 (fun r16 s16 => wX4_fact_71 Q T th (fr s12 a15 4) (fi s12 a15 5) r16 ((((bc - k6) - k9) - k13) - k17) ((((bs - n6) - n9) - n13) - n17) s16) T)) else (wX4_fact_71 Q T th (fr s12 a15 4) (fi s12 a15 5) (5 : Int32) (((bc - k6) - k9) - k13) (((bs - n6) - n9) - n13) s12)))) T))))))) T))
set_option maxHeartbeats 4000000 in
theorem BX4_fact_18 {l : Launch} {p : Program} {e : Env} {s : State} {m : MethodId} {args : Array Value} {below : List Frame} {meth : Method} {c : Code} {E : xx_E} {mc ms : Nat} {Q : XS → Prop} {T : Nat → XS → Prop} (cx : xx_X "StruckCounts$Reader" cX4_fact 1 none E p s m args meth c) (hnt : xnt c) : ∀ (th : Nat) (t0 : Option Nat) (t1 : Int32) (bc : Nat) (bs : Nat) (σ : XS), wX4_fact_18 Q T th t0 t1 bc bs σ → x_TT p l e ({ frames := 12, cells := mc, slots := ms, locals := 480 } : Room) s m args below meth c E T (va_Qv Q (fun σ' t => xW E σ' t) (xA E)) mc ms 1 18 bc bs σ [(0, xv E (some th))] [.int t1, xv E t0] := by
  intro th t0 t1 bc bs σ hw H locs ls cells slots hR hS hl hcb hsb
  unfold wX4_fact_18 at hw
  obtain ⟨hx, hb, hml, hown, hts, hrt, hlk, hMK, hZ⟩ := id cx
  refine lv_iconst (v := (4 : Int32)) hx hb dX4_fact_18 (by decide) ?_
  obtain ⟨a5, hr5, hk5, hw⟩ := hw
  obtain ⟨k6, n6, hb1, hb2, hw⟩ := hw
  refine CX4_must_X4_112T cx hnt hR hS hr5 hk5 hw ⟨Nat.le_of_ble_eq_true rfl, Nat.le_of_ble_eq_true rfl⟩ (Nat.le_of_ble_eq_true rfl) hl.1 ⟨by dsimp only; omega, by dsimp only; omega⟩ (xle (xadd hb1 hcb)) (xle (xadd hb2 hsb)) dX4_fact_19 (fun s4 H locs hw hR hS => ?_)
  have hcb := xadd hb1 hcb
  have hsb := xadd hb2 hsb
  refine x_aload_n cx dX4_fact_22 rfl (lv_at hl 0 rfl) ?_
  obtain ⟨hk8, hw⟩ := hw
  obtain ⟨k9, n9, hb1, hb2, hw⟩ := hw
  refine CX4_goes_X4_29 cx hR hS rfl hk8 hw ⟨Nat.le_of_ble_eq_true rfl, Nat.le_of_ble_eq_true rfl⟩ (Nat.le_of_ble_eq_true rfl) hl.1 ⟨by dsimp only; omega, by dsimp only; omega⟩ dX4_fact_23 (fun s7 H locs hw hR hS => ?_)
  have hcb := xadd hb1 hcb
  have hsb := xadd hb2 hsb
  refine x_aload_n cx dX4_fact_26 rfl (lv_at hl 0 rfl) ?_
  refine lv_iconst (v := (1 : Int32)) hx hb dX4_fact_27 (by decide) ?_
  refine x_aload_n cx dX4_fact_28 rfl (lv_at hl 0 rfl) ?_
  obtain ⟨hk10, hw⟩ := hw
  refine xg_X4_25_4 cx hR rfl hk10 dX4_fact_29 ?_
  obtain ⟨a11, hr11, hk11, hw⟩ := hw
  refine xg_X4_233_2 cx hR hr11 hk11 dX4_fact_32 ?_
  obtain ⟨k13, n13, hb1, hb2, hw⟩ := hw
  refine CX4_names_X4_282T cx hnt hR hS rfl hk10 hw ⟨Nat.le_of_ble_eq_true rfl, Nat.le_of_ble_eq_true rfl⟩ (Nat.le_of_ble_eq_true rfl) hl.1 ⟨by dsimp only; omega, by dsimp only; omega⟩ (xle (xadd hb1 hcb)) (xle (xadd hb2 hsb)) dX4_fact_35 (fun s12 H locs hw hR hS => ?_)
  have hcb := xadd hb1 hcb
  have hsb := xadd hb2 hsb
  refine x_aload_n cx dX4_fact_38 rfl (lv_at hl 0 rfl) ?_
  obtain ⟨hk14, hw⟩ := hw
  refine xg_X4_25_4 cx hR rfl hk14 dX4_fact_39 ?_
  obtain ⟨a15, hr15, hk15, hw⟩ := hw
  refine xg_X4_284_2 cx hR hr15 hk15 dX4_fact_42 ?_
  refine x_aload_n cx dX4_fact_45 rfl (lv_at hl 0 rfl) ?_
  refine xg_X4_25_4 cx hR rfl hk14 dX4_fact_46 ?_
  refine xg_X4_233_2 cx hR hr15 hk15 dX4_fact_49 ?_
  refine x_aload_n cx dX4_fact_52 rfl (lv_at hl 0 rfl) ?_
  refine xg_X4_45_4 cx hR rfl hk14 dX4_fact_53 ?_
  refine lv_iconst (v := (2 : Int32)) hx hb dX4_fact_56 (by decide) ?_
  refine lv_icmp_ne (tgt := 70) hx hb dX4_fact_57 (by decide) (fun hc => ?_) (fun hc => ?_)
  · have hw := mm_in hc hw
    refine lv_iconst (v := (5 : Int32)) hx hb dX4_fact_70 (by decide) ?_
    exact BX4_fact_71 cx hnt _ _ _ _ _ _ _ hw _ _ _ _ _ hR hS (lv_sub hl [0] rfl) hcb hsb
  · have hw := mm_ip hc hw
    refine x_aload_n cx dX4_fact_60 rfl (lv_at hl 0 rfl) ?_
    refine lv_iconst (v := (1 : Int32)) hx hb dX4_fact_61 (by decide) ?_
    refine lv_bipush (v := (9 : Int32)) hx hb dX4_fact_62 (by decide) ?_
    obtain ⟨k17, n17, hb1, hb2, hw⟩ := hw
    refine CX4_number_X4_215T cx hnt hR hS rfl hk14 hw ⟨Nat.le_of_ble_eq_true rfl, Nat.le_of_ble_eq_true rfl⟩ (Nat.le_of_ble_eq_true rfl) hl.1 ⟨by dsimp only; omega, by dsimp only; omega⟩ (xle (xadd hb1 hcb)) (xle (xadd hb2 hsb)) dX4_fact_64 (fun r16 s16 H locs hw hR hS => ?_)
    have hcb := xadd hb1 hcb
    have hsb := xadd hb2 hsb
    refine lv_goto (tgt := 71) hx hb dX4_fact_67 (by decide) ?_
    exact BX4_fact_71 cx hnt _ _ _ _ _ _ _ hw _ _ _ _ _ hR hS (lv_sub hl [0] rfl) hcb hsb
def wX4_fact (th : Nat) (bc : Nat) (bs : Nat) (σ : XS) (Q : XS → Prop) (T : Nat → XS → Prop) : Prop :=
  kd σ th = 4 ∧ (oc σ (fr σ th 2) 2 (fun a19 => if (8 : Int32) ≤ (fi σ a19 5) then (wX4_fact_18 Q T th (some th) (0 : Int32) bc bs σ) else (wX4_fact_18 Q T th (some th) (1 : Int32) bc bs σ)))
set_option maxHeartbeats 4000000 in
theorem MX4_fact (l : Launch) (E : xx_E) (th : Nat) (bc : Nat) (bs : Nat) (σ : XS) (Q : XS → Prop) (T : Nat → XS → Prop) (hw : wX4_fact th bc bs σ Q T) : xx_Tv l yX4_fact (ws_ yX4_fact cX4_fact 1 none) ({ frames := 12, cells := bc, slots := bs, locals := 480 } : Room) E [xv E (some th)] σ Q T bc bs := by
  refine x_ofT (own := "StruckCounts$Reader") (by decide +kernel) rfl ?_
  intro p e s m args below meth c cx hnt hR ha hnm
  refine x_entry [xv E (some th)] 1 [(0, xv E (some th))] ha (by simp [lg_sl, xv_cat, vc_i, vc_j, vc_f]) (by simp [lv_args, xv_cat, vc_i, vc_j, vc_f]) (fun ls hl => ?_)
  have hS : va_S (xA E) s.heap s.heap [] := va_S.rf
  have hcb : 0 + bc ≤ bc := Nat.le_of_eq (Nat.zero_add _)
  have hsb : 0 + bs ≤ bs := Nat.le_of_eq (Nat.zero_add _)
  unfold wX4_fact at hw
  obtain ⟨hx, hb, hml, hown, hts, hrt, hlk, hMK, hZ⟩ := id cx
  refine x_aload_n cx dX4_fact_0 rfl (lv_at hl 0 rfl) ?_
  refine x_aload_n cx dX4_fact_1 rfl (lv_at hl 0 rfl) ?_
  obtain ⟨hk18, hw⟩ := hw
  refine xg_X4_25_4 cx hR rfl hk18 dX4_fact_2 ?_
  obtain ⟨a19, hr19, hk19, hw⟩ := hw
  refine xg_X4_233_2 cx hR hr19 hk19 dX4_fact_5 ?_
  refine lv_bipush (v := (8 : Int32)) hx hb dX4_fact_8 (by decide) ?_
  refine lv_icmp_ge (tgt := 17) hx hb dX4_fact_10 (by decide) (fun hc => ?_) (fun hc => ?_)
  · have hw := mm_ip hc hw
    refine lv_iconst (v := (0 : Int32)) hx hb dX4_fact_17 (by decide) ?_
    exact BX4_fact_18 cx hnt _ _ _ _ _ _ hw _ _ _ _ _ hR hS (lv_sub hl [0] rfl) hcb hsb
  · have hw := mm_in hc hw
    refine lv_iconst (v := (1 : Int32)) hx hb dX4_fact_13 (by decide) ?_
    refine lv_goto (tgt := 18) hx hb dX4_fact_14 (by decide) ?_
    exact BX4_fact_18 cx hnt _ _ _ _ _ _ hw _ _ _ _ _ hR hS (lv_sub hl [0] rfl) hcb hsb
-- X4_line
theorem sw_r_0_6 : ∀ z : Int, 0 ≤ z → z ≤ 6 → ∃ c ∈ ([(0 : Int32), (1 : Int32), (2 : Int32), (3 : Int32), (4 : Int32), (5 : Int32), (6 : Int32)] : List Int32), c.toInt = z := by
  intro z h1 h2
  have h : z = 0 ∨ z = 1 ∨ z = 2 ∨ z = 3 ∨ z = 4 ∨ z = 5 ∨ z = 6 := by omega
  rcases h with rfl | rfl | rfl | rfl | rfl | rfl | rfl
  · exact ⟨0, by decide, by decide⟩
  · exact ⟨1, by decide, by decide⟩
  · exact ⟨2, by decide, by decide⟩
  · exact ⟨3, by decide, by decide⟩
  · exact ⟨4, by decide, by decide⟩
  · exact ⟨5, by decide, by decide⟩
  · exact ⟨6, by decide, by decide⟩
theorem xp_X4_277_2 {l : Launch} {p : Program} {e : Env} {R : Room} {s : State} {m : MethodId} {args : Array Value} {below : List Frame} {meth : Method} {c : Code} {H : Heap} {locs : List Loc} {cells slots : Nat} {Qz : State → Prop} {cc : ByteArray} {nL : Nat} {ret : Option FieldType} {E : xx_E} {σ : XS} {pc : Nat} {ls : Array Slot} {rest : List Value} (cx : xx_X "StruckCounts$Reader" cc nL ret E p s m args meth c) (hR : xR E σ H) (hS0 : va_S (xA E) s.heap H locs) {a : Nat} {r : Option Nat} {v : Int32} (hr : r = some a) (ha : xK ≤ a) (hk : kd σ a = 2) (hz : zb v) (hdg : decode cc pc = .ok (.putfield 277, 3)) (kk : ∀ (H1 : Heap) (locs1 : List Loc), xR E (pfi σ a 9 v) H1 → va_S (xA E) s.heap H1 locs1 → W p l e R s m args below meth c H1 locs1 cells slots Qz (F0 m (pc + 3) ls rest)) : W p l e R s m args below meth c H locs cells slots Qz (F0 m pc ls (.int v :: xv E r :: rest)) :=
  x_put (ci := 1) cx hR hS0 hr ha hk (by decide) rfl in_X1 tyX1 tyX1_ok nmX1 9 (by decide) (Or.inr (Or.inr ⟨_, (xx_nf_mem (i := 46) rfl), rfl⟩)) (fun _ h => h) (zb_nar hz) (by rcases hz with rfl | rfl <;> rfl) (xput_i rfl) hdg kk
theorem xp_X4_280_2 {l : Launch} {p : Program} {e : Env} {R : Room} {s : State} {m : MethodId} {args : Array Value} {below : List Frame} {meth : Method} {c : Code} {H : Heap} {locs : List Loc} {cells slots : Nat} {Qz : State → Prop} {cc : ByteArray} {nL : Nat} {ret : Option FieldType} {E : xx_E} {σ : XS} {pc : Nat} {ls : Array Slot} {rest : List Value} (cx : xx_X "StruckCounts$Reader" cc nL ret E p s m args meth c) (hR : xR E σ H) (hS0 : va_S (xA E) s.heap H locs) {a : Nat} {r : Option Nat} {v : Int32} (hr : r = some a) (ha : xK ≤ a) (hk : kd σ a = 2) (hdg : decode cc pc = .ok (.putfield 280, 3)) (kk : ∀ (H1 : Heap) (locs1 : List Loc), xR E (pfi σ a 8 v) H1 → va_S (xA E) s.heap H1 locs1 → W p l e R s m args below meth c H1 locs1 cells slots Qz (F0 m (pc + 3) ls rest)) : W p l e R s m args below meth c H locs cells slots Qz (F0 m pc ls (.int v :: xv E r :: rest)) :=
  x_put (ci := 1) cx hR hS0 hr ha hk (by decide) rfl in_X1 tyX1 tyX1_ok nmX1 8 (by decide) (Or.inr (Or.inr ⟨_, (xx_nf_mem (i := 45) rfl), rfl⟩)) (fun _ h => h) rfl rfl (xput_i rfl) hdg kk
theorem xg_X4_271_12 {l : Launch} {p : Program} {e : Env} {R : Room} {s : State} {m : MethodId} {args : Array Value} {below : List Frame} {meth : Method} {c : Code} {H : Heap} {locs : List Loc} {cells slots : Nat} {Qz : State → Prop} {cc : ByteArray} {nL : Nat} {ret : Option FieldType} {E : xx_E} {σ : XS} {pc : Nat} {ls : Array Slot} {rest : List Value} (cx : xx_X "StruckCounts$Reader" cc nL ret E p s m args meth c) (hR : xR E σ H) {a : Nat} {r : Option Nat} (hr : r = some a) (hk : kd σ a = 12) (hdg : decode cc pc = .ok (.getfield 271, 3)) (kk : W p l e R s m args below meth c H locs cells slots Qz (F0 m (pc + 3) ls (xv E (fr σ a 3) :: rest))) : W p l e R s m args below meth c H locs cells slots Qz (F0 m pc ls (xv E r :: rest)) :=
  x_getN (ci := 11) cx hR hr hk (by decide) rfl in_X12 3 (by decide) (xx_nf_mem (i := 50) rfl) (fun _ h => h) (v := xv E (fr σ a 3)) rfl hdg kk
theorem xg_X4_260_2 {l : Launch} {p : Program} {e : Env} {R : Room} {s : State} {m : MethodId} {args : Array Value} {below : List Frame} {meth : Method} {c : Code} {H : Heap} {locs : List Loc} {cells slots : Nat} {Qz : State → Prop} {cc : ByteArray} {nL : Nat} {ret : Option FieldType} {E : xx_E} {σ : XS} {pc : Nat} {ls : Array Slot} {rest : List Value} (cx : xx_X "StruckCounts$Reader" cc nL ret E p s m args meth c) (hR : xR E σ H) {a : Nat} {r : Option Nat} (hr : r = some a) (hk : kd σ a = 2) (hdg : decode cc pc = .ok (.getfield 260, 3)) (kk : W p l e R s m args below meth c H locs cells slots Qz (F0 m (pc + 3) ls (.int (fi σ a 6) :: rest))) : W p l e R s m args below meth c H locs cells slots Qz (F0 m pc ls (xv E r :: rest)) :=
  x_getN (ci := 1) cx hR hr hk (by decide) rfl in_X1 6 (by decide) (xx_nf_mem (i := 43) rfl) (fun _ h => h) (v := .int (fi σ a 6)) rfl hdg kk
theorem xp_X4_260_2 {l : Launch} {p : Program} {e : Env} {R : Room} {s : State} {m : MethodId} {args : Array Value} {below : List Frame} {meth : Method} {c : Code} {H : Heap} {locs : List Loc} {cells slots : Nat} {Qz : State → Prop} {cc : ByteArray} {nL : Nat} {ret : Option FieldType} {E : xx_E} {σ : XS} {pc : Nat} {ls : Array Slot} {rest : List Value} (cx : xx_X "StruckCounts$Reader" cc nL ret E p s m args meth c) (hR : xR E σ H) (hS0 : va_S (xA E) s.heap H locs) {a : Nat} {r : Option Nat} {v : Int32} (hr : r = some a) (ha : xK ≤ a) (hk : kd σ a = 2) (hdg : decode cc pc = .ok (.putfield 260, 3)) (kk : ∀ (H1 : Heap) (locs1 : List Loc), xR E (pfi σ a 6 v) H1 → va_S (xA E) s.heap H1 locs1 → W p l e R s m args below meth c H1 locs1 cells slots Qz (F0 m (pc + 3) ls rest)) : W p l e R s m args below meth c H locs cells slots Qz (F0 m pc ls (.int v :: xv E r :: rest)) :=
  x_put (ci := 1) cx hR hS0 hr ha hk (by decide) rfl in_X1 tyX1 tyX1_ok nmX1 6 (by decide) (Or.inr (Or.inr ⟨_, (xx_nf_mem (i := 43) rfl), rfl⟩)) (fun _ h => h) rfl rfl (xput_i rfl) hdg kk
theorem xg_X4_254_2 {l : Launch} {p : Program} {e : Env} {R : Room} {s : State} {m : MethodId} {args : Array Value} {below : List Frame} {meth : Method} {c : Code} {H : Heap} {locs : List Loc} {cells slots : Nat} {Qz : State → Prop} {cc : ByteArray} {nL : Nat} {ret : Option FieldType} {E : xx_E} {σ : XS} {pc : Nat} {ls : Array Slot} {rest : List Value} (cx : xx_X "StruckCounts$Reader" cc nL ret E p s m args meth c) (hR : xR E σ H) {a : Nat} {r : Option Nat} (hr : r = some a) (hk : kd σ a = 2) (hdg : decode cc pc = .ok (.getfield 254, 3)) (kk : W p l e R s m args below meth c H locs cells slots Qz (F0 m (pc + 3) ls (xv E (fr σ a 3) :: rest))) : W p l e R s m args below meth c H locs cells slots Qz (F0 m pc ls (xv E r :: rest)) :=
  x_getN (ci := 1) cx hR hr hk (by decide) rfl in_X1 3 (by decide) (xx_nf_mem (i := 40) rfl) (fun _ h => h) (v := xv E (fr σ a 3)) rfl hdg kk
theorem xg_X4_277_2 {l : Launch} {p : Program} {e : Env} {R : Room} {s : State} {m : MethodId} {args : Array Value} {below : List Frame} {meth : Method} {c : Code} {H : Heap} {locs : List Loc} {cells slots : Nat} {Qz : State → Prop} {cc : ByteArray} {nL : Nat} {ret : Option FieldType} {E : xx_E} {σ : XS} {pc : Nat} {ls : Array Slot} {rest : List Value} (cx : xx_X "StruckCounts$Reader" cc nL ret E p s m args meth c) (hR : xR E σ H) {a : Nat} {r : Option Nat} (hr : r = some a) (hk : kd σ a = 2) (hdg : decode cc pc = .ok (.getfield 277, 3)) (kk : W p l e R s m args below meth c H locs cells slots Qz (F0 m (pc + 3) ls (.int (fi σ a 9) :: rest))) : W p l e R s m args below meth c H locs cells slots Qz (F0 m pc ls (xv E r :: rest)) :=
  x_getN (ci := 1) cx hR hr hk (by decide) rfl in_X1 9 (by decide) (xx_nf_mem (i := 46) rfl) (fun _ h => h) (v := .int (fi σ a 9)) rfl hdg kk
theorem CX4_same_X4_275T {l : Launch} {p : Program} {e : Env} {R : Room} {s : State} {m : MethodId} {args : Array Value} {below : List Frame} {meth : Method} {c : Code} {H : Heap} {locs : List Loc} {cells slots : Nat} {cc : ByteArray} {nL : Nat} {ret : Option FieldType} {E : xx_E} {σ : XS} {pc : Nat} {ls : Array Slot} {rest : List Value} {th : Nat} {k n : Nat} {T : Nat → XS → Prop} {Qc : Array Value → State → Outcome → State → Prop} {MC MS : Nat} (cx : xx_X "StruckCounts$Reader" cc nL ret E p s m args meth c) (hnt : xnt c) (hR0 : xR E σ H) (hS0 : va_S (xA E) s.heap H locs) {r0 : Option Nat} (hr : r0 = some th) (hk : kd σ th = 4) {Qf : XS → Prop} (hw : wX4_same th k n σ Qf T) (hR : (({ frames := 13, cells := k, slots := n, locals := 520 } : Room)).frames + 1 ≤ R.frames ∧ 8 + (3 + 11) + (({ frames := 13, cells := k, slots := n, locals := 520 } : Room)).locals ≤ R.locals) (hrest : rest.length ≤ 4) (hsize : ls.size = nL) (hf : cells + k ≤ R.cells ∧ slots + n ≤ R.slots) (hc : cells + k ≤ MC) (hs : slots + n ≤ MS) (hdg : decode cc pc = .ok (.invokevirtual 275, 3))
    (kk : ∀ (σ1 : XS) (H1 : Heap) (locs1 : List Loc), Qf σ1 → xR E σ1 H1 → va_S (xA E) s.heap H1 locs1 → W p l e R s m args below meth c H1 locs1 (cells + k) (slots + n) (vx_MQ below Qc (xTX T E) args s MC MS (xA E)) (F0 m (pc + 3) ls rest)) : W p l e R s m args below meth c H locs cells slots (vx_MQ below Qc (xTX T E) args s MC MS (xA E)) (F0 m pc ls (xv E r0 :: rest)) := by
  subst hr
  obtain ⟨hx, hb, hml, hown, hts, hrt, hlk, hK, hZ⟩ := id cx
  exact x_goTv cx hnt (vx_runV (As := []) (rest := rest) (x_fix cx) (MX4_same l E th k n σ Qf T hw) (cwV 0 hts (lw_V q1859 q1861 qs31 q173 q1862) rfl rfl rfl (by decide +kernel) hR) (x_preV cx hR0 hS0 hk (by decide) (q := (RX4, TX4, 9)) rfl rfl []) rfl rfl hsize rfl (lv_room (xroom hrest)) hdg hf) hS0 hc hs kk
theorem CX4_says_X4_273T {l : Launch} {p : Program} {e : Env} {R : Room} {s : State} {m : MethodId} {args : Array Value} {below : List Frame} {meth : Method} {c : Code} {H : Heap} {locs : List Loc} {cells slots : Nat} {cc : ByteArray} {nL : Nat} {ret : Option FieldType} {E : xx_E} {σ : XS} {pc : Nat} {ls : Array Slot} {rest : List Value} {th : Nat} {k n : Nat} {T : Nat → XS → Prop} {Qc : Array Value → State → Outcome → State → Prop} {MC MS : Nat} (cx : xx_X "StruckCounts$Reader" cc nL ret E p s m args meth c) (hnt : xnt c) (hR0 : xR E σ H) (hS0 : va_S (xA E) s.heap H locs) {r0 : Option Nat} (hr : r0 = some th) (hk : kd σ th = 4) {Qf : XS → Prop} (hw : wX4_says th k n σ Qf T) (hR : (({ frames := 13, cells := k, slots := n, locals := 520 } : Room)).frames + 1 ≤ R.frames ∧ 8 + (4 + 11) + (({ frames := 13, cells := k, slots := n, locals := 520 } : Room)).locals ≤ R.locals) (hrest : rest.length ≤ 4) (hsize : ls.size = nL) (hf : cells + k ≤ R.cells ∧ slots + n ≤ R.slots) (hc : cells + k ≤ MC) (hs : slots + n ≤ MS) (hdg : decode cc pc = .ok (.invokevirtual 273, 3))
    (kk : ∀ (σ1 : XS) (H1 : Heap) (locs1 : List Loc), Qf σ1 → xR E σ1 H1 → va_S (xA E) s.heap H1 locs1 → W p l e R s m args below meth c H1 locs1 (cells + k) (slots + n) (vx_MQ below Qc (xTX T E) args s MC MS (xA E)) (F0 m (pc + 3) ls rest)) : W p l e R s m args below meth c H locs cells slots (vx_MQ below Qc (xTX T E) args s MC MS (xA E)) (F0 m pc ls (xv E r0 :: rest)) := by
  subst hr
  obtain ⟨hx, hb, hml, hown, hts, hrt, hlk, hK, hZ⟩ := id cx
  exact x_goTv cx hnt (vx_runV (As := []) (rest := rest) (x_fix cx) (MX4_says l E th k n σ Qf T hw) (cwV 0 hts (lw_V q1854 q1856 qs30 q173 q1857) rfl rfl rfl (by decide +kernel) hR) (x_preV cx hR0 hS0 hk (by decide) (q := (RX4, TX4, 9)) rfl rfl []) rfl rfl hsize rfl (lv_room (xroom hrest)) hdg hf) hS0 hc hs kk
theorem CX4_count_X4_258T {l : Launch} {p : Program} {e : Env} {R : Room} {s : State} {m : MethodId} {args : Array Value} {below : List Frame} {meth : Method} {c : Code} {H : Heap} {locs : List Loc} {cells slots : Nat} {cc : ByteArray} {nL : Nat} {ret : Option FieldType} {E : xx_E} {σ : XS} {pc : Nat} {ls : Array Slot} {rest : List Value} (d : Nat) {th : Nat} {k n : Nat} {T : Nat → XS → Prop} {Qc : Array Value → State → Outcome → State → Prop} {MC MS : Nat} (cx : xx_X "StruckCounts$Reader" cc nL ret E p s m args meth c) (hnt : xnt c) (hR0 : xR E σ H) (hS0 : va_S (xA E) s.heap H locs) {r0 : Option Nat} (hr : r0 = some th) (hk : kd σ th = 4) {Qf : XS → Prop} (hw : wX4_count d th k n σ Qf T) (hR : (({ frames := (16 + 4 * d), cells := k, slots := n, locals := 40 * (16 + 4 * d) } : Room)).frames + 1 ≤ R.frames ∧ 8 + (3 + 11) + (({ frames := (16 + 4 * d), cells := k, slots := n, locals := 40 * (16 + 4 * d) } : Room)).locals ≤ R.locals) (hrest : rest.length ≤ 4) (hsize : ls.size = nL) (hf : cells + k ≤ R.cells ∧ slots + n ≤ R.slots) (hc : cells + k ≤ MC) (hs : slots + n ≤ MS) (hdg : decode cc pc = .ok (.invokevirtual 258, 3))
    (kk : ∀ (σ1 : XS) (H1 : Heap) (locs1 : List Loc), Qf σ1 → xR E σ1 H1 → va_S (xA E) s.heap H1 locs1 → W p l e R s m args below meth c H1 locs1 (cells + k) (slots + n) (vx_MQ below Qc (xTX T E) args s MC MS (xA E)) (F0 m (pc + 3) ls rest)) : W p l e R s m args below meth c H locs cells slots (vx_MQ below Qc (xTX T E) args s MC MS (xA E)) (F0 m pc ls (xv E r0 :: rest)) := by
  subst hr
  obtain ⟨hx, hb, hml, hown, hts, hrt, hlk, hK, hZ⟩ := id cx
  exact x_goTv cx hnt (vx_runV (As := []) (rest := rest) (x_fix cx) (MX4_count l E d th k n σ Qf T hw) (cwV 0 hts (lw_V q1794 q1796 qs28 q173 q1797) rfl rfl rfl (by decide +kernel) hR) (x_preV cx hR0 hS0 hk (by decide) (q := (RX4, TX4, 9)) rfl rfl []) rfl rfl hsize rfl (lv_room (xroom hrest)) hdg hf) hS0 hc hs kk
theorem CX4_fact_X4_252T {l : Launch} {p : Program} {e : Env} {R : Room} {s : State} {m : MethodId} {args : Array Value} {below : List Frame} {meth : Method} {c : Code} {H : Heap} {locs : List Loc} {cells slots : Nat} {cc : ByteArray} {nL : Nat} {ret : Option FieldType} {E : xx_E} {σ : XS} {pc : Nat} {ls : Array Slot} {rest : List Value} {th : Nat} {k n : Nat} {T : Nat → XS → Prop} {Qc : Array Value → State → Outcome → State → Prop} {MC MS : Nat} (cx : xx_X "StruckCounts$Reader" cc nL ret E p s m args meth c) (hnt : xnt c) (hR0 : xR E σ H) (hS0 : va_S (xA E) s.heap H locs) {r0 : Option Nat} (hr : r0 = some th) (hk : kd σ th = 4) {Qf : XS → Prop} (hw : wX4_fact th k n σ Qf T) (hR : (({ frames := 12, cells := k, slots := n, locals := 480 } : Room)).frames + 1 ≤ R.frames ∧ 8 + (1 + 11) + (({ frames := 12, cells := k, slots := n, locals := 480 } : Room)).locals ≤ R.locals) (hrest : rest.length ≤ 4) (hsize : ls.size = nL) (hf : cells + k ≤ R.cells ∧ slots + n ≤ R.slots) (hc : cells + k ≤ MC) (hs : slots + n ≤ MS) (hdg : decode cc pc = .ok (.invokevirtual 252, 3))
    (kk : ∀ (σ1 : XS) (H1 : Heap) (locs1 : List Loc), Qf σ1 → xR E σ1 H1 → va_S (xA E) s.heap H1 locs1 → W p l e R s m args below meth c H1 locs1 (cells + k) (slots + n) (vx_MQ below Qc (xTX T E) args s MC MS (xA E)) (F0 m (pc + 3) ls rest)) : W p l e R s m args below meth c H locs cells slots (vx_MQ below Qc (xTX T E) args s MC MS (xA E)) (F0 m pc ls (xv E r0 :: rest)) := by
  subst hr
  obtain ⟨hx, hb, hml, hown, hts, hrt, hlk, hK, hZ⟩ := id cx
  exact x_goTv cx hnt (vx_runV (As := []) (rest := rest) (x_fix cx) (MX4_fact l E th k n σ Qf T hw) (cwV 0 hts (lw_V q1111 q1113 qs8 q173 q1114) rfl rfl rfl (by decide +kernel) hR) (x_preV cx hR0 hS0 hk (by decide) (q := (RX4, TX4, 9)) rfl rfl []) rfl rfl hsize rfl (lv_room (xroom hrest)) hdg hf) hS0 hc hs kk
def wX4_line_406 (d : Nat) (Q : XS → Prop) (T : Nat → XS → Prop) (th : Nat) (t0 : Option Nat) (t1 : Int32) (bc : Nat) (bs : Nat) (σ : XS) : Prop :=
  oc σ t0 4 (fun a2 => ∃ k3 n3 : Nat, k3 ≤ bc ∧ n3 ≤ bs ∧ (wX4_must a2 t1 (3 : Int32) k3 n3 σ (fun s1 => kd s1 th = 4 ∧ (oc s1 (fr s1 th 2) 2 (fun a5 => xK ≤ a5 ∧ (∃ k7 n7 : Nat, k7 ≤ (bc - k3) ∧ n7 ≤ (bs - n3) ∧ (wX4_goes th k7 n7 (pfi s1 a5 9 (1 : Int32)) (fun s6 => kd s6 th = 4 ∧ (∃ k10 n10 : Nat, k10 ≤ ((bc - k3) - k7) ∧ n10 ≤ ((bs - n3) - n7) ∧ (wX4_number th (1 : Int32) (999 : Int32) k10 n10 s6 (fun r9 s9 => oc s9 (fr s6 th 2) 2 (fun a11 => xK ≤ a11 ∧ (Q (pfi s9 a11 8 r9)))) T)))))))) T))
set_option maxHeartbeats 4000000 in
theorem BX4_line_406 {l : Launch} {p : Program} {e : Env} {s : State} {m : MethodId} {args : Array Value} {below : List Frame} {meth : Method} {c : Code} {E : xx_E} {mc ms : Nat} {Q : XS → Prop} {T : Nat → XS → Prop} (d : Nat) (cx : xx_X "StruckCounts$Reader" cX4_line 4 none E p s m args meth c) (hnt : xnt c) : ∀ (th : Nat) (t0 : Option Nat) (t1 : Int32) (bc : Nat) (bs : Nat) (σ : XS), wX4_line_406 d Q T th t0 t1 bc bs σ → x_TT p l e ({ frames := (17 + 4 * d), cells := mc, slots := ms, locals := 40 * (17 + 4 * d) } : Room) s m args below meth c E T (va_Qv Q (fun σ' t => xW E σ' t) (xA E)) mc ms 4 406 bc bs σ [(0, xv E (some th))] [.int t1, xv E t0] := by
  intro th t0 t1 bc bs σ hw H locs ls cells slots hR hS hl hcb hsb
  unfold wX4_line_406 at hw
  obtain ⟨hx, hb, hml, hown, hts, hrt, hlk, hMK, hZ⟩ := id cx
  refine lv_iconst (v := (3 : Int32)) hx hb dX4_line_406 (by decide) ?_
  obtain ⟨a2, hr2, hk2, hw⟩ := hw
  obtain ⟨k3, n3, hb1, hb2, hw⟩ := hw
  refine CX4_must_X4_112T cx hnt hR hS hr2 hk2 hw (by constructor <;> dsimp only <;> omega) (Nat.le_of_ble_eq_true rfl) hl.1 ⟨by dsimp only; omega, by dsimp only; omega⟩ (xle (xadd hb1 hcb)) (xle (xadd hb2 hsb)) dX4_line_407 (fun s1 H locs hw hR hS => ?_)
  have hcb := xadd hb1 hcb
  have hsb := xadd hb2 hsb
  refine x_aload_n cx dX4_line_410 rfl (lv_at hl 0 rfl) ?_
  obtain ⟨hk4, hw⟩ := hw
  refine xg_X4_25_4 cx hR rfl hk4 dX4_line_411 ?_
  refine lv_iconst (v := (1 : Int32)) hx hb dX4_line_414 (by decide) ?_
  obtain ⟨a5, hr5, hk5, hw⟩ := hw
  obtain ⟨hge_a5, hw⟩ := hw
  refine xp_X4_277_2 (v := (1 : Int32)) cx hR hS hr5 hge_a5 hk5 (Or.inr rfl) dX4_line_415 (fun H locs hR hS => ?_)
  refine x_aload_n cx dX4_line_418 rfl (lv_at hl 0 rfl) ?_
  obtain ⟨k7, n7, hb1, hb2, hw⟩ := hw
  refine CX4_goes_X4_29 cx hR hS rfl hk4 hw (by constructor <;> dsimp only <;> omega) (Nat.le_of_ble_eq_true rfl) hl.1 ⟨by dsimp only; omega, by dsimp only; omega⟩ dX4_line_419 (fun s6 H locs hw hR hS => ?_)
  have hcb := xadd hb1 hcb
  have hsb := xadd hb2 hsb
  refine x_aload_n cx dX4_line_422 rfl (lv_at hl 0 rfl) ?_
  obtain ⟨hk8, hw⟩ := hw
  refine xg_X4_25_4 cx hR rfl hk8 dX4_line_423 ?_
  refine x_aload_n cx dX4_line_426 rfl (lv_at hl 0 rfl) ?_
  refine lv_iconst (v := (1 : Int32)) hx hb dX4_line_427 (by decide) ?_
  refine lv_sipush (v := (999 : Int32)) hx hb dX4_line_428 (by decide) ?_
  obtain ⟨k10, n10, hb1, hb2, hw⟩ := hw
  refine CX4_number_X4_215T cx hnt hR hS rfl hk8 hw (by constructor <;> dsimp only <;> omega) (Nat.le_of_ble_eq_true rfl) hl.1 ⟨by dsimp only; omega, by dsimp only; omega⟩ (xle (xadd hb1 hcb)) (xle (xadd hb2 hsb)) dX4_line_431 (fun r9 s9 H locs hw hR hS => ?_)
  have hcb := xadd hb1 hcb
  have hsb := xadd hb2 hsb
  obtain ⟨a11, hr11, hk11, hw⟩ := hw
  obtain ⟨hge_a11, hw⟩ := hw
  refine xp_X4_280_2 (v := r9) cx hR hS hr11 hge_a11 hk11 dX4_line_434 (fun H locs hR hS => ?_)
  refine lv_goto (tgt := 446) hx hb dX4_line_437 (by decide) ?_
  exact vx_ret (x_vret cx hR hS (xle hcb) (xle hsb) hw dX4_line_446)
def wX4_line_315 (d : Nat) (Q : XS → Prop) (T : Nat → XS → Prop) (th : Nat) (t0 : Option Nat) (t1 : Int32) (bc : Nat) (bs : Nat) (σ : XS) : Prop :=
  oc σ t0 4 (fun a13 => ∃ k14 n14 : Nat, k14 ≤ bc ∧ n14 ≤ bs ∧ (wX4_must a13 t1 (4 : Int32) k14 n14 σ (fun s12 => kd s12 th = 4 ∧ (∃ k17 n17 : Nat, k17 ≤ (bc - k14) ∧ n17 ≤ (bs - n14) ∧ (wX4_goes th k17 n17 s12 (fun s15 => kd s15 th = 4 ∧ (oc s15 (fr s15 th 2) 2 (fun a19 => ∃ k21 n21 : Nat, k21 ≤ ((bc - k14) - k17) ∧ n21 ≤ ((bs - n14) - n17) ∧ (wX4_counted th k21 n21 s15 (fun r20 s20 => oc s20 (fr s15 a19 2) 16 (fun a23 => wJ7_get a23 r20 s20 (fun r22 s22 => xck [12] s22 r22 ∧ (oc s22 r22 12 (fun a24 => 1 ≤ (((bc - k14) - k17) - k21) ∧ 2 ≤ (((bs - n14) - n17) - n21) ∧ (kd (xal s22 13 0) th = 4 ∧ (∃ k27 n27 : Nat, k27 ≤ ((((bc - k14) - k17) - k21) - 1) ∧ n27 ≤ ((((bs - n14) - n17) - n21) - 2) ∧ (wX4_any (wX4_one d) th k27 n27 (xal s22 13 0) (fun r25 s25 => kd s25 (xn s22) = 13 ∧ (∃ k30 n30 : Nat, k30 ≤ (((((bc - k14) - k17) - k21) - 1) - k27) ∧ n30 ≤ (((((bs - n14) - n17) - n21) - 2) - n27) ∧ (wX13_init (xn s22) r25 k30 n30 s25 (fun s28 => oc s28 (fr s22 a24 3) 16 (fun a32 => ∃ k33 n33 : Nat, k33 ≤ ((((((bc - k14) - k17) - k21) - 1) - k27) - k30) ∧ n33 ≤ ((((((bs - n14) - n17) - n21) - 2) - n27) - n30) ∧ (wJ7_add a32 (some (xn s22)) k33 n33 s28 (fun r31 s31 => kd s31 th = 4 ∧ (oc s31 (fr s31 th 2) 2 (fun a35 => xK ≤ a35 ∧ (Q (pfi s31 a35 6 ((fi s31 a35 6) + (1 : Int32))))))))))))) T)))))))) T))))))) T))
set_option maxHeartbeats 4000000 in
theorem BX4_line_315 {l : Launch} {p : Program} {e : Env} {s : State} {m : MethodId} {args : Array Value} {below : List Frame} {meth : Method} {c : Code} {E : xx_E} {mc ms : Nat} {Q : XS → Prop} {T : Nat → XS → Prop} (d : Nat) (cx : xx_X "StruckCounts$Reader" cX4_line 4 none E p s m args meth c) (hnt : xnt c) : ∀ (th : Nat) (t0 : Option Nat) (t1 : Int32) (bc : Nat) (bs : Nat) (σ : XS), wX4_line_315 d Q T th t0 t1 bc bs σ → x_TT p l e ({ frames := (17 + 4 * d), cells := mc, slots := ms, locals := 40 * (17 + 4 * d) } : Room) s m args below meth c E T (va_Qv Q (fun σ' t => xW E σ' t) (xA E)) mc ms 4 315 bc bs σ [(0, xv E (some th))] [.int t1, xv E t0] := by
  intro th t0 t1 bc bs σ hw H locs ls cells slots hR hS hl hcb hsb
  unfold wX4_line_315 at hw
  obtain ⟨hx, hb, hml, hown, hts, hrt, hlk, hMK, hZ⟩ := id cx
  refine lv_iconst (v := (4 : Int32)) hx hb dX4_line_315 (by decide) ?_
  obtain ⟨a13, hr13, hk13, hw⟩ := hw
  obtain ⟨k14, n14, hb1, hb2, hw⟩ := hw
  refine CX4_must_X4_112T cx hnt hR hS hr13 hk13 hw (by constructor <;> dsimp only <;> omega) (Nat.le_of_ble_eq_true rfl) hl.1 ⟨by dsimp only; omega, by dsimp only; omega⟩ (xle (xadd hb1 hcb)) (xle (xadd hb2 hsb)) dX4_line_316 (fun s12 H locs hw hR hS => ?_)
  have hcb := xadd hb1 hcb
  have hsb := xadd hb2 hsb
  refine x_aload_n cx dX4_line_319 rfl (lv_at hl 0 rfl) ?_
  obtain ⟨hk16, hw⟩ := hw
  obtain ⟨k17, n17, hb1, hb2, hw⟩ := hw
  refine CX4_goes_X4_29 cx hR hS rfl hk16 hw (by constructor <;> dsimp only <;> omega) (Nat.le_of_ble_eq_true rfl) hl.1 ⟨by dsimp only; omega, by dsimp only; omega⟩ dX4_line_320 (fun s15 H locs hw hR hS => ?_)
  have hcb := xadd hb1 hcb
  have hsb := xadd hb2 hsb
  refine x_aload_n cx dX4_line_323 rfl (lv_at hl 0 rfl) ?_
  obtain ⟨hk18, hw⟩ := hw
  refine xg_X4_25_4 cx hR rfl hk18 dX4_line_324 ?_
  obtain ⟨a19, hr19, hk19, hw⟩ := hw
  refine xg_X4_263_2 cx hR hr19 hk19 dX4_line_327 ?_
  refine x_aload_n cx dX4_line_330 rfl (lv_at hl 0 rfl) ?_
  obtain ⟨k21, n21, hb1, hb2, hw⟩ := hw
  refine CX4_counted_X4_266T cx hnt hR hS rfl hk18 hw (by constructor <;> dsimp only <;> omega) (Nat.le_of_ble_eq_true rfl) hl.1 ⟨by dsimp only; omega, by dsimp only; omega⟩ (xle (xadd hb1 hcb)) (xle (xadd hb2 hsb)) dX4_line_331 (fun r20 s20 H locs hw hR hS => ?_)
  have hcb := xadd hb1 hcb
  have hsb := xadd hb2 hsb
  obtain ⟨a23, hr23, hk23, hw⟩ := hw
  refine CJ7_get_X4_168 cx hR hS hr23 hk23 hw (by constructor <;> dsimp only <;> omega) (Nat.le_of_ble_eq_true rfl) hl.1 ⟨by dsimp only; omega, by dsimp only; omega⟩ dX4_line_334 (fun r22 s22 H locs hw hR hS => ?_)
  obtain ⟨hv, hw⟩ := hw
  refine x_cast cx hR q1798 (xcc_2 hv) dX4_line_337 ?_
  refine x_astore_n (i := 3) (r := r22) (lv' := [(3, xv E r22), (0, xv E (some th))]) cx dX4_line_340 rfl hl (by decide) rfl (fun ls hl => ?_)
  refine x_aload_n cx dX4_line_341 rfl (lv_at hl 0 rfl) ?_
  obtain ⟨a24, hr24, hk24, hw⟩ := hw
  refine xg_X4_271_12 cx hR hr24 hk24 dX4_line_342 ?_
  obtain ⟨hb1, hb2, hw⟩ := hw
  refine xn_X4_230 cx hR hS (by dsimp only; omega) (by dsimp only; omega) dX4_line_345 (fun H hR hS => ?_)
  have hcb := xadd hb1 hcb
  have hsb := xadd hb2 hsb
  refine lv_dup hx hb dX4_line_348 (xv_cat _ _) ?_
  refine x_aload_n cx dX4_line_349 rfl (lv_at hl 1 rfl) ?_
  obtain ⟨hk26, hw⟩ := hw
  obtain ⟨k27, n27, hb1, hb2, hw⟩ := hw
  refine CX4_any_X4_198T d (MX4_one l E d) cx hnt hR hS rfl hk26 hw (by constructor <;> dsimp only <;> omega) (Nat.le_of_ble_eq_true rfl) hl.1 ⟨by dsimp only; omega, by dsimp only; omega⟩ (xle (xadd hb1 hcb)) (xle (xadd hb2 hsb)) dX4_line_350 (fun r25 s25 H locs hw hR hS => ?_)
  have hcb := xadd hb1 hcb
  have hsb := xadd hb2 hsb
  obtain ⟨hk29, hw⟩ := hw
  obtain ⟨k30, n30, hb1, hb2, hw⟩ := hw
  refine CX13_init_X4_232 cx hR hS rfl hk29 hw (by constructor <;> dsimp only <;> omega) (Nat.le_of_ble_eq_true rfl) hl.1 ⟨by dsimp only; omega, by dsimp only; omega⟩ dX4_line_353 (fun s28 H locs hw hR hS => ?_)
  have hcb := xadd hb1 hcb
  have hsb := xadd hb2 hsb
  obtain ⟨a32, hr32, hk32, hw⟩ := hw
  obtain ⟨k33, n33, hb1, hb2, hw⟩ := hw
  refine CJ7_add_X4_163 cx hR hS hr32 hk32 hw (by constructor <;> dsimp only <;> omega) (Nat.le_of_ble_eq_true rfl) hl.1 ⟨by dsimp only; omega, by dsimp only; omega⟩ dX4_line_356 (fun r31 s31 H locs hw hR hS => ?_)
  have hcb := xadd hb1 hcb
  have hsb := xadd hb2 hsb
  refine lv_pop hx hb dX4_line_359 rfl ?_
  refine x_aload_n cx dX4_line_360 rfl (lv_at hl 1 rfl) ?_
  obtain ⟨hk34, hw⟩ := hw
  refine xg_X4_25_4 cx hR rfl hk34 dX4_line_361 ?_
  refine lv_dup hx hb dX4_line_364 (xv_cat _ _) ?_
  obtain ⟨a35, hr35, hk35, hw⟩ := hw
  refine xg_X4_260_2 cx hR hr35 hk35 dX4_line_365 ?_
  refine lv_iconst (v := (1 : Int32)) hx hb dX4_line_368 (by decide) ?_
  refine lv_iadd hx hb dX4_line_369 ?_
  obtain ⟨hge_a35, hw⟩ := hw
  refine xp_X4_260_2 (v := ((fi s31 a35 6) + (1 : Int32))) cx hR hS hr35 hge_a35 hk35 dX4_line_370 (fun H locs hR hS => ?_)
  refine lv_goto (tgt := 446) hx hb dX4_line_373 (by decide) ?_
  exact vx_ret (x_vret cx hR hS (xle hcb) (xle hsb) hw dX4_line_446)
def wX4_line_264 (d : Nat) (Q : XS → Prop) (T : Nat → XS → Prop) (th : Nat) (t0 : Option Nat) (t1 : Int32) (bc : Nat) (bs : Nat) (σ : XS) : Prop :=
  oc σ t0 4 (fun a37 => ∃ k38 n38 : Nat, k38 ≤ bc ∧ n38 ≤ bs ∧ (wX4_must a37 t1 (4 : Int32) k38 n38 σ (fun s36 => kd s36 th = 4 ∧ (∃ k41 n41 : Nat, k41 ≤ (bc - k38) ∧ n41 ≤ (bs - n38) ∧ (wX4_goes th k41 n41 s36 (fun s39 => kd s39 th = 4 ∧ (oc s39 (fr s39 th 2) 2 (fun a43 => ∃ k45 n45 : Nat, k45 ≤ ((bc - k38) - k41) ∧ n45 ≤ ((bs - n38) - n41) ∧ (wX4_any (wX4_one d) th k45 n45 s39 (fun r44 s44 => oc s44 (fr s39 a43 3) 16 (fun a47 => ∃ k48 n48 : Nat, k48 ≤ (((bc - k38) - k41) - k45) ∧ n48 ≤ (((bs - n38) - n41) - n45) ∧ (wJ7_add a47 r44 k48 n48 s44 (fun r46 s46 => Q s46)))) T))))))) T))
set_option maxHeartbeats 4000000 in
theorem BX4_line_264 {l : Launch} {p : Program} {e : Env} {s : State} {m : MethodId} {args : Array Value} {below : List Frame} {meth : Method} {c : Code} {E : xx_E} {mc ms : Nat} {Q : XS → Prop} {T : Nat → XS → Prop} (d : Nat) (cx : xx_X "StruckCounts$Reader" cX4_line 4 none E p s m args meth c) (hnt : xnt c) : ∀ (th : Nat) (t0 : Option Nat) (t1 : Int32) (bc : Nat) (bs : Nat) (σ : XS), wX4_line_264 d Q T th t0 t1 bc bs σ → x_TT p l e ({ frames := (17 + 4 * d), cells := mc, slots := ms, locals := 40 * (17 + 4 * d) } : Room) s m args below meth c E T (va_Qv Q (fun σ' t => xW E σ' t) (xA E)) mc ms 4 264 bc bs σ [(0, xv E (some th))] [.int t1, xv E t0] := by
  intro th t0 t1 bc bs σ hw H locs ls cells slots hR hS hl hcb hsb
  unfold wX4_line_264 at hw
  obtain ⟨hx, hb, hml, hown, hts, hrt, hlk, hMK, hZ⟩ := id cx
  refine lv_iconst (v := (4 : Int32)) hx hb dX4_line_264 (by decide) ?_
  obtain ⟨a37, hr37, hk37, hw⟩ := hw
  obtain ⟨k38, n38, hb1, hb2, hw⟩ := hw
  refine CX4_must_X4_112T cx hnt hR hS hr37 hk37 hw (by constructor <;> dsimp only <;> omega) (Nat.le_of_ble_eq_true rfl) hl.1 ⟨by dsimp only; omega, by dsimp only; omega⟩ (xle (xadd hb1 hcb)) (xle (xadd hb2 hsb)) dX4_line_265 (fun s36 H locs hw hR hS => ?_)
  have hcb := xadd hb1 hcb
  have hsb := xadd hb2 hsb
  refine x_aload_n cx dX4_line_268 rfl (lv_at hl 0 rfl) ?_
  obtain ⟨hk40, hw⟩ := hw
  obtain ⟨k41, n41, hb1, hb2, hw⟩ := hw
  refine CX4_goes_X4_29 cx hR hS rfl hk40 hw (by constructor <;> dsimp only <;> omega) (Nat.le_of_ble_eq_true rfl) hl.1 ⟨by dsimp only; omega, by dsimp only; omega⟩ dX4_line_269 (fun s39 H locs hw hR hS => ?_)
  have hcb := xadd hb1 hcb
  have hsb := xadd hb2 hsb
  refine x_aload_n cx dX4_line_272 rfl (lv_at hl 0 rfl) ?_
  obtain ⟨hk42, hw⟩ := hw
  refine xg_X4_25_4 cx hR rfl hk42 dX4_line_273 ?_
  obtain ⟨a43, hr43, hk43, hw⟩ := hw
  refine xg_X4_254_2 cx hR hr43 hk43 dX4_line_276 ?_
  refine x_aload_n cx dX4_line_279 rfl (lv_at hl 0 rfl) ?_
  obtain ⟨k45, n45, hb1, hb2, hw⟩ := hw
  refine CX4_any_X4_198T d (MX4_one l E d) cx hnt hR hS rfl hk42 hw (by constructor <;> dsimp only <;> omega) (Nat.le_of_ble_eq_true rfl) hl.1 ⟨by dsimp only; omega, by dsimp only; omega⟩ (xle (xadd hb1 hcb)) (xle (xadd hb2 hsb)) dX4_line_280 (fun r44 s44 H locs hw hR hS => ?_)
  have hcb := xadd hb1 hcb
  have hsb := xadd hb2 hsb
  obtain ⟨a47, hr47, hk47, hw⟩ := hw
  obtain ⟨k48, n48, hb1, hb2, hw⟩ := hw
  refine CJ7_add_X4_163 cx hR hS hr47 hk47 hw (by constructor <;> dsimp only <;> omega) (Nat.le_of_ble_eq_true rfl) hl.1 ⟨by dsimp only; omega, by dsimp only; omega⟩ dX4_line_283 (fun r46 s46 H locs hw hR hS => ?_)
  have hcb := xadd hb1 hcb
  have hsb := xadd hb2 hsb
  refine lv_pop hx hb dX4_line_286 rfl ?_
  refine lv_goto (tgt := 446) hx hb dX4_line_287 (by decide) ?_
  exact vx_ret (x_vret cx hR hS (xle hcb) (xle hsb) hw dX4_line_446)
def wX4_line_192 (d : Nat) (Q : XS → Prop) (T : Nat → XS → Prop) (th : Nat) (x2 : Int32) (bc : Nat) (bs : Nat) (σ : XS) : Prop :=
  if x2 = 0 then (kd σ th = 4 ∧ (∃ k51 n51 : Nat, k51 ≤ bc ∧ n51 ≤ bs ∧ (wX4_fact th k51 n51 σ (fun s49 => Q s49) T))) else (if x2 = 1 then (kd σ th = 4 ∧ (oc σ (fr σ th 2) 2 (fun a53 => oc σ (fr σ a53 3) 16 (fun a55 => wJ7_size a55 σ (fun r54 s54 => if (6 : Int32) ≤ r54 then (wX4_line_264 d Q T th (some th) (0 : Int32) bc bs s54) else (wX4_line_264 d Q T th (some th) (1 : Int32) bc bs s54)))))) else (if x2 = 2 then (kd σ th = 4 ∧ (∃ k58 n58 : Nat, k58 ≤ bc ∧ n58 ≤ bs ∧ (wX4_count d th k58 n58 σ (fun s56 => Q s56) T))) else (if x2 = 3 then (kd σ th = 4 ∧ (oc σ (fr σ th 2) 2 (fun a60 => if (6 : Int32) ≤ (fi σ a60 6) then (wX4_line_315 d Q T th (some th) (0 : Int32) bc bs σ) else (wX4_line_315 d Q T th (some th) (1 : Int32) bc bs σ)))) else (if x2 = 4 then (kd σ th = 4 ∧ (∃ k63 n63 : Nat, k63 ≤ bc ∧ n63 ≤ bs ∧ (wX4_says th k63 n63 σ (fun s61 => Q s61) T))) else (if x2 = 5 then (kd σ th = 4 ∧ (∃ k66 n66 : Nat, k66 ≤ bc ∧ n66 ≤ bs ∧ (wX4_same th k66 n66 σ (fun s64 => Q s64) T))) else (if x2 = 6 then (kd σ th = 4 ∧ (oc σ (fr σ th 2) 2 (fun a68 => if (fi σ a68 9) = 0 then (wX4_line_406 d Q T th (some th) (1 : Int32) bc bs σ) else (wX4_line_406 d Q T th (some th) (0 : Int32) bc bs σ)))) else (kd σ th = 4 ∧ (∃ k71 n71 : Nat, k71 ≤ bc ∧ n71 ≤ bs ∧ (wX4_must th (0 : Int32) (1 : Int32) k71 n71 σ (fun s69 => Q s69) T)))))))))
set_option maxHeartbeats 4000000 in
theorem BX4_line_192 {l : Launch} {p : Program} {e : Env} {s : State} {m : MethodId} {args : Array Value} {below : List Frame} {meth : Method} {c : Code} {E : xx_E} {mc ms : Nat} {Q : XS → Prop} {T : Nat → XS → Prop} (d : Nat) (cx : xx_X "StruckCounts$Reader" cX4_line 4 none E p s m args meth c) (hnt : xnt c) : ∀ (th : Nat) (x2 : Int32) (bc : Nat) (bs : Nat) (σ : XS), wX4_line_192 d Q T th x2 bc bs σ → x_TT p l e ({ frames := (17 + 4 * d), cells := mc, slots := ms, locals := 40 * (17 + 4 * d) } : Room) s m args below meth c E T (va_Qv Q (fun σ' t => xW E σ' t) (xA E)) mc ms 4 192 bc bs σ [(0, xv E (some th)), (2, .int x2)] [] := by
  intro th x2 bc bs σ hw H locs ls cells slots hR hS hl hcb hsb
  unfold wX4_line_192 at hw
  obtain ⟨hx, hb, hml, hown, hts, hrt, hlk, hMK, hZ⟩ := id cx
  refine lv_iload_n hx hb dX4_line_192 rfl (lv_at hl 1 rfl) ?_
  by_cases hc0 : x2 = 0
  · have hw := mm_ip hc0 hw
    refine lv_tableIn (off := 43) (tgt := 236) hx hb dX4_line_193 (by rw [hc0]; decide) (by rw [hc0]; decide) (by rw [hc0]; decide) (by decide) ?_
    refine x_aload_n cx dX4_line_236 rfl (lv_at hl 0 rfl) ?_
    obtain ⟨hk50, hw⟩ := hw
    obtain ⟨k51, n51, hb1, hb2, hw⟩ := hw
    refine CX4_fact_X4_252T cx hnt hR hS rfl hk50 hw (by constructor <;> dsimp only <;> omega) (Nat.le_of_ble_eq_true rfl) hl.1 ⟨by dsimp only; omega, by dsimp only; omega⟩ (xle (xadd hb1 hcb)) (xle (xadd hb2 hsb)) dX4_line_237 (fun s49 H locs hw hR hS => ?_)
    have hcb := xadd hb1 hcb
    have hsb := xadd hb2 hsb
    refine lv_goto (tgt := 446) hx hb dX4_line_240 (by decide) ?_
    exact vx_ret (x_vret cx hR hS (xle hcb) (xle hsb) hw dX4_line_446)
  have hw := mm_in hc0 hw
  by_cases hc1 : x2 = 1
  · have hw := mm_ip hc1 hw
    refine lv_tableIn (off := 50) (tgt := 243) hx hb dX4_line_193 (by rw [hc1]; decide) (by rw [hc1]; decide) (by rw [hc1]; decide) (by decide) ?_
    refine x_aload_n cx dX4_line_243 rfl (lv_at hl 0 rfl) ?_
    refine x_aload_n cx dX4_line_244 rfl (lv_at hl 0 rfl) ?_
    obtain ⟨hk52, hw⟩ := hw
    refine xg_X4_25_4 cx hR rfl hk52 dX4_line_245 ?_
    obtain ⟨a53, hr53, hk53, hw⟩ := hw
    refine xg_X4_254_2 cx hR hr53 hk53 dX4_line_248 ?_
    obtain ⟨a55, hr55, hk55, hw⟩ := hw
    refine CJ7_size_X4_166 cx hR hS hr55 hk55 hw (by constructor <;> dsimp only <;> omega) (Nat.le_of_ble_eq_true rfl) hl.1 ⟨by dsimp only; omega, by dsimp only; omega⟩ dX4_line_251 (fun r54 s54 H locs hw hR hS => ?_)
    refine lv_bipush (v := (6 : Int32)) hx hb dX4_line_254 (by decide) ?_
    refine lv_icmp_ge (tgt := 263) hx hb dX4_line_256 (by decide) (fun hc => ?_) (fun hc => ?_)
    · have hw := mm_ip hc hw
      refine lv_iconst (v := (0 : Int32)) hx hb dX4_line_263 (by decide) ?_
      exact BX4_line_264 d cx hnt _ _ _ _ _ _ hw _ _ _ _ _ hR hS (lv_sub hl [0] rfl) hcb hsb
    · have hw := mm_in hc hw
      refine lv_iconst (v := (1 : Int32)) hx hb dX4_line_259 (by decide) ?_
      refine lv_goto (tgt := 264) hx hb dX4_line_260 (by decide) ?_
      exact BX4_line_264 d cx hnt _ _ _ _ _ _ hw _ _ _ _ _ hR hS (lv_sub hl [0] rfl) hcb hsb
  have hw := mm_in hc1 hw
  by_cases hc2 : x2 = 2
  · have hw := mm_ip hc2 hw
    refine lv_tableIn (off := 97) (tgt := 290) hx hb dX4_line_193 (by rw [hc2]; decide) (by rw [hc2]; decide) (by rw [hc2]; decide) (by decide) ?_
    refine x_aload_n cx dX4_line_290 rfl (lv_at hl 0 rfl) ?_
    obtain ⟨hk57, hw⟩ := hw
    obtain ⟨k58, n58, hb1, hb2, hw⟩ := hw
    refine CX4_count_X4_258T d cx hnt hR hS rfl hk57 hw (by constructor <;> dsimp only <;> omega) (Nat.le_of_ble_eq_true rfl) hl.1 ⟨by dsimp only; omega, by dsimp only; omega⟩ (xle (xadd hb1 hcb)) (xle (xadd hb2 hsb)) dX4_line_291 (fun s56 H locs hw hR hS => ?_)
    have hcb := xadd hb1 hcb
    have hsb := xadd hb2 hsb
    refine lv_goto (tgt := 446) hx hb dX4_line_294 (by decide) ?_
    exact vx_ret (x_vret cx hR hS (xle hcb) (xle hsb) hw dX4_line_446)
  have hw := mm_in hc2 hw
  by_cases hc3 : x2 = 3
  · have hw := mm_ip hc3 hw
    refine lv_tableIn (off := 104) (tgt := 297) hx hb dX4_line_193 (by rw [hc3]; decide) (by rw [hc3]; decide) (by rw [hc3]; decide) (by decide) ?_
    refine x_aload_n cx dX4_line_297 rfl (lv_at hl 0 rfl) ?_
    refine x_aload_n cx dX4_line_298 rfl (lv_at hl 0 rfl) ?_
    obtain ⟨hk59, hw⟩ := hw
    refine xg_X4_25_4 cx hR rfl hk59 dX4_line_299 ?_
    obtain ⟨a60, hr60, hk60, hw⟩ := hw
    refine xg_X4_260_2 cx hR hr60 hk60 dX4_line_302 ?_
    refine lv_bipush (v := (6 : Int32)) hx hb dX4_line_305 (by decide) ?_
    refine lv_icmp_ge (tgt := 314) hx hb dX4_line_307 (by decide) (fun hc => ?_) (fun hc => ?_)
    · have hw := mm_ip hc hw
      refine lv_iconst (v := (0 : Int32)) hx hb dX4_line_314 (by decide) ?_
      exact BX4_line_315 d cx hnt _ _ _ _ _ _ hw _ _ _ _ _ hR hS (lv_sub hl [0] rfl) hcb hsb
    · have hw := mm_in hc hw
      refine lv_iconst (v := (1 : Int32)) hx hb dX4_line_310 (by decide) ?_
      refine lv_goto (tgt := 315) hx hb dX4_line_311 (by decide) ?_
      exact BX4_line_315 d cx hnt _ _ _ _ _ _ hw _ _ _ _ _ hR hS (lv_sub hl [0] rfl) hcb hsb
  have hw := mm_in hc3 hw
  by_cases hc4 : x2 = 4
  · have hw := mm_ip hc4 hw
    refine lv_tableIn (off := 183) (tgt := 376) hx hb dX4_line_193 (by rw [hc4]; decide) (by rw [hc4]; decide) (by rw [hc4]; decide) (by decide) ?_
    refine x_aload_n cx dX4_line_376 rfl (lv_at hl 0 rfl) ?_
    obtain ⟨hk62, hw⟩ := hw
    obtain ⟨k63, n63, hb1, hb2, hw⟩ := hw
    refine CX4_says_X4_273T cx hnt hR hS rfl hk62 hw (by constructor <;> dsimp only <;> omega) (Nat.le_of_ble_eq_true rfl) hl.1 ⟨by dsimp only; omega, by dsimp only; omega⟩ (xle (xadd hb1 hcb)) (xle (xadd hb2 hsb)) dX4_line_377 (fun s61 H locs hw hR hS => ?_)
    have hcb := xadd hb1 hcb
    have hsb := xadd hb2 hsb
    refine lv_goto (tgt := 446) hx hb dX4_line_380 (by decide) ?_
    exact vx_ret (x_vret cx hR hS (xle hcb) (xle hsb) hw dX4_line_446)
  have hw := mm_in hc4 hw
  by_cases hc5 : x2 = 5
  · have hw := mm_ip hc5 hw
    refine lv_tableIn (off := 190) (tgt := 383) hx hb dX4_line_193 (by rw [hc5]; decide) (by rw [hc5]; decide) (by rw [hc5]; decide) (by decide) ?_
    refine x_aload_n cx dX4_line_383 rfl (lv_at hl 0 rfl) ?_
    obtain ⟨hk65, hw⟩ := hw
    obtain ⟨k66, n66, hb1, hb2, hw⟩ := hw
    refine CX4_same_X4_275T cx hnt hR hS rfl hk65 hw (by constructor <;> dsimp only <;> omega) (Nat.le_of_ble_eq_true rfl) hl.1 ⟨by dsimp only; omega, by dsimp only; omega⟩ (xle (xadd hb1 hcb)) (xle (xadd hb2 hsb)) dX4_line_384 (fun s64 H locs hw hR hS => ?_)
    have hcb := xadd hb1 hcb
    have hsb := xadd hb2 hsb
    refine lv_goto (tgt := 446) hx hb dX4_line_387 (by decide) ?_
    exact vx_ret (x_vret cx hR hS (xle hcb) (xle hsb) hw dX4_line_446)
  have hw := mm_in hc5 hw
  by_cases hc6 : x2 = 6
  · have hw := mm_ip hc6 hw
    refine lv_tableIn (off := 197) (tgt := 390) hx hb dX4_line_193 (by rw [hc6]; decide) (by rw [hc6]; decide) (by rw [hc6]; decide) (by decide) ?_
    refine x_aload_n cx dX4_line_390 rfl (lv_at hl 0 rfl) ?_
    refine x_aload_n cx dX4_line_391 rfl (lv_at hl 0 rfl) ?_
    obtain ⟨hk67, hw⟩ := hw
    refine xg_X4_25_4 cx hR rfl hk67 dX4_line_392 ?_
    obtain ⟨a68, hr68, hk68, hw⟩ := hw
    refine xg_X4_277_2 cx hR hr68 hk68 dX4_line_395 ?_
    refine lv_if_ne (tgt := 405) hx hb dX4_line_398 (by decide) (fun hc => ?_) (fun hc => ?_)
    · have hw := mm_in hc hw
      refine lv_iconst (v := (0 : Int32)) hx hb dX4_line_405 (by decide) ?_
      exact BX4_line_406 d cx hnt _ _ _ _ _ _ hw _ _ _ _ _ hR hS (lv_sub hl [0] rfl) hcb hsb
    · have hw := mm_ip hc hw
      refine lv_iconst (v := (1 : Int32)) hx hb dX4_line_401 (by decide) ?_
      refine lv_goto (tgt := 406) hx hb dX4_line_402 (by decide) ?_
      exact BX4_line_406 d cx hnt _ _ _ _ _ _ hw _ _ _ _ _ hR hS (lv_sub hl [0] rfl) hcb hsb
  have hw := mm_in hc6 hw
  refine lv_tableOut (tgt := 440) hx hb dX4_line_193 (sw_out 0 6 [(0 : Int32), (1 : Int32), (2 : Int32), (3 : Int32), (4 : Int32), (5 : Int32), (6 : Int32)] (by simp only [List.all_cons, List.all_nil, Bool.and_true, Bool.and_eq_true, decide_eq_true_eq]; exact ⟨hc0, hc1, hc2, hc3, hc4, hc5, hc6⟩) (by intro z h1 h2; exact sw_r_0_6 z h1 h2)) (by decide) ?_
  refine x_aload_n cx dX4_line_440 rfl (lv_at hl 0 rfl) ?_
  refine lv_iconst (v := (0 : Int32)) hx hb dX4_line_441 (by decide) ?_
  refine lv_iconst (v := (1 : Int32)) hx hb dX4_line_442 (by decide) ?_
  obtain ⟨hk70, hw⟩ := hw
  obtain ⟨k71, n71, hb1, hb2, hw⟩ := hw
  refine CX4_must_X4_112T cx hnt hR hS rfl hk70 hw (by constructor <;> dsimp only <;> omega) (Nat.le_of_ble_eq_true rfl) hl.1 ⟨by dsimp only; omega, by dsimp only; omega⟩ (xle (xadd hb1 hcb)) (xle (xadd hb2 hsb)) dX4_line_443 (fun s69 H locs hw hR hS => ?_)
  have hcb := xadd hb1 hcb
  have hsb := xadd hb2 hsb
  exact vx_ret (x_vret cx hR hS (xle hcb) (xle hsb) hw dX4_line_446)
def wX4_line_14 (d : Nat) (Q : XS → Prop) (T : Nat → XS → Prop) (th : Nat) (t0 : Option Nat) (t1 : Int32) (bc : Nat) (bs : Nat) (σ : XS) : Prop :=
  oc σ t0 4 (fun a73 => ∃ k74 n74 : Nat, k74 ≤ bc ∧ n74 ≤ bs ∧ (wX4_must a73 t1 (1 : Int32) k74 n74 σ (fun s72 => kd s72 th = 4 ∧ (oc s72 (fr s72 th 8) 22 (fun a77 => wJ14_hashCode a77 s72 (fun r76 s76 => if r76 = (3135084 : Int32) then (oc s76 (fr s72 th 8) 22 (fun a79 => wJ14_equals a79 (some 4) s76 (fun r78 s78 => if r78 = 0 then (wX4_line_192 d Q T th (-1 : Int32) (bc - k74) (bs - n74) s78) else (wX4_line_192 d Q T th (0 : Int32) (bc - k74) (bs - n74) s78)))) else (if r76 = (3443608 : Int32) then (oc s76 (fr s72 th 8) 22 (fun a81 => wJ14_equals a81 (some 16) s76 (fun r80 s80 => if r80 = 0 then (wX4_line_192 d Q T th (-1 : Int32) (bc - k74) (bs - n74) s80) else (wX4_line_192 d Q T th (3 : Int32) (bc - k74) (bs - n74) s80)))) else (if r76 = (3522662 : Int32) then (oc s76 (fr s72 th 8) 22 (fun a83 => wJ14_equals a83 (some 20) s76 (fun r82 s82 => if r82 = 0 then (wX4_line_192 d Q T th (-1 : Int32) (bc - k74) (bs - n74) s82) else (wX4_line_192 d Q T th (5 : Int32) (bc - k74) (bs - n74) s82)))) else (if r76 = (3523048 : Int32) then (oc s76 (fr s72 th 8) 22 (fun a85 => wJ14_equals a85 (some 18) s76 (fun r84 s84 => if r84 = 0 then (wX4_line_192 d Q T th (-1 : Int32) (bc - k74) (bs - n74) s84) else (wX4_line_192 d Q T th (4 : Int32) (bc - k74) (bs - n74) s84)))) else (if r76 = (94851343 : Int32) then (oc s76 (fr s72 th 8) 22 (fun a87 => wJ14_equals a87 (some 8) s76 (fun r86 s86 => if r86 = 0 then (wX4_line_192 d Q T th (-1 : Int32) (bc - k74) (bs - n74) s86) else (wX4_line_192 d Q T th (2 : Int32) (bc - k74) (bs - n74) s86)))) else (if r76 = (102976443 : Int32) then (oc s76 (fr s72 th 8) 22 (fun a89 => wJ14_equals a89 (some 22) s76 (fun r88 s88 => if r88 = 0 then (wX4_line_192 d Q T th (-1 : Int32) (bc - k74) (bs - n74) s88) else (wX4_line_192 d Q T th (6 : Int32) (bc - k74) (bs - n74) s88)))) else (if r76 = (104712844 : Int32) then (oc s76 (fr s72 th 8) 22 (fun a91 => wJ14_equals a91 (some 6) s76 (fun r90 s90 => if r90 = 0 then (wX4_line_192 d Q T th (-1 : Int32) (bc - k74) (bs - n74) s90) else (wX4_line_192 d Q T th (1 : Int32) (bc - k74) (bs - n74) s90)))) else (wX4_line_192 d Q T th (-1 : Int32) (bc - k74) (bs - n74) s76))))))))))) T))
set_option maxHeartbeats 4000000 in
theorem BX4_line_14 {l : Launch} {p : Program} {e : Env} {s : State} {m : MethodId} {args : Array Value} {below : List Frame} {meth : Method} {c : Code} {E : xx_E} {mc ms : Nat} {Q : XS → Prop} {T : Nat → XS → Prop} (d : Nat) (cx : xx_X "StruckCounts$Reader" cX4_line 4 none E p s m args meth c) (hnt : xnt c) : ∀ (th : Nat) (t0 : Option Nat) (t1 : Int32) (bc : Nat) (bs : Nat) (σ : XS), wX4_line_14 d Q T th t0 t1 bc bs σ → x_TT p l e ({ frames := (17 + 4 * d), cells := mc, slots := ms, locals := 40 * (17 + 4 * d) } : Room) s m args below meth c E T (va_Qv Q (fun σ' t => xW E σ' t) (xA E)) mc ms 4 14 bc bs σ [(0, xv E (some th))] [.int t1, xv E t0] := by
  intro th t0 t1 bc bs σ hw H locs ls cells slots hR hS hl hcb hsb
  unfold wX4_line_14 at hw
  obtain ⟨hx, hb, hml, hown, hts, hrt, hlk, hMK, hZ⟩ := id cx
  refine lv_iconst (v := (1 : Int32)) hx hb dX4_line_14 (by decide) ?_
  obtain ⟨a73, hr73, hk73, hw⟩ := hw
  obtain ⟨k74, n74, hb1, hb2, hw⟩ := hw
  refine CX4_must_X4_112T cx hnt hR hS hr73 hk73 hw (by constructor <;> dsimp only <;> omega) (Nat.le_of_ble_eq_true rfl) hl.1 ⟨by dsimp only; omega, by dsimp only; omega⟩ (xle (xadd hb1 hcb)) (xle (xadd hb2 hsb)) dX4_line_15 (fun s72 H locs hw hR hS => ?_)
  have hcb := xadd hb1 hcb
  have hsb := xadd hb2 hsb
  refine x_aload_n cx dX4_line_18 rfl (lv_at hl 0 rfl) ?_
  obtain ⟨hk75, hw⟩ := hw
  refine xg_X4_11_4 cx hR rfl hk75 dX4_line_19 ?_
  refine x_astore_n (i := 1) (r := (fr s72 th 8)) (lv' := [(1, xv E (fr s72 th 8)), (0, xv E (some th))]) cx dX4_line_22 rfl hl (by decide) (by simp [xv_cat]) (fun ls hl => ?_)
  refine lv_iconst (v := (-1 : Int32)) hx hb dX4_line_23 (by decide) ?_
  refine lv_istore_n (i := 2) (lv' := [(2, .int (-1 : Int32)), (1, xv E (fr s72 th 8)), (0, xv E (some th))]) hx hb dX4_line_24 rfl hl (by decide) (by simp [xv_cat]) (fun ls hl => ?_)
  refine x_aload_n cx dX4_line_25 rfl (lv_at hl 1 rfl) ?_
  obtain ⟨a77, hr77, hk77, hw⟩ := hw
  refine CJ14_hashCode_X4_83 cx hR hS hr77 hk77 hw (by constructor <;> dsimp only <;> omega) (Nat.le_of_ble_eq_true rfl) hl.1 ⟨by dsimp only; omega, by dsimp only; omega⟩ dX4_line_26 (fun r76 s76 H locs hw hR hS => ?_)
  by_cases hc0 : r76 = (3135084 : Int32)
  · have hw := mm_ip hc0 hw
    refine lv_lookup (off := 67) (tgt := 96) hx hb dX4_line_29 (by decide +kernel) (by rw [hc0]; decide +kernel) (by decide) ?_
    refine x_aload_n cx dX4_line_96 rfl (lv_at hl 1 rfl) ?_
    refine x_ldcS cx 2 (by decide) rfl rfl dX4_line_97 ?_
    obtain ⟨a79, hr79, hk79, hw⟩ := hw
    refine CJ14_equals_X4_79 cx hR hS hr79 hk79 hw (by constructor <;> dsimp only <;> omega) (Nat.le_of_ble_eq_true rfl) hl.1 ⟨by dsimp only; omega, by dsimp only; omega⟩ dX4_line_99 (fun r78 s78 H locs hw hR hS => ?_)
    refine lv_if_eq (tgt := 192) hx hb dX4_line_102 (by decide) (fun hc => ?_) (fun hc => ?_)
    · have hw := mm_ip hc hw
      exact BX4_line_192 d cx hnt _ _ _ _ _ hw _ _ _ _ _ hR hS (lv_sub hl [2, 0] rfl) hcb hsb
    · have hw := mm_in hc hw
      refine lv_iconst (v := (0 : Int32)) hx hb dX4_line_105 (by decide) ?_
      refine lv_istore_n (i := 2) (lv' := [(2, .int (0 : Int32)), (1, xv E (fr s72 th 8)), (0, xv E (some th))]) hx hb dX4_line_106 rfl hl (by decide) (by simp [xv_cat]) (fun ls hl => ?_)
      refine lv_goto (tgt := 192) hx hb dX4_line_107 (by decide) ?_
      exact BX4_line_192 d cx hnt _ _ _ _ _ hw _ _ _ _ _ hR hS (lv_sub hl [2, 0] rfl) hcb hsb
  have hw := mm_in hc0 hw
  by_cases hc1 : r76 = (3443608 : Int32)
  · have hw := mm_ip hc1 hw
    refine lv_lookup (off := 109) (tgt := 138) hx hb dX4_line_29 (by decide +kernel) (by rw [hc1]; decide +kernel) (by decide) ?_
    refine x_aload_n cx dX4_line_138 rfl (lv_at hl 1 rfl) ?_
    refine x_ldcS cx 8 (by decide) rfl rfl dX4_line_139 ?_
    obtain ⟨a81, hr81, hk81, hw⟩ := hw
    refine CJ14_equals_X4_79 cx hR hS hr81 hk81 hw (by constructor <;> dsimp only <;> omega) (Nat.le_of_ble_eq_true rfl) hl.1 ⟨by dsimp only; omega, by dsimp only; omega⟩ dX4_line_141 (fun r80 s80 H locs hw hR hS => ?_)
    refine lv_if_eq (tgt := 192) hx hb dX4_line_144 (by decide) (fun hc => ?_) (fun hc => ?_)
    · have hw := mm_ip hc hw
      exact BX4_line_192 d cx hnt _ _ _ _ _ hw _ _ _ _ _ hR hS (lv_sub hl [2, 0] rfl) hcb hsb
    · have hw := mm_in hc hw
      refine lv_iconst (v := (3 : Int32)) hx hb dX4_line_147 (by decide) ?_
      refine lv_istore_n (i := 2) (lv' := [(2, .int (3 : Int32)), (1, xv E (fr s72 th 8)), (0, xv E (some th))]) hx hb dX4_line_148 rfl hl (by decide) (by simp [xv_cat]) (fun ls hl => ?_)
      refine lv_goto (tgt := 192) hx hb dX4_line_149 (by decide) ?_
      exact BX4_line_192 d cx hnt _ _ _ _ _ hw _ _ _ _ _ hR hS (lv_sub hl [2, 0] rfl) hcb hsb
  have hw := mm_in hc1 hw
  by_cases hc2 : r76 = (3522662 : Int32)
  · have hw := mm_ip hc2 hw
    refine lv_lookup (off := 137) (tgt := 166) hx hb dX4_line_29 (by decide +kernel) (by rw [hc2]; decide +kernel) (by decide) ?_
    refine x_aload_n cx dX4_line_166 rfl (lv_at hl 1 rfl) ?_
    refine x_ldcS cx 10 (by decide) rfl rfl dX4_line_167 ?_
    obtain ⟨a83, hr83, hk83, hw⟩ := hw
    refine CJ14_equals_X4_79 cx hR hS hr83 hk83 hw (by constructor <;> dsimp only <;> omega) (Nat.le_of_ble_eq_true rfl) hl.1 ⟨by dsimp only; omega, by dsimp only; omega⟩ dX4_line_169 (fun r82 s82 H locs hw hR hS => ?_)
    refine lv_if_eq (tgt := 192) hx hb dX4_line_172 (by decide) (fun hc => ?_) (fun hc => ?_)
    · have hw := mm_ip hc hw
      exact BX4_line_192 d cx hnt _ _ _ _ _ hw _ _ _ _ _ hR hS (lv_sub hl [2, 0] rfl) hcb hsb
    · have hw := mm_in hc hw
      refine lv_iconst (v := (5 : Int32)) hx hb dX4_line_175 (by decide) ?_
      refine lv_istore_n (i := 2) (lv' := [(2, .int (5 : Int32)), (1, xv E (fr s72 th 8)), (0, xv E (some th))]) hx hb dX4_line_176 rfl hl (by decide) (by simp [xv_cat]) (fun ls hl => ?_)
      refine lv_goto (tgt := 192) hx hb dX4_line_177 (by decide) ?_
      exact BX4_line_192 d cx hnt _ _ _ _ _ hw _ _ _ _ _ hR hS (lv_sub hl [2, 0] rfl) hcb hsb
  have hw := mm_in hc2 hw
  by_cases hc3 : r76 = (3523048 : Int32)
  · have hw := mm_ip hc3 hw
    refine lv_lookup (off := 123) (tgt := 152) hx hb dX4_line_29 (by decide +kernel) (by rw [hc3]; decide +kernel) (by decide) ?_
    refine x_aload_n cx dX4_line_152 rfl (lv_at hl 1 rfl) ?_
    refine x_ldcS cx 9 (by decide) rfl rfl dX4_line_153 ?_
    obtain ⟨a85, hr85, hk85, hw⟩ := hw
    refine CJ14_equals_X4_79 cx hR hS hr85 hk85 hw (by constructor <;> dsimp only <;> omega) (Nat.le_of_ble_eq_true rfl) hl.1 ⟨by dsimp only; omega, by dsimp only; omega⟩ dX4_line_155 (fun r84 s84 H locs hw hR hS => ?_)
    refine lv_if_eq (tgt := 192) hx hb dX4_line_158 (by decide) (fun hc => ?_) (fun hc => ?_)
    · have hw := mm_ip hc hw
      exact BX4_line_192 d cx hnt _ _ _ _ _ hw _ _ _ _ _ hR hS (lv_sub hl [2, 0] rfl) hcb hsb
    · have hw := mm_in hc hw
      refine lv_iconst (v := (4 : Int32)) hx hb dX4_line_161 (by decide) ?_
      refine lv_istore_n (i := 2) (lv' := [(2, .int (4 : Int32)), (1, xv E (fr s72 th 8)), (0, xv E (some th))]) hx hb dX4_line_162 rfl hl (by decide) (by simp [xv_cat]) (fun ls hl => ?_)
      refine lv_goto (tgt := 192) hx hb dX4_line_163 (by decide) ?_
      exact BX4_line_192 d cx hnt _ _ _ _ _ hw _ _ _ _ _ hR hS (lv_sub hl [2, 0] rfl) hcb hsb
  have hw := mm_in hc3 hw
  by_cases hc4 : r76 = (94851343 : Int32)
  · have hw := mm_ip hc4 hw
    refine lv_lookup (off := 95) (tgt := 124) hx hb dX4_line_29 (by decide +kernel) (by rw [hc4]; decide +kernel) (by decide) ?_
    refine x_aload_n cx dX4_line_124 rfl (lv_at hl 1 rfl) ?_
    refine x_ldcS cx 4 (by decide) rfl rfl dX4_line_125 ?_
    obtain ⟨a87, hr87, hk87, hw⟩ := hw
    refine CJ14_equals_X4_79 cx hR hS hr87 hk87 hw (by constructor <;> dsimp only <;> omega) (Nat.le_of_ble_eq_true rfl) hl.1 ⟨by dsimp only; omega, by dsimp only; omega⟩ dX4_line_127 (fun r86 s86 H locs hw hR hS => ?_)
    refine lv_if_eq (tgt := 192) hx hb dX4_line_130 (by decide) (fun hc => ?_) (fun hc => ?_)
    · have hw := mm_ip hc hw
      exact BX4_line_192 d cx hnt _ _ _ _ _ hw _ _ _ _ _ hR hS (lv_sub hl [2, 0] rfl) hcb hsb
    · have hw := mm_in hc hw
      refine lv_iconst (v := (2 : Int32)) hx hb dX4_line_133 (by decide) ?_
      refine lv_istore_n (i := 2) (lv' := [(2, .int (2 : Int32)), (1, xv E (fr s72 th 8)), (0, xv E (some th))]) hx hb dX4_line_134 rfl hl (by decide) (by simp [xv_cat]) (fun ls hl => ?_)
      refine lv_goto (tgt := 192) hx hb dX4_line_135 (by decide) ?_
      exact BX4_line_192 d cx hnt _ _ _ _ _ hw _ _ _ _ _ hR hS (lv_sub hl [2, 0] rfl) hcb hsb
  have hw := mm_in hc4 hw
  by_cases hc5 : r76 = (102976443 : Int32)
  · have hw := mm_ip hc5 hw
    refine lv_lookup (off := 151) (tgt := 180) hx hb dX4_line_29 (by decide +kernel) (by rw [hc5]; decide +kernel) (by decide) ?_
    refine x_aload_n cx dX4_line_180 rfl (lv_at hl 1 rfl) ?_
    refine x_ldcS cx 11 (by decide) rfl rfl dX4_line_181 ?_
    obtain ⟨a89, hr89, hk89, hw⟩ := hw
    refine CJ14_equals_X4_79 cx hR hS hr89 hk89 hw (by constructor <;> dsimp only <;> omega) (Nat.le_of_ble_eq_true rfl) hl.1 ⟨by dsimp only; omega, by dsimp only; omega⟩ dX4_line_183 (fun r88 s88 H locs hw hR hS => ?_)
    refine lv_if_eq (tgt := 192) hx hb dX4_line_186 (by decide) (fun hc => ?_) (fun hc => ?_)
    · have hw := mm_ip hc hw
      exact BX4_line_192 d cx hnt _ _ _ _ _ hw _ _ _ _ _ hR hS (lv_sub hl [2, 0] rfl) hcb hsb
    · have hw := mm_in hc hw
      refine lv_bipush (v := (6 : Int32)) hx hb dX4_line_189 (by decide) ?_
      refine lv_istore_n (i := 2) (lv' := [(2, .int (6 : Int32)), (1, xv E (fr s72 th 8)), (0, xv E (some th))]) hx hb dX4_line_191 rfl hl (by decide) (by simp [xv_cat]) (fun ls hl => ?_)
      exact BX4_line_192 d cx hnt _ _ _ _ _ hw _ _ _ _ _ hR hS (lv_sub hl [2, 0] rfl) hcb hsb
  have hw := mm_in hc5 hw
  by_cases hc6 : r76 = (104712844 : Int32)
  · have hw := mm_ip hc6 hw
    refine lv_lookup (off := 81) (tgt := 110) hx hb dX4_line_29 (by decide +kernel) (by rw [hc6]; decide +kernel) (by decide) ?_
    refine x_aload_n cx dX4_line_110 rfl (lv_at hl 1 rfl) ?_
    refine x_ldcS cx 3 (by decide) rfl rfl dX4_line_111 ?_
    obtain ⟨a91, hr91, hk91, hw⟩ := hw
    refine CJ14_equals_X4_79 cx hR hS hr91 hk91 hw (by constructor <;> dsimp only <;> omega) (Nat.le_of_ble_eq_true rfl) hl.1 ⟨by dsimp only; omega, by dsimp only; omega⟩ dX4_line_113 (fun r90 s90 H locs hw hR hS => ?_)
    refine lv_if_eq (tgt := 192) hx hb dX4_line_116 (by decide) (fun hc => ?_) (fun hc => ?_)
    · have hw := mm_ip hc hw
      exact BX4_line_192 d cx hnt _ _ _ _ _ hw _ _ _ _ _ hR hS (lv_sub hl [2, 0] rfl) hcb hsb
    · have hw := mm_in hc hw
      refine lv_iconst (v := (1 : Int32)) hx hb dX4_line_119 (by decide) ?_
      refine lv_istore_n (i := 2) (lv' := [(2, .int (1 : Int32)), (1, xv E (fr s72 th 8)), (0, xv E (some th))]) hx hb dX4_line_120 rfl hl (by decide) (by simp [xv_cat]) (fun ls hl => ?_)
      refine lv_goto (tgt := 192) hx hb dX4_line_121 (by decide) ?_
      exact BX4_line_192 d cx hnt _ _ _ _ _ hw _ _ _ _ _ hR hS (lv_sub hl [2, 0] rfl) hcb hsb
  have hw := mm_in hc6 hw
  refine lv_lookup (off := 163) (tgt := 192) hx hb dX4_line_29 (by decide +kernel) (sw_look [((3135084 : Int32), (67 : Int)), ((3443608 : Int32), (109 : Int)), ((3522662 : Int32), (137 : Int)), ((3523048 : Int32), (123 : Int)), ((94851343 : Int32), (95 : Int)), ((102976443 : Int32), (151 : Int)), ((104712844 : Int32), (81 : Int))] (by simp only [List.all_cons, List.all_nil, Bool.and_true, Bool.and_eq_true, decide_eq_true_eq]; exact ⟨hc0, hc1, hc2, hc3, hc4, hc5, hc6⟩) (by decide +kernel)) (by decide) ?_
  exact BX4_line_192 d cx hnt _ _ _ _ _ hw _ _ _ _ _ hR hS (lv_sub hl [2, 0] rfl) hcb hsb
def wX4_line (d : Nat) (th : Nat) (bc : Nat) (bs : Nat) (σ : XS) (Q : XS → Prop) (T : Nat → XS → Prop) : Prop :=
  kd σ th = 4 ∧ (if (fi σ th 5) = (1 : Int32) then (wX4_line_14 d Q T th (some th) (1 : Int32) bc bs σ) else (wX4_line_14 d Q T th (some th) (0 : Int32) bc bs σ))
set_option maxHeartbeats 4000000 in
theorem MX4_line (l : Launch) (E : xx_E) (d : Nat) (th : Nat) (bc : Nat) (bs : Nat) (σ : XS) (Q : XS → Prop) (T : Nat → XS → Prop) (hw : wX4_line d th bc bs σ Q T) : xx_Tv l yX4_line (ws_ yX4_line cX4_line 4 none) ({ frames := (17 + 4 * d), cells := bc, slots := bs, locals := 40 * (17 + 4 * d) } : Room) E [xv E (some th)] σ Q T bc bs := by
  refine x_ofT (own := "StruckCounts$Reader") (by decide +kernel) rfl ?_
  intro p e s m args below meth c cx hnt hR ha hnm
  refine x_entry [xv E (some th)] 4 [(0, xv E (some th))] ha (by simp [lg_sl, xv_cat, vc_i, vc_j, vc_f]) (by simp [lv_args, xv_cat, vc_i, vc_j, vc_f]) (fun ls hl => ?_)
  have hS : va_S (xA E) s.heap s.heap [] := va_S.rf
  have hcb : 0 + bc ≤ bc := Nat.le_of_eq (Nat.zero_add _)
  have hsb : 0 + bs ≤ bs := Nat.le_of_eq (Nat.zero_add _)
  unfold wX4_line at hw
  obtain ⟨hx, hb, hml, hown, hts, hrt, hlk, hMK, hZ⟩ := id cx
  refine x_aload_n cx dX4_line_0 rfl (lv_at hl 0 rfl) ?_
  refine x_aload_n cx dX4_line_1 rfl (lv_at hl 0 rfl) ?_
  obtain ⟨hk92, hw⟩ := hw
  refine xg_X4_45_4 cx hR rfl hk92 dX4_line_2 ?_
  refine lv_iconst (v := (1 : Int32)) hx hb dX4_line_5 (by decide) ?_
  refine lv_icmp_ne (tgt := 13) hx hb dX4_line_6 (by decide) (fun hc => ?_) (fun hc => ?_)
  · have hw := mm_in hc hw
    refine lv_iconst (v := (0 : Int32)) hx hb dX4_line_13 (by decide) ?_
    exact BX4_line_14 d cx hnt _ _ _ _ _ _ hw _ _ _ _ _ hR hS (lv_sub hl [0] rfl) hcb hsb
  · have hw := mm_ip hc hw
    refine lv_iconst (v := (1 : Int32)) hx hb dX4_line_9 (by decide) ?_
    refine lv_goto (tgt := 14) hx hb dX4_line_10 (by decide) ?_
    exact BX4_line_14 d cx hnt _ _ _ _ _ _ hw _ _ _ _ _ hR hS (lv_sub hl [0] rfl) hcb hsb
-- X4_whole
theorem xg_X4_246_2 {l : Launch} {p : Program} {e : Env} {R : Room} {s : State} {m : MethodId} {args : Array Value} {below : List Frame} {meth : Method} {c : Code} {H : Heap} {locs : List Loc} {cells slots : Nat} {Qz : State → Prop} {cc : ByteArray} {nL : Nat} {ret : Option FieldType} {E : xx_E} {σ : XS} {pc : Nat} {ls : Array Slot} {rest : List Value} (cx : xx_X "StruckCounts$Reader" cc nL ret E p s m args meth c) (hR : xR E σ H) {a : Nat} {r : Option Nat} (hr : r = some a) (hk : kd σ a = 2) (hdg : decode cc pc = .ok (.getfield 246, 3)) (kk : W p l e R s m args below meth c H locs cells slots Qz (F0 m (pc + 3) ls (.int (fi σ a 7) :: rest))) : W p l e R s m args below meth c H locs cells slots Qz (F0 m pc ls (xv E r :: rest)) :=
  x_getN (ci := 1) cx hR hr hk (by decide) rfl in_X1 7 (by decide) (xx_nf_mem (i := 44) rfl) (fun _ h => h) (v := .int (fi σ a 7)) rfl hdg kk
theorem xp_X4_246_2 {l : Launch} {p : Program} {e : Env} {R : Room} {s : State} {m : MethodId} {args : Array Value} {below : List Frame} {meth : Method} {c : Code} {H : Heap} {locs : List Loc} {cells slots : Nat} {Qz : State → Prop} {cc : ByteArray} {nL : Nat} {ret : Option FieldType} {E : xx_E} {σ : XS} {pc : Nat} {ls : Array Slot} {rest : List Value} (cx : xx_X "StruckCounts$Reader" cc nL ret E p s m args meth c) (hR : xR E σ H) (hS0 : va_S (xA E) s.heap H locs) {a : Nat} {r : Option Nat} {v : Int32} (hr : r = some a) (ha : xK ≤ a) (hk : kd σ a = 2) (hdg : decode cc pc = .ok (.putfield 246, 3)) (kk : ∀ (H1 : Heap) (locs1 : List Loc), xR E (pfi σ a 7 v) H1 → va_S (xA E) s.heap H1 locs1 → W p l e R s m args below meth c H1 locs1 cells slots Qz (F0 m (pc + 3) ls rest)) : W p l e R s m args below meth c H locs cells slots Qz (F0 m pc ls (.int v :: xv E r :: rest)) :=
  x_put (ci := 1) cx hR hS0 hr ha hk (by decide) rfl in_X1 tyX1 tyX1_ok nmX1 7 (by decide) (Or.inr (Or.inr ⟨_, (xx_nf_mem (i := 44) rfl), rfl⟩)) (fun _ h => h) rfl rfl (xput_i rfl) hdg kk
theorem CX4_line_X4_240T {l : Launch} {p : Program} {e : Env} {R : Room} {s : State} {m : MethodId} {args : Array Value} {below : List Frame} {meth : Method} {c : Code} {H : Heap} {locs : List Loc} {cells slots : Nat} {cc : ByteArray} {nL : Nat} {ret : Option FieldType} {E : xx_E} {σ : XS} {pc : Nat} {ls : Array Slot} {rest : List Value} (d : Nat) {th : Nat} {k n : Nat} {T : Nat → XS → Prop} {Qc : Array Value → State → Outcome → State → Prop} {MC MS : Nat} (cx : xx_X "StruckCounts$Reader" cc nL ret E p s m args meth c) (hnt : xnt c) (hR0 : xR E σ H) (hS0 : va_S (xA E) s.heap H locs) {r0 : Option Nat} (hr : r0 = some th) (hk : kd σ th = 4) {Qf : XS → Prop} (hw : wX4_line d th k n σ Qf T) (hR : (({ frames := (17 + 4 * d), cells := k, slots := n, locals := 40 * (17 + 4 * d) } : Room)).frames + 1 ≤ R.frames ∧ 8 + (4 + 11) + (({ frames := (17 + 4 * d), cells := k, slots := n, locals := 40 * (17 + 4 * d) } : Room)).locals ≤ R.locals) (hrest : rest.length ≤ 4) (hsize : ls.size = nL) (hf : cells + k ≤ R.cells ∧ slots + n ≤ R.slots) (hc : cells + k ≤ MC) (hs : slots + n ≤ MS) (hdg : decode cc pc = .ok (.invokevirtual 240, 3))
    (kk : ∀ (σ1 : XS) (H1 : Heap) (locs1 : List Loc), Qf σ1 → xR E σ1 H1 → va_S (xA E) s.heap H1 locs1 → W p l e R s m args below meth c H1 locs1 (cells + k) (slots + n) (vx_MQ below Qc (xTX T E) args s MC MS (xA E)) (F0 m (pc + 3) ls rest)) : W p l e R s m args below meth c H locs cells slots (vx_MQ below Qc (xTX T E) args s MC MS (xA E)) (F0 m pc ls (xv E r0 :: rest)) := by
  subst hr
  obtain ⟨hx, hb, hml, hown, hts, hrt, hlk, hK, hZ⟩ := id cx
  exact x_goTv cx hnt (vx_runV (As := []) (rest := rest) (x_fix cx) (MX4_line l E d th k n σ Qf T hw) (cwV 0 hts (lw_V q980 q982 qs5 q173 q983) rfl rfl rfl (by decide +kernel) hR) (x_preV cx hR0 hS0 hk (by decide) (q := (RX4, TX4, 9)) rfl rfl []) rfl rfl hsize rfl (lv_room (xroom hrest)) hdg hf) hS0 hc hs kk
theorem CX1_hasWorld_X4_243 {l : Launch} {p : Program} {e : Env} {R : Room} {s : State} {m : MethodId} {args : Array Value} {below : List Frame} {meth : Method} {c : Code} {H : Heap} {locs : List Loc} {cells slots : Nat} {Qz : State → Prop} {cc : ByteArray} {nL : Nat} {ret : Option FieldType} {E : xx_E} {σ : XS} {pc : Nat} {ls : Array Slot} {rest : List Value} (d : Nat) {th : Nat} (cx : xx_X "StruckCounts$Reader" cc nL ret E p s m args meth c) (hR0 : xR E σ H) (hS0 : va_S (xA E) s.heap H locs) {r0 : Option Nat} (hr : r0 = some th) (hk : kd σ th = 2) {Qf : Int32 → XS → Prop} (hw : wX1_hasWorld d th σ Qf) (hR : (({ frames := (6 + 3 * d), cells := 0, slots := 0, locals := 40 * (6 + 3 * d) } : Room)).frames + 1 ≤ R.frames ∧ 8 + (2 + 11) + (({ frames := (6 + 3 * d), cells := 0, slots := 0, locals := 40 * (6 + 3 * d) } : Room)).locals ≤ R.locals) (hrest : rest.length ≤ 4) (hsize : ls.size = nL) (hf : cells + 0 ≤ R.cells ∧ slots + 0 ≤ R.slots) (hdg : decode cc pc = .ok (.invokevirtual 243, 3))
    (kk : ∀ (r : Int32) (σ1 : XS) (H1 : Heap) (locs1 : List Loc), Qf r σ1 → xR E σ1 H1 → va_S (xA E) s.heap H1 locs1 → W p l e R s m args below meth c H1 locs1 (cells + 0) (slots + 0) Qz (F0 m (pc + 3) ls (.int r :: rest))) : W p l e R s m args below meth c H locs cells slots Qz (F0 m pc ls (xv E r0 :: rest)) := by
  subst hr
  obtain ⟨hx, hb, hml, hown, hts, hrt, hlk, hK, hZ⟩ := id cx
  exact x_goi (va_runV (As := []) (rest := rest) (x_fix cx) (MX1_hasWorld l E d th σ Qf hw) (cwV 0 hts (lw_V q1888 q1889 q1890 q157 q1891) rfl rfl rfl (by decide +kernel) hR) (x_preV cx hR0 hS0 hk (by decide) (q := (RX1, TX1, 12)) rfl rfl []) rfl rfl hsize rfl (lv_room (xroom hrest)) hdg hf) hS0 kk
theorem CX1_laid_X4_249 {l : Launch} {p : Program} {e : Env} {R : Room} {s : State} {m : MethodId} {args : Array Value} {below : List Frame} {meth : Method} {c : Code} {H : Heap} {locs : List Loc} {cells slots : Nat} {Qz : State → Prop} {cc : ByteArray} {nL : Nat} {ret : Option FieldType} {E : xx_E} {σ : XS} {pc : Nat} {ls : Array Slot} {rest : List Value} (d : Nat) {th : Nat} {k n : Nat} (cx : xx_X "StruckCounts$Reader" cc nL ret E p s m args meth c) (hR0 : xR E σ H) (hS0 : va_S (xA E) s.heap H locs) {r0 : Option Nat} (hr : r0 = some th) (hk : kd σ th = 2) {Qf : Option Nat → XS → Prop} (hw : wX1_laid d th k n σ Qf) (hR : (({ frames := (7 + 3 * d), cells := k, slots := n, locals := 40 * (7 + 3 * d) } : Room)).frames + 1 ≤ R.frames ∧ 8 + (3 + 11) + (({ frames := (7 + 3 * d), cells := k, slots := n, locals := 40 * (7 + 3 * d) } : Room)).locals ≤ R.locals) (hrest : rest.length ≤ 4) (hsize : ls.size = nL) (hf : cells + k ≤ R.cells ∧ slots + n ≤ R.slots) (hdg : decode cc pc = .ok (.invokevirtual 249, 3))
    (kk : ∀ (r : Option Nat) (σ1 : XS) (H1 : Heap) (locs1 : List Loc), Qf r σ1 → xR E σ1 H1 → va_S (xA E) s.heap H1 locs1 → W p l e R s m args below meth c H1 locs1 (cells + k) (slots + n) Qz (F0 m (pc + 3) ls (xv E r :: rest))) : W p l e R s m args below meth c H locs cells slots Qz (F0 m pc ls (xv E r0 :: rest)) := by
  subst hr
  obtain ⟨hx, hb, hml, hown, hts, hrt, hlk, hK, hZ⟩ := id cx
  exact x_gor (va_runV (As := []) (rest := rest) (x_fix cx) (MX1_laid l E d th k n σ Qf hw) (cwV 0 hts (lw_V q1892 q379 q380 q157 q381) rfl rfl rfl (by decide +kernel) hR) (x_preV cx hR0 hS0 hk (by decide) (q := (RX1, TX1, 12)) rfl rfl []) rfl rfl hsize rfl (lv_room (xroom hrest)) hdg hf) hS0 kk
def wX4_whole_53 (d : Nat) (Q : Option Nat → XS → Prop) (T : Nat → XS → Prop) (K0 : Nat → Nat → Nat → XS → Prop) (th : Nat) (bc : Nat) (bs : Nat) (σ : XS) : Prop :=
  kd σ th = 4 ∧ (oc σ (fr σ th 2) 2 (fun a2 => xK ≤ a2 ∧ (K0 th bc bs (pfi σ a2 7 ((fi σ a2 7) + (1 : Int32))))))
set_option maxHeartbeats 4000000 in
theorem BX4_whole_53 {l : Launch} {p : Program} {e : Env} {s : State} {m : MethodId} {args : Array Value} {below : List Frame} {meth : Method} {c : Code} {E : xx_E} {mc ms : Nat} {Q : Option Nat → XS → Prop} {T : Nat → XS → Prop} {K0 : Nat → Nat → Nat → XS → Prop} (d : Nat) (cx : xx_X "StruckCounts$Reader" cX4_whole 3 (some (.object "StruckCounts$Suit")) E p s m args meth c) (hnt : xnt c) (hK0 : ∀ (th : Nat) (bc : Nat) (bs : Nat) (σ : XS), K0 th bc bs σ → x_TT p l e ({ frames := (18 + 4 * d), cells := mc, slots := ms, locals := 40 * (18 + 4 * d) } : Room) s m args below meth c E T (va_Qe (xr E) Q (fun σ' t => xW E σ' t) (xA E)) mc ms 3 0 bc bs σ [(0, xv E (some th))] []) : ∀ (th : Nat) (bc : Nat) (bs : Nat) (σ : XS), wX4_whole_53 d Q T K0 th bc bs σ → x_TT p l e ({ frames := (18 + 4 * d), cells := mc, slots := ms, locals := 40 * (18 + 4 * d) } : Room) s m args below meth c E T (va_Qe (xr E) Q (fun σ' t => xW E σ' t) (xA E)) mc ms 3 53 bc bs σ [(0, xv E (some th))] [] := by
  intro th bc bs σ hw H locs ls cells slots hR hS hl hcb hsb
  unfold wX4_whole_53 at hw
  obtain ⟨hx, hb, hml, hown, hts, hrt, hlk, hMK, hZ⟩ := id cx
  refine x_aload_n cx dX4_whole_53 rfl (lv_at hl 0 rfl) ?_
  obtain ⟨hk1, hw⟩ := hw
  refine xg_X4_25_4 cx hR rfl hk1 dX4_whole_54 ?_
  refine lv_dup hx hb dX4_whole_57 (xv_cat _ _) ?_
  obtain ⟨a2, hr2, hk2, hw⟩ := hw
  refine xg_X4_246_2 cx hR hr2 hk2 dX4_whole_58 ?_
  refine lv_iconst (v := (1 : Int32)) hx hb dX4_whole_61 (by decide) ?_
  refine lv_iadd hx hb dX4_whole_62 ?_
  obtain ⟨hge_a2, hw⟩ := hw
  refine xp_X4_246_2 (v := ((fi σ a2 7) + (1 : Int32))) cx hR hS hr2 hge_a2 hk2 dX4_whole_63 (fun H locs hR hS => ?_)
  refine lv_goto (tgt := 0) hx hb dX4_whole_66 (by decide) ?_
  exact hK0 _ _ _ _ hw _ _ _ _ _ hR hS (lv_sub hl [0] rfl) hcb hsb
def wX4_whole_0 (d : Nat) (Q : Option Nat → XS → Prop) (T : Nat → XS → Prop) (K0 : Nat → Nat → Nat → XS → Prop) (th : Nat) (bc : Nat) (bs : Nat) (σ : XS) : Prop :=
  kd σ th = 4 ∧ (if (fi σ th 5) = 0 then (oc σ (fr σ th 2) 2 (fun a5 => ∃ k6 n6 : Nat, k6 ≤ bc ∧ n6 ≤ bs ∧ (wX1_laid d a5 k6 n6 σ (fun r4 s4 => Q r4 s4)))) else (∀ v7 : Int32, v7 = (fi σ th 4) → wX4_isWord th (some 6) σ (fun r8 s8 => kd s8 th = 4 ∧ (∃ k11 n11 : Nat, k11 ≤ bc ∧ n11 ≤ bs ∧ (wX4_line d th k11 n11 s8 (fun s9 => kd s9 th = 4 ∧ (∃ k14 n14 : Nat, k14 ≤ (bc - k11) ∧ n14 ≤ (bs - n11) ∧ (wX4_sign th (59 : Int32) k14 n14 s9 (fun s12 => if r8 = 0 then (wX4_whole_53 d Q T K0 th ((bc - k11) - k14) ((bs - n11) - n14) s12) else (kd s12 th = 4 ∧ (oc s12 (fr s12 th 2) 2 (fun a17 => wX1_hasWorld d a17 s12 (fun r16 s16 => if r16 = 0 then (1 ≤ ((bc - k11) - k14) ∧ 8 ≤ ((bs - n11) - n14) ∧ (kd (xal s16 5 0) (xn s16) = 5 ∧ (wX5_init (xn s16) (5 : Int32) v7 (xal s16 5 0) (fun s18 => kd s18 (xn s16) = 5 ∧ (T (xn s16) s18))))) else (wX4_whole_53 d Q T K0 th ((bc - k11) - k14) ((bs - n11) - n14) s16)))))) T))) T)))))
set_option maxHeartbeats 4000000 in
theorem BX4_whole_0 {l : Launch} {p : Program} {e : Env} {s : State} {m : MethodId} {args : Array Value} {below : List Frame} {meth : Method} {c : Code} {E : xx_E} {mc ms : Nat} {Q : Option Nat → XS → Prop} {T : Nat → XS → Prop} {K0 : Nat → Nat → Nat → XS → Prop} (d : Nat) (cx : xx_X "StruckCounts$Reader" cX4_whole 3 (some (.object "StruckCounts$Suit")) E p s m args meth c) (hnt : xnt c) (hK0 : ∀ (th : Nat) (bc : Nat) (bs : Nat) (σ : XS), K0 th bc bs σ → x_TT p l e ({ frames := (18 + 4 * d), cells := mc, slots := ms, locals := 40 * (18 + 4 * d) } : Room) s m args below meth c E T (va_Qe (xr E) Q (fun σ' t => xW E σ' t) (xA E)) mc ms 3 0 bc bs σ [(0, xv E (some th))] []) : ∀ (th : Nat) (bc : Nat) (bs : Nat) (σ : XS), wX4_whole_0 d Q T K0 th bc bs σ → x_TT p l e ({ frames := (18 + 4 * d), cells := mc, slots := ms, locals := 40 * (18 + 4 * d) } : Room) s m args below meth c E T (va_Qe (xr E) Q (fun σ' t => xW E σ' t) (xA E)) mc ms 3 0 bc bs σ [(0, xv E (some th))] [] := by
  intro th bc bs σ hw H locs ls cells slots hR hS hl hcb hsb
  unfold wX4_whole_0 at hw
  obtain ⟨hx, hb, hml, hown, hts, hrt, hlk, hMK, hZ⟩ := id cx
  refine x_aload_n cx dX4_whole_0 rfl (lv_at hl 0 rfl) ?_
  obtain ⟨hk3, hw⟩ := hw
  refine xg_X4_45_4 cx hR rfl hk3 dX4_whole_1 ?_
  refine lv_if_eq (tgt := 69) hx hb dX4_whole_4 (by decide) (fun hc => ?_) (fun hc => ?_)
  · have hw := mm_ip hc hw
    refine x_aload_n cx dX4_whole_69 rfl (lv_at hl 0 rfl) ?_
    refine xg_X4_25_4 cx hR rfl hk3 dX4_whole_70 ?_
    obtain ⟨a5, hr5, hk5, hw⟩ := hw
    obtain ⟨k6, n6, hb1, hb2, hw⟩ := hw
    refine CX1_laid_X4_249 d cx hR hS hr5 hk5 hw (by constructor <;> dsimp only <;> omega) (Nat.le_of_ble_eq_true rfl) hl.1 ⟨by dsimp only; omega, by dsimp only; omega⟩ dX4_whole_73 (fun r4 s4 H locs hw hR hS => ?_)
    have hcb := xadd hb1 hcb
    have hsb := xadd hb2 hsb
    exact vx_ret (x_aret cx (by first | exact Or.inl ⟨_, rfl⟩ | exact Or.inr ⟨_, rfl⟩) hR hS (xle hcb) (xle hsb) hw dX4_whole_76)
  · have hw := mm_in hc hw
    refine x_aload_n cx dX4_whole_7 rfl (lv_at hl 0 rfl) ?_
    refine xg_X4_39_4 cx hR rfl hk3 dX4_whole_8 ?_
    refine lv_topi (fun v7 hv7 => ?_)
    have hw := hw v7 hv7
    refine lv_istore_n (i := 1) (lv' := [(1, .int v7), (0, xv E (some th))]) hx hb dX4_whole_11 rfl hl (by decide) (by simp [xv_cat]) (fun ls hl => ?_)
    refine x_aload_n cx dX4_whole_12 rfl (lv_at hl 1 rfl) ?_
    refine x_ldcS cx 3 (by decide) rfl rfl dX4_whole_13 ?_
    refine CX4_isWord_X4_116 cx hR hS rfl hk3 hw (by constructor <;> dsimp only <;> omega) (Nat.le_of_ble_eq_true rfl) hl.1 ⟨by dsimp only; omega, by dsimp only; omega⟩ dX4_whole_15 (fun r8 s8 H locs hw hR hS => ?_)
    refine lv_istore_n (i := 2) (lv' := [(2, .int r8), (1, .int v7), (0, xv E (some th))]) hx hb dX4_whole_18 rfl hl (by decide) rfl (fun ls hl => ?_)
    refine x_aload_n cx dX4_whole_19 rfl (lv_at hl 2 rfl) ?_
    obtain ⟨hk10, hw⟩ := hw
    obtain ⟨k11, n11, hb1, hb2, hw⟩ := hw
    refine CX4_line_X4_240T d cx hnt hR hS rfl hk10 hw (by constructor <;> dsimp only <;> omega) (Nat.le_of_ble_eq_true rfl) hl.1 ⟨by dsimp only; omega, by dsimp only; omega⟩ (xle (xadd hb1 hcb)) (xle (xadd hb2 hsb)) dX4_whole_20 (fun s9 H locs hw hR hS => ?_)
    have hcb := xadd hb1 hcb
    have hsb := xadd hb2 hsb
    refine x_aload_n cx dX4_whole_23 rfl (lv_at hl 2 rfl) ?_
    refine lv_bipush (v := (59 : Int32)) hx hb dX4_whole_24 (by decide) ?_
    obtain ⟨hk13, hw⟩ := hw
    obtain ⟨k14, n14, hb1, hb2, hw⟩ := hw
    refine CX4_sign_X4_201T cx hnt hR hS rfl hk13 hw (by constructor <;> dsimp only <;> omega) (Nat.le_of_ble_eq_true rfl) hl.1 ⟨by dsimp only; omega, by dsimp only; omega⟩ (xle (xadd hb1 hcb)) (xle (xadd hb2 hsb)) dX4_whole_26 (fun s12 H locs hw hR hS => ?_)
    have hcb := xadd hb1 hcb
    have hsb := xadd hb2 hsb
    refine lv_iload_n hx hb dX4_whole_29 rfl (lv_at hl 0 rfl) ?_
    refine lv_if_eq (tgt := 53) hx hb dX4_whole_30 (by decide) (fun hc => ?_) (fun hc => ?_)
    · have hw := mm_ip hc hw
      exact BX4_whole_53 d cx hnt hK0 _ _ _ _ hw _ _ _ _ _ hR hS (lv_sub hl [2] rfl) hcb hsb
    · have hw := mm_in hc hw
      refine x_aload_n cx dX4_whole_33 rfl (lv_at hl 2 rfl) ?_
      obtain ⟨hk15, hw⟩ := hw
      refine xg_X4_25_4 cx hR rfl hk15 dX4_whole_34 ?_
      obtain ⟨a17, hr17, hk17, hw⟩ := hw
      refine CX1_hasWorld_X4_243 d cx hR hS hr17 hk17 hw (by constructor <;> dsimp only <;> omega) (Nat.le_of_ble_eq_true rfl) hl.1 ⟨by dsimp only; omega, by dsimp only; omega⟩ dX4_whole_37 (fun r16 s16 H locs hw hR hS => ?_)
      refine lv_if_ne (tgt := 53) hx hb dX4_whole_40 (by decide) (fun hc => ?_) (fun hc => ?_)
      · have hw := mm_in hc hw
        exact BX4_whole_53 d cx hnt hK0 _ _ _ _ hw _ _ _ _ _ hR hS (lv_sub hl [2] rfl) hcb hsb
      · have hw := mm_ip hc hw
        obtain ⟨hb1, hb2, hw⟩ := hw
        refine xn_X4_74 cx hR hS (by dsimp only; omega) (by dsimp only; omega) dX4_whole_43 (fun H hR hS => ?_)
        have hcb := xadd hb1 hcb
        have hsb := xadd hb2 hsb
        refine lv_dup hx hb dX4_whole_46 (xv_cat _ _) ?_
        refine lv_iconst (v := (5 : Int32)) hx hb dX4_whole_47 (by decide) ?_
        refine lv_iload_n hx hb dX4_whole_48 rfl (lv_at hl 1 rfl) ?_
        obtain ⟨hk19, hw⟩ := hw
        refine CX5_init_X4_76 cx hR hS rfl hk19 hw (by constructor <;> dsimp only <;> omega) (Nat.le_of_ble_eq_true rfl) hl.1 ⟨by dsimp only; omega, by dsimp only; omega⟩ dX4_whole_49 (fun s18 H locs hw hR hS => ?_)
        obtain ⟨hk20, hw⟩ := hw
        exact x_athrow cx hnt hR hS rfl hk20 (xle hcb) (xle hsb) hw dX4_whole_52
theorem LX4_whole_0 {l : Launch} {p : Program} {e : Env} {s : State} {m : MethodId} {args : Array Value} {below : List Frame} {meth : Method} {c : Code} {E : xx_E} {mc ms : Nat} {Q : Option Nat → XS → Prop} {T : Nat → XS → Prop} (d : Nat) (cx : xx_X "StruckCounts$Reader" cX4_whole 3 (some (.object "StruckCounts$Suit")) E p s m args meth c) (hnt : xnt c) : ∀ (th : Nat) (bc : Nat) (bs : Nat) (σ : XS), lp4F (wX4_whole_0 d Q T) th bc bs σ → x_TT p l e ({ frames := (18 + 4 * d), cells := mc, slots := ms, locals := 40 * (18 + 4 * d) } : Room) s m args below meth c E T (va_Qe (xr E) Q (fun σ' t => xW E σ' t) (xA E)) mc ms 3 0 bc bs σ [(0, xv E (some th))] [] :=
  lp4F_of (fun K hK => BX4_whole_0 d cx hnt hK)
def wX4_whole (d : Nat) (th : Nat) (bc : Nat) (bs : Nat) (σ : XS) (Q : Option Nat → XS → Prop) (T : Nat → XS → Prop) : Prop :=
  lp4F (wX4_whole_0 d Q T) th bc bs σ
set_option maxHeartbeats 4000000 in
theorem MX4_whole (l : Launch) (E : xx_E) (d : Nat) (th : Nat) (bc : Nat) (bs : Nat) (σ : XS) (Q : Option Nat → XS → Prop) (T : Nat → XS → Prop) (hw : wX4_whole d th bc bs σ Q T) : xx_Tr l yX4_whole (ws_ yX4_whole cX4_whole 3 (some (.object "StruckCounts$Suit"))) ({ frames := (18 + 4 * d), cells := bc, slots := bs, locals := 40 * (18 + 4 * d) } : Room) E [xv E (some th)] σ Q T bc bs := by
  refine x_ofT (own := "StruckCounts$Reader") (by decide +kernel) rfl ?_
  intro p e s m args below meth c cx hnt hR ha hnm
  refine x_entry [xv E (some th)] 3 [(0, xv E (some th))] ha (by simp [lg_sl, xv_cat, vc_i, vc_j, vc_f]) (by simp [lv_args, xv_cat, vc_i, vc_j, vc_f]) (fun ls hl => ?_)
  have hS : va_S (xA E) s.heap s.heap [] := va_S.rf
  have hcb : 0 + bc ≤ bc := Nat.le_of_eq (Nat.zero_add _)
  have hsb : 0 + bs ≤ bs := Nat.le_of_eq (Nat.zero_add _)
  unfold wX4_whole at hw
  obtain ⟨hx, hb, hml, hown, hts, hrt, hlk, hMK, hZ⟩ := id cx
  exact LX4_whole_0 d cx hnt _ _ _ _ hw _ _ _ _ _ hR hS (lv_sub hl [0] rfl) hcb hsb
-- X0_suit
theorem CX0_reads_X0_116 {l : Launch} {p : Program} {e : Env} {R : Room} {s : State} {m : MethodId} {args : Array Value} {below : List Frame} {meth : Method} {c : Code} {H : Heap} {locs : List Loc} {cells slots : Nat} {Qz : State → Prop} {cc : ByteArray} {nL : Nat} {ret : Option FieldType} {E : xx_E} {σ : XS} {pc : Nat} {ls : Array Slot} {rest : List Value} {th : Nat} {x1 : Option Nat} {k n : Nat} (cx : xx_X "StruckCounts" cc nL ret E p s m args meth c) (hR0 : xR E σ H) (hS0 : va_S (xA E) s.heap H locs) {r0 : Option Nat} (hr : r0 = some th) (hk : kd σ th = 1) {Qf : Option Nat → XS → Prop} (hw : wX0_reads th x1 k n σ Qf) (hR : (({ frames := 8, cells := k, slots := n, locals := 320 } : Room)).frames + 1 ≤ R.frames ∧ 8 + (3 + 11) + (({ frames := 8, cells := k, slots := n, locals := 320 } : Room)).locals ≤ R.locals) (hrest : rest.length ≤ 4) (hsize : ls.size = nL) (hf : cells + k ≤ R.cells ∧ slots + n ≤ R.slots) (hdg : decode cc pc = .ok (.invokevirtual 116, 3))
    (kk : ∀ (r : Option Nat) (σ1 : XS) (H1 : Heap) (locs1 : List Loc), Qf r σ1 → xR E σ1 H1 → va_S (xA E) s.heap H1 locs1 → W p l e R s m args below meth c H1 locs1 (cells + k) (slots + n) Qz (F0 m (pc + 3) ls (xv E r :: rest))) : W p l e R s m args below meth c H locs cells slots Qz (F0 m pc ls (xv E x1 :: xv E r0 :: rest)) := by
  subst hr
  obtain ⟨hx, hb, hml, hown, hts, hrt, hlk, hK, hZ⟩ := id cx
  exact x_gor (va_runV (As := [xv E x1]) (rest := rest) (x_fix cx) (MX0_reads l E th x1 k n σ Qf hw) (cwV 1 hts (lw_V q660 q662 qs1 q156 q663) rfl rfl rfl (by decide +kernel) hR) (x_preV cx hR0 hS0 hk (by decide) (q := (RX0, TX0, 24)) rfl rfl [xv E x1]) rfl rfl hsize rfl (lv_room (xroom hrest)) hdg hf) hS0 kk
theorem CX4_whole_X0_120H {l : Launch} {p : Program} {e : Env} {R : Room} {s : State} {m : MethodId} {args : Array Value} {below : List Frame} {meth : Method} {c : Code} {H : Heap} {locs : List Loc} {cells slots : Nat} {Qz : State → Prop} {cc : ByteArray} {nL : Nat} {ret : Option FieldType} {E : xx_E} {σ : XS} {pc : Nat} {ls : Array Slot} {rest : List Value} (d : Nat) {th : Nat} {k n : Nat} {T : Nat → XS → Prop} {x : ExceptionTableEntry} (cx : xx_X "StruckCounts" cc nL ret E p s m args meth c) (htab : c.exceptionTable.toList = [x]) (hcov : covers x pc = true) (h0 : x.catchType ≠ 0) (hq : Cond.classLink "StruckCounts" x.catchType "StruckCounts$Fault" ∈ lw_all) (hR0 : xR E σ H) (hS0 : va_S (xA E) s.heap H locs) {r0 : Option Nat} (hr : r0 = some th) (hk : kd σ th = 4) {Qf : Option Nat → XS → Prop} (hw : wX4_whole d th k n σ Qf T) (hR : (({ frames := (18 + 4 * d), cells := k, slots := n, locals := 40 * (18 + 4 * d) } : Room)).frames + 1 ≤ R.frames ∧ 8 + (3 + 11) + (({ frames := (18 + 4 * d), cells := k, slots := n, locals := 40 * (18 + 4 * d) } : Room)).locals ≤ R.locals) (hrest : rest.length ≤ 4) (hsize : ls.size = nL) (hf : cells + k ≤ R.cells ∧ slots + n ≤ R.slots) (hdg : decode cc pc = .ok (.invokevirtual 120, 3))
    (kx : ∀ (q : Nat) (σ1 : XS) (H1 : Heap) (locs1 : List Loc), T q σ1 → kd σ1 q = 5 → xR E σ1 H1 → va_S (xA E) s.heap H1 locs1 → W p l e R s m args below meth c H1 locs1 (cells + k) (slots + n) Qz (F0 m x.handlerPc ls [xv E (some q)]))
    (kk : ∀ (r : Option Nat) (σ1 : XS) (H1 : Heap) (locs1 : List Loc), Qf r σ1 → xR E σ1 H1 → va_S (xA E) s.heap H1 locs1 → W p l e R s m args below meth c H1 locs1 (cells + k) (slots + n) Qz (F0 m (pc + 3) ls (xv E r :: rest))) : W p l e R s m args below meth c H locs cells slots Qz (F0 m pc ls (xv E r0 :: rest)) := by
  subst hr
  obtain ⟨hx, hb, hml, hown, hts, hrt, hlk, hK, hZ⟩ := id cx
  exact x_goHr cx htab hcov h0 hq (vx_runV (As := []) (rest := rest) (x_fix cx) (MX4_whole l E d th k n σ Qf T hw) (cwV 0 hts (lw_V q963 q964 q965 q173 q966) rfl rfl rfl (by decide +kernel) hR) (x_preV cx hR0 hS0 hk (by decide) (q := (RX4, TX4, 9)) rfl rfl []) rfl rfl hsize rfl (lv_room (xroom hrest)) hdg hf) hS0 kk kx
theorem CX0_fails_X0_123 {l : Launch} {p : Program} {e : Env} {R : Room} {s : State} {m : MethodId} {args : Array Value} {below : List Frame} {meth : Method} {c : Code} {H : Heap} {locs : List Loc} {cells slots : Nat} {Qz : State → Prop} {cc : ByteArray} {nL : Nat} {ret : Option FieldType} {E : xx_E} {σ : XS} {pc : Nat} {ls : Array Slot} {rest : List Value} {th : Nat} {x1 : Option Nat} (cx : xx_X "StruckCounts" cc nL ret E p s m args meth c) (hR0 : xR E σ H) (hS0 : va_S (xA E) s.heap H locs) {r0 : Option Nat} (hr : r0 = some th) (hk : kd σ th = 1) {Qf : Int32 → XS → Prop} (hw : wX0_fails th x1 σ Qf) (hR : (({ frames := 0, cells := 0, slots := 0, locals := 0 } : Room)).frames + 1 ≤ R.frames ∧ 8 + (2 + 11) + (({ frames := 0, cells := 0, slots := 0, locals := 0 } : Room)).locals ≤ R.locals) (hrest : rest.length ≤ 4) (hsize : ls.size = nL) (hf : cells + 0 ≤ R.cells ∧ slots + 0 ≤ R.slots) (hdg : decode cc pc = .ok (.invokevirtual 123, 3))
    (kk : ∀ (r : Int32) (σ1 : XS) (H1 : Heap) (locs1 : List Loc), Qf r σ1 → xR E σ1 H1 → va_S (xA E) s.heap H1 locs1 → W p l e R s m args below meth c H1 locs1 (cells + 0) (slots + 0) Qz (F0 m (pc + 3) ls (.int r :: rest))) : W p l e R s m args below meth c H locs cells slots Qz (F0 m pc ls (xv E x1 :: xv E r0 :: rest)) := by
  subst hr
  obtain ⟨hx, hb, hml, hown, hts, hrt, hlk, hK, hZ⟩ := id cx
  exact x_goi (va_runV (As := [xv E x1]) (rest := rest) (x_fix cx) (MX0_fails l E th x1 σ Qf hw) (cwV 1 hts (lw_V q1893 q1895 qs32 q156 q1896) rfl rfl rfl (by decide +kernel) hR) (x_preV cx hR0 hS0 hk (by decide) (q := (RX0, TX0, 24)) rfl rfl [xv E x1]) rfl rfl hsize rfl (lv_room (xroom hrest)) hdg hf) hS0 kk
def wX0_suit_47 (d : Nat) (Q : Int32 → XS → Prop) (K47 : Nat → Int32 → Nat → Nat → XS → Prop) (th : Nat) (x1 : Int32) (bc : Nat) (bs : Nat) (σ : XS) : Prop :=
  if (2 : Int32) ≤ x1 then (kd σ th = 1 ∧ (xK ≤ th ∧ (oc (pfi (pfi σ th 10 (-1 : Int32)) th 11 (-1 : Int32)) (fr (pfi (pfi σ th 10 (-1 : Int32)) th 11 (-1 : Int32)) th 5) 2 (fun a2 => Q (fi (pfi (pfi σ th 10 (-1 : Int32)) th 11 (-1 : Int32)) a2 7) (pfi (pfi σ th 10 (-1 : Int32)) th 11 (-1 : Int32)))))) else (kd σ th = 1 ∧ (oc σ (fr σ th 9) 101 (fun a4 => xK ≤ a4 ∧ (vp_in x1 (ln σ a4) ∧ (∀ v5 : Int32, v5 = x1 + (1 : Int32) → K47 th v5 bc bs (pai σ a4 x1.toNatClampNeg (0 : Int32)))))))
set_option maxHeartbeats 4000000 in
theorem BX0_suit_47 {l : Launch} {p : Program} {e : Env} {s : State} {m : MethodId} {args : Array Value} {below : List Frame} {meth : Method} {c : Code} {E : xx_E} {mc ms : Nat} {Q : Int32 → XS → Prop} {K47 : Nat → Int32 → Nat → Nat → XS → Prop} (d : Nat) (cx : xx_X "StruckCounts" cX0_suit 2 (some .int) E p s m args meth c) (htab : c.exceptionTable.toList = [⟨0, 18, 21, 109⟩]) (hK47 : ∀ (th : Nat) (x1 : Int32) (bc : Nat) (bs : Nat) (σ : XS), K47 th x1 bc bs σ → x_T p l e ({ frames := (19 + 4 * d), cells := mc, slots := ms, locals := 40 * (19 + 4 * d) } : Room) s m args below meth c E (va_Qi Q (fun σ' t => xW E σ' t) (xA E)) mc ms 2 47 bc bs σ [(0, xv E (some th)), (1, .int x1)] []) : ∀ (th : Nat) (x1 : Int32) (bc : Nat) (bs : Nat) (σ : XS), wX0_suit_47 d Q K47 th x1 bc bs σ → x_T p l e ({ frames := (19 + 4 * d), cells := mc, slots := ms, locals := 40 * (19 + 4 * d) } : Room) s m args below meth c E (va_Qi Q (fun σ' t => xW E σ' t) (xA E)) mc ms 2 47 bc bs σ [(0, xv E (some th)), (1, .int x1)] [] := by
  intro th x1 bc bs σ hw H locs ls cells slots hR hS hl hcb hsb
  unfold wX0_suit_47 at hw
  obtain ⟨hx, hb, hml, hown, hts, hrt, hlk, hMK, hZ⟩ := id cx
  refine lv_iload_n hx hb dX0_suit_47 rfl (lv_at hl 1 rfl) ?_
  refine lv_iconst (v := (2 : Int32)) hx hb dX0_suit_48 (by decide) ?_
  refine lv_icmp_ge (tgt := 65) hx hb dX0_suit_49 (by decide) (fun hc => ?_) (fun hc => ?_)
  · have hw := mm_ip hc hw
    refine x_aload_n cx dX0_suit_65 rfl (lv_at hl 0 rfl) ?_
    refine lv_iconst (v := (-1 : Int32)) hx hb dX0_suit_66 (by decide) ?_
    obtain ⟨hk1, hw⟩ := hw
    obtain ⟨hge_th, hw⟩ := hw
    refine xp_X0_46_1 (v := (-1 : Int32)) cx hR hS rfl hge_th hk1 dX0_suit_67 (fun H locs hR hS => ?_)
    refine x_aload_n cx dX0_suit_70 rfl (lv_at hl 0 rfl) ?_
    refine lv_iconst (v := (-1 : Int32)) hx hb dX0_suit_71 (by decide) ?_
    refine xp_X0_49_1 (v := (-1 : Int32)) cx hR hS rfl hge_th hk1 dX0_suit_72 (fun H locs hR hS => ?_)
    refine x_aload_n cx dX0_suit_75 rfl (lv_at hl 0 rfl) ?_
    refine xg_X0_24_1 cx hR rfl hk1 dX0_suit_76 ?_
    obtain ⟨a2, hr2, hk2, hw⟩ := hw
    refine xg_X0_130_2 cx hR hr2 hk2 dX0_suit_79 ?_
    exact x_iret cx hR hS (xle hcb) (xle hsb) hw dX0_suit_82
  · have hw := mm_in hc hw
    refine x_aload_n cx dX0_suit_52 rfl (lv_at hl 0 rfl) ?_
    obtain ⟨hk3, hw⟩ := hw
    refine xg_X0_42_1 cx hR rfl hk3 dX0_suit_53 ?_
    refine lv_iload_n hx hb dX0_suit_56 rfl (lv_at hl 1 rfl) ?_
    refine lv_iconst (v := (0 : Int32)) hx hb dX0_suit_57 (by decide) ?_
    obtain ⟨a4, hr4, hk4, hw⟩ := hw
    obtain ⟨hge_a4, hw⟩ := hw
    obtain ⟨hi, hw⟩ := hw
    refine x_zast cx hR hS hr4 hge_a4 hk4 (j := x1.toNatClampNeg) rfl hi (Or.inl rfl) dX0_suit_58 (fun H locs hR hS => ?_)
    obtain ⟨v5, hv5⟩ : ∃ v : Int32, v = x1 + (1 : Int32) := ⟨_, rfl⟩
    have hw := hw v5 hv5
    refine lv_iinc (v := v5) (lv' := [(1, .int v5), (0, xv E (some th))]) hx hb dX0_suit_59 hl (k := 1) rfl (by rw [hv5]; rfl) (by decide) (by simp [xv_cat]) (fun ls hl => ?_)
    refine lv_goto (tgt := 47) hx hb dX0_suit_62 (by decide) ?_
    exact hK47 _ _ _ _ _ hw _ _ _ _ _ hR hS (lv_sub hl [1, 0] rfl) hcb hsb
theorem LX0_suit_47 {l : Launch} {p : Program} {e : Env} {s : State} {m : MethodId} {args : Array Value} {below : List Frame} {meth : Method} {c : Code} {E : xx_E} {mc ms : Nat} {Q : Int32 → XS → Prop} (d : Nat) (cx : xx_X "StruckCounts" cX0_suit 2 (some .int) E p s m args meth c) (htab : c.exceptionTable.toList = [⟨0, 18, 21, 109⟩]) : ∀ (th : Nat) (x1 : Int32) (bc : Nat) (bs : Nat) (σ : XS), lp5F (wX0_suit_47 d Q) th x1 bc bs σ → x_T p l e ({ frames := (19 + 4 * d), cells := mc, slots := ms, locals := 40 * (19 + 4 * d) } : Room) s m args below meth c E (va_Qi Q (fun σ' t => xW E σ' t) (xA E)) mc ms 2 47 bc bs σ [(0, xv E (some th)), (1, .int x1)] [] :=
  lp5F_of (fun K hK => BX0_suit_47 d cx htab hK)
def wX0_suit (d : Nat) (th : Nat) (bc : Nat) (bs : Nat) (σ : XS) (Q : Int32 → XS → Prop) : Prop :=
  1 ≤ bc ∧ 12 ≤ bs ∧ (kd (xal σ 2 0) (xn σ) = 2 ∧ (∃ k8 n8 : Nat, k8 ≤ (bc - 1) ∧ n8 ≤ (bs - 12) ∧ (wX1_init (xn σ) k8 n8 (xal σ 2 0) (fun s6 => kd s6 th = 1 ∧ (∃ k11 n11 : Nat, k11 ≤ ((bc - 1) - k8) ∧ n11 ≤ ((bs - 12) - n8) ∧ (wX0_reads th (some (xn σ)) k11 n11 s6 (fun r9 s9 => oc s9 r9 4 (fun a13 => ∃ k14 n14 : Nat, k14 ≤ (((bc - 1) - k8) - k11) ∧ n14 ≤ (((bs - 12) - n8) - n11) ∧ (wX4_whole d a13 k14 n14 s9 (fun r12 s12 => kd s12 th = 1 ∧ (xK ≤ th ∧ (oc (pfr s12 th 5 r12) (fr (pfr s12 th 5 r12) th 6) 3 (fun a20 => wX2_begins a20 (fr (pfr s12 th 5 r12) th 5) (pfr s12 th 5 r12) (fun r19 s19 => kd s19 th = 1 ∧ (lp5F (wX0_suit_47 d Q) th (0 : Int32) ((((bc - 1) - k8) - k11) - k14) ((((bs - 12) - n8) - n11) - n14) (pfi s19 th 4 (0 : Int32)))))))) (fun q15 s15 => kd s15 th = 1 ∧ (wX0_fails th (some q15) s15 (fun r16 s16 => Q r16 s16))))))))))))
set_option maxHeartbeats 4000000 in
theorem MX0_suit (l : Launch) (E : xx_E) (d : Nat) (th : Nat) (bc : Nat) (bs : Nat) (σ : XS) (Q : Int32 → XS → Prop) (hw : wX0_suit d th bc bs σ Q) : xx_Mi l yX0_suit (xsW_ yX0_suit cX0_suit 2 (some .int) [(0, 18, 21, 109)]) ({ frames := (19 + 4 * d), cells := bc, slots := bs, locals := 40 * (19 + 4 * d) } : Room) E [xv E (some th)] σ Q bc bs := by
  refine x_ofH (own := "StruckCounts") (by decide +kernel) rfl ?_
  intro p e s m args below meth c cx htab hR ha hnm
  refine x_entry [xv E (some th)] 2 [(0, xv E (some th))] ha (by simp [lg_sl, xv_cat, vc_i, vc_j, vc_f]) (by simp [lv_args, xv_cat, vc_i, vc_j, vc_f]) (fun ls hl => ?_)
  have hS : va_S (xA E) s.heap s.heap [] := va_S.rf
  have hcb : 0 + bc ≤ bc := Nat.le_of_eq (Nat.zero_add _)
  have hsb : 0 + bs ≤ bs := Nat.le_of_eq (Nat.zero_add _)
  unfold wX0_suit at hw
  obtain ⟨hx, hb, hml, hown, hts, hrt, hlk, hMK, hZ⟩ := id cx
  refine x_aload_n cx dX0_suit_0 rfl (lv_at hl 0 rfl) ?_
  refine x_aload_n cx dX0_suit_1 rfl (lv_at hl 0 rfl) ?_
  obtain ⟨hb1, hb2, hw⟩ := hw
  refine xn_X0_17 cx hR hS (by dsimp only; omega) (by dsimp only; omega) dX0_suit_2 (fun H hR hS => ?_)
  have hcb := xadd hb1 hcb
  have hsb := xadd hb2 hsb
  refine lv_dup hx hb dX0_suit_5 (xv_cat _ _) ?_
  obtain ⟨hk7, hw⟩ := hw
  obtain ⟨k8, n8, hb1, hb2, hw⟩ := hw
  refine CX1_init_X0_19 cx hR hS rfl hk7 hw (by constructor <;> dsimp only <;> omega) (Nat.le_of_ble_eq_true rfl) hl.1 ⟨by dsimp only; omega, by dsimp only; omega⟩ dX0_suit_6 (fun s6 H locs hw hR hS => ?_)
  have hcb := xadd hb1 hcb
  have hsb := xadd hb2 hsb
  obtain ⟨hk10, hw⟩ := hw
  obtain ⟨k11, n11, hb1, hb2, hw⟩ := hw
  refine CX0_reads_X0_116 cx hR hS rfl hk10 hw (by constructor <;> dsimp only <;> omega) (Nat.le_of_ble_eq_true rfl) hl.1 ⟨by dsimp only; omega, by dsimp only; omega⟩ dX0_suit_9 (fun r9 s9 H locs hw hR hS => ?_)
  have hcb := xadd hb1 hcb
  have hsb := xadd hb2 hsb
  obtain ⟨a13, hr13, hk13, hw⟩ := hw
  obtain ⟨k14, n14, hb1, hb2, hw⟩ := hw
  refine CX4_whole_X0_120H d cx (x := ⟨0, 18, 21, 109⟩) htab (by decide) (by decide) q659 hR hS hr13 hk13 hw (by constructor <;> dsimp only <;> omega) (Nat.le_of_ble_eq_true rfl) hl.1 ⟨by dsimp only; omega, by dsimp only; omega⟩ dX0_suit_12 (fun q15 s15 H locs hw hkq hR hS => ?_) (fun r12 s12 H locs hw hR hS => ?_)
  · have hcb := xadd hb1 hcb
    have hsb := xadd hb2 hsb
    refine x_astore_n (i := 1) (r := (some q15)) (lv' := [(1, xv E (some q15)), (0, xv E (some th))]) cx dX0_suit_21 rfl hl (by decide) (by simp [xv_cat]) (fun ls hl => ?_)
    refine x_aload_n cx dX0_suit_22 rfl (lv_at hl 1 rfl) ?_
    refine x_aload_n cx dX0_suit_23 rfl (lv_at hl 0 rfl) ?_
    obtain ⟨hk17, hw⟩ := hw
    refine CX0_fails_X0_123 cx hR hS rfl hk17 hw (by constructor <;> dsimp only <;> omega) (Nat.le_of_ble_eq_true rfl) hl.1 ⟨by dsimp only; omega, by dsimp only; omega⟩ dX0_suit_24 (fun r16 s16 H locs hw hR hS => ?_)
    exact x_iret cx hR hS (xle hcb) (xle hsb) hw dX0_suit_27
  have hcb := xadd hb1 hcb
  have hsb := xadd hb2 hsb
  obtain ⟨hk18, hw⟩ := hw
  obtain ⟨hge_th, hw⟩ := hw
  refine xp_X0_24_1 (v := r12) cx hR hS rfl hge_th hk18 dX0_suit_15 (fun H locs hR hS => ?_)
  refine lv_goto (tgt := 28) hx hb dX0_suit_18 (by decide) ?_
  refine x_aload_n cx dX0_suit_28 rfl (lv_at hl 0 rfl) ?_
  refine xg_X0_31_1 cx hR rfl hk18 dX0_suit_29 ?_
  refine x_aload_n cx dX0_suit_32 rfl (lv_at hl 0 rfl) ?_
  refine xg_X0_24_1 cx hR rfl hk18 dX0_suit_33 ?_
  obtain ⟨a20, hr20, hk20, hw⟩ := hw
  refine CX2_begins_X0_52 cx hR hS hr20 hk20 hw (by constructor <;> dsimp only <;> omega) (Nat.le_of_ble_eq_true rfl) hl.1 ⟨by dsimp only; omega, by dsimp only; omega⟩ dX0_suit_36 (fun r19 s19 H locs hw hR hS => ?_)
  refine lv_pop hx hb dX0_suit_39 (xv_cat _ _) ?_
  refine x_aload_n cx dX0_suit_40 rfl (lv_at hl 0 rfl) ?_
  refine lv_iconst (v := (0 : Int32)) hx hb dX0_suit_41 (by decide) ?_
  obtain ⟨hk21, hw⟩ := hw
  refine xp_X0_127_1 (v := (0 : Int32)) cx hR hS rfl hge_th hk21 dX0_suit_42 (fun H locs hR hS => ?_)
  refine lv_iconst (v := (0 : Int32)) hx hb dX0_suit_45 (by decide) ?_
  refine lv_istore_n (i := 1) (lv' := [(1, .int (0 : Int32)), (0, xv E (some th))]) hx hb dX0_suit_46 rfl hl (by decide) (by simp [xv_cat]) (fun ls hl => ?_)
  exact LX0_suit_47 d cx htab _ _ _ _ _ hw _ _ _ _ _ hR hS (lv_sub hl [1, 0] rfl) hcb hsb
-- X0_grown
def wX0_grown_34 (Q : Int32 → XS → Prop) (K34 : Nat → Int32 → Int32 → Int32 → Nat → Nat → XS → Prop) (th : Nat) (x2 : Int32) (x3 : Int32) (x4 : Int32) (bc : Nat) (bs : Nat) (σ : XS) : Prop :=
  if x2 ≤ x4 then (Q x3 σ) else (if 0 ≤ ((x3 ^^^ (x3 + (x3 / (10 : Int32)))) &&& ((x3 / (10 : Int32)) ^^^ (x3 + (x3 / (10 : Int32))))) then (∀ v2 : Int32, v2 = (x3 + (x3 / (10 : Int32))) → ∀ v3 : Int32, v3 = x4 + (1 : Int32) → K34 th x2 v2 v3 bc bs σ) else (1 ≤ bc ∧ 6 ≤ bs ∧ ∀ n1 : Nat, xn σ ≤ n1 → Q (-2 : Int32) (xsk σ n1)))
set_option maxHeartbeats 4000000 in
theorem BX0_grown_34 {l : Launch} {p : Program} {e : Env} {s : State} {m : MethodId} {args : Array Value} {below : List Frame} {meth : Method} {c : Code} {E : xx_E} {mc ms : Nat} {Q : Int32 → XS → Prop} {K34 : Nat → Int32 → Int32 → Int32 → Nat → Nat → XS → Prop} (cx : xx_X "StruckCounts" cX0_grown 5 (some .int) E p s m args meth c) (htab : c.exceptionTable.toList = [⟨31, 55, 58, 368⟩]) (hl9 : l.stackTraces = false) (hK34 : ∀ (th : Nat) (x2 : Int32) (x3 : Int32) (x4 : Int32) (bc : Nat) (bs : Nat) (σ : XS), K34 th x2 x3 x4 bc bs σ → x_T p l e ({ frames := 7, cells := mc, slots := ms, locals := 280 } : Room) s m args below meth c E (va_Qi Q (fun σ' t => xW E σ' t) (xA E)) mc ms 5 34 bc bs σ [(0, xv E (some th)), (2, .int x2), (3, .int x3), (4, .int x4)] []) : ∀ (th : Nat) (x2 : Int32) (x3 : Int32) (x4 : Int32) (bc : Nat) (bs : Nat) (σ : XS), wX0_grown_34 Q K34 th x2 x3 x4 bc bs σ → x_T p l e ({ frames := 7, cells := mc, slots := ms, locals := 280 } : Room) s m args below meth c E (va_Qi Q (fun σ' t => xW E σ' t) (xA E)) mc ms 5 34 bc bs σ [(0, xv E (some th)), (2, .int x2), (3, .int x3), (4, .int x4)] [] := by
  intro th x2 x3 x4 bc bs σ hw H locs ls cells slots hR hS hl hcb hsb
  unfold wX0_grown_34 at hw
  obtain ⟨hx, hb, hml, hown, hts, hrt, hlk, hMK, hZ⟩ := id cx
  refine lv_iload hx hb dX0_grown_34 (lv_at hl 3 rfl) ?_
  refine lv_iload_n hx hb dX0_grown_36 rfl (lv_at hl 1 rfl) ?_
  refine lv_icmp_ge (tgt := 55) hx hb dX0_grown_37 (by decide) (fun hc => ?_) (fun hc => ?_)
  · have hw := mm_ip hc hw
    refine lv_goto (tgt := 63) hx hb dX0_grown_55 (by decide) ?_
    refine lv_iload_n hx hb dX0_grown_63 rfl (lv_at hl 2 rfl) ?_
    exact x_iret cx hR hS (xle hcb) (xle hsb) hw dX0_grown_64
  · have hw := mm_in hc hw
    refine lv_iload_n hx hb dX0_grown_40 rfl (lv_at hl 2 rfl) ?_
    refine lv_iload_n hx hb dX0_grown_41 rfl (lv_at hl 2 rfl) ?_
    refine lv_bipush (v := (10 : Int32)) hx hb dX0_grown_42 (by decide) ?_
    refine lv_idiv hx hb dX0_grown_44 (by decide) ?_
    refine x_addx hl9 cx (x := ⟨31, 55, 58, 368⟩) htab (by decide) (by decide) q2162 hR hS q2186 ⟨by dsimp only; omega, by dsimp only; omega⟩ (by dsimp only; omega) (by dsimp only; omega) (Nat.le_of_ble_eq_true rfl) hl.1 dX0_grown_45 (fun hc H locs hR hS => ?_) (fun hc => ?_)
    · have hw := mm_ip hc hw
      refine lv_topi (fun v2 hv2 => ?_)
      have hw := hw v2 hv2
      refine lv_istore_n (i := 3) (lv' := [(3, .int v2), (0, xv E (some th)), (2, .int x2), (4, .int x4)]) hx hb dX0_grown_48 rfl hl (by decide) rfl (fun ls hl => ?_)
      obtain ⟨v3, hv3⟩ : ∃ v : Int32, v = x4 + (1 : Int32) := ⟨_, rfl⟩
      have hw := hw v3 hv3
      refine lv_iinc (v := v3) (lv' := [(4, .int v3), (3, .int v2), (0, xv E (some th)), (2, .int x2)]) hx hb dX0_grown_49 hl (k := 3) rfl (by rw [hv3]; rfl) (by decide) rfl (fun ls hl => ?_)
      refine lv_goto (tgt := 34) hx hb dX0_grown_52 (by decide) ?_
      exact hK34 _ _ _ _ _ _ _ hw _ _ _ _ _ hR hS (lv_sub hl [2, 3, 1, 0] rfl) hcb hsb
    · have hw := mm_in hc hw
      obtain ⟨hb1, hb2, hw⟩ := hw
      refine ⟨⟨by dsimp only; omega, by dsimp only; omega⟩, fun n1 H locs hn9 hR hS => ?_⟩
      have hw := hw n1 hn9
      have hcb := xadd hb1 hcb
      have hsb := xadd hb2 hsb
      refine x_astore (i := 4) (r := (some (xn σ))) (lv' := [(4, xv E (some (xn σ))), (0, xv E (some th)), (2, .int x2), (3, .int x3)]) cx dX0_grown_58 hl (by decide) rfl (fun ls hl => ?_)
      refine lv_bipush (v := (-2 : Int32)) hx hb dX0_grown_60 (by decide) ?_
      exact x_iret cx hR hS (xle hcb) (xle hsb) hw dX0_grown_62
theorem LX0_grown_34 {l : Launch} {p : Program} {e : Env} {s : State} {m : MethodId} {args : Array Value} {below : List Frame} {meth : Method} {c : Code} {E : xx_E} {mc ms : Nat} {Q : Int32 → XS → Prop} (cx : xx_X "StruckCounts" cX0_grown 5 (some .int) E p s m args meth c) (htab : c.exceptionTable.toList = [⟨31, 55, 58, 368⟩]) (hl9 : l.stackTraces = false) : ∀ (th : Nat) (x2 : Int32) (x3 : Int32) (x4 : Int32) (bc : Nat) (bs : Nat) (σ : XS), lp7F (wX0_grown_34 Q) th x2 x3 x4 bc bs σ → x_T p l e ({ frames := 7, cells := mc, slots := ms, locals := 280 } : Room) s m args below meth c E (va_Qi Q (fun σ' t => xW E σ' t) (xA E)) mc ms 5 34 bc bs σ [(0, xv E (some th)), (2, .int x2), (3, .int x3), (4, .int x4)] [] :=
  lp7F_of (fun K hK => BX0_grown_34 cx htab hl9 hK)
def wX0_grown (th : Nat) (x1 : Int32) (x2 : Int32) (bc : Nat) (bs : Nat) (σ : XS) (Q : Int32 → XS → Prop) : Prop :=
  kd σ th = 1 ∧ (wX0_isCount th x1 σ (fun r4 s4 => if r4 = 0 then (Q (-1 : Int32) s4) else (wX0_in x2 (0 : Int32) (400 : Int32) s4 (fun r6 s6 => if r6 = 0 then (Q (-1 : Int32) s6) else (kd s6 th = 1 ∧ (oc s6 (fr s6 th 6) 3 (fun a8 => oc s6 (fr s6 a8 2) 100 (fun a9 => vp_in x1 (ln s6 a9) ∧ (∀ v10 : Int32, v10 = (ai s6 a9 x1.toNatClampNeg) → lp7F (wX0_grown_34 Q) th x2 v10 (0 : Int32) bc bs s6)))))))))
set_option maxHeartbeats 4000000 in
theorem MX0_grown (l : Launch) (hl9 : l.stackTraces = false) (E : xx_E) (th : Nat) (x1 : Int32) (x2 : Int32) (bc : Nat) (bs : Nat) (σ : XS) (Q : Int32 → XS → Prop) (hw : wX0_grown th x1 x2 bc bs σ Q) : xx_Mi l yX0_grown (xsW_ yX0_grown cX0_grown 5 (some .int) [(31, 55, 58, 368)]) ({ frames := 7, cells := bc, slots := bs, locals := 280 } : Room) E [xv E (some th), .int x1, .int x2] σ Q bc bs := by
  refine x_ofH (own := "StruckCounts") (by decide +kernel) rfl ?_
  intro p e s m args below meth c cx htab hR ha hnm
  refine x_entry [xv E (some th), .int x1, .int x2] 5 [(0, xv E (some th)), (1, .int x1), (2, .int x2)] ha (by simp [lg_sl, xv_cat, vc_i, vc_j, vc_f]) (by simp [lv_args, xv_cat, vc_i, vc_j, vc_f]) (fun ls hl => ?_)
  have hS : va_S (xA E) s.heap s.heap [] := va_S.rf
  have hcb : 0 + bc ≤ bc := Nat.le_of_eq (Nat.zero_add _)
  have hsb : 0 + bs ≤ bs := Nat.le_of_eq (Nat.zero_add _)
  unfold wX0_grown at hw
  obtain ⟨hx, hb, hml, hown, hts, hrt, hlk, hMK, hZ⟩ := id cx
  refine x_aload_n cx dX0_grown_0 rfl (lv_at hl 0 rfl) ?_
  refine lv_iload_n hx hb dX0_grown_1 rfl (lv_at hl 1 rfl) ?_
  obtain ⟨hk5, hw⟩ := hw
  refine CX0_isCount_X0_290 cx hR hS rfl hk5 hw ⟨Nat.le_of_ble_eq_true rfl, Nat.le_of_ble_eq_true rfl⟩ (Nat.le_of_ble_eq_true rfl) hl.1 ⟨by dsimp only; omega, by dsimp only; omega⟩ dX0_grown_2 (fun r4 s4 H locs hw hR hS => ?_)
  refine lv_if_eq (tgt := 19) hx hb dX0_grown_5 (by decide) (fun hc => ?_) (fun hc => ?_)
  · have hw := mm_ip hc hw
    refine lv_iconst (v := (-1 : Int32)) hx hb dX0_grown_19 (by decide) ?_
    exact x_iret cx hR hS (xle hcb) (xle hsb) hw dX0_grown_20
  · have hw := mm_in hc hw
    refine lv_iload_n hx hb dX0_grown_8 rfl (lv_at hl 2 rfl) ?_
    refine lv_iconst (v := (0 : Int32)) hx hb dX0_grown_9 (by decide) ?_
    refine lv_sipush (v := (400 : Int32)) hx hb dX0_grown_10 (by decide) ?_
    refine CX0_in_X0_96 cx hR hS  hw ⟨Nat.le_of_ble_eq_true rfl, Nat.le_of_ble_eq_true rfl⟩ (Nat.le_of_ble_eq_true rfl) hl.1 ⟨by dsimp only; omega, by dsimp only; omega⟩ dX0_grown_13 (fun r6 s6 H locs hw hR hS => ?_)
    refine lv_if_ne (tgt := 21) hx hb dX0_grown_16 (by decide) (fun hc => ?_) (fun hc => ?_)
    · have hw := mm_in hc hw
      refine x_aload_n cx dX0_grown_21 rfl (lv_at hl 0 rfl) ?_
      obtain ⟨hk7, hw⟩ := hw
      refine xg_X0_31_1 cx hR rfl hk7 dX0_grown_22 ?_
      obtain ⟨a8, hr8, hk8, hw⟩ := hw
      refine xg_X0_293_3 cx hR hr8 hk8 dX0_grown_25 ?_
      refine lv_iload_n hx hb dX0_grown_28 rfl (lv_at hl 1 rfl) ?_
      obtain ⟨a9, hr9, hk9, hw⟩ := hw
      obtain ⟨hi, hw⟩ := hw
      refine x_iald cx hR hr9 hk9 (j := x1.toNatClampNeg) rfl hi dX0_grown_29 ?_
      refine lv_topi (fun v10 hv10 => ?_)
      have hw := hw v10 hv10
      refine lv_istore_n (i := 3) (lv' := [(3, .int v10), (0, xv E (some th)), (1, .int x1), (2, .int x2)]) hx hb dX0_grown_30 rfl hl (by decide) rfl (fun ls hl => ?_)
      refine lv_iconst (v := (0 : Int32)) hx hb dX0_grown_31 (by decide) ?_
      refine lv_istore (i := 4) (lv' := [(4, .int (0 : Int32)), (3, .int v10), (0, xv E (some th)), (1, .int x1), (2, .int x2)]) hx hb dX0_grown_32 hl (by decide) rfl (fun ls hl => ?_)
      exact LX0_grown_34 cx htab hl9 _ _ _ _ _ _ _ hw _ _ _ _ _ hR hS (lv_sub hl [2, 4, 1, 0] rfl) hcb hsb
    · have hw := mm_ip hc hw
      refine lv_iconst (v := (-1 : Int32)) hx hb dX0_grown_19 (by decide) ?_
      exact x_iret cx hR hS (xle hcb) (xle hsb) hw dX0_grown_20
-- X4_asked
theorem CX13_laid_X4_236 {l : Launch} {p : Program} {e : Env} {R : Room} {s : State} {m : MethodId} {args : Array Value} {below : List Frame} {meth : Method} {c : Code} {H : Heap} {locs : List Loc} {cells slots : Nat} {Qz : State → Prop} {cc : ByteArray} {nL : Nat} {ret : Option FieldType} {E : xx_E} {σ : XS} {pc : Nat} {ls : Array Slot} {rest : List Value} (d : Nat) {th : Nat} {x1 : Int32} {k n : Nat} (cx : xx_X "StruckCounts$Reader" cc nL ret E p s m args meth c) (hR0 : xR E σ H) (hS0 : va_S (xA E) s.heap H locs) {r0 : Option Nat} (hr : r0 = some th) (hk : kd σ th = 13) {Qf : Option Nat → XS → Prop} (hw : wX13_laid d th x1 k n σ Qf) (hR : (({ frames := (5 + 3 * d), cells := k, slots := n, locals := 40 * (5 + 3 * d) } : Room)).frames + 1 ≤ R.frames ∧ 8 + (3 + 11) + (({ frames := (5 + 3 * d), cells := k, slots := n, locals := 40 * (5 + 3 * d) } : Room)).locals ≤ R.locals) (hrest : rest.length ≤ 4) (hsize : ls.size = nL) (hf : cells + k ≤ R.cells ∧ slots + n ≤ R.slots) (hdg : decode cc pc = .ok (.invokevirtual 236, 3))
    (kk : ∀ (r : Option Nat) (σ1 : XS) (H1 : Heap) (locs1 : List Loc), Qf r σ1 → xR E σ1 H1 → va_S (xA E) s.heap H1 locs1 → W p l e R s m args below meth c H1 locs1 (cells + k) (slots + n) Qz (F0 m (pc + 3) ls (xv E r :: rest))) : W p l e R s m args below meth c H locs cells slots Qz (F0 m pc ls (.int x1 :: xv E r0 :: rest)) := by
  subst hr
  obtain ⟨hx, hb, hml, hown, hts, hrt, hlk, hK, hZ⟩ := id cx
  exact x_gor (va_runV (As := [.int x1]) (rest := rest) (x_fix cx) (MX13_laid l E d th x1 k n σ Qf hw) (cwV 1 hts (lw_V q2354 q472 q473 q200 q474) rfl rfl rfl (by decide +kernel) hR) (x_preV cx hR0 hS0 hk (by decide) (q := (RX13, TX13, 2)) rfl rfl [.int x1]) rfl rfl hsize rfl (lv_room (xroom hrest)) hdg hf) hS0 kk
def wX4_asked_18 (d : Nat) (Q : Option Nat → XS → Prop) (T : Nat → XS → Prop) (th : Nat) (x1 : Option Nat) (t0 : Option Nat) (t1 : Int32) (bc : Nat) (bs : Nat) (σ : XS) : Prop :=
  oc σ t0 4 (fun a2 => ∃ k3 n3 : Nat, k3 ≤ bc ∧ n3 ≤ bs ∧ (wX4_must a2 t1 (1 : Int32) k3 n3 σ (fun s1 => 1 ≤ (bc - k3) ∧ 2 ≤ (bs - n3) ∧ (kd (xal s1 13 0) (xn s1) = 13 ∧ (∃ k6 n6 : Nat, k6 ≤ ((bc - k3) - 1) ∧ n6 ≤ ((bs - n3) - 2) ∧ (wX13_init (xn s1) x1 k6 n6 (xal s1 13 0) (fun s4 => kd s4 th = 4 ∧ (oc s4 (fr s4 th 2) 2 (fun a8 => kd s4 (xn s1) = 13 ∧ (∃ k11 n11 : Nat, k11 ≤ (((bc - k3) - 1) - k6) ∧ n11 ≤ (((bs - n3) - 2) - n6) ∧ (wX13_laid d (xn s1) (fi s4 a8 5) k11 n11 s4 (fun r9 s9 => Q r9 s9)))))))))) T))
set_option maxHeartbeats 4000000 in
theorem BX4_asked_18 {l : Launch} {p : Program} {e : Env} {s : State} {m : MethodId} {args : Array Value} {below : List Frame} {meth : Method} {c : Code} {E : xx_E} {mc ms : Nat} {Q : Option Nat → XS → Prop} {T : Nat → XS → Prop} (d : Nat) (cx : xx_X "StruckCounts$Reader" cX4_asked 2 (some (.object "StruckCounts$Rule")) E p s m args meth c) (hnt : xnt c) : ∀ (th : Nat) (x1 : Option Nat) (t0 : Option Nat) (t1 : Int32) (bc : Nat) (bs : Nat) (σ : XS), wX4_asked_18 d Q T th x1 t0 t1 bc bs σ → x_TT p l e ({ frames := (16 + 4 * d), cells := mc, slots := ms, locals := 40 * (16 + 4 * d) } : Room) s m args below meth c E T (va_Qe (xr E) Q (fun σ' t => xW E σ' t) (xA E)) mc ms 2 18 bc bs σ [(0, xv E (some th)), (1, xv E x1)] [.int t1, xv E t0] := by
  intro th x1 t0 t1 bc bs σ hw H locs ls cells slots hR hS hl hcb hsb
  unfold wX4_asked_18 at hw
  obtain ⟨hx, hb, hml, hown, hts, hrt, hlk, hMK, hZ⟩ := id cx
  refine lv_iconst (v := (1 : Int32)) hx hb dX4_asked_18 (by decide) ?_
  obtain ⟨a2, hr2, hk2, hw⟩ := hw
  obtain ⟨k3, n3, hb1, hb2, hw⟩ := hw
  refine CX4_must_X4_112T cx hnt hR hS hr2 hk2 hw (by constructor <;> dsimp only <;> omega) (Nat.le_of_ble_eq_true rfl) hl.1 ⟨by dsimp only; omega, by dsimp only; omega⟩ (xle (xadd hb1 hcb)) (xle (xadd hb2 hsb)) dX4_asked_19 (fun s1 H locs hw hR hS => ?_)
  have hcb := xadd hb1 hcb
  have hsb := xadd hb2 hsb
  obtain ⟨hb1, hb2, hw⟩ := hw
  refine xn_X4_230 cx hR hS (by dsimp only; omega) (by dsimp only; omega) dX4_asked_22 (fun H hR hS => ?_)
  have hcb := xadd hb1 hcb
  have hsb := xadd hb2 hsb
  refine lv_dup hx hb dX4_asked_25 (xv_cat _ _) ?_
  refine x_aload_n cx dX4_asked_26 rfl (lv_at hl 1 rfl) ?_
  obtain ⟨hk5, hw⟩ := hw
  obtain ⟨k6, n6, hb1, hb2, hw⟩ := hw
  refine CX13_init_X4_232 cx hR hS rfl hk5 hw (by constructor <;> dsimp only <;> omega) (Nat.le_of_ble_eq_true rfl) hl.1 ⟨by dsimp only; omega, by dsimp only; omega⟩ dX4_asked_27 (fun s4 H locs hw hR hS => ?_)
  have hcb := xadd hb1 hcb
  have hsb := xadd hb2 hsb
  refine x_aload_n cx dX4_asked_30 rfl (lv_at hl 0 rfl) ?_
  obtain ⟨hk7, hw⟩ := hw
  refine xg_X4_25_4 cx hR rfl hk7 dX4_asked_31 ?_
  obtain ⟨a8, hr8, hk8, hw⟩ := hw
  refine xg_X4_233_2 cx hR hr8 hk8 dX4_asked_34 ?_
  obtain ⟨hk10, hw⟩ := hw
  obtain ⟨k11, n11, hb1, hb2, hw⟩ := hw
  refine CX13_laid_X4_236 d cx hR hS rfl hk10 hw (by constructor <;> dsimp only <;> omega) (Nat.le_of_ble_eq_true rfl) hl.1 ⟨by dsimp only; omega, by dsimp only; omega⟩ dX4_asked_37 (fun r9 s9 H locs hw hR hS => ?_)
  have hcb := xadd hb1 hcb
  have hsb := xadd hb2 hsb
  exact vx_ret (x_aret cx (by first | exact Or.inl ⟨_, rfl⟩ | exact Or.inr ⟨_, rfl⟩) hR hS (xle hcb) (xle hsb) hw dX4_asked_40)
def wX4_asked (d : Nat) (th : Nat) (bc : Nat) (bs : Nat) (σ : XS) (Q : Option Nat → XS → Prop) (T : Nat → XS → Prop) : Prop :=
  kd σ th = 4 ∧ (∃ k14 n14 : Nat, k14 ≤ bc ∧ n14 ≤ bs ∧ (wX4_any (wX4_one d) th k14 n14 σ (fun r12 s12 => kd s12 th = 4 ∧ (if (fi s12 th 5) = 0 then (wX4_asked_18 d Q T th r12 (some th) (1 : Int32) (bc - k14) (bs - n14) s12) else (wX4_asked_18 d Q T th r12 (some th) (0 : Int32) (bc - k14) (bs - n14) s12))) T))
set_option maxHeartbeats 4000000 in
theorem MX4_asked (l : Launch) (E : xx_E) (d : Nat) (th : Nat) (bc : Nat) (bs : Nat) (σ : XS) (Q : Option Nat → XS → Prop) (T : Nat → XS → Prop) (hw : wX4_asked d th bc bs σ Q T) : xx_Tr l yX4_asked (ws_ yX4_asked cX4_asked 2 (some (.object "StruckCounts$Rule"))) ({ frames := (16 + 4 * d), cells := bc, slots := bs, locals := 40 * (16 + 4 * d) } : Room) E [xv E (some th)] σ Q T bc bs := by
  refine x_ofT (own := "StruckCounts$Reader") (by decide +kernel) rfl ?_
  intro p e s m args below meth c cx hnt hR ha hnm
  refine x_entry [xv E (some th)] 2 [(0, xv E (some th))] ha (by simp [lg_sl, xv_cat, vc_i, vc_j, vc_f]) (by simp [lv_args, xv_cat, vc_i, vc_j, vc_f]) (fun ls hl => ?_)
  have hS : va_S (xA E) s.heap s.heap [] := va_S.rf
  have hcb : 0 + bc ≤ bc := Nat.le_of_eq (Nat.zero_add _)
  have hsb : 0 + bs ≤ bs := Nat.le_of_eq (Nat.zero_add _)
  unfold wX4_asked at hw
  obtain ⟨hx, hb, hml, hown, hts, hrt, hlk, hMK, hZ⟩ := id cx
  refine x_aload_n cx dX4_asked_0 rfl (lv_at hl 0 rfl) ?_
  obtain ⟨hk13, hw⟩ := hw
  obtain ⟨k14, n14, hb1, hb2, hw⟩ := hw
  refine CX4_any_X4_198T d (MX4_one l E d) cx hnt hR hS rfl hk13 hw (by constructor <;> dsimp only <;> omega) (Nat.le_of_ble_eq_true rfl) hl.1 ⟨by dsimp only; omega, by dsimp only; omega⟩ (xle (xadd hb1 hcb)) (xle (xadd hb2 hsb)) dX4_asked_1 (fun r12 s12 H locs hw hR hS => ?_)
  have hcb := xadd hb1 hcb
  have hsb := xadd hb2 hsb
  refine x_astore_n (i := 1) (r := r12) (lv' := [(1, xv E r12), (0, xv E (some th))]) cx dX4_asked_4 rfl hl (by decide) (by simp [xv_cat]) (fun ls hl => ?_)
  refine x_aload_n cx dX4_asked_5 rfl (lv_at hl 1 rfl) ?_
  refine x_aload_n cx dX4_asked_6 rfl (lv_at hl 1 rfl) ?_
  obtain ⟨hk15, hw⟩ := hw
  refine xg_X4_45_4 cx hR rfl hk15 dX4_asked_7 ?_
  refine lv_if_ne (tgt := 17) hx hb dX4_asked_10 (by decide) (fun hc => ?_) (fun hc => ?_)
  · have hw := mm_in hc hw
    refine lv_iconst (v := (0 : Int32)) hx hb dX4_asked_17 (by decide) ?_
    exact BX4_asked_18 d cx hnt _ _ _ _ _ _ _ hw _ _ _ _ _ hR hS (lv_sub hl [1, 0] rfl) hcb hsb
  · have hw := mm_ip hc hw
    refine lv_iconst (v := (1 : Int32)) hx hb dX4_asked_13 (by decide) ?_
    refine lv_goto (tgt := 18) hx hb dX4_asked_14 (by decide) ?_
    exact BX4_asked_18 d cx hnt _ _ _ _ _ _ _ hw _ _ _ _ _ hR hS (lv_sub hl [1, 0] rfl) hcb hsb
-- X0_ask
theorem CX4_asked_X0_454H {l : Launch} {p : Program} {e : Env} {R : Room} {s : State} {m : MethodId} {args : Array Value} {below : List Frame} {meth : Method} {c : Code} {H : Heap} {locs : List Loc} {cells slots : Nat} {Qz : State → Prop} {cc : ByteArray} {nL : Nat} {ret : Option FieldType} {E : xx_E} {σ : XS} {pc : Nat} {ls : Array Slot} {rest : List Value} (d : Nat) {th : Nat} {k n : Nat} {T : Nat → XS → Prop} {x : ExceptionTableEntry} (cx : xx_X "StruckCounts" cc nL ret E p s m args meth c) (htab : c.exceptionTable.toList = [x]) (hcov : covers x pc = true) (h0 : x.catchType ≠ 0) (hq : Cond.classLink "StruckCounts" x.catchType "StruckCounts$Fault" ∈ lw_all) (hR0 : xR E σ H) (hS0 : va_S (xA E) s.heap H locs) {r0 : Option Nat} (hr : r0 = some th) (hk : kd σ th = 4) {Qf : Option Nat → XS → Prop} (hw : wX4_asked d th k n σ Qf T) (hR : (({ frames := (16 + 4 * d), cells := k, slots := n, locals := 40 * (16 + 4 * d) } : Room)).frames + 1 ≤ R.frames ∧ 8 + (2 + 11) + (({ frames := (16 + 4 * d), cells := k, slots := n, locals := 40 * (16 + 4 * d) } : Room)).locals ≤ R.locals) (hrest : rest.length ≤ 4) (hsize : ls.size = nL) (hf : cells + k ≤ R.cells ∧ slots + n ≤ R.slots) (hdg : decode cc pc = .ok (.invokevirtual 454, 3))
    (kx : ∀ (q : Nat) (σ1 : XS) (H1 : Heap) (locs1 : List Loc), T q σ1 → kd σ1 q = 5 → xR E σ1 H1 → va_S (xA E) s.heap H1 locs1 → W p l e R s m args below meth c H1 locs1 (cells + k) (slots + n) Qz (F0 m x.handlerPc ls [xv E (some q)]))
    (kk : ∀ (r : Option Nat) (σ1 : XS) (H1 : Heap) (locs1 : List Loc), Qf r σ1 → xR E σ1 H1 → va_S (xA E) s.heap H1 locs1 → W p l e R s m args below meth c H1 locs1 (cells + k) (slots + n) Qz (F0 m (pc + 3) ls (xv E r :: rest))) : W p l e R s m args below meth c H locs cells slots Qz (F0 m pc ls (xv E r0 :: rest)) := by
  subst hr
  obtain ⟨hx, hb, hml, hown, hts, hrt, hlk, hK, hZ⟩ := id cx
  exact x_goHr cx htab hcov h0 hq (vx_runV (As := []) (rest := rest) (x_fix cx) (MX4_asked l E d th k n σ Qf T hw) (cwV 0 hts (lw_V q2350 q2351 q2352 q173 q2353) rfl rfl rfl (by decide +kernel) hR) (x_preV cx hR0 hS0 hk (by decide) (q := (RX4, TX4, 9)) rfl rfl []) rfl rfl hsize rfl (lv_room (xroom hrest)) hdg hf) hS0 kk kx
def wX0_ask (d : Nat) (th : Nat) (bc : Nat) (bs : Nat) (σ : XS) (Q : Int32 → XS → Prop) : Prop :=
  kd σ th = 1 ∧ (∃ k3 n3 : Nat, k3 ≤ bc ∧ n3 ≤ bs ∧ (wX0_reads th (fr σ th 5) k3 n3 σ (fun r2 s2 => oc s2 r2 4 (fun a5 => ∃ k6 n6 : Nat, k6 ≤ (bc - k3) ∧ n6 ≤ (bs - n3) ∧ (wX4_asked d a5 k6 n6 s2 (fun r4 s4 => kd s4 th = 1 ∧ (wX0_weightOfAll th s4 (fun r10 s10 => oc s10 r4 13 (fun a12 => kd s10 th = 1 ∧ (wX0_weightOf th (fr s10 a12 1) s10 (fun r13 s13 => wX0_lowest d ((r13).toInt64) ((r10).toInt64) (0 : Int32) s13 (fun r15 s15 => kd s15 th = 1 ∧ (xK ≤ th ∧ (wX0_lowest d ((r13).toInt64) ((r10).toInt64) (1 : Int32) (pfi s15 th 10 ((r15).toInt32)) (fun r17 s17 => kd s17 th = 1 ∧ (oc (pfi s17 th 11 ((r17).toInt32)) r4 13 (fun a19 => oc (pfi s17 th 11 ((r17).toInt32)) (fr (pfi s17 th 11 ((r17).toInt32)) th 6) 3 (fun a20 => wX0_holdsIn th (fr (pfi s17 th 11 ((r17).toInt32)) a19 1) (fi (pfi s17 th 11 ((r17).toInt32)) a20 7) (fi (pfi s17 th 11 ((r17).toInt32)) a20 8) (pfi s17 th 11 ((r17).toInt32)) (fun r21 s21 => Q r21 s21)))))))))))))) (fun q7 s7 => kd s7 th = 1 ∧ (wX0_fails th (some q7) s7 (fun r8 s8 => Q r8 s8))))))))
set_option maxHeartbeats 4000000 in
theorem MX0_ask (l : Launch) (E : xx_E) (d : Nat) (th : Nat) (bc : Nat) (bs : Nat) (σ : XS) (Q : Int32 → XS → Prop) (hw : wX0_ask d th bc bs σ Q) : xx_Mi l yX0_ask (xsW_ yX0_ask cX0_ask 4 (some .int) [(0, 12, 15, 109)]) ({ frames := (17 + 4 * d), cells := bc, slots := bs, locals := 40 * (17 + 4 * d) } : Room) E [xv E (some th)] σ Q bc bs := by
  refine x_ofH (own := "StruckCounts") (by decide +kernel) rfl ?_
  intro p e s m args below meth c cx htab hR ha hnm
  refine x_entry [xv E (some th)] 4 [(0, xv E (some th))] ha (by simp [lg_sl, xv_cat, vc_i, vc_j, vc_f]) (by simp [lv_args, xv_cat, vc_i, vc_j, vc_f]) (fun ls hl => ?_)
  have hS : va_S (xA E) s.heap s.heap [] := va_S.rf
  have hcb : 0 + bc ≤ bc := Nat.le_of_eq (Nat.zero_add _)
  have hsb : 0 + bs ≤ bs := Nat.le_of_eq (Nat.zero_add _)
  unfold wX0_ask at hw
  obtain ⟨hx, hb, hml, hown, hts, hrt, hlk, hMK, hZ⟩ := id cx
  refine x_aload_n cx dX0_ask_0 rfl (lv_at hl 0 rfl) ?_
  refine x_aload_n cx dX0_ask_1 rfl (lv_at hl 0 rfl) ?_
  obtain ⟨hk1, hw⟩ := hw
  refine xg_X0_24_1 cx hR rfl hk1 dX0_ask_2 ?_
  obtain ⟨k3, n3, hb1, hb2, hw⟩ := hw
  refine CX0_reads_X0_116 cx hR hS rfl hk1 hw (by constructor <;> dsimp only <;> omega) (Nat.le_of_ble_eq_true rfl) hl.1 ⟨by dsimp only; omega, by dsimp only; omega⟩ dX0_ask_5 (fun r2 s2 H locs hw hR hS => ?_)
  have hcb := xadd hb1 hcb
  have hsb := xadd hb2 hsb
  obtain ⟨a5, hr5, hk5, hw⟩ := hw
  obtain ⟨k6, n6, hb1, hb2, hw⟩ := hw
  refine CX4_asked_X0_454H d cx (x := ⟨0, 12, 15, 109⟩) htab (by decide) (by decide) q659 hR hS hr5 hk5 hw (by constructor <;> dsimp only <;> omega) (Nat.le_of_ble_eq_true rfl) hl.1 ⟨by dsimp only; omega, by dsimp only; omega⟩ dX0_ask_8 (fun q7 s7 H locs hw hkq hR hS => ?_) (fun r4 s4 H locs hw hR hS => ?_)
  · have hcb := xadd hb1 hcb
    have hsb := xadd hb2 hsb
    refine x_astore_n (i := 2) (r := (some q7)) (lv' := [(2, xv E (some q7)), (0, xv E (some th))]) cx dX0_ask_15 rfl hl (by decide) rfl (fun ls hl => ?_)
    refine x_aload_n cx dX0_ask_16 rfl (lv_at hl 1 rfl) ?_
    refine x_aload_n cx dX0_ask_17 rfl (lv_at hl 0 rfl) ?_
    obtain ⟨hk9, hw⟩ := hw
    refine CX0_fails_X0_123 cx hR hS rfl hk9 hw (by constructor <;> dsimp only <;> omega) (Nat.le_of_ble_eq_true rfl) hl.1 ⟨by dsimp only; omega, by dsimp only; omega⟩ dX0_ask_18 (fun r8 s8 H locs hw hR hS => ?_)
    exact x_iret cx hR hS (xle hcb) (xle hsb) hw dX0_ask_21
  have hcb := xadd hb1 hcb
  have hsb := xadd hb2 hsb
  refine x_astore_n (i := 1) (r := r4) (lv' := [(1, xv E r4), (0, xv E (some th))]) cx dX0_ask_11 rfl hl (by decide) (by simp [xv_cat]) (fun ls hl => ?_)
  refine lv_goto (tgt := 22) hx hb dX0_ask_12 (by decide) ?_
  refine x_aload_n cx dX0_ask_22 rfl (lv_at hl 1 rfl) ?_
  obtain ⟨hk11, hw⟩ := hw
  refine CX0_weightOfAll_X0_396 cx hR hS rfl hk11 hw (by constructor <;> dsimp only <;> omega) (Nat.le_of_ble_eq_true rfl) hl.1 ⟨by dsimp only; omega, by dsimp only; omega⟩ dX0_ask_23 (fun r10 s10 H locs hw hR hS => ?_)
  refine lv_istore_n (i := 2) (lv' := [(2, .int r10), (1, xv E r4), (0, xv E (some th))]) hx hb dX0_ask_26 rfl hl (by decide) (by simp [xv_cat]) (fun ls hl => ?_)
  refine x_aload_n cx dX0_ask_27 rfl (lv_at hl 2 rfl) ?_
  refine x_aload_n cx dX0_ask_28 rfl (lv_at hl 1 rfl) ?_
  obtain ⟨a12, hr12, hk12, hw⟩ := hw
  refine xg_X0_175_13 cx hR hr12 hk12 dX0_ask_29 ?_
  obtain ⟨hk14, hw⟩ := hw
  refine CX0_weightOf_X0_392 cx hR hS rfl hk14 hw (by constructor <;> dsimp only <;> omega) (Nat.le_of_ble_eq_true rfl) hl.1 ⟨by dsimp only; omega, by dsimp only; omega⟩ dX0_ask_32 (fun r13 s13 H locs hw hR hS => ?_)
  refine lv_istore_n (i := 3) (lv' := [(3, .int r13), (2, .int r10), (1, xv E r4), (0, xv E (some th))]) hx hb dX0_ask_35 rfl hl (by decide) rfl (fun ls hl => ?_)
  refine x_aload_n cx dX0_ask_36 rfl (lv_at hl 3 rfl) ?_
  refine lv_iload_n hx hb dX0_ask_37 rfl (lv_at hl 0 rfl) ?_
  refine lv_i2l hx hb dX0_ask_38 rfl ?_
  refine lv_iload_n hx hb dX0_ask_39 rfl (lv_at hl 1 rfl) ?_
  refine lv_i2l hx hb dX0_ask_40 rfl ?_
  refine lv_iconst (v := (0 : Int32)) hx hb dX0_ask_41 (by decide) ?_
  refine CX0_lowest_X0_399 d cx hR hS  hw (by constructor <;> dsimp only <;> omega) (Nat.le_of_ble_eq_true rfl) hl.1 ⟨by dsimp only; omega, by dsimp only; omega⟩ dX0_ask_42 (fun r15 s15 H locs hw hR hS => ?_)
  refine lv_l2i hx hb dX0_ask_45 rfl ?_
  obtain ⟨hk16, hw⟩ := hw
  obtain ⟨hge_th, hw⟩ := hw
  refine xp_X0_46_1 (v := (r15).toInt32) cx hR hS rfl hge_th hk16 dX0_ask_46 (fun H locs hR hS => ?_)
  refine x_aload_n cx dX0_ask_49 rfl (lv_at hl 3 rfl) ?_
  refine lv_iload_n hx hb dX0_ask_50 rfl (lv_at hl 0 rfl) ?_
  refine lv_i2l hx hb dX0_ask_51 rfl ?_
  refine lv_iload_n hx hb dX0_ask_52 rfl (lv_at hl 1 rfl) ?_
  refine lv_i2l hx hb dX0_ask_53 rfl ?_
  refine lv_iconst (v := (1 : Int32)) hx hb dX0_ask_54 (by decide) ?_
  refine CX0_lowest_X0_399 d cx hR hS  hw (by constructor <;> dsimp only <;> omega) (Nat.le_of_ble_eq_true rfl) hl.1 ⟨by dsimp only; omega, by dsimp only; omega⟩ dX0_ask_55 (fun r17 s17 H locs hw hR hS => ?_)
  refine lv_l2i hx hb dX0_ask_58 rfl ?_
  obtain ⟨hk18, hw⟩ := hw
  refine xp_X0_49_1 (v := (r17).toInt32) cx hR hS rfl hge_th hk18 dX0_ask_59 (fun H locs hR hS => ?_)
  refine x_aload_n cx dX0_ask_62 rfl (lv_at hl 3 rfl) ?_
  refine x_aload_n cx dX0_ask_63 rfl (lv_at hl 2 rfl) ?_
  obtain ⟨a19, hr19, hk19, hw⟩ := hw
  refine xg_X0_175_13 cx hR hr19 hk19 dX0_ask_64 ?_
  refine x_aload_n cx dX0_ask_67 rfl (lv_at hl 3 rfl) ?_
  refine xg_X0_31_1 cx hR rfl hk18 dX0_ask_68 ?_
  obtain ⟨a20, hr20, hk20, hw⟩ := hw
  refine xg_X0_149_3 cx hR hr20 hk20 dX0_ask_71 ?_
  refine x_aload_n cx dX0_ask_74 rfl (lv_at hl 3 rfl) ?_
  refine xg_X0_31_1 cx hR rfl hk18 dX0_ask_75 ?_
  refine xg_X0_152_3 cx hR hr20 hk20 dX0_ask_78 ?_
  refine CX0_holdsIn_X0_216 cx hR hS rfl hk18 hw (by constructor <;> dsimp only <;> omega) (Nat.le_of_ble_eq_true rfl) hl.1 ⟨by dsimp only; omega, by dsimp only; omega⟩ dX0_ask_81 (fun r21 s21 H locs hw hR hS => ?_)
  exact x_iret cx hR hS (xle hcb) (xle hsb) hw dX0_ask_84
