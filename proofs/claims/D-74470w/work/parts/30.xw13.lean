set_option maxRecDepth 100000
-- X4_must
theorem xn_X4_74 {l : Launch} {p : Program} {e : Env} {R : Room} {s : State} {m : MethodId} {args : Array Value} {below : List Frame} {meth : Method} {c : Code} {H : Heap} {locs : List Loc} {cells slots : Nat} {Qz : State → Prop} {cc : ByteArray} {nL : Nat} {ret : Option FieldType} {E : xx_E} {σ : XS} {pc : Nat} {ls : Array Slot} {rest : List Value} (cx : xx_X "StruckCounts$Reader" cc nL ret E p s m args meth c) (hR : xR E σ H) (hS0 : va_S (xA E) s.heap H locs) (hcells : cells + 1 ≤ R.cells) (hslots : slots + 8 ≤ R.slots) (hdg : decode cc pc = .ok (.new 74, 3)) (kk : ∀ (H1 : Heap), xR E (xal σ 5 0) H1 → va_S (xA E) s.heap H1 locs → W p l e R s m args below meth c H1 locs (cells + 1) (slots + 8) Qz (F0 m (pc + 3) ls (xv E (some (xn σ)) :: rest))) : W p l e R s m args below meth c H locs cells slots Qz (F0 m pc ls rest) :=
  x_new cx hR hS0 4 (by decide) rfl in_X5 tyX5 tyX5_ok q988 q989 q186 (fun j hj => by
    match j, hj with
    | 0, _ => exact xnew_r rfl
    | 1, _ => exact xnew_r rfl
    | 2, _ => exact xnew_r rfl
    | 3, _ => exact xnew_r rfl
    | 4, _ => exact xnew_r rfl
    | 5, _ => exact xnew_i rfl
    | 6, _ => exact xnew_i rfl
    | 7, _ => exact xnew_i rfl) hcells hslots hdg kk
theorem CX5_init_X4_76 {l : Launch} {p : Program} {e : Env} {R : Room} {s : State} {m : MethodId} {args : Array Value} {below : List Frame} {meth : Method} {c : Code} {H : Heap} {locs : List Loc} {cells slots : Nat} {Qz : State → Prop} {cc : ByteArray} {nL : Nat} {ret : Option FieldType} {E : xx_E} {σ : XS} {pc : Nat} {ls : Array Slot} {rest : List Value} {th : Nat} {x1 : Int32} {x2 : Int32} (cx : xx_X "StruckCounts$Reader" cc nL ret E p s m args meth c) (hR0 : xR E σ H) (hS0 : va_S (xA E) s.heap H locs) {r0 : Option Nat} (hr : r0 = some th) (hk : kd σ th = 5) {Qf : XS → Prop} (hw : wX5_init th x1 x2 σ Qf) (hR : (({ frames := 3, cells := 0, slots := 0, locals := 120 } : Room)).frames + 1 ≤ R.frames ∧ 8 + (3 + 11) + (({ frames := 3, cells := 0, slots := 0, locals := 120 } : Room)).locals ≤ R.locals) (hrest : rest.length ≤ 4) (hsize : ls.size = nL) (hf : cells + 0 ≤ R.cells ∧ slots + 0 ≤ R.slots) (hdg : decode cc pc = .ok (.invokespecial 76, 3))
    (kk : ∀ (σ1 : XS) (H1 : Heap) (locs1 : List Loc), Qf σ1 → xR E σ1 H1 → va_S (xA E) s.heap H1 locs1 → W p l e R s m args below meth c H1 locs1 (cells + 0) (slots + 0) Qz (F0 m (pc + 3) ls rest)) : W p l e R s m args below meth c H locs cells slots Qz (F0 m pc ls (.int x2 :: .int x1 :: xv E r0 :: rest)) := by
  subst hr
  obtain ⟨hx, hb, hml, hown, hts, hrt, hlk, hK, hZ⟩ := id cx
  exact x_gov (va_runI (As := [.int x1, .int x2]) (rest := rest) (x_fix cx) (MX5_init l E th x1 x2 σ Qf hw) (cwI 2 hts (lw_meth q1028) rfl rfl rfl (hts _ q186) (hts _ q1026) (hts _ q1027) rfl (by decide +kernel) hR) ⟨xblind, x_pre cx hR0 hS0 (.ref (xr E th) :: [.int x1, .int x2])⟩ rfl rfl hsize rfl (lv_room (xroom hrest)) hdg hf) hS0 kk
def wX4_must (th : Nat) (x1 : Int32) (x2 : Int32) (bc : Nat) (bs : Nat) (σ : XS) (Q : XS → Prop) (T : Nat → XS → Prop) : Prop :=
  if x1 = 0 then (1 ≤ bc ∧ 8 ≤ bs ∧ (kd (xal σ 5 0) th = 4 ∧ (kd (xal σ 5 0) (xn σ) = 5 ∧ (wX5_init (xn σ) x2 (fi (xal σ 5 0) th 4) (xal σ 5 0) (fun s2 => kd s2 (xn σ) = 5 ∧ (T (xn σ) s2)))))) else (Q σ)
set_option maxHeartbeats 4000000 in
theorem MX4_must (l : Launch) (E : xx_E) (th : Nat) (x1 : Int32) (x2 : Int32) (bc : Nat) (bs : Nat) (σ : XS) (Q : XS → Prop) (T : Nat → XS → Prop) (hw : wX4_must th x1 x2 bc bs σ Q T) : xx_Tv l yX4_must (ws_ yX4_must cX4_must 3 none) ({ frames := 4, cells := bc, slots := bs, locals := 160 } : Room) E [xv E (some th), .int x1, .int x2] σ Q T bc bs := by
  refine x_ofT (own := "StruckCounts$Reader") (by decide +kernel) rfl ?_
  intro p e s m args below meth c cx hnt hR ha hnm
  refine x_entry [xv E (some th), .int x1, .int x2] 3 [(0, xv E (some th)), (1, .int x1), (2, .int x2)] ha (by simp [lg_sl, xv_cat, vc_i, vc_j, vc_f]) (by simp [lv_args, xv_cat, vc_i, vc_j, vc_f]) (fun ls hl => ?_)
  have hS : va_S (xA E) s.heap s.heap [] := va_S.rf
  have hcb : 0 + bc ≤ bc := Nat.le_of_eq (Nat.zero_add _)
  have hsb : 0 + bs ≤ bs := Nat.le_of_eq (Nat.zero_add _)
  unfold wX4_must at hw
  obtain ⟨hx, hb, hml, hown, hts, hrt, hlk, hMK, hZ⟩ := id cx
  refine lv_iload_n hx hb dX4_must_0 rfl (lv_at hl 1 rfl) ?_
  refine lv_if_ne (tgt := 17) hx hb dX4_must_1 (by decide) (fun hc => ?_) (fun hc => ?_)
  · have hw := mm_in hc hw
    exact vx_ret (x_vret cx hR hS (xle hcb) (xle hsb) hw dX4_must_17)
  · have hw := mm_ip hc hw
    obtain ⟨hb1, hb2, hw⟩ := hw
    refine xn_X4_74 cx hR hS (by dsimp only; omega) (by dsimp only; omega) dX4_must_4 (fun H hR hS => ?_)
    have hcb := xadd hb1 hcb
    have hsb := xadd hb2 hsb
    refine lv_dup hx hb dX4_must_7 (xv_cat _ _) ?_
    refine lv_iload_n hx hb dX4_must_8 rfl (lv_at hl 2 rfl) ?_
    refine x_aload_n cx dX4_must_9 rfl (lv_at hl 0 rfl) ?_
    obtain ⟨hk1, hw⟩ := hw
    refine xg_X4_39_4 cx hR rfl hk1 dX4_must_10 ?_
    obtain ⟨hk3, hw⟩ := hw
    refine CX5_init_X4_76 cx hR hS rfl hk3 hw ⟨Nat.le_of_ble_eq_true rfl, Nat.le_of_ble_eq_true rfl⟩ (Nat.le_of_ble_eq_true rfl) hl.1 ⟨by dsimp only; omega, by dsimp only; omega⟩ dX4_must_13 (fun s2 H locs hw hR hS => ?_)
    obtain ⟨hk4, hw⟩ := hw
    exact x_athrow cx hnt hR hS rfl hk4 (xle hcb) (xle hsb) hw dX4_must_16
-- X4_number
theorem CX4_must_X4_112T {l : Launch} {p : Program} {e : Env} {R : Room} {s : State} {m : MethodId} {args : Array Value} {below : List Frame} {meth : Method} {c : Code} {H : Heap} {locs : List Loc} {cells slots : Nat} {cc : ByteArray} {nL : Nat} {ret : Option FieldType} {E : xx_E} {σ : XS} {pc : Nat} {ls : Array Slot} {rest : List Value} {th : Nat} {x1 : Int32} {x2 : Int32} {k n : Nat} {T : Nat → XS → Prop} {Qc : Array Value → State → Outcome → State → Prop} {MC MS : Nat} (cx : xx_X "StruckCounts$Reader" cc nL ret E p s m args meth c) (hnt : xnt c) (hR0 : xR E σ H) (hS0 : va_S (xA E) s.heap H locs) {r0 : Option Nat} (hr : r0 = some th) (hk : kd σ th = 4) {Qf : XS → Prop} (hw : wX4_must th x1 x2 k n σ Qf T) (hR : (({ frames := 4, cells := k, slots := n, locals := 160 } : Room)).frames + 1 ≤ R.frames ∧ 8 + (3 + 11) + (({ frames := 4, cells := k, slots := n, locals := 160 } : Room)).locals ≤ R.locals) (hrest : rest.length ≤ 4) (hsize : ls.size = nL) (hf : cells + k ≤ R.cells ∧ slots + n ≤ R.slots) (hc : cells + k ≤ MC) (hs : slots + n ≤ MS) (hdg : decode cc pc = .ok (.invokevirtual 112, 3))
    (kk : ∀ (σ1 : XS) (H1 : Heap) (locs1 : List Loc), Qf σ1 → xR E σ1 H1 → va_S (xA E) s.heap H1 locs1 → W p l e R s m args below meth c H1 locs1 (cells + k) (slots + n) (vx_MQ below Qc (xTX T E) args s MC MS (xA E)) (F0 m (pc + 3) ls rest)) : W p l e R s m args below meth c H locs cells slots (vx_MQ below Qc (xTX T E) args s MC MS (xA E)) (F0 m pc ls (.int x2 :: .int x1 :: xv E r0 :: rest)) := by
  subst hr
  obtain ⟨hx, hb, hml, hown, hts, hrt, hlk, hK, hZ⟩ := id cx
  exact x_goTv cx hnt (vx_runV (As := [.int x1, .int x2]) (rest := rest) (x_fix cx) (MX4_must l E th x1 x2 k n σ Qf T hw) (cwV 2 hts (lw_V q984 q986 qs6 q173 q987) rfl rfl rfl (by decide +kernel) hR) (x_preV cx hR0 hS0 hk (by decide) (q := (RX4, TX4, 9)) rfl rfl [.int x1, .int x2]) rfl rfl hsize rfl (lv_room (xroom hrest)) hdg hf) hS0 hc hs kk
def wX4_number_14 (Q : Int32 → XS → Prop) (T : Nat → XS → Prop) (th : Nat) (x1 : Int32) (x2 : Int32) (t0 : Option Nat) (t1 : Int32) (bc : Nat) (bs : Nat) (σ : XS) : Prop :=
  oc σ t0 4 (fun a2 => ∃ k3 n3 : Nat, k3 ≤ bc ∧ n3 ≤ bs ∧ (wX4_must a2 t1 (1 : Int32) k3 n3 σ (fun s1 => kd s1 th = 4 ∧ (wX0_in (fi s1 th 6) x1 x2 s1 (fun r5 s5 => kd s5 th = 4 ∧ (∃ k8 n8 : Nat, k8 ≤ (bc - k3) ∧ n8 ≤ (bs - n3) ∧ (wX4_must th r5 (2 : Int32) k8 n8 s5 (fun s6 => kd s6 th = 4 ∧ (∀ v10 : Int32, v10 = (fi s6 th 6) → ∃ k12 n12 : Nat, k12 ≤ ((bc - k3) - k8) ∧ n12 ≤ ((bs - n3) - n8) ∧ (wX4_goes th k12 n12 s6 (fun s11 => Q v10 s11)))) T))))) T))
set_option maxHeartbeats 4000000 in
theorem BX4_number_14 {l : Launch} {p : Program} {e : Env} {s : State} {m : MethodId} {args : Array Value} {below : List Frame} {meth : Method} {c : Code} {E : xx_E} {mc ms : Nat} {Q : Int32 → XS → Prop} {T : Nat → XS → Prop} (cx : xx_X "StruckCounts$Reader" cX4_number 4 (some .int) E p s m args meth c) (hnt : xnt c) : ∀ (th : Nat) (x1 : Int32) (x2 : Int32) (t0 : Option Nat) (t1 : Int32) (bc : Nat) (bs : Nat) (σ : XS), wX4_number_14 Q T th x1 x2 t0 t1 bc bs σ → x_TT p l e ({ frames := 7, cells := mc, slots := ms, locals := 280 } : Room) s m args below meth c E T (va_Qi Q (fun σ' t => xW E σ' t) (xA E)) mc ms 4 14 bc bs σ [(0, xv E (some th)), (1, .int x1), (2, .int x2)] [.int t1, xv E t0] := by
  intro th x1 x2 t0 t1 bc bs σ hw H locs ls cells slots hR hS hl hcb hsb
  unfold wX4_number_14 at hw
  obtain ⟨hx, hb, hml, hown, hts, hrt, hlk, hMK, hZ⟩ := id cx
  refine lv_iconst (v := (1 : Int32)) hx hb dX4_number_14 (by decide) ?_
  obtain ⟨a2, hr2, hk2, hw⟩ := hw
  obtain ⟨k3, n3, hb1, hb2, hw⟩ := hw
  refine CX4_must_X4_112T cx hnt hR hS hr2 hk2 hw ⟨Nat.le_of_ble_eq_true rfl, Nat.le_of_ble_eq_true rfl⟩ (Nat.le_of_ble_eq_true rfl) hl.1 ⟨by dsimp only; omega, by dsimp only; omega⟩ (xle (xadd hb1 hcb)) (xle (xadd hb2 hsb)) dX4_number_15 (fun s1 H locs hw hR hS => ?_)
  have hcb := xadd hb1 hcb
  have hsb := xadd hb2 hsb
  refine x_aload_n cx dX4_number_18 rfl (lv_at hl 0 rfl) ?_
  refine x_aload_n cx dX4_number_19 rfl (lv_at hl 0 rfl) ?_
  obtain ⟨hk4, hw⟩ := hw
  refine xg_X4_42_4 cx hR rfl hk4 dX4_number_20 ?_
  refine lv_iload_n hx hb dX4_number_23 rfl (lv_at hl 1 rfl) ?_
  refine lv_iload_n hx hb dX4_number_24 rfl (lv_at hl 2 rfl) ?_
  refine CX0_in_X4_48 cx hR hS  hw ⟨Nat.le_of_ble_eq_true rfl, Nat.le_of_ble_eq_true rfl⟩ (Nat.le_of_ble_eq_true rfl) hl.1 ⟨by dsimp only; omega, by dsimp only; omega⟩ dX4_number_25 (fun r5 s5 H locs hw hR hS => ?_)
  refine lv_iconst (v := (2 : Int32)) hx hb dX4_number_28 (by decide) ?_
  obtain ⟨hk7, hw⟩ := hw
  obtain ⟨k8, n8, hb1, hb2, hw⟩ := hw
  refine CX4_must_X4_112T cx hnt hR hS rfl hk7 hw ⟨Nat.le_of_ble_eq_true rfl, Nat.le_of_ble_eq_true rfl⟩ (Nat.le_of_ble_eq_true rfl) hl.1 ⟨by dsimp only; omega, by dsimp only; omega⟩ (xle (xadd hb1 hcb)) (xle (xadd hb2 hsb)) dX4_number_29 (fun s6 H locs hw hR hS => ?_)
  have hcb := xadd hb1 hcb
  have hsb := xadd hb2 hsb
  refine x_aload_n cx dX4_number_32 rfl (lv_at hl 0 rfl) ?_
  obtain ⟨hk9, hw⟩ := hw
  refine xg_X4_42_4 cx hR rfl hk9 dX4_number_33 ?_
  refine lv_topi (fun v10 hv10 => ?_)
  have hw := hw v10 hv10
  refine lv_istore_n (i := 3) (lv' := [(3, .int v10), (0, xv E (some th)), (1, .int x1), (2, .int x2)]) hx hb dX4_number_36 rfl hl (by decide) rfl (fun ls hl => ?_)
  refine x_aload_n cx dX4_number_37 rfl (lv_at hl 1 rfl) ?_
  obtain ⟨k12, n12, hb1, hb2, hw⟩ := hw
  refine CX4_goes_X4_29 cx hR hS rfl hk9 hw ⟨Nat.le_of_ble_eq_true rfl, Nat.le_of_ble_eq_true rfl⟩ (Nat.le_of_ble_eq_true rfl) hl.1 ⟨by dsimp only; omega, by dsimp only; omega⟩ dX4_number_38 (fun s11 H locs hw hR hS => ?_)
  have hcb := xadd hb1 hcb
  have hsb := xadd hb2 hsb
  refine lv_iload_n hx hb dX4_number_41 rfl (lv_at hl 0 rfl) ?_
  exact vx_ret (x_iret cx hR hS (xle hcb) (xle hsb) hw dX4_number_42)
def wX4_number (th : Nat) (x1 : Int32) (x2 : Int32) (bc : Nat) (bs : Nat) (σ : XS) (Q : Int32 → XS → Prop) (T : Nat → XS → Prop) : Prop :=
  kd σ th = 4 ∧ (if (fi σ th 5) = (2 : Int32) then (wX4_number_14 Q T th x1 x2 (some th) (1 : Int32) bc bs σ) else (wX4_number_14 Q T th x1 x2 (some th) (0 : Int32) bc bs σ))
set_option maxHeartbeats 4000000 in
theorem MX4_number (l : Launch) (E : xx_E) (th : Nat) (x1 : Int32) (x2 : Int32) (bc : Nat) (bs : Nat) (σ : XS) (Q : Int32 → XS → Prop) (T : Nat → XS → Prop) (hw : wX4_number th x1 x2 bc bs σ Q T) : xx_Ti l yX4_number (ws_ yX4_number cX4_number 4 (some .int)) ({ frames := 7, cells := bc, slots := bs, locals := 280 } : Room) E [xv E (some th), .int x1, .int x2] σ Q T bc bs := by
  refine x_ofT (own := "StruckCounts$Reader") (by decide +kernel) rfl ?_
  intro p e s m args below meth c cx hnt hR ha hnm
  refine x_entry [xv E (some th), .int x1, .int x2] 4 [(0, xv E (some th)), (1, .int x1), (2, .int x2)] ha (by simp [lg_sl, xv_cat, vc_i, vc_j, vc_f]) (by simp [lv_args, xv_cat, vc_i, vc_j, vc_f]) (fun ls hl => ?_)
  have hS : va_S (xA E) s.heap s.heap [] := va_S.rf
  have hcb : 0 + bc ≤ bc := Nat.le_of_eq (Nat.zero_add _)
  have hsb : 0 + bs ≤ bs := Nat.le_of_eq (Nat.zero_add _)
  unfold wX4_number at hw
  obtain ⟨hx, hb, hml, hown, hts, hrt, hlk, hMK, hZ⟩ := id cx
  refine x_aload_n cx dX4_number_0 rfl (lv_at hl 0 rfl) ?_
  refine x_aload_n cx dX4_number_1 rfl (lv_at hl 0 rfl) ?_
  obtain ⟨hk13, hw⟩ := hw
  refine xg_X4_45_4 cx hR rfl hk13 dX4_number_2 ?_
  refine lv_iconst (v := (2 : Int32)) hx hb dX4_number_5 (by decide) ?_
  refine lv_icmp_ne (tgt := 13) hx hb dX4_number_6 (by decide) (fun hc => ?_) (fun hc => ?_)
  · have hw := mm_in hc hw
    refine lv_iconst (v := (0 : Int32)) hx hb dX4_number_13 (by decide) ?_
    exact BX4_number_14 cx hnt _ _ _ _ _ _ _ _ hw _ _ _ _ _ hR hS (lv_sub hl [0, 1, 2] rfl) hcb hsb
  · have hw := mm_ip hc hw
    refine lv_iconst (v := (1 : Int32)) hx hb dX4_number_9 (by decide) ?_
    refine lv_goto (tgt := 14) hx hb dX4_number_10 (by decide) ?_
    exact BX4_number_14 cx hnt _ _ _ _ _ _ _ _ hw _ _ _ _ _ hR hS (lv_sub hl [0, 1, 2] rfl) hcb hsb
-- X4_told
theorem xg_X4_151_6 {l : Launch} {p : Program} {e : Env} {R : Room} {s : State} {m : MethodId} {args : Array Value} {below : List Frame} {meth : Method} {c : Code} {H : Heap} {locs : List Loc} {cells slots : Nat} {Qz : State → Prop} {cc : ByteArray} {nL : Nat} {ret : Option FieldType} {E : xx_E} {σ : XS} {pc : Nat} {ls : Array Slot} {rest : List Value} (cx : xx_X "StruckCounts$Reader" cc nL ret E p s m args meth c) (hR : xR E σ H) {a : Nat} {r : Option Nat} (hr : r = some a) (hk : kd σ a = 6) (hdg : decode cc pc = .ok (.getfield 151, 3)) (kk : W p l e R s m args below meth c H locs cells slots Qz (F0 m (pc + 3) ls (.int (fi σ a 1) :: rest))) : W p l e R s m args below meth c H locs cells slots Qz (F0 m pc ls (xv E r :: rest)) :=
  x_getN (ci := 5) cx hR hr hk (by decide) rfl in_X6 1 (by decide) (xx_nf_mem (i := 48) rfl) (fun _ h => h) (v := .int (fi σ a 1)) rfl hdg kk
theorem xg_X4_25_4 {l : Launch} {p : Program} {e : Env} {R : Room} {s : State} {m : MethodId} {args : Array Value} {below : List Frame} {meth : Method} {c : Code} {H : Heap} {locs : List Loc} {cells slots : Nat} {Qz : State → Prop} {cc : ByteArray} {nL : Nat} {ret : Option FieldType} {E : xx_E} {σ : XS} {pc : Nat} {ls : Array Slot} {rest : List Value} (cx : xx_X "StruckCounts$Reader" cc nL ret E p s m args meth c) (hR : xR E σ H) {a : Nat} {r : Option Nat} (hr : r = some a) (hk : kd σ a = 4) (hdg : decode cc pc = .ok (.getfield 25, 3)) (kk : W p l e R s m args below meth c H locs cells slots Qz (F0 m (pc + 3) ls (xv E (fr σ a 2) :: rest))) : W p l e R s m args below meth c H locs cells slots Qz (F0 m pc ls (xv E r :: rest)) :=
  x_get (ci := 3) cx hR hr hk (by decide) rfl in_X4 2 (by decide) q937 (fun _ h => h) (v := xv E (fr σ a 2)) rfl hdg kk
theorem xg_X4_124_2 {l : Launch} {p : Program} {e : Env} {R : Room} {s : State} {m : MethodId} {args : Array Value} {below : List Frame} {meth : Method} {c : Code} {H : Heap} {locs : List Loc} {cells slots : Nat} {Qz : State → Prop} {cc : ByteArray} {nL : Nat} {ret : Option FieldType} {E : xx_E} {σ : XS} {pc : Nat} {ls : Array Slot} {rest : List Value} (cx : xx_X "StruckCounts$Reader" cc nL ret E p s m args meth c) (hR : xR E σ H) {a : Nat} {r : Option Nat} (hr : r = some a) (hk : kd σ a = 2) (hdg : decode cc pc = .ok (.getfield 124, 3)) (kk : W p l e R s m args below meth c H locs cells slots Qz (F0 m (pc + 3) ls (xv E (fr σ a 0) :: rest))) : W p l e R s m args below meth c H locs cells slots Qz (F0 m pc ls (xv E r :: rest)) :=
  x_getN (ci := 1) cx hR hr hk (by decide) rfl in_X1 0 (by decide) (xx_nf_mem (i := 37) rfl) (fun _ h => h) (v := xv E (fr σ a 0)) rfl hdg kk
theorem xg_X4_147_6 {l : Launch} {p : Program} {e : Env} {R : Room} {s : State} {m : MethodId} {args : Array Value} {below : List Frame} {meth : Method} {c : Code} {H : Heap} {locs : List Loc} {cells slots : Nat} {Qz : State → Prop} {cc : ByteArray} {nL : Nat} {ret : Option FieldType} {E : xx_E} {σ : XS} {pc : Nat} {ls : Array Slot} {rest : List Value} (cx : xx_X "StruckCounts$Reader" cc nL ret E p s m args meth c) (hR : xR E σ H) {a : Nat} {r : Option Nat} (hr : r = some a) (hk : kd σ a = 6) (hdg : decode cc pc = .ok (.getfield 147, 3)) (kk : W p l e R s m args below meth c H locs cells slots Qz (F0 m (pc + 3) ls (.int (fi σ a 0) :: rest))) : W p l e R s m args below meth c H locs cells slots Qz (F0 m pc ls (xv E r :: rest)) :=
  x_getN (ci := 5) cx hR hr hk (by decide) rfl in_X6 0 (by decide) (xx_nf_mem (i := 47) rfl) (fun _ h => h) (v := .int (fi σ a 0)) rfl hdg kk
theorem xcc_7 {σ : XS} {r : Option Nat} (h : xck [6] σ r) : ∀ a, r = some a → xcl σ "StruckCounts$Owner" a := by
  intro a ha
  have h := h a ha
  have h : kd σ a = 6 := by simpa using h
  rcases h with h
  · exact ⟨5, _, h, by decide, rfl, by decide⟩
theorem CJ2_getL_X4_143 {l : Launch} {p : Program} {e : Env} {R : Room} {s : State} {m : MethodId} {args : Array Value} {below : List Frame} {meth : Method} {c : Code} {H : Heap} {locs : List Loc} {cells slots : Nat} {Qz : State → Prop} {cc : ByteArray} {nL : Nat} {ret : Option FieldType} {E : xx_E} {σ : XS} {pc : Nat} {ls : Array Slot} {rest : List Value} {th : Nat} {x1 : Option Nat} (cx : xx_X "StruckCounts$Reader" cc nL ret E p s m args meth c) (hR0 : xR E σ H) (hS0 : va_S (xA E) s.heap H locs) {r0 : Option Nat} (hr : r0 = some th) (hk : kd σ th = 18) {Qf : Option Nat → XS → Prop} (hw : wJ2_getL th x1 σ Qf) (hR : (({ frames := 10, cells := 0, slots := 0, locals := 400 } : Room)).frames + 1 ≤ R.frames ∧ 8 + (3 + 11) + (({ frames := 10, cells := 0, slots := 0, locals := 400 } : Room)).locals ≤ R.locals) (hrest : rest.length ≤ 4) (hsize : ls.size = nL) (hf : cells + 0 ≤ R.cells ∧ slots + 0 ≤ R.slots) (hdg : decode cc pc = .ok (.invokevirtual 143, 3))
    (kk : ∀ (r : Option Nat) (σ1 : XS) (H1 : Heap) (locs1 : List Loc), Qf r σ1 → xR E σ1 H1 → va_S (xA E) s.heap H1 locs1 → W p l e R s m args below meth c H1 locs1 (cells + 0) (slots + 0) Qz (F0 m (pc + 3) ls (xv E r :: rest))) : W p l e R s m args below meth c H locs cells slots Qz (F0 m pc ls (xv E x1 :: xv E r0 :: rest)) := by
  subst hr
  obtain ⟨hx, hb, hml, hown, hts, hrt, hlk, hK, hZ⟩ := id cx
  exact x_gor (va_runV (As := [xv E x1]) (rest := rest) (x_fix cx) (MJ2_getL l E th x1 σ Qf hw) (cwV 1 hts (lw_V q1744 q1745 q1746 q160 q1747) rfl rfl rfl (by decide +kernel) hR) (x_preV cx hR0 hS0 hk (by decide) (q := (RJ2, TJ2, 12)) rfl rfl [xv E x1]) rfl rfl hsize rfl (lv_room (xroom hrest)) hdg hf) hS0 kk
def wX4_told_45 (Q : Int32 → XS → Prop) (T : Nat → XS → Prop) (th : Nat) (x2 : Option Nat) (t0 : Option Nat) (t1 : Int32) (bc : Nat) (bs : Nat) (σ : XS) : Prop :=
  oc σ t0 4 (fun a2 => ∃ k3 n3 : Nat, k3 ≤ bc ∧ n3 ≤ bs ∧ (wX4_must a2 t1 (3 : Int32) k3 n3 σ (fun s1 => oc s1 x2 6 (fun a4 => Q (fi s1 a4 1) s1)) T))
set_option maxHeartbeats 4000000 in
theorem BX4_told_45 {l : Launch} {p : Program} {e : Env} {s : State} {m : MethodId} {args : Array Value} {below : List Frame} {meth : Method} {c : Code} {E : xx_E} {mc ms : Nat} {Q : Int32 → XS → Prop} {T : Nat → XS → Prop} (cx : xx_X "StruckCounts$Reader" cX4_told 3 (some .int) E p s m args meth c) (hnt : xnt c) : ∀ (th : Nat) (x2 : Option Nat) (t0 : Option Nat) (t1 : Int32) (bc : Nat) (bs : Nat) (σ : XS), wX4_told_45 Q T th x2 t0 t1 bc bs σ → x_TT p l e ({ frames := 11, cells := mc, slots := ms, locals := 440 } : Room) s m args below meth c E T (va_Qi Q (fun σ' t => xW E σ' t) (xA E)) mc ms 3 45 bc bs σ [(0, xv E (some th)), (2, xv E x2)] [.int t1, xv E t0] := by
  intro th x2 t0 t1 bc bs σ hw H locs ls cells slots hR hS hl hcb hsb
  unfold wX4_told_45 at hw
  obtain ⟨hx, hb, hml, hown, hts, hrt, hlk, hMK, hZ⟩ := id cx
  refine lv_iconst (v := (3 : Int32)) hx hb dX4_told_45 (by decide) ?_
  obtain ⟨a2, hr2, hk2, hw⟩ := hw
  obtain ⟨k3, n3, hb1, hb2, hw⟩ := hw
  refine CX4_must_X4_112T cx hnt hR hS hr2 hk2 hw ⟨Nat.le_of_ble_eq_true rfl, Nat.le_of_ble_eq_true rfl⟩ (Nat.le_of_ble_eq_true rfl) hl.1 ⟨by dsimp only; omega, by dsimp only; omega⟩ (xle (xadd hb1 hcb)) (xle (xadd hb2 hsb)) dX4_told_46 (fun s1 H locs hw hR hS => ?_)
  have hcb := xadd hb1 hcb
  have hsb := xadd hb2 hsb
  refine x_aload_n cx dX4_told_49 rfl (lv_at hl 1 rfl) ?_
  obtain ⟨a4, hr4, hk4, hw⟩ := hw
  refine xg_X4_151_6 cx hR hr4 hk4 dX4_told_50 ?_
  exact vx_ret (x_iret cx hR hS (xle hcb) (xle hsb) hw dX4_told_53)
def wX4_told_44 (Q : Int32 → XS → Prop) (T : Nat → XS → Prop) (th : Nat) (x2 : Option Nat) (t0 : Option Nat) (bc : Nat) (bs : Nat) (σ : XS) : Prop :=
  wX4_told_45 Q T th x2 t0 (0 : Int32) bc bs σ
set_option maxHeartbeats 4000000 in
theorem BX4_told_44 {l : Launch} {p : Program} {e : Env} {s : State} {m : MethodId} {args : Array Value} {below : List Frame} {meth : Method} {c : Code} {E : xx_E} {mc ms : Nat} {Q : Int32 → XS → Prop} {T : Nat → XS → Prop} (cx : xx_X "StruckCounts$Reader" cX4_told 3 (some .int) E p s m args meth c) (hnt : xnt c) : ∀ (th : Nat) (x2 : Option Nat) (t0 : Option Nat) (bc : Nat) (bs : Nat) (σ : XS), wX4_told_44 Q T th x2 t0 bc bs σ → x_TT p l e ({ frames := 11, cells := mc, slots := ms, locals := 440 } : Room) s m args below meth c E T (va_Qi Q (fun σ' t => xW E σ' t) (xA E)) mc ms 3 44 bc bs σ [(0, xv E (some th)), (2, xv E x2)] [xv E t0] := by
  intro th x2 t0 bc bs σ hw H locs ls cells slots hR hS hl hcb hsb
  unfold wX4_told_44 at hw
  obtain ⟨hx, hb, hml, hown, hts, hrt, hlk, hMK, hZ⟩ := id cx
  refine lv_iconst (v := (0 : Int32)) hx hb dX4_told_44 (by decide) ?_
  exact BX4_told_45 cx hnt _ _ _ _ _ _ _ hw _ _ _ _ _ hR hS (lv_sub hl [0, 1] rfl) hcb hsb
def wX4_told (th : Nat) (x1 : Int32) (bc : Nat) (bs : Nat) (σ : XS) (Q : Int32 → XS → Prop) (T : Nat → XS → Prop) : Prop :=
  kd σ th = 4 ∧ (wX4_isName th σ (fun r5 s5 => kd s5 th = 4 ∧ (∃ k9 n9 : Nat, k9 ≤ bc ∧ n9 ≤ bs ∧ (wX4_must th r5 (1 : Int32) k9 n9 s5 (fun s7 => kd s7 th = 4 ∧ (oc s7 (fr s7 th 2) 2 (fun a11 => oc s7 (fr s7 a11 0) 18 (fun a13 => wJ2_getL a13 (fr s7 th 8) s7 (fun r12 s12 => xck [6] s12 r12 ∧ (if r12 = none then (wX4_told_44 Q T th r12 (some th) (bc - k9) (bs - n9) s12) else (oc s12 r12 6 (fun a14 => if (fi s12 a14 0) = x1 then (wX4_told_45 Q T th r12 (some th) (1 : Int32) (bc - k9) (bs - n9) s12) else (wX4_told_44 Q T th r12 (some th) (bc - k9) (bs - n9) s12))))))))) T))))
set_option maxHeartbeats 4000000 in
theorem MX4_told (l : Launch) (E : xx_E) (th : Nat) (x1 : Int32) (bc : Nat) (bs : Nat) (σ : XS) (Q : Int32 → XS → Prop) (T : Nat → XS → Prop) (hw : wX4_told th x1 bc bs σ Q T) : xx_Ti l yX4_told (ws_ yX4_told cX4_told 3 (some .int)) ({ frames := 11, cells := bc, slots := bs, locals := 440 } : Room) E [xv E (some th), .int x1] σ Q T bc bs := by
  refine x_ofT (own := "StruckCounts$Reader") (by decide +kernel) rfl ?_
  intro p e s m args below meth c cx hnt hR ha hnm
  refine x_entry [xv E (some th), .int x1] 3 [(0, xv E (some th)), (1, .int x1)] ha (by simp [lg_sl, xv_cat, vc_i, vc_j, vc_f]) (by simp [lv_args, xv_cat, vc_i, vc_j, vc_f]) (fun ls hl => ?_)
  have hS : va_S (xA E) s.heap s.heap [] := va_S.rf
  have hcb : 0 + bc ≤ bc := Nat.le_of_eq (Nat.zero_add _)
  have hsb : 0 + bs ≤ bs := Nat.le_of_eq (Nat.zero_add _)
  unfold wX4_told at hw
  obtain ⟨hx, hb, hml, hown, hts, hrt, hlk, hMK, hZ⟩ := id cx
  refine x_aload_n cx dX4_told_0 rfl (lv_at hl 0 rfl) ?_
  refine x_aload_n cx dX4_told_1 rfl (lv_at hl 0 rfl) ?_
  obtain ⟨hk6, hw⟩ := hw
  refine CX4_isName_X4_120 cx hR hS rfl hk6 hw ⟨Nat.le_of_ble_eq_true rfl, Nat.le_of_ble_eq_true rfl⟩ (Nat.le_of_ble_eq_true rfl) hl.1 ⟨by dsimp only; omega, by dsimp only; omega⟩ dX4_told_2 (fun r5 s5 H locs hw hR hS => ?_)
  refine lv_iconst (v := (1 : Int32)) hx hb dX4_told_5 (by decide) ?_
  obtain ⟨hk8, hw⟩ := hw
  obtain ⟨k9, n9, hb1, hb2, hw⟩ := hw
  refine CX4_must_X4_112T cx hnt hR hS rfl hk8 hw ⟨Nat.le_of_ble_eq_true rfl, Nat.le_of_ble_eq_true rfl⟩ (Nat.le_of_ble_eq_true rfl) hl.1 ⟨by dsimp only; omega, by dsimp only; omega⟩ (xle (xadd hb1 hcb)) (xle (xadd hb2 hsb)) dX4_told_6 (fun s7 H locs hw hR hS => ?_)
  have hcb := xadd hb1 hcb
  have hsb := xadd hb2 hsb
  refine x_aload_n cx dX4_told_9 rfl (lv_at hl 0 rfl) ?_
  obtain ⟨hk10, hw⟩ := hw
  refine xg_X4_25_4 cx hR rfl hk10 dX4_told_10 ?_
  obtain ⟨a11, hr11, hk11, hw⟩ := hw
  refine xg_X4_124_2 cx hR hr11 hk11 dX4_told_13 ?_
  refine x_aload_n cx dX4_told_16 rfl (lv_at hl 0 rfl) ?_
  refine xg_X4_11_4 cx hR rfl hk10 dX4_told_17 ?_
  obtain ⟨a13, hr13, hk13, hw⟩ := hw
  refine CJ2_getL_X4_143 cx hR hS hr13 hk13 hw ⟨Nat.le_of_ble_eq_true rfl, Nat.le_of_ble_eq_true rfl⟩ (Nat.le_of_ble_eq_true rfl) hl.1 ⟨by dsimp only; omega, by dsimp only; omega⟩ dX4_told_20 (fun r12 s12 H locs hw hR hS => ?_)
  obtain ⟨hv, hw⟩ := hw
  refine x_cast cx hR q1435 (xcc_7 hv) dX4_told_23 ?_
  refine x_astore_n (i := 2) (r := r12) (lv' := [(2, xv E r12), (0, xv E (some th)), (1, .int x1)]) cx dX4_told_26 rfl hl (by decide) rfl (fun ls hl => ?_)
  refine x_aload_n cx dX4_told_27 rfl (lv_at hl 1 rfl) ?_
  refine x_aload_n cx dX4_told_28 rfl (lv_at hl 0 rfl) ?_
  refine x_ifnull (tgt := 44) cx dX4_told_29 (by decide) (fun hc => ?_) (fun hc => ?_)
  · have hw := mm_ip hc hw
    exact BX4_told_44 cx hnt _ _ _ _ _ _ hw _ _ _ _ _ hR hS (lv_sub hl [1, 0] rfl) hcb hsb
  · have hw := mm_in hc hw
    refine x_aload_n cx dX4_told_32 rfl (lv_at hl 0 rfl) ?_
    obtain ⟨a14, hr14, hk14, hw⟩ := hw
    refine xg_X4_147_6 cx hR hr14 hk14 dX4_told_33 ?_
    refine lv_iload_n hx hb dX4_told_36 rfl (lv_at hl 2 rfl) ?_
    refine lv_icmp_ne (tgt := 44) hx hb dX4_told_37 (by decide) (fun hc => ?_) (fun hc => ?_)
    · have hw := mm_in hc hw
      exact BX4_told_44 cx hnt _ _ _ _ _ _ hw _ _ _ _ _ hR hS (lv_sub hl [1, 0] rfl) hcb hsb
    · have hw := mm_ip hc hw
      refine lv_iconst (v := (1 : Int32)) hx hb dX4_told_40 (by decide) ?_
      refine lv_goto (tgt := 45) hx hb dX4_told_41 (by decide) ?_
      exact BX4_told_45 cx hnt _ _ _ _ _ _ _ hw _ _ _ _ _ hR hS (lv_sub hl [1, 0] rfl) hcb hsb
-- X4_counted
theorem CX4_told_X4_208T {l : Launch} {p : Program} {e : Env} {R : Room} {s : State} {m : MethodId} {args : Array Value} {below : List Frame} {meth : Method} {c : Code} {H : Heap} {locs : List Loc} {cells slots : Nat} {cc : ByteArray} {nL : Nat} {ret : Option FieldType} {E : xx_E} {σ : XS} {pc : Nat} {ls : Array Slot} {rest : List Value} {th : Nat} {x1 : Int32} {k n : Nat} {T : Nat → XS → Prop} {Qc : Array Value → State → Outcome → State → Prop} {MC MS : Nat} (cx : xx_X "StruckCounts$Reader" cc nL ret E p s m args meth c) (hnt : xnt c) (hR0 : xR E σ H) (hS0 : va_S (xA E) s.heap H locs) {r0 : Option Nat} (hr : r0 = some th) (hk : kd σ th = 4) {Qf : Int32 → XS → Prop} (hw : wX4_told th x1 k n σ Qf T) (hR : (({ frames := 11, cells := k, slots := n, locals := 440 } : Room)).frames + 1 ≤ R.frames ∧ 8 + (3 + 11) + (({ frames := 11, cells := k, slots := n, locals := 440 } : Room)).locals ≤ R.locals) (hrest : rest.length ≤ 4) (hsize : ls.size = nL) (hf : cells + k ≤ R.cells ∧ slots + n ≤ R.slots) (hc : cells + k ≤ MC) (hs : slots + n ≤ MS) (hdg : decode cc pc = .ok (.invokevirtual 208, 3))
    (kk : ∀ (r : Int32) (σ1 : XS) (H1 : Heap) (locs1 : List Loc), Qf r σ1 → xR E σ1 H1 → va_S (xA E) s.heap H1 locs1 → W p l e R s m args below meth c H1 locs1 (cells + k) (slots + n) (vx_MQ below Qc (xTX T E) args s MC MS (xA E)) (F0 m (pc + 3) ls (.int r :: rest))) : W p l e R s m args below meth c H locs cells slots (vx_MQ below Qc (xTX T E) args s MC MS (xA E)) (F0 m pc ls (.int x1 :: xv E r0 :: rest)) := by
  subst hr
  obtain ⟨hx, hb, hml, hown, hts, hrt, hlk, hK, hZ⟩ := id cx
  exact x_goTi cx hnt (vx_runV (As := [.int x1]) (rest := rest) (x_fix cx) (MX4_told l E th x1 k n σ Qf T hw) (cwV 1 hts (lw_V q1740 q1742 qs27 q173 q1743) rfl rfl rfl (by decide +kernel) hR) (x_preV cx hR0 hS0 hk (by decide) (q := (RX4, TX4, 9)) rfl rfl [.int x1]) rfl rfl hsize rfl (lv_room (xroom hrest)) hdg hf) hS0 hc hs kk
def wX4_counted (th : Nat) (bc : Nat) (bs : Nat) (σ : XS) (Q : Int32 → XS → Prop) (T : Nat → XS → Prop) : Prop :=
  kd σ th = 4 ∧ (∃ k3 n3 : Nat, k3 ≤ bc ∧ n3 ≤ bs ∧ (wX4_told th (0 : Int32) k3 n3 σ (fun r1 s1 => kd s1 th = 4 ∧ (∃ k6 n6 : Nat, k6 ≤ (bc - k3) ∧ n6 ≤ (bs - n3) ∧ (wX4_goes th k6 n6 s1 (fun s4 => Q r1 s4)))) T))
set_option maxHeartbeats 4000000 in
theorem MX4_counted (l : Launch) (E : xx_E) (th : Nat) (bc : Nat) (bs : Nat) (σ : XS) (Q : Int32 → XS → Prop) (T : Nat → XS → Prop) (hw : wX4_counted th bc bs σ Q T) : xx_Ti l yX4_counted (ws_ yX4_counted cX4_counted 2 (some .int)) ({ frames := 12, cells := bc, slots := bs, locals := 480 } : Room) E [xv E (some th)] σ Q T bc bs := by
  refine x_ofT (own := "StruckCounts$Reader") (by decide +kernel) rfl ?_
  intro p e s m args below meth c cx hnt hR ha hnm
  refine x_entry [xv E (some th)] 2 [(0, xv E (some th))] ha (by simp [lg_sl, xv_cat, vc_i, vc_j, vc_f]) (by simp [lv_args, xv_cat, vc_i, vc_j, vc_f]) (fun ls hl => ?_)
  have hS : va_S (xA E) s.heap s.heap [] := va_S.rf
  have hcb : 0 + bc ≤ bc := Nat.le_of_eq (Nat.zero_add _)
  have hsb : 0 + bs ≤ bs := Nat.le_of_eq (Nat.zero_add _)
  unfold wX4_counted at hw
  obtain ⟨hx, hb, hml, hown, hts, hrt, hlk, hMK, hZ⟩ := id cx
  refine x_aload_n cx dX4_counted_0 rfl (lv_at hl 0 rfl) ?_
  refine lv_iconst (v := (0 : Int32)) hx hb dX4_counted_1 (by decide) ?_
  obtain ⟨hk2, hw⟩ := hw
  obtain ⟨k3, n3, hb1, hb2, hw⟩ := hw
  refine CX4_told_X4_208T cx hnt hR hS rfl hk2 hw ⟨Nat.le_of_ble_eq_true rfl, Nat.le_of_ble_eq_true rfl⟩ (Nat.le_of_ble_eq_true rfl) hl.1 ⟨by dsimp only; omega, by dsimp only; omega⟩ (xle (xadd hb1 hcb)) (xle (xadd hb2 hsb)) dX4_counted_2 (fun r1 s1 H locs hw hR hS => ?_)
  have hcb := xadd hb1 hcb
  have hsb := xadd hb2 hsb
  refine lv_istore_n (i := 1) (lv' := [(1, .int r1), (0, xv E (some th))]) hx hb dX4_counted_5 rfl hl (by decide) (by simp [xv_cat]) (fun ls hl => ?_)
  refine x_aload_n cx dX4_counted_6 rfl (lv_at hl 1 rfl) ?_
  obtain ⟨hk5, hw⟩ := hw
  obtain ⟨k6, n6, hb1, hb2, hw⟩ := hw
  refine CX4_goes_X4_29 cx hR hS rfl hk5 hw ⟨Nat.le_of_ble_eq_true rfl, Nat.le_of_ble_eq_true rfl⟩ (Nat.le_of_ble_eq_true rfl) hl.1 ⟨by dsimp only; omega, by dsimp only; omega⟩ dX4_counted_7 (fun s4 H locs hw hR hS => ?_)
  have hcb := xadd hb1 hcb
  have hsb := xadd hb2 hsb
  refine lv_iload_n hx hb dX4_counted_10 rfl (lv_at hl 0 rfl) ?_
  exact vx_ret (x_iret cx hR hS (xle hcb) (xle hsb) hw dX4_counted_11)
-- X4_same
theorem xg_X4_301_2 {l : Launch} {p : Program} {e : Env} {R : Room} {s : State} {m : MethodId} {args : Array Value} {below : List Frame} {meth : Method} {c : Code} {H : Heap} {locs : List Loc} {cells slots : Nat} {Qz : State → Prop} {cc : ByteArray} {nL : Nat} {ret : Option FieldType} {E : xx_E} {σ : XS} {pc : Nat} {ls : Array Slot} {rest : List Value} (cx : xx_X "StruckCounts$Reader" cc nL ret E p s m args meth c) (hR : xR E σ H) {a : Nat} {r : Option Nat} (hr : r = some a) (hk : kd σ a = 2) (hdg : decode cc pc = .ok (.getfield 301, 3)) (kk : W p l e R s m args below meth c H locs cells slots Qz (F0 m (pc + 3) ls (xv E (fr σ a 1) :: rest))) : W p l e R s m args below meth c H locs cells slots Qz (F0 m pc ls (xv E r :: rest)) :=
  x_getN (ci := 1) cx hR hr hk (by decide) rfl in_X1 1 (by decide) (xx_nf_mem (i := 38) rfl) (fun _ h => h) (v := xv E (fr σ a 1)) rfl hdg kk
theorem xn_X4_305 {l : Launch} {p : Program} {e : Env} {R : Room} {s : State} {m : MethodId} {args : Array Value} {below : List Frame} {meth : Method} {c : Code} {H : Heap} {locs : List Loc} {cells slots : Nat} {Qz : State → Prop} {cc : ByteArray} {nL : Nat} {ret : Option FieldType} {E : xx_E} {σ : XS} {pc : Nat} {ls : Array Slot} {rest : List Value} (cx : xx_X "StruckCounts$Reader" cc nL ret E p s m args meth c) (hR : xR E σ H) (hS0 : va_S (xA E) s.heap H locs) (hcells : cells + 1 ≤ R.cells) (hslots : slots + 2 ≤ R.slots) (hdg : decode cc pc = .ok (.new 305, 3)) (kk : ∀ (H1 : Heap), xR E (xal σ 14 0) H1 → va_S (xA E) s.heap H1 locs → W p l e R s m args below meth c H1 locs (cells + 1) (slots + 2) Qz (F0 m (pc + 3) ls (xv E (some (xn σ)) :: rest))) : W p l e R s m args below meth c H locs cells slots Qz (F0 m pc ls rest) :=
  x_new cx hR hS0 13 (by decide) rfl in_X14 tyX14 tyX14_ok q1863 q1864 q201 (fun j hj => by
    match j, hj with
    | 0, _ => exact xnew_i rfl
    | 1, _ => exact xnew_i rfl) hcells hslots hdg kk
theorem CX4_counted_X4_266T {l : Launch} {p : Program} {e : Env} {R : Room} {s : State} {m : MethodId} {args : Array Value} {below : List Frame} {meth : Method} {c : Code} {H : Heap} {locs : List Loc} {cells slots : Nat} {cc : ByteArray} {nL : Nat} {ret : Option FieldType} {E : xx_E} {σ : XS} {pc : Nat} {ls : Array Slot} {rest : List Value} {th : Nat} {k n : Nat} {T : Nat → XS → Prop} {Qc : Array Value → State → Outcome → State → Prop} {MC MS : Nat} (cx : xx_X "StruckCounts$Reader" cc nL ret E p s m args meth c) (hnt : xnt c) (hR0 : xR E σ H) (hS0 : va_S (xA E) s.heap H locs) {r0 : Option Nat} (hr : r0 = some th) (hk : kd σ th = 4) {Qf : Int32 → XS → Prop} (hw : wX4_counted th k n σ Qf T) (hR : (({ frames := 12, cells := k, slots := n, locals := 480 } : Room)).frames + 1 ≤ R.frames ∧ 8 + (2 + 11) + (({ frames := 12, cells := k, slots := n, locals := 480 } : Room)).locals ≤ R.locals) (hrest : rest.length ≤ 4) (hsize : ls.size = nL) (hf : cells + k ≤ R.cells ∧ slots + n ≤ R.slots) (hc : cells + k ≤ MC) (hs : slots + n ≤ MS) (hdg : decode cc pc = .ok (.invokevirtual 266, 3))
    (kk : ∀ (r : Int32) (σ1 : XS) (H1 : Heap) (locs1 : List Loc), Qf r σ1 → xR E σ1 H1 → va_S (xA E) s.heap H1 locs1 → W p l e R s m args below meth c H1 locs1 (cells + k) (slots + n) (vx_MQ below Qc (xTX T E) args s MC MS (xA E)) (F0 m (pc + 3) ls (.int r :: rest))) : W p l e R s m args below meth c H locs cells slots (vx_MQ below Qc (xTX T E) args s MC MS (xA E)) (F0 m pc ls (xv E r0 :: rest)) := by
  subst hr
  obtain ⟨hx, hb, hml, hown, hts, hrt, hlk, hK, hZ⟩ := id cx
  exact x_goTi cx hnt (vx_runV (As := []) (rest := rest) (x_fix cx) (MX4_counted l E th k n σ Qf T hw) (cwV 0 hts (lw_V q1850 q1852 qs29 q173 q1853) rfl rfl rfl (by decide +kernel) hR) (x_preV cx hR0 hS0 hk (by decide) (q := (RX4, TX4, 9)) rfl rfl []) rfl rfl hsize rfl (lv_room (xroom hrest)) hdg hf) hS0 hc hs kk
theorem CX14_init_X4_307 {l : Launch} {p : Program} {e : Env} {R : Room} {s : State} {m : MethodId} {args : Array Value} {below : List Frame} {meth : Method} {c : Code} {H : Heap} {locs : List Loc} {cells slots : Nat} {Qz : State → Prop} {cc : ByteArray} {nL : Nat} {ret : Option FieldType} {E : xx_E} {σ : XS} {pc : Nat} {ls : Array Slot} {rest : List Value} {th : Nat} {x1 : Int32} {x2 : Int32} (cx : xx_X "StruckCounts$Reader" cc nL ret E p s m args meth c) (hR0 : xR E σ H) (hS0 : va_S (xA E) s.heap H locs) {r0 : Option Nat} (hr : r0 = some th) (hk : kd σ th = 14) {Qf : XS → Prop} (hw : wX14_init th x1 x2 σ Qf) (hR : (({ frames := 1, cells := 0, slots := 0, locals := 40 } : Room)).frames + 1 ≤ R.frames ∧ 8 + (3 + 11) + (({ frames := 1, cells := 0, slots := 0, locals := 40 } : Room)).locals ≤ R.locals) (hrest : rest.length ≤ 4) (hsize : ls.size = nL) (hf : cells + 0 ≤ R.cells ∧ slots + 0 ≤ R.slots) (hdg : decode cc pc = .ok (.invokespecial 307, 3))
    (kk : ∀ (σ1 : XS) (H1 : Heap) (locs1 : List Loc), Qf σ1 → xR E σ1 H1 → va_S (xA E) s.heap H1 locs1 → W p l e R s m args below meth c H1 locs1 (cells + 0) (slots + 0) Qz (F0 m (pc + 3) ls rest)) : W p l e R s m args below meth c H locs cells slots Qz (F0 m pc ls (.int x2 :: .int x1 :: xv E r0 :: rest)) := by
  subst hr
  obtain ⟨hx, hb, hml, hown, hts, hrt, hlk, hK, hZ⟩ := id cx
  exact x_gov (va_runI (As := [.int x1, .int x2]) (rest := rest) (x_fix cx) (MX14_init l E th x1 x2 σ Qf hw) (cwI 2 hts (lw_meth q1867) rfl rfl rfl (hts _ q201) (hts _ q1865) (hts _ q1866) rfl (by decide +kernel) hR) ⟨xblind, x_pre cx hR0 hS0 (.ref (xr E th) :: [.int x1, .int x2])⟩ rfl rfl hsize rfl (lv_room (xroom hrest)) hdg hf) hS0 kk
theorem CJ5_contains_X4_308 {l : Launch} {p : Program} {e : Env} {R : Room} {s : State} {m : MethodId} {args : Array Value} {below : List Frame} {meth : Method} {c : Code} {H : Heap} {locs : List Loc} {cells slots : Nat} {Qz : State → Prop} {cc : ByteArray} {nL : Nat} {ret : Option FieldType} {E : xx_E} {σ : XS} {pc : Nat} {ls : Array Slot} {rest : List Value} {th : Nat} {x1 : Option Nat} (cx : xx_X "StruckCounts$Reader" cc nL ret E p s m args meth c) (hR0 : xR E σ H) (hS0 : va_S (xA E) s.heap H locs) {r0 : Option Nat} (hr : r0 = some th) (hk : kd σ th = 19) {Qf : Int32 → XS → Prop} (hw : wJ5_contains th x1 σ Qf) (hR : (({ frames := 11, cells := 0, slots := 0, locals := 440 } : Room)).frames + 1 ≤ R.frames ∧ 8 + (2 + 11) + (({ frames := 11, cells := 0, slots := 0, locals := 440 } : Room)).locals ≤ R.locals) (hrest : rest.length ≤ 4) (hsize : ls.size = nL) (hf : cells + 0 ≤ R.cells ∧ slots + 0 ≤ R.slots) (hdg : decode cc pc = .ok (.invokevirtual 308, 3))
    (kk : ∀ (r : Int32) (σ1 : XS) (H1 : Heap) (locs1 : List Loc), Qf r σ1 → xR E σ1 H1 → va_S (xA E) s.heap H1 locs1 → W p l e R s m args below meth c H1 locs1 (cells + 0) (slots + 0) Qz (F0 m (pc + 3) ls (.int r :: rest))) : W p l e R s m args below meth c H locs cells slots Qz (F0 m pc ls (xv E x1 :: xv E r0 :: rest)) := by
  subst hr
  obtain ⟨hx, hb, hml, hown, hts, hrt, hlk, hK, hZ⟩ := id cx
  exact x_goi (va_runV (As := [xv E x1]) (rest := rest) (x_fix cx) (MJ5_contains l E th x1 σ Qf hw) (cwV 1 hts (lw_V q1876 q1877 q1878 q163 q1879) rfl rfl rfl (by decide +kernel) hR) (x_preV cx hR0 hS0 hk (by decide) (q := (RJ5, TJ5, 1)) rfl rfl [xv E x1]) rfl rfl hsize rfl (lv_room (xroom hrest)) hdg hf) hS0 kk
theorem CJ5_add_X4_313 {l : Launch} {p : Program} {e : Env} {R : Room} {s : State} {m : MethodId} {args : Array Value} {below : List Frame} {meth : Method} {c : Code} {H : Heap} {locs : List Loc} {cells slots : Nat} {Qz : State → Prop} {cc : ByteArray} {nL : Nat} {ret : Option FieldType} {E : xx_E} {σ : XS} {pc : Nat} {ls : Array Slot} {rest : List Value} {th : Nat} {x1 : Option Nat} {k n : Nat} (cx : xx_X "StruckCounts$Reader" cc nL ret E p s m args meth c) (hR0 : xR E σ H) (hS0 : va_S (xA E) s.heap H locs) {r0 : Option Nat} (hr : r0 = some th) (hk : kd σ th = 19) {Qf : Int32 → XS → Prop} (hw : wJ5_add th x1 k n σ Qf) (hR : (({ frames := 10, cells := k, slots := n, locals := 400 } : Room)).frames + 1 ≤ R.frames ∧ 8 + (2 + 11) + (({ frames := 10, cells := k, slots := n, locals := 400 } : Room)).locals ≤ R.locals) (hrest : rest.length ≤ 4) (hsize : ls.size = nL) (hf : cells + k ≤ R.cells ∧ slots + n ≤ R.slots) (hdg : decode cc pc = .ok (.invokevirtual 313, 3))
    (kk : ∀ (r : Int32) (σ1 : XS) (H1 : Heap) (locs1 : List Loc), Qf r σ1 → xR E σ1 H1 → va_S (xA E) s.heap H1 locs1 → W p l e R s m args below meth c H1 locs1 (cells + k) (slots + n) Qz (F0 m (pc + 3) ls (.int r :: rest))) : W p l e R s m args below meth c H locs cells slots Qz (F0 m pc ls (xv E x1 :: xv E r0 :: rest)) := by
  subst hr
  obtain ⟨hx, hb, hml, hown, hts, hrt, hlk, hK, hZ⟩ := id cx
  exact x_goi (va_runV (As := [xv E x1]) (rest := rest) (x_fix cx) (MJ5_add l E th x1 k n σ Qf hw) (cwV 1 hts (lw_V q1881 q1882 q1883 q163 q1884) rfl rfl rfl (by decide +kernel) hR) (x_preV cx hR0 hS0 hk (by decide) (q := (RJ5, TJ5, 1)) rfl rfl [xv E x1]) rfl rfl hsize rfl (lv_room (xroom hrest)) hdg hf) hS0 kk
def wX4_same_48 (Q : XS → Prop) (T : Nat → XS → Prop) (th : Nat) (x1 : Int32) (x2 : Int32) (t0 : Option Nat) (t1 : Int32) (bc : Nat) (bs : Nat) (σ : XS) : Prop :=
  oc σ t0 4 (fun a2 => ∃ k3 n3 : Nat, k3 ≤ bc ∧ n3 ≤ bs ∧ (wX4_must a2 t1 (3 : Int32) k3 n3 σ (fun s1 => kd s1 th = 4 ∧ (∃ k6 n6 : Nat, k6 ≤ (bc - k3) ∧ n6 ≤ (bs - n3) ∧ (wX4_goes th k6 n6 s1 (fun s4 => kd s4 th = 4 ∧ (oc s4 (fr s4 th 2) 2 (fun a8 => 1 ≤ ((bc - k3) - k6) ∧ 2 ≤ ((bs - n3) - n6) ∧ (kd (xal s4 14 0) (xn s4) = 14 ∧ (wX14_init (xn s4) x1 x2 (xal s4 14 0) (fun s9 => oc s9 (fr s4 a8 1) 19 (fun a12 => ∃ k13 n13 : Nat, k13 ≤ (((bc - k3) - k6) - 1) ∧ n13 ≤ (((bs - n3) - n6) - 2) ∧ (wJ5_add a12 (some (xn s4)) k13 n13 s9 (fun r11 s11 => Q s11)))))))))))) T))
set_option maxHeartbeats 4000000 in
theorem BX4_same_48 {l : Launch} {p : Program} {e : Env} {s : State} {m : MethodId} {args : Array Value} {below : List Frame} {meth : Method} {c : Code} {E : xx_E} {mc ms : Nat} {Q : XS → Prop} {T : Nat → XS → Prop} (cx : xx_X "StruckCounts$Reader" cX4_same 3 none E p s m args meth c) (hnt : xnt c) : ∀ (th : Nat) (x1 : Int32) (x2 : Int32) (t0 : Option Nat) (t1 : Int32) (bc : Nat) (bs : Nat) (σ : XS), wX4_same_48 Q T th x1 x2 t0 t1 bc bs σ → x_TT p l e ({ frames := 13, cells := mc, slots := ms, locals := 520 } : Room) s m args below meth c E T (va_Qv Q (fun σ' t => xW E σ' t) (xA E)) mc ms 3 48 bc bs σ [(0, xv E (some th)), (1, .int x1), (2, .int x2)] [.int t1, xv E t0] := by
  intro th x1 x2 t0 t1 bc bs σ hw H locs ls cells slots hR hS hl hcb hsb
  unfold wX4_same_48 at hw
  obtain ⟨hx, hb, hml, hown, hts, hrt, hlk, hMK, hZ⟩ := id cx
  refine lv_iconst (v := (3 : Int32)) hx hb dX4_same_48 (by decide) ?_
  obtain ⟨a2, hr2, hk2, hw⟩ := hw
  obtain ⟨k3, n3, hb1, hb2, hw⟩ := hw
  refine CX4_must_X4_112T cx hnt hR hS hr2 hk2 hw ⟨Nat.le_of_ble_eq_true rfl, Nat.le_of_ble_eq_true rfl⟩ (Nat.le_of_ble_eq_true rfl) hl.1 ⟨by dsimp only; omega, by dsimp only; omega⟩ (xle (xadd hb1 hcb)) (xle (xadd hb2 hsb)) dX4_same_49 (fun s1 H locs hw hR hS => ?_)
  have hcb := xadd hb1 hcb
  have hsb := xadd hb2 hsb
  refine x_aload_n cx dX4_same_52 rfl (lv_at hl 0 rfl) ?_
  obtain ⟨hk5, hw⟩ := hw
  obtain ⟨k6, n6, hb1, hb2, hw⟩ := hw
  refine CX4_goes_X4_29 cx hR hS rfl hk5 hw ⟨Nat.le_of_ble_eq_true rfl, Nat.le_of_ble_eq_true rfl⟩ (Nat.le_of_ble_eq_true rfl) hl.1 ⟨by dsimp only; omega, by dsimp only; omega⟩ dX4_same_53 (fun s4 H locs hw hR hS => ?_)
  have hcb := xadd hb1 hcb
  have hsb := xadd hb2 hsb
  refine x_aload_n cx dX4_same_56 rfl (lv_at hl 0 rfl) ?_
  obtain ⟨hk7, hw⟩ := hw
  refine xg_X4_25_4 cx hR rfl hk7 dX4_same_57 ?_
  obtain ⟨a8, hr8, hk8, hw⟩ := hw
  refine xg_X4_301_2 cx hR hr8 hk8 dX4_same_60 ?_
  obtain ⟨hb1, hb2, hw⟩ := hw
  refine xn_X4_305 cx hR hS (by dsimp only; omega) (by dsimp only; omega) dX4_same_63 (fun H hR hS => ?_)
  have hcb := xadd hb1 hcb
  have hsb := xadd hb2 hsb
  refine lv_dup hx hb dX4_same_66 (xv_cat _ _) ?_
  refine lv_iload_n hx hb dX4_same_67 rfl (lv_at hl 1 rfl) ?_
  refine lv_iload_n hx hb dX4_same_68 rfl (lv_at hl 2 rfl) ?_
  obtain ⟨hk10, hw⟩ := hw
  refine CX14_init_X4_307 cx hR hS rfl hk10 hw ⟨Nat.le_of_ble_eq_true rfl, Nat.le_of_ble_eq_true rfl⟩ (Nat.le_of_ble_eq_true rfl) hl.1 ⟨by dsimp only; omega, by dsimp only; omega⟩ dX4_same_69 (fun s9 H locs hw hR hS => ?_)
  obtain ⟨a12, hr12, hk12, hw⟩ := hw
  obtain ⟨k13, n13, hb1, hb2, hw⟩ := hw
  refine CJ5_add_X4_313 cx hR hS hr12 hk12 hw ⟨Nat.le_of_ble_eq_true rfl, Nat.le_of_ble_eq_true rfl⟩ (Nat.le_of_ble_eq_true rfl) hl.1 ⟨by dsimp only; omega, by dsimp only; omega⟩ dX4_same_72 (fun r11 s11 H locs hw hR hS => ?_)
  have hcb := xadd hb1 hcb
  have hsb := xadd hb2 hsb
  refine lv_pop hx hb dX4_same_75 rfl ?_
  exact vx_ret (x_vret cx hR hS (xle hcb) (xle hsb) hw dX4_same_76)
def wX4_same_47 (Q : XS → Prop) (T : Nat → XS → Prop) (th : Nat) (x1 : Int32) (x2 : Int32) (t0 : Option Nat) (bc : Nat) (bs : Nat) (σ : XS) : Prop :=
  wX4_same_48 Q T th x1 x2 t0 (0 : Int32) bc bs σ
set_option maxHeartbeats 4000000 in
theorem BX4_same_47 {l : Launch} {p : Program} {e : Env} {s : State} {m : MethodId} {args : Array Value} {below : List Frame} {meth : Method} {c : Code} {E : xx_E} {mc ms : Nat} {Q : XS → Prop} {T : Nat → XS → Prop} (cx : xx_X "StruckCounts$Reader" cX4_same 3 none E p s m args meth c) (hnt : xnt c) : ∀ (th : Nat) (x1 : Int32) (x2 : Int32) (t0 : Option Nat) (bc : Nat) (bs : Nat) (σ : XS), wX4_same_47 Q T th x1 x2 t0 bc bs σ → x_TT p l e ({ frames := 13, cells := mc, slots := ms, locals := 520 } : Room) s m args below meth c E T (va_Qv Q (fun σ' t => xW E σ' t) (xA E)) mc ms 3 47 bc bs σ [(0, xv E (some th)), (1, .int x1), (2, .int x2)] [xv E t0] := by
  intro th x1 x2 t0 bc bs σ hw H locs ls cells slots hR hS hl hcb hsb
  unfold wX4_same_47 at hw
  obtain ⟨hx, hb, hml, hown, hts, hrt, hlk, hMK, hZ⟩ := id cx
  refine lv_iconst (v := (0 : Int32)) hx hb dX4_same_47 (by decide) ?_
  exact BX4_same_48 cx hnt _ _ _ _ _ _ _ _ hw _ _ _ _ _ hR hS (lv_sub hl [0, 1, 2] rfl) hcb hsb
def wX4_same (th : Nat) (bc : Nat) (bs : Nat) (σ : XS) (Q : XS → Prop) (T : Nat → XS → Prop) : Prop :=
  kd σ th = 4 ∧ (∃ k16 n16 : Nat, k16 ≤ bc ∧ n16 ≤ bs ∧ (wX4_goes th k16 n16 σ (fun s14 => kd s14 th = 4 ∧ (∃ k19 n19 : Nat, k19 ≤ (bc - k16) ∧ n19 ≤ (bs - n16) ∧ (wX4_counted th k19 n19 s14 (fun r17 s17 => kd s17 th = 4 ∧ (∃ k22 n22 : Nat, k22 ≤ ((bc - k16) - k19) ∧ n22 ≤ ((bs - n16) - n19) ∧ (wX4_told th (0 : Int32) k22 n22 s17 (fun r20 s20 => if r17 = r20 then (wX4_same_47 Q T th r17 r20 (some th) (((bc - k16) - k19) - k22) (((bs - n16) - n19) - n22) s20) else (kd s20 th = 4 ∧ (oc s20 (fr s20 th 2) 2 (fun a24 => 1 ≤ (((bc - k16) - k19) - k22) ∧ 2 ≤ (((bs - n16) - n19) - n22) ∧ (kd (xal s20 14 0) (xn s20) = 14 ∧ (wX14_init (xn s20) r17 r20 (xal s20 14 0) (fun s25 => oc s25 (fr s20 a24 1) 19 (fun a28 => wJ5_contains a28 (some (xn s20)) s25 (fun r27 s27 => if r27 = 0 then (wX4_same_48 Q T th r17 r20 (some th) (1 : Int32) ((((bc - k16) - k19) - k22) - 1) ((((bs - n16) - n19) - n22) - 2) s27) else (wX4_same_47 Q T th r17 r20 (some th) ((((bc - k16) - k19) - k22) - 1) ((((bs - n16) - n19) - n22) - 2) s27)))))))))) T))) T)))))
set_option maxHeartbeats 4000000 in
theorem MX4_same (l : Launch) (E : xx_E) (th : Nat) (bc : Nat) (bs : Nat) (σ : XS) (Q : XS → Prop) (T : Nat → XS → Prop) (hw : wX4_same th bc bs σ Q T) : xx_Tv l yX4_same (ws_ yX4_same cX4_same 3 none) ({ frames := 13, cells := bc, slots := bs, locals := 520 } : Room) E [xv E (some th)] σ Q T bc bs := by
  refine x_ofT (own := "StruckCounts$Reader") (by decide +kernel) rfl ?_
  intro p e s m args below meth c cx hnt hR ha hnm
  refine x_entry [xv E (some th)] 3 [(0, xv E (some th))] ha (by simp [lg_sl, xv_cat, vc_i, vc_j, vc_f]) (by simp [lv_args, xv_cat, vc_i, vc_j, vc_f]) (fun ls hl => ?_)
  have hS : va_S (xA E) s.heap s.heap [] := va_S.rf
  have hcb : 0 + bc ≤ bc := Nat.le_of_eq (Nat.zero_add _)
  have hsb : 0 + bs ≤ bs := Nat.le_of_eq (Nat.zero_add _)
  unfold wX4_same at hw
  obtain ⟨hx, hb, hml, hown, hts, hrt, hlk, hMK, hZ⟩ := id cx
  refine x_aload_n cx dX4_same_0 rfl (lv_at hl 0 rfl) ?_
  obtain ⟨hk15, hw⟩ := hw
  obtain ⟨k16, n16, hb1, hb2, hw⟩ := hw
  refine CX4_goes_X4_29 cx hR hS rfl hk15 hw ⟨Nat.le_of_ble_eq_true rfl, Nat.le_of_ble_eq_true rfl⟩ (Nat.le_of_ble_eq_true rfl) hl.1 ⟨by dsimp only; omega, by dsimp only; omega⟩ dX4_same_1 (fun s14 H locs hw hR hS => ?_)
  have hcb := xadd hb1 hcb
  have hsb := xadd hb2 hsb
  refine x_aload_n cx dX4_same_4 rfl (lv_at hl 0 rfl) ?_
  obtain ⟨hk18, hw⟩ := hw
  obtain ⟨k19, n19, hb1, hb2, hw⟩ := hw
  refine CX4_counted_X4_266T cx hnt hR hS rfl hk18 hw ⟨Nat.le_of_ble_eq_true rfl, Nat.le_of_ble_eq_true rfl⟩ (Nat.le_of_ble_eq_true rfl) hl.1 ⟨by dsimp only; omega, by dsimp only; omega⟩ (xle (xadd hb1 hcb)) (xle (xadd hb2 hsb)) dX4_same_5 (fun r17 s17 H locs hw hR hS => ?_)
  have hcb := xadd hb1 hcb
  have hsb := xadd hb2 hsb
  refine lv_istore_n (i := 1) (lv' := [(1, .int r17), (0, xv E (some th))]) hx hb dX4_same_8 rfl hl (by decide) (by simp [xv_cat]) (fun ls hl => ?_)
  refine x_aload_n cx dX4_same_9 rfl (lv_at hl 1 rfl) ?_
  refine lv_iconst (v := (0 : Int32)) hx hb dX4_same_10 (by decide) ?_
  obtain ⟨hk21, hw⟩ := hw
  obtain ⟨k22, n22, hb1, hb2, hw⟩ := hw
  refine CX4_told_X4_208T cx hnt hR hS rfl hk21 hw ⟨Nat.le_of_ble_eq_true rfl, Nat.le_of_ble_eq_true rfl⟩ (Nat.le_of_ble_eq_true rfl) hl.1 ⟨by dsimp only; omega, by dsimp only; omega⟩ (xle (xadd hb1 hcb)) (xle (xadd hb2 hsb)) dX4_same_11 (fun r20 s20 H locs hw hR hS => ?_)
  have hcb := xadd hb1 hcb
  have hsb := xadd hb2 hsb
  refine lv_istore_n (i := 2) (lv' := [(2, .int r20), (1, .int r17), (0, xv E (some th))]) hx hb dX4_same_14 rfl hl (by decide) rfl (fun ls hl => ?_)
  refine x_aload_n cx dX4_same_15 rfl (lv_at hl 2 rfl) ?_
  refine lv_iload_n hx hb dX4_same_16 rfl (lv_at hl 1 rfl) ?_
  refine lv_iload_n hx hb dX4_same_17 rfl (lv_at hl 0 rfl) ?_
  refine lv_icmp_eq (tgt := 47) hx hb dX4_same_18 (by decide) (fun hc => ?_) (fun hc => ?_)
  · have hw := mm_ip hc hw
    exact BX4_same_47 cx hnt _ _ _ _ _ _ _ hw _ _ _ _ _ hR hS (lv_sub hl [2, 1, 0] rfl) hcb hsb
  · have hw := mm_in hc hw
    refine x_aload_n cx dX4_same_21 rfl (lv_at hl 2 rfl) ?_
    obtain ⟨hk23, hw⟩ := hw
    refine xg_X4_25_4 cx hR rfl hk23 dX4_same_22 ?_
    obtain ⟨a24, hr24, hk24, hw⟩ := hw
    refine xg_X4_301_2 cx hR hr24 hk24 dX4_same_25 ?_
    obtain ⟨hb1, hb2, hw⟩ := hw
    refine xn_X4_305 cx hR hS (by dsimp only; omega) (by dsimp only; omega) dX4_same_28 (fun H hR hS => ?_)
    have hcb := xadd hb1 hcb
    have hsb := xadd hb2 hsb
    refine lv_dup hx hb dX4_same_31 (xv_cat _ _) ?_
    refine lv_iload_n hx hb dX4_same_32 rfl (lv_at hl 1 rfl) ?_
    refine lv_iload_n hx hb dX4_same_33 rfl (lv_at hl 0 rfl) ?_
    obtain ⟨hk26, hw⟩ := hw
    refine CX14_init_X4_307 cx hR hS rfl hk26 hw ⟨Nat.le_of_ble_eq_true rfl, Nat.le_of_ble_eq_true rfl⟩ (Nat.le_of_ble_eq_true rfl) hl.1 ⟨by dsimp only; omega, by dsimp only; omega⟩ dX4_same_34 (fun s25 H locs hw hR hS => ?_)
    obtain ⟨a28, hr28, hk28, hw⟩ := hw
    refine CJ5_contains_X4_308 cx hR hS hr28 hk28 hw ⟨Nat.le_of_ble_eq_true rfl, Nat.le_of_ble_eq_true rfl⟩ (Nat.le_of_ble_eq_true rfl) hl.1 ⟨by dsimp only; omega, by dsimp only; omega⟩ dX4_same_37 (fun r27 s27 H locs hw hR hS => ?_)
    refine lv_if_ne (tgt := 47) hx hb dX4_same_40 (by decide) (fun hc => ?_) (fun hc => ?_)
    · have hw := mm_in hc hw
      exact BX4_same_47 cx hnt _ _ _ _ _ _ _ hw _ _ _ _ _ hR hS (lv_sub hl [2, 1, 0] rfl) hcb hsb
    · have hw := mm_ip hc hw
      refine lv_iconst (v := (1 : Int32)) hx hb dX4_same_43 (by decide) ?_
      refine lv_goto (tgt := 48) hx hb dX4_same_44 (by decide) ?_
      exact BX4_same_48 cx hnt _ _ _ _ _ _ _ _ hw _ _ _ _ _ hR hS (lv_sub hl [2, 1, 0] rfl) hcb hsb
-- X4_says
theorem xp_X4_298_12 {l : Launch} {p : Program} {e : Env} {R : Room} {s : State} {m : MethodId} {args : Array Value} {below : List Frame} {meth : Method} {c : Code} {H : Heap} {locs : List Loc} {cells slots : Nat} {Qz : State → Prop} {cc : ByteArray} {nL : Nat} {ret : Option FieldType} {E : xx_E} {σ : XS} {pc : Nat} {ls : Array Slot} {rest : List Value} (cx : xx_X "StruckCounts$Reader" cc nL ret E p s m args meth c) (hR : xR E σ H) (hS0 : va_S (xA E) s.heap H locs) {a : Nat} {r : Option Nat} {v : Int32} (hr : r = some a) (ha : xK ≤ a) (hk : kd σ a = 12) (hdg : decode cc pc = .ok (.putfield 298, 3)) (kk : ∀ (H1 : Heap) (locs1 : List Loc), xR E (pfi σ a 5 v) H1 → va_S (xA E) s.heap H1 locs1 → W p l e R s m args below meth c H1 locs1 cells slots Qz (F0 m (pc + 3) ls rest)) : W p l e R s m args below meth c H locs cells slots Qz (F0 m pc ls (.int v :: xv E r :: rest)) :=
  x_put (ci := 11) cx hR hS0 hr ha hk (by decide) rfl in_X12 tyX12 tyX12_ok nmX12 5 (by decide) (Or.inr (Or.inr ⟨_, (xx_nf_mem (i := 52) rfl), rfl⟩)) (fun _ h => h) rfl rfl (xput_i rfl) hdg kk
theorem xg_X4_292_12 {l : Launch} {p : Program} {e : Env} {R : Room} {s : State} {m : MethodId} {args : Array Value} {below : List Frame} {meth : Method} {c : Code} {H : Heap} {locs : List Loc} {cells slots : Nat} {Qz : State → Prop} {cc : ByteArray} {nL : Nat} {ret : Option FieldType} {E : xx_E} {σ : XS} {pc : Nat} {ls : Array Slot} {rest : List Value} (cx : xx_X "StruckCounts$Reader" cc nL ret E p s m args meth c) (hR : xR E σ H) {a : Nat} {r : Option Nat} (hr : r = some a) (hk : kd σ a = 12) (hdg : decode cc pc = .ok (.getfield 292, 3)) (kk : W p l e R s m args below meth c H locs cells slots Qz (F0 m (pc + 3) ls (.int (fi σ a 4) :: rest))) : W p l e R s m args below meth c H locs cells slots Qz (F0 m pc ls (xv E r :: rest)) :=
  x_getN (ci := 11) cx hR hr hk (by decide) rfl in_X12 4 (by decide) (xx_nf_mem (i := 51) rfl) (fun _ h => h) (v := .int (fi σ a 4)) rfl hdg kk
theorem xp_X4_292_12 {l : Launch} {p : Program} {e : Env} {R : Room} {s : State} {m : MethodId} {args : Array Value} {below : List Frame} {meth : Method} {c : Code} {H : Heap} {locs : List Loc} {cells slots : Nat} {Qz : State → Prop} {cc : ByteArray} {nL : Nat} {ret : Option FieldType} {E : xx_E} {σ : XS} {pc : Nat} {ls : Array Slot} {rest : List Value} (cx : xx_X "StruckCounts$Reader" cc nL ret E p s m args meth c) (hR : xR E σ H) (hS0 : va_S (xA E) s.heap H locs) {a : Nat} {r : Option Nat} {v : Int32} (hr : r = some a) (ha : xK ≤ a) (hk : kd σ a = 12) (hdg : decode cc pc = .ok (.putfield 292, 3)) (kk : ∀ (H1 : Heap) (locs1 : List Loc), xR E (pfi σ a 4 v) H1 → va_S (xA E) s.heap H1 locs1 → W p l e R s m args below meth c H1 locs1 cells slots Qz (F0 m (pc + 3) ls rest)) : W p l e R s m args below meth c H locs cells slots Qz (F0 m pc ls (.int v :: xv E r :: rest)) :=
  x_put (ci := 11) cx hR hS0 hr ha hk (by decide) rfl in_X12 tyX12 tyX12_ok nmX12 4 (by decide) (Or.inr (Or.inr ⟨_, (xx_nf_mem (i := 51) rfl), rfl⟩)) (fun _ h => h) rfl rfl (xput_i rfl) hdg kk
theorem xg_X4_298_12 {l : Launch} {p : Program} {e : Env} {R : Room} {s : State} {m : MethodId} {args : Array Value} {below : List Frame} {meth : Method} {c : Code} {H : Heap} {locs : List Loc} {cells slots : Nat} {Qz : State → Prop} {cc : ByteArray} {nL : Nat} {ret : Option FieldType} {E : xx_E} {σ : XS} {pc : Nat} {ls : Array Slot} {rest : List Value} (cx : xx_X "StruckCounts$Reader" cc nL ret E p s m args meth c) (hR : xR E σ H) {a : Nat} {r : Option Nat} (hr : r = some a) (hk : kd σ a = 12) (hdg : decode cc pc = .ok (.getfield 298, 3)) (kk : W p l e R s m args below meth c H locs cells slots Qz (F0 m (pc + 3) ls (.int (fi σ a 5) :: rest))) : W p l e R s m args below meth c H locs cells slots Qz (F0 m pc ls (xv E r :: rest)) :=
  x_getN (ci := 11) cx hR hr hk (by decide) rfl in_X12 5 (by decide) (xx_nf_mem (i := 52) rfl) (fun _ h => h) (v := .int (fi σ a 5)) rfl hdg kk
theorem xg_X4_263_2 {l : Launch} {p : Program} {e : Env} {R : Room} {s : State} {m : MethodId} {args : Array Value} {below : List Frame} {meth : Method} {c : Code} {H : Heap} {locs : List Loc} {cells slots : Nat} {Qz : State → Prop} {cc : ByteArray} {nL : Nat} {ret : Option FieldType} {E : xx_E} {σ : XS} {pc : Nat} {ls : Array Slot} {rest : List Value} (cx : xx_X "StruckCounts$Reader" cc nL ret E p s m args meth c) (hR : xR E σ H) {a : Nat} {r : Option Nat} (hr : r = some a) (hk : kd σ a = 2) (hdg : decode cc pc = .ok (.getfield 263, 3)) (kk : W p l e R s m args below meth c H locs cells slots Qz (F0 m (pc + 3) ls (xv E (fr σ a 2) :: rest))) : W p l e R s m args below meth c H locs cells slots Qz (F0 m pc ls (xv E r :: rest)) :=
  x_getN (ci := 1) cx hR hr hk (by decide) rfl in_X1 2 (by decide) (xx_nf_mem (i := 39) rfl) (fun _ h => h) (v := xv E (fr σ a 2)) rfl hdg kk
theorem CJ7_get_X4_168 {l : Launch} {p : Program} {e : Env} {R : Room} {s : State} {m : MethodId} {args : Array Value} {below : List Frame} {meth : Method} {c : Code} {H : Heap} {locs : List Loc} {cells slots : Nat} {Qz : State → Prop} {cc : ByteArray} {nL : Nat} {ret : Option FieldType} {E : xx_E} {σ : XS} {pc : Nat} {ls : Array Slot} {rest : List Value} {th : Nat} {x1 : Int32} (cx : xx_X "StruckCounts$Reader" cc nL ret E p s m args meth c) (hR0 : xR E σ H) (hS0 : va_S (xA E) s.heap H locs) {r0 : Option Nat} (hr : r0 = some th) (hk : kd σ th = 16) {Qf : Option Nat → XS → Prop} (hw : wJ7_get th x1 σ Qf) (hR : (({ frames := 2, cells := 0, slots := 0, locals := 80 } : Room)).frames + 1 ≤ R.frames ∧ 8 + (2 + 11) + (({ frames := 2, cells := 0, slots := 0, locals := 80 } : Room)).locals ≤ R.locals) (hrest : rest.length ≤ 4) (hsize : ls.size = nL) (hf : cells + 0 ≤ R.cells ∧ slots + 0 ≤ R.slots) (hdg : decode cc pc = .ok (.invokevirtual 168, 3))
    (kk : ∀ (r : Option Nat) (σ1 : XS) (H1 : Heap) (locs1 : List Loc), Qf r σ1 → xR E σ1 H1 → va_S (xA E) s.heap H1 locs1 → W p l e R s m args below meth c H1 locs1 (cells + 0) (slots + 0) Qz (F0 m (pc + 3) ls (xv E r :: rest))) : W p l e R s m args below meth c H locs cells slots Qz (F0 m pc ls (.int x1 :: xv E r0 :: rest)) := by
  subst hr
  obtain ⟨hx, hb, hml, hown, hts, hrt, hlk, hK, hZ⟩ := id cx
  exact x_gor (va_runV (As := [.int x1]) (rest := rest) (x_fix cx) (MJ7_get l E th x1 σ Qf hw) (cwV 1 hts (lw_V q1779 q395 q396 q165 q397) rfl rfl rfl (by decide +kernel) hR) (x_preV cx hR0 hS0 hk (by decide) (q := (RJ7, TJ7, 3)) rfl rfl [.int x1]) rfl rfl hsize rfl (lv_room (xroom hrest)) hdg hf) hS0 kk
theorem CX0_has_X4_294 {l : Launch} {p : Program} {e : Env} {R : Room} {s : State} {m : MethodId} {args : Array Value} {below : List Frame} {meth : Method} {c : Code} {H : Heap} {locs : List Loc} {cells slots : Nat} {Qz : State → Prop} {cc : ByteArray} {nL : Nat} {ret : Option FieldType} {E : xx_E} {σ : XS} {pc : Nat} {ls : Array Slot} {rest : List Value} {x0 : Int32} {x1 : Int32} (cx : xx_X "StruckCounts$Reader" cc nL ret E p s m args meth c) (hR0 : xR E σ H) (hS0 : va_S (xA E) s.heap H locs) {Qf : Int32 → XS → Prop} (hw : wX0_has x0 x1 σ Qf) (hR : (({ frames := 0, cells := 0, slots := 0, locals := 0 } : Room)).frames + 1 ≤ R.frames ∧ 8 + (2 + 11) + (({ frames := 0, cells := 0, slots := 0, locals := 0 } : Room)).locals ≤ R.locals) (hrest : rest.length ≤ 4) (hsize : ls.size = nL) (hf : cells + 0 ≤ R.cells ∧ slots + 0 ≤ R.slots) (hdg : decode cc pc = .ok (.invokestatic 294, 3))
    (kk : ∀ (r : Int32) (σ1 : XS) (H1 : Heap) (locs1 : List Loc), Qf r σ1 → xR E σ1 H1 → va_S (xA E) s.heap H1 locs1 → W p l e R s m args below meth c H1 locs1 (cells + 0) (slots + 0) Qz (F0 m (pc + 3) ls (.int r :: rest))) : W p l e R s m args below meth c H locs cells slots Qz (F0 m pc ls (.int x1 :: .int x0 :: rest)) := by
  obtain ⟨hx, hb, hml, hown, hts, hrt, hlk, hK, hZ⟩ := id cx
  exact x_goi (va_runSN (As := [.int x0, .int x1]) (rest := rest) (x_fix cx) (MX0_has l E x0 x1 σ Qf hw) ⟨va_cnB 2 hts (lw_meth q432) rfl rfl rfl (hK.2.2.2.1 _ (xx_nm_mem (i := 5) rfl)) (hts _ q156) (by decide +kernel) hR, hts _ q431, trivial⟩ ⟨xblind, x_pre cx hR0 hS0 [.int x0, .int x1]⟩ rfl rfl hsize rfl (lv_room (xroom hrest)) hdg hf) hS0 kk
def wX4_says_96 (Q : XS → Prop) (T : Nat → XS → Prop) (th : Nat) (t0 : Option Nat) (t1 : Int32) (t2 : Int32) (bc : Nat) (bs : Nat) (σ : XS) : Prop :=
  oc σ t0 12 (fun a1 => xK ≤ a1 ∧ (Q (pfi σ a1 5 (t1 ||| t2))))
set_option maxHeartbeats 4000000 in
theorem BX4_says_96 {l : Launch} {p : Program} {e : Env} {s : State} {m : MethodId} {args : Array Value} {below : List Frame} {meth : Method} {c : Code} {E : xx_E} {mc ms : Nat} {Q : XS → Prop} {T : Nat → XS → Prop} (cx : xx_X "StruckCounts$Reader" cX4_says 4 none E p s m args meth c) (hnt : xnt c) : ∀ (th : Nat) (t0 : Option Nat) (t1 : Int32) (t2 : Int32) (bc : Nat) (bs : Nat) (σ : XS), wX4_says_96 Q T th t0 t1 t2 bc bs σ → x_TT p l e ({ frames := 13, cells := mc, slots := ms, locals := 520 } : Room) s m args below meth c E T (va_Qv Q (fun σ' t => xW E σ' t) (xA E)) mc ms 4 96 bc bs σ [(0, xv E (some th))] [.int t2, .int t1, xv E t0] := by
  intro th t0 t1 t2 bc bs σ hw H locs ls cells slots hR hS hl hcb hsb
  unfold wX4_says_96 at hw
  obtain ⟨hx, hb, hml, hown, hts, hrt, hlk, hMK, hZ⟩ := id cx
  refine lv_ior hx hb dX4_says_96 ?_
  obtain ⟨a1, hr1, hk1, hw⟩ := hw
  obtain ⟨hge_a1, hw⟩ := hw
  refine xp_X4_298_12 (v := (t1 ||| t2)) cx hR hS hr1 hge_a1 hk1 dX4_says_97 (fun H locs hR hS => ?_)
  exact vx_ret (x_vret cx hR hS (xle hcb) (xle hsb) hw dX4_says_100)
def wX4_says_60 (Q : XS → Prop) (T : Nat → XS → Prop) (th : Nat) (x1 : Option Nat) (x2 : Int32) (x3 : Int32) (t0 : Option Nat) (t1 : Int32) (bc : Nat) (bs : Nat) (σ : XS) : Prop :=
  oc σ t0 4 (fun a3 => ∃ k4 n4 : Nat, k4 ≤ bc ∧ n4 ≤ bs ∧ (wX4_must a3 t1 (3 : Int32) k4 n4 σ (fun s2 => kd s2 th = 4 ∧ (∃ k7 n7 : Nat, k7 ≤ (bc - k4) ∧ n7 ≤ (bs - n4) ∧ (wX4_goes th k7 n7 s2 (fun s5 => oc s5 x1 12 (fun a8 => xK ≤ a8 ∧ (if x2 = 0 then (wX4_says_96 Q T th x1 (fi (pfi s5 a8 4 ((fi s5 a8 4) ||| ((1 : Int32) <<< (x3 &&& 31)))) a8 5) ((1 : Int32) <<< (x3 &&& 31)) ((bc - k4) - k7) ((bs - n4) - n7) (pfi s5 a8 4 ((fi s5 a8 4) ||| ((1 : Int32) <<< (x3 &&& 31))))) else (wX4_says_96 Q T th x1 (fi (pfi s5 a8 4 ((fi s5 a8 4) ||| ((1 : Int32) <<< (x3 &&& 31)))) a8 5) (0 : Int32) ((bc - k4) - k7) ((bs - n4) - n7) (pfi s5 a8 4 ((fi s5 a8 4) ||| ((1 : Int32) <<< (x3 &&& 31))))))))))) T))
set_option maxHeartbeats 4000000 in
theorem BX4_says_60 {l : Launch} {p : Program} {e : Env} {s : State} {m : MethodId} {args : Array Value} {below : List Frame} {meth : Method} {c : Code} {E : xx_E} {mc ms : Nat} {Q : XS → Prop} {T : Nat → XS → Prop} (cx : xx_X "StruckCounts$Reader" cX4_says 4 none E p s m args meth c) (hnt : xnt c) : ∀ (th : Nat) (x1 : Option Nat) (x2 : Int32) (x3 : Int32) (t0 : Option Nat) (t1 : Int32) (bc : Nat) (bs : Nat) (σ : XS), wX4_says_60 Q T th x1 x2 x3 t0 t1 bc bs σ → x_TT p l e ({ frames := 13, cells := mc, slots := ms, locals := 520 } : Room) s m args below meth c E T (va_Qv Q (fun σ' t => xW E σ' t) (xA E)) mc ms 4 60 bc bs σ [(0, xv E (some th)), (1, xv E x1), (2, .int x2), (3, .int x3)] [.int t1, xv E t0] := by
  intro th x1 x2 x3 t0 t1 bc bs σ hw H locs ls cells slots hR hS hl hcb hsb
  unfold wX4_says_60 at hw
  obtain ⟨hx, hb, hml, hown, hts, hrt, hlk, hMK, hZ⟩ := id cx
  refine lv_iconst (v := (3 : Int32)) hx hb dX4_says_60 (by decide) ?_
  obtain ⟨a3, hr3, hk3, hw⟩ := hw
  obtain ⟨k4, n4, hb1, hb2, hw⟩ := hw
  refine CX4_must_X4_112T cx hnt hR hS hr3 hk3 hw ⟨Nat.le_of_ble_eq_true rfl, Nat.le_of_ble_eq_true rfl⟩ (Nat.le_of_ble_eq_true rfl) hl.1 ⟨by dsimp only; omega, by dsimp only; omega⟩ (xle (xadd hb1 hcb)) (xle (xadd hb2 hsb)) dX4_says_61 (fun s2 H locs hw hR hS => ?_)
  have hcb := xadd hb1 hcb
  have hsb := xadd hb2 hsb
  refine x_aload_n cx dX4_says_64 rfl (lv_at hl 0 rfl) ?_
  obtain ⟨hk6, hw⟩ := hw
  obtain ⟨k7, n7, hb1, hb2, hw⟩ := hw
  refine CX4_goes_X4_29 cx hR hS rfl hk6 hw ⟨Nat.le_of_ble_eq_true rfl, Nat.le_of_ble_eq_true rfl⟩ (Nat.le_of_ble_eq_true rfl) hl.1 ⟨by dsimp only; omega, by dsimp only; omega⟩ dX4_says_65 (fun s5 H locs hw hR hS => ?_)
  have hcb := xadd hb1 hcb
  have hsb := xadd hb2 hsb
  refine x_aload_n cx dX4_says_68 rfl (lv_at hl 1 rfl) ?_
  refine lv_dup hx hb dX4_says_69 (xv_cat _ _) ?_
  obtain ⟨a8, hr8, hk8, hw⟩ := hw
  refine xg_X4_292_12 cx hR hr8 hk8 dX4_says_70 ?_
  refine lv_iconst (v := (1 : Int32)) hx hb dX4_says_73 (by decide) ?_
  refine lv_iload_n hx hb dX4_says_74 rfl (lv_at hl 3 rfl) ?_
  refine lv_ishl hx hb dX4_says_75 ?_
  refine lv_ior hx hb dX4_says_76 ?_
  obtain ⟨hge_a8, hw⟩ := hw
  refine xp_X4_292_12 (v := ((fi s5 a8 4) ||| ((1 : Int32) <<< (x3 &&& 31)))) cx hR hS hr8 hge_a8 hk8 dX4_says_77 (fun H locs hR hS => ?_)
  refine x_aload_n cx dX4_says_80 rfl (lv_at hl 1 rfl) ?_
  refine lv_dup hx hb dX4_says_81 (xv_cat _ _) ?_
  refine xg_X4_298_12 cx hR hr8 hk8 dX4_says_82 ?_
  refine lv_iload_n hx hb dX4_says_85 rfl (lv_at hl 2 rfl) ?_
  refine lv_if_eq (tgt := 93) hx hb dX4_says_86 (by decide) (fun hc => ?_) (fun hc => ?_)
  · have hw := mm_ip hc hw
    refine lv_iconst (v := (1 : Int32)) hx hb dX4_says_93 (by decide) ?_
    refine lv_iload_n hx hb dX4_says_94 rfl (lv_at hl 3 rfl) ?_
    refine lv_ishl hx hb dX4_says_95 ?_
    exact BX4_says_96 cx hnt _ _ _ _ _ _ _ hw _ _ _ _ _ hR hS (lv_sub hl [0] rfl) hcb hsb
  · have hw := mm_in hc hw
    refine lv_iconst (v := (0 : Int32)) hx hb dX4_says_89 (by decide) ?_
    refine lv_goto (tgt := 96) hx hb dX4_says_90 (by decide) ?_
    exact BX4_says_96 cx hnt _ _ _ _ _ _ _ hw _ _ _ _ _ hR hS (lv_sub hl [0] rfl) hcb hsb
def wX4_says_37 (Q : XS → Prop) (T : Nat → XS → Prop) (th : Nat) (x1 : Option Nat) (x2 : Int32) (bc : Nat) (bs : Nat) (σ : XS) : Prop :=
  kd σ th = 4 ∧ (∃ k11 n11 : Nat, k11 ≤ bc ∧ n11 ≤ bs ∧ (wX4_told th (1 : Int32) k11 n11 σ (fun r9 s9 => oc s9 x1 12 (fun a12 => wX0_has (fi s9 a12 4) r9 s9 (fun r13 s13 => if r13 = 0 then (wX4_says_60 Q T th x1 x2 r9 (some th) (1 : Int32) (bc - k11) (bs - n11) s13) else (wX4_says_60 Q T th x1 x2 r9 (some th) (0 : Int32) (bc - k11) (bs - n11) s13)))) T))
set_option maxHeartbeats 4000000 in
theorem BX4_says_37 {l : Launch} {p : Program} {e : Env} {s : State} {m : MethodId} {args : Array Value} {below : List Frame} {meth : Method} {c : Code} {E : xx_E} {mc ms : Nat} {Q : XS → Prop} {T : Nat → XS → Prop} (cx : xx_X "StruckCounts$Reader" cX4_says 4 none E p s m args meth c) (hnt : xnt c) : ∀ (th : Nat) (x1 : Option Nat) (x2 : Int32) (bc : Nat) (bs : Nat) (σ : XS), wX4_says_37 Q T th x1 x2 bc bs σ → x_TT p l e ({ frames := 13, cells := mc, slots := ms, locals := 520 } : Room) s m args below meth c E T (va_Qv Q (fun σ' t => xW E σ' t) (xA E)) mc ms 4 37 bc bs σ [(0, xv E (some th)), (1, xv E x1), (2, .int x2)] [] := by
  intro th x1 x2 bc bs σ hw H locs ls cells slots hR hS hl hcb hsb
  unfold wX4_says_37 at hw
  obtain ⟨hx, hb, hml, hown, hts, hrt, hlk, hMK, hZ⟩ := id cx
  refine x_aload_n cx dX4_says_37 rfl (lv_at hl 0 rfl) ?_
  refine lv_iconst (v := (1 : Int32)) hx hb dX4_says_38 (by decide) ?_
  obtain ⟨hk10, hw⟩ := hw
  obtain ⟨k11, n11, hb1, hb2, hw⟩ := hw
  refine CX4_told_X4_208T cx hnt hR hS rfl hk10 hw ⟨Nat.le_of_ble_eq_true rfl, Nat.le_of_ble_eq_true rfl⟩ (Nat.le_of_ble_eq_true rfl) hl.1 ⟨by dsimp only; omega, by dsimp only; omega⟩ (xle (xadd hb1 hcb)) (xle (xadd hb2 hsb)) dX4_says_39 (fun r9 s9 H locs hw hR hS => ?_)
  have hcb := xadd hb1 hcb
  have hsb := xadd hb2 hsb
  refine lv_istore_n (i := 3) (lv' := [(3, .int r9), (0, xv E (some th)), (1, xv E x1), (2, .int x2)]) hx hb dX4_says_42 rfl hl (by decide) rfl (fun ls hl => ?_)
  refine x_aload_n cx dX4_says_43 rfl (lv_at hl 1 rfl) ?_
  refine x_aload_n cx dX4_says_44 rfl (lv_at hl 2 rfl) ?_
  obtain ⟨a12, hr12, hk12, hw⟩ := hw
  refine xg_X4_292_12 cx hR hr12 hk12 dX4_says_45 ?_
  refine lv_iload_n hx hb dX4_says_48 rfl (lv_at hl 0 rfl) ?_
  refine CX0_has_X4_294 cx hR hS  hw ⟨Nat.le_of_ble_eq_true rfl, Nat.le_of_ble_eq_true rfl⟩ (Nat.le_of_ble_eq_true rfl) hl.1 ⟨by dsimp only; omega, by dsimp only; omega⟩ dX4_says_49 (fun r13 s13 H locs hw hR hS => ?_)
  refine lv_if_ne (tgt := 59) hx hb dX4_says_52 (by decide) (fun hc => ?_) (fun hc => ?_)
  · have hw := mm_in hc hw
    refine lv_iconst (v := (0 : Int32)) hx hb dX4_says_59 (by decide) ?_
    exact BX4_says_60 cx hnt _ _ _ _ _ _ _ _ _ hw _ _ _ _ _ hR hS (lv_sub hl [1, 2, 3, 0] rfl) hcb hsb
  · have hw := mm_ip hc hw
    refine lv_iconst (v := (1 : Int32)) hx hb dX4_says_55 (by decide) ?_
    refine lv_goto (tgt := 60) hx hb dX4_says_56 (by decide) ?_
    exact BX4_says_60 cx hnt _ _ _ _ _ _ _ _ _ hw _ _ _ _ _ hR hS (lv_sub hl [1, 2, 3, 0] rfl) hcb hsb
def wX4_says (th : Nat) (bc : Nat) (bs : Nat) (σ : XS) (Q : XS → Prop) (T : Nat → XS → Prop) : Prop :=
  kd σ th = 4 ∧ (∃ k16 n16 : Nat, k16 ≤ bc ∧ n16 ≤ bs ∧ (wX4_goes th k16 n16 σ (fun s14 => kd s14 th = 4 ∧ (oc s14 (fr s14 th 2) 2 (fun a18 => ∃ k20 n20 : Nat, k20 ≤ (bc - k16) ∧ n20 ≤ (bs - n16) ∧ (wX4_counted th k20 n20 s14 (fun r19 s19 => oc s19 (fr s14 a18 2) 16 (fun a22 => wJ7_get a22 r19 s19 (fun r21 s21 => xck [12] s21 r21 ∧ (kd s21 th = 4 ∧ (wX4_isSign th (33 : Int32) s21 (fun r23 s23 => if r23 = 0 then (wX4_says_37 Q T th r21 r23 ((bc - k16) - k20) ((bs - n16) - n20) s23) else (kd s23 th = 4 ∧ (∃ k27 n27 : Nat, k27 ≤ ((bc - k16) - k20) ∧ n27 ≤ ((bs - n16) - n20) ∧ (wX4_goes th k27 n27 s23 (fun s25 => wX4_says_37 Q T th r21 r23 (((bc - k16) - k20) - k27) (((bs - n16) - n20) - n27) s25)))))))))) T))))))
set_option maxHeartbeats 4000000 in
theorem MX4_says (l : Launch) (E : xx_E) (th : Nat) (bc : Nat) (bs : Nat) (σ : XS) (Q : XS → Prop) (T : Nat → XS → Prop) (hw : wX4_says th bc bs σ Q T) : xx_Tv l yX4_says (ws_ yX4_says cX4_says 4 none) ({ frames := 13, cells := bc, slots := bs, locals := 520 } : Room) E [xv E (some th)] σ Q T bc bs := by
  refine x_ofT (own := "StruckCounts$Reader") (by decide +kernel) rfl ?_
  intro p e s m args below meth c cx hnt hR ha hnm
  refine x_entry [xv E (some th)] 4 [(0, xv E (some th))] ha (by simp [lg_sl, xv_cat, vc_i, vc_j, vc_f]) (by simp [lv_args, xv_cat, vc_i, vc_j, vc_f]) (fun ls hl => ?_)
  have hS : va_S (xA E) s.heap s.heap [] := va_S.rf
  have hcb : 0 + bc ≤ bc := Nat.le_of_eq (Nat.zero_add _)
  have hsb : 0 + bs ≤ bs := Nat.le_of_eq (Nat.zero_add _)
  unfold wX4_says at hw
  obtain ⟨hx, hb, hml, hown, hts, hrt, hlk, hMK, hZ⟩ := id cx
  refine x_aload_n cx dX4_says_0 rfl (lv_at hl 0 rfl) ?_
  obtain ⟨hk15, hw⟩ := hw
  obtain ⟨k16, n16, hb1, hb2, hw⟩ := hw
  refine CX4_goes_X4_29 cx hR hS rfl hk15 hw ⟨Nat.le_of_ble_eq_true rfl, Nat.le_of_ble_eq_true rfl⟩ (Nat.le_of_ble_eq_true rfl) hl.1 ⟨by dsimp only; omega, by dsimp only; omega⟩ dX4_says_1 (fun s14 H locs hw hR hS => ?_)
  have hcb := xadd hb1 hcb
  have hsb := xadd hb2 hsb
  refine x_aload_n cx dX4_says_4 rfl (lv_at hl 0 rfl) ?_
  obtain ⟨hk17, hw⟩ := hw
  refine xg_X4_25_4 cx hR rfl hk17 dX4_says_5 ?_
  obtain ⟨a18, hr18, hk18, hw⟩ := hw
  refine xg_X4_263_2 cx hR hr18 hk18 dX4_says_8 ?_
  refine x_aload_n cx dX4_says_11 rfl (lv_at hl 0 rfl) ?_
  obtain ⟨k20, n20, hb1, hb2, hw⟩ := hw
  refine CX4_counted_X4_266T cx hnt hR hS rfl hk17 hw ⟨Nat.le_of_ble_eq_true rfl, Nat.le_of_ble_eq_true rfl⟩ (Nat.le_of_ble_eq_true rfl) hl.1 ⟨by dsimp only; omega, by dsimp only; omega⟩ (xle (xadd hb1 hcb)) (xle (xadd hb2 hsb)) dX4_says_12 (fun r19 s19 H locs hw hR hS => ?_)
  have hcb := xadd hb1 hcb
  have hsb := xadd hb2 hsb
  obtain ⟨a22, hr22, hk22, hw⟩ := hw
  refine CJ7_get_X4_168 cx hR hS hr22 hk22 hw ⟨Nat.le_of_ble_eq_true rfl, Nat.le_of_ble_eq_true rfl⟩ (Nat.le_of_ble_eq_true rfl) hl.1 ⟨by dsimp only; omega, by dsimp only; omega⟩ dX4_says_15 (fun r21 s21 H locs hw hR hS => ?_)
  obtain ⟨hv, hw⟩ := hw
  refine x_cast cx hR q1798 (xcc_2 hv) dX4_says_18 ?_
  refine x_astore_n (i := 1) (r := r21) (lv' := [(1, xv E r21), (0, xv E (some th))]) cx dX4_says_21 rfl hl (by decide) (by simp [xv_cat]) (fun ls hl => ?_)
  refine x_aload_n cx dX4_says_22 rfl (lv_at hl 1 rfl) ?_
  refine lv_bipush (v := (33 : Int32)) hx hb dX4_says_23 (by decide) ?_
  obtain ⟨hk24, hw⟩ := hw
  refine CX4_isSign_X4_108 cx hR hS rfl hk24 hw ⟨Nat.le_of_ble_eq_true rfl, Nat.le_of_ble_eq_true rfl⟩ (Nat.le_of_ble_eq_true rfl) hl.1 ⟨by dsimp only; omega, by dsimp only; omega⟩ dX4_says_25 (fun r23 s23 H locs hw hR hS => ?_)
  refine lv_istore_n (i := 2) (lv' := [(2, .int r23), (1, xv E r21), (0, xv E (some th))]) hx hb dX4_says_28 rfl hl (by decide) (by simp [xv_cat]) (fun ls hl => ?_)
  refine lv_iload_n hx hb dX4_says_29 rfl (lv_at hl 0 rfl) ?_
  refine lv_if_eq (tgt := 37) hx hb dX4_says_30 (by decide) (fun hc => ?_) (fun hc => ?_)
  · have hw := mm_ip hc hw
    exact BX4_says_37 cx hnt _ _ _ _ _ _ hw _ _ _ _ _ hR hS (lv_sub hl [2, 1, 0] rfl) hcb hsb
  · have hw := mm_in hc hw
    refine x_aload_n cx dX4_says_33 rfl (lv_at hl 2 rfl) ?_
    obtain ⟨hk26, hw⟩ := hw
    obtain ⟨k27, n27, hb1, hb2, hw⟩ := hw
    refine CX4_goes_X4_29 cx hR hS rfl hk26 hw ⟨Nat.le_of_ble_eq_true rfl, Nat.le_of_ble_eq_true rfl⟩ (Nat.le_of_ble_eq_true rfl) hl.1 ⟨by dsimp only; omega, by dsimp only; omega⟩ dX4_says_34 (fun s25 H locs hw hR hS => ?_)
    have hcb := xadd hb1 hcb
    have hsb := xadd hb2 hsb
    exact BX4_says_37 cx hnt _ _ _ _ _ _ hw _ _ _ _ _ hR hS (lv_sub hl [2, 1, 0] rfl) hcb hsb
-- X4_opens
theorem xg_X4_184_4 {l : Launch} {p : Program} {e : Env} {R : Room} {s : State} {m : MethodId} {args : Array Value} {below : List Frame} {meth : Method} {c : Code} {H : Heap} {locs : List Loc} {cells slots : Nat} {Qz : State → Prop} {cc : ByteArray} {nL : Nat} {ret : Option FieldType} {E : xx_E} {σ : XS} {pc : Nat} {ls : Array Slot} {rest : List Value} (cx : xx_X "StruckCounts$Reader" cc nL ret E p s m args meth c) (hR : xR E σ H) {a : Nat} {r : Option Nat} (hr : r = some a) (hk : kd σ a = 4) (hdg : decode cc pc = .ok (.getfield 184, 3)) (kk : W p l e R s m args below meth c H locs cells slots Qz (F0 m (pc + 3) ls (.int (fi σ a 7) :: rest))) : W p l e R s m args below meth c H locs cells slots Qz (F0 m pc ls (xv E r :: rest)) :=
  x_get (ci := 3) cx hR hr hk (by decide) rfl in_X4 7 (by decide) q942 (fun _ h => h) (v := .int (fi σ a 7)) rfl hdg kk
theorem xp_X4_184_4 {l : Launch} {p : Program} {e : Env} {R : Room} {s : State} {m : MethodId} {args : Array Value} {below : List Frame} {meth : Method} {c : Code} {H : Heap} {locs : List Loc} {cells slots : Nat} {Qz : State → Prop} {cc : ByteArray} {nL : Nat} {ret : Option FieldType} {E : xx_E} {σ : XS} {pc : Nat} {ls : Array Slot} {rest : List Value} (cx : xx_X "StruckCounts$Reader" cc nL ret E p s m args meth c) (hR : xR E σ H) (hS0 : va_S (xA E) s.heap H locs) {a : Nat} {r : Option Nat} {v : Int32} (hr : r = some a) (ha : xK ≤ a) (hk : kd σ a = 4) (hdg : decode cc pc = .ok (.putfield 184, 3)) (kk : ∀ (H1 : Heap) (locs1 : List Loc), xR E (pfi σ a 7 v) H1 → va_S (xA E) s.heap H1 locs1 → W p l e R s m args below meth c H1 locs1 cells slots Qz (F0 m (pc + 3) ls rest)) : W p l e R s m args below meth c H locs cells slots Qz (F0 m pc ls (.int v :: xv E r :: rest)) :=
  x_put (ci := 3) cx hR hS0 hr ha hk (by decide) rfl in_X4 tyX4 tyX4_ok nmX4 7 (by decide) (Or.inl ⟨q942, rfl⟩) (fun _ h => h) rfl rfl (xput_i rfl) hdg kk
def wX4_opens_14 (Q : XS → Prop) (T : Nat → XS → Prop) (th : Nat) (t0 : Option Nat) (t1 : Int32) (bc : Nat) (bs : Nat) (σ : XS) : Prop :=
  oc σ t0 4 (fun a2 => ∃ k3 n3 : Nat, k3 ≤ bc ∧ n3 ≤ bs ∧ (wX4_must a2 t1 (4 : Int32) k3 n3 σ (fun s1 => kd s1 th = 4 ∧ (xK ≤ th ∧ (∃ k6 n6 : Nat, k6 ≤ (bc - k3) ∧ n6 ≤ (bs - n3) ∧ (wX4_goes th k6 n6 (pfi s1 th 7 ((fi s1 th 7) + (1 : Int32))) (fun s5 => Q s5))))) T))
set_option maxHeartbeats 4000000 in
theorem BX4_opens_14 {l : Launch} {p : Program} {e : Env} {s : State} {m : MethodId} {args : Array Value} {below : List Frame} {meth : Method} {c : Code} {E : xx_E} {mc ms : Nat} {Q : XS → Prop} {T : Nat → XS → Prop} (cx : xx_X "StruckCounts$Reader" cX4_opens 1 none E p s m args meth c) (hnt : xnt c) : ∀ (th : Nat) (t0 : Option Nat) (t1 : Int32) (bc : Nat) (bs : Nat) (σ : XS), wX4_opens_14 Q T th t0 t1 bc bs σ → x_TT p l e ({ frames := 7, cells := mc, slots := ms, locals := 280 } : Room) s m args below meth c E T (va_Qv Q (fun σ' t => xW E σ' t) (xA E)) mc ms 1 14 bc bs σ [(0, xv E (some th))] [.int t1, xv E t0] := by
  intro th t0 t1 bc bs σ hw H locs ls cells slots hR hS hl hcb hsb
  unfold wX4_opens_14 at hw
  obtain ⟨hx, hb, hml, hown, hts, hrt, hlk, hMK, hZ⟩ := id cx
  refine lv_iconst (v := (4 : Int32)) hx hb dX4_opens_14 (by decide) ?_
  obtain ⟨a2, hr2, hk2, hw⟩ := hw
  obtain ⟨k3, n3, hb1, hb2, hw⟩ := hw
  refine CX4_must_X4_112T cx hnt hR hS hr2 hk2 hw ⟨Nat.le_of_ble_eq_true rfl, Nat.le_of_ble_eq_true rfl⟩ (Nat.le_of_ble_eq_true rfl) hl.1 ⟨by dsimp only; omega, by dsimp only; omega⟩ (xle (xadd hb1 hcb)) (xle (xadd hb2 hsb)) dX4_opens_15 (fun s1 H locs hw hR hS => ?_)
  have hcb := xadd hb1 hcb
  have hsb := xadd hb2 hsb
  refine x_aload_n cx dX4_opens_18 rfl (lv_at hl 0 rfl) ?_
  refine lv_dup hx hb dX4_opens_19 (xv_cat _ _) ?_
  obtain ⟨hk4, hw⟩ := hw
  refine xg_X4_184_4 cx hR rfl hk4 dX4_opens_20 ?_
  refine lv_iconst (v := (1 : Int32)) hx hb dX4_opens_23 (by decide) ?_
  refine lv_iadd hx hb dX4_opens_24 ?_
  obtain ⟨hge_th, hw⟩ := hw
  refine xp_X4_184_4 (v := ((fi s1 th 7) + (1 : Int32))) cx hR hS rfl hge_th hk4 dX4_opens_25 (fun H locs hR hS => ?_)
  refine x_aload_n cx dX4_opens_28 rfl (lv_at hl 0 rfl) ?_
  obtain ⟨k6, n6, hb1, hb2, hw⟩ := hw
  refine CX4_goes_X4_29 cx hR hS rfl hk4 hw ⟨Nat.le_of_ble_eq_true rfl, Nat.le_of_ble_eq_true rfl⟩ (Nat.le_of_ble_eq_true rfl) hl.1 ⟨by dsimp only; omega, by dsimp only; omega⟩ dX4_opens_29 (fun s5 H locs hw hR hS => ?_)
  have hcb := xadd hb1 hcb
  have hsb := xadd hb2 hsb
  exact vx_ret (x_vret cx hR hS (xle hcb) (xle hsb) hw dX4_opens_32)
def wX4_opens (th : Nat) (bc : Nat) (bs : Nat) (σ : XS) (Q : XS → Prop) (T : Nat → XS → Prop) : Prop :=
  kd σ th = 4 ∧ (if (5 : Int32) ≤ (fi σ th 7) then (wX4_opens_14 Q T th (some th) (0 : Int32) bc bs σ) else (wX4_opens_14 Q T th (some th) (1 : Int32) bc bs σ))
set_option maxHeartbeats 4000000 in
theorem MX4_opens (l : Launch) (E : xx_E) (th : Nat) (bc : Nat) (bs : Nat) (σ : XS) (Q : XS → Prop) (T : Nat → XS → Prop) (hw : wX4_opens th bc bs σ Q T) : xx_Tv l yX4_opens (ws_ yX4_opens cX4_opens 1 none) ({ frames := 7, cells := bc, slots := bs, locals := 280 } : Room) E [xv E (some th)] σ Q T bc bs := by
  refine x_ofT (own := "StruckCounts$Reader") (by decide +kernel) rfl ?_
  intro p e s m args below meth c cx hnt hR ha hnm
  refine x_entry [xv E (some th)] 1 [(0, xv E (some th))] ha (by simp [lg_sl, xv_cat, vc_i, vc_j, vc_f]) (by simp [lv_args, xv_cat, vc_i, vc_j, vc_f]) (fun ls hl => ?_)
  have hS : va_S (xA E) s.heap s.heap [] := va_S.rf
  have hcb : 0 + bc ≤ bc := Nat.le_of_eq (Nat.zero_add _)
  have hsb : 0 + bs ≤ bs := Nat.le_of_eq (Nat.zero_add _)
  unfold wX4_opens at hw
  obtain ⟨hx, hb, hml, hown, hts, hrt, hlk, hMK, hZ⟩ := id cx
  refine x_aload_n cx dX4_opens_0 rfl (lv_at hl 0 rfl) ?_
  refine x_aload_n cx dX4_opens_1 rfl (lv_at hl 0 rfl) ?_
  obtain ⟨hk7, hw⟩ := hw
  refine xg_X4_184_4 cx hR rfl hk7 dX4_opens_2 ?_
  refine lv_iconst (v := (5 : Int32)) hx hb dX4_opens_5 (by decide) ?_
  refine lv_icmp_ge (tgt := 13) hx hb dX4_opens_6 (by decide) (fun hc => ?_) (fun hc => ?_)
  · have hw := mm_ip hc hw
    refine lv_iconst (v := (0 : Int32)) hx hb dX4_opens_13 (by decide) ?_
    exact BX4_opens_14 cx hnt _ _ _ _ _ _ hw _ _ _ _ _ hR hS (lv_sub hl [0] rfl) hcb hsb
  · have hw := mm_in hc hw
    refine lv_iconst (v := (1 : Int32)) hx hb dX4_opens_9 (by decide) ?_
    refine lv_goto (tgt := 14) hx hb dX4_opens_10 (by decide) ?_
    exact BX4_opens_14 cx hnt _ _ _ _ _ _ hw _ _ _ _ _ hR hS (lv_sub hl [0] rfl) hcb hsb
-- X4_sign
def wX4_sign (th : Nat) (x1 : Int32) (bc : Nat) (bs : Nat) (σ : XS) (Q : XS → Prop) (T : Nat → XS → Prop) : Prop :=
  kd σ th = 4 ∧ (wX4_isSign th x1 σ (fun r1 s1 => kd s1 th = 4 ∧ (∃ k5 n5 : Nat, k5 ≤ bc ∧ n5 ≤ bs ∧ (wX4_must th r1 (1 : Int32) k5 n5 s1 (fun s3 => kd s3 th = 4 ∧ (∃ k8 n8 : Nat, k8 ≤ (bc - k5) ∧ n8 ≤ (bs - n5) ∧ (wX4_goes th k8 n8 s3 (fun s6 => Q s6)))) T))))
set_option maxHeartbeats 4000000 in
theorem MX4_sign (l : Launch) (E : xx_E) (th : Nat) (x1 : Int32) (bc : Nat) (bs : Nat) (σ : XS) (Q : XS → Prop) (T : Nat → XS → Prop) (hw : wX4_sign th x1 bc bs σ Q T) : xx_Tv l yX4_sign (ws_ yX4_sign cX4_sign 2 none) ({ frames := 7, cells := bc, slots := bs, locals := 280 } : Room) E [xv E (some th), .int x1] σ Q T bc bs := by
  refine x_ofT (own := "StruckCounts$Reader") (by decide +kernel) rfl ?_
  intro p e s m args below meth c cx hnt hR ha hnm
  refine x_entry [xv E (some th), .int x1] 2 [(0, xv E (some th)), (1, .int x1)] ha (by simp [lg_sl, xv_cat, vc_i, vc_j, vc_f]) (by simp [lv_args, xv_cat, vc_i, vc_j, vc_f]) (fun ls hl => ?_)
  have hS : va_S (xA E) s.heap s.heap [] := va_S.rf
  have hcb : 0 + bc ≤ bc := Nat.le_of_eq (Nat.zero_add _)
  have hsb : 0 + bs ≤ bs := Nat.le_of_eq (Nat.zero_add _)
  unfold wX4_sign at hw
  obtain ⟨hx, hb, hml, hown, hts, hrt, hlk, hMK, hZ⟩ := id cx
  refine x_aload_n cx dX4_sign_0 rfl (lv_at hl 0 rfl) ?_
  refine x_aload_n cx dX4_sign_1 rfl (lv_at hl 0 rfl) ?_
  refine lv_iload_n hx hb dX4_sign_2 rfl (lv_at hl 1 rfl) ?_
  obtain ⟨hk2, hw⟩ := hw
  refine CX4_isSign_X4_108 cx hR hS rfl hk2 hw ⟨Nat.le_of_ble_eq_true rfl, Nat.le_of_ble_eq_true rfl⟩ (Nat.le_of_ble_eq_true rfl) hl.1 ⟨by dsimp only; omega, by dsimp only; omega⟩ dX4_sign_3 (fun r1 s1 H locs hw hR hS => ?_)
  refine lv_iconst (v := (1 : Int32)) hx hb dX4_sign_6 (by decide) ?_
  obtain ⟨hk4, hw⟩ := hw
  obtain ⟨k5, n5, hb1, hb2, hw⟩ := hw
  refine CX4_must_X4_112T cx hnt hR hS rfl hk4 hw ⟨Nat.le_of_ble_eq_true rfl, Nat.le_of_ble_eq_true rfl⟩ (Nat.le_of_ble_eq_true rfl) hl.1 ⟨by dsimp only; omega, by dsimp only; omega⟩ (xle (xadd hb1 hcb)) (xle (xadd hb2 hsb)) dX4_sign_7 (fun s3 H locs hw hR hS => ?_)
  have hcb := xadd hb1 hcb
  have hsb := xadd hb2 hsb
  refine x_aload_n cx dX4_sign_10 rfl (lv_at hl 0 rfl) ?_
  obtain ⟨hk7, hw⟩ := hw
  obtain ⟨k8, n8, hb1, hb2, hw⟩ := hw
  refine CX4_goes_X4_29 cx hR hS rfl hk7 hw ⟨Nat.le_of_ble_eq_true rfl, Nat.le_of_ble_eq_true rfl⟩ (Nat.le_of_ble_eq_true rfl) hl.1 ⟨by dsimp only; omega, by dsimp only; omega⟩ dX4_sign_11 (fun s6 H locs hw hR hS => ?_)
  have hcb := xadd hb1 hcb
  have hsb := xadd hb2 hsb
  exact vx_ret (x_vret cx hR hS (xle hcb) (xle hsb) hw dX4_sign_14)
-- X4_takes
theorem CX4_isWord_X4_116 {l : Launch} {p : Program} {e : Env} {R : Room} {s : State} {m : MethodId} {args : Array Value} {below : List Frame} {meth : Method} {c : Code} {H : Heap} {locs : List Loc} {cells slots : Nat} {Qz : State → Prop} {cc : ByteArray} {nL : Nat} {ret : Option FieldType} {E : xx_E} {σ : XS} {pc : Nat} {ls : Array Slot} {rest : List Value} {th : Nat} {x1 : Option Nat} (cx : xx_X "StruckCounts$Reader" cc nL ret E p s m args meth c) (hR0 : xR E σ H) (hS0 : va_S (xA E) s.heap H locs) {r0 : Option Nat} (hr : r0 = some th) (hk : kd σ th = 4) {Qf : Int32 → XS → Prop} (hw : wX4_isWord th x1 σ Qf) (hR : (({ frames := 2, cells := 0, slots := 0, locals := 80 } : Room)).frames + 1 ≤ R.frames ∧ 8 + (2 + 11) + (({ frames := 2, cells := 0, slots := 0, locals := 80 } : Room)).locals ≤ R.locals) (hrest : rest.length ≤ 4) (hsize : ls.size = nL) (hf : cells + 0 ≤ R.cells ∧ slots + 0 ≤ R.slots) (hdg : decode cc pc = .ok (.invokevirtual 116, 3))
    (kk : ∀ (r : Int32) (σ1 : XS) (H1 : Heap) (locs1 : List Loc), Qf r σ1 → xR E σ1 H1 → va_S (xA E) s.heap H1 locs1 → W p l e R s m args below meth c H1 locs1 (cells + 0) (slots + 0) Qz (F0 m (pc + 3) ls (.int r :: rest))) : W p l e R s m args below meth c H locs cells slots Qz (F0 m pc ls (xv E x1 :: xv E r0 :: rest)) := by
  subst hr
  obtain ⟨hx, hb, hml, hown, hts, hrt, hlk, hK, hZ⟩ := id cx
  exact x_goi (va_runV (As := [xv E x1]) (rest := rest) (x_fix cx) (MX4_isWord l E th x1 σ Qf hw) (cwV 1 hts (lw_V q968 q970 qs4 q173 q971) rfl rfl rfl (by decide +kernel) hR) (x_preV cx hR0 hS0 hk (by decide) (q := (RX4, TX4, 9)) rfl rfl [xv E x1]) rfl rfl hsize rfl (lv_room (xroom hrest)) hdg hf) hS0 kk
def wX4_takes (th : Nat) (x1 : Option Nat) (bc : Nat) (bs : Nat) (σ : XS) (Q : XS → Prop) (T : Nat → XS → Prop) : Prop :=
  kd σ th = 4 ∧ (wX4_isWord th x1 σ (fun r1 s1 => kd s1 th = 4 ∧ (∃ k5 n5 : Nat, k5 ≤ bc ∧ n5 ≤ bs ∧ (wX4_must th r1 (1 : Int32) k5 n5 s1 (fun s3 => kd s3 th = 4 ∧ (∃ k8 n8 : Nat, k8 ≤ (bc - k5) ∧ n8 ≤ (bs - n5) ∧ (wX4_goes th k8 n8 s3 (fun s6 => Q s6)))) T))))
set_option maxHeartbeats 4000000 in
theorem MX4_takes (l : Launch) (E : xx_E) (th : Nat) (x1 : Option Nat) (bc : Nat) (bs : Nat) (σ : XS) (Q : XS → Prop) (T : Nat → XS → Prop) (hw : wX4_takes th x1 bc bs σ Q T) : xx_Tv l yX4_takes (ws_ yX4_takes cX4_takes 2 none) ({ frames := 7, cells := bc, slots := bs, locals := 280 } : Room) E [xv E (some th), xv E x1] σ Q T bc bs := by
  refine x_ofT (own := "StruckCounts$Reader") (by decide +kernel) rfl ?_
  intro p e s m args below meth c cx hnt hR ha hnm
  refine x_entry [xv E (some th), xv E x1] 2 [(0, xv E (some th)), (1, xv E x1)] ha (by simp [lg_sl, xv_cat, vc_i, vc_j, vc_f]) (by simp [lv_args, xv_cat, vc_i, vc_j, vc_f]) (fun ls hl => ?_)
  have hS : va_S (xA E) s.heap s.heap [] := va_S.rf
  have hcb : 0 + bc ≤ bc := Nat.le_of_eq (Nat.zero_add _)
  have hsb : 0 + bs ≤ bs := Nat.le_of_eq (Nat.zero_add _)
  unfold wX4_takes at hw
  obtain ⟨hx, hb, hml, hown, hts, hrt, hlk, hMK, hZ⟩ := id cx
  refine x_aload_n cx dX4_takes_0 rfl (lv_at hl 0 rfl) ?_
  refine x_aload_n cx dX4_takes_1 rfl (lv_at hl 0 rfl) ?_
  refine x_aload_n cx dX4_takes_2 rfl (lv_at hl 1 rfl) ?_
  obtain ⟨hk2, hw⟩ := hw
  refine CX4_isWord_X4_116 cx hR hS rfl hk2 hw ⟨Nat.le_of_ble_eq_true rfl, Nat.le_of_ble_eq_true rfl⟩ (Nat.le_of_ble_eq_true rfl) hl.1 ⟨by dsimp only; omega, by dsimp only; omega⟩ dX4_takes_3 (fun r1 s1 H locs hw hR hS => ?_)
  refine lv_iconst (v := (1 : Int32)) hx hb dX4_takes_6 (by decide) ?_
  obtain ⟨hk4, hw⟩ := hw
  obtain ⟨k5, n5, hb1, hb2, hw⟩ := hw
  refine CX4_must_X4_112T cx hnt hR hS rfl hk4 hw ⟨Nat.le_of_ble_eq_true rfl, Nat.le_of_ble_eq_true rfl⟩ (Nat.le_of_ble_eq_true rfl) hl.1 ⟨by dsimp only; omega, by dsimp only; omega⟩ (xle (xadd hb1 hcb)) (xle (xadd hb2 hsb)) dX4_takes_7 (fun s3 H locs hw hR hS => ?_)
  have hcb := xadd hb1 hcb
  have hsb := xadd hb2 hsb
  refine x_aload_n cx dX4_takes_10 rfl (lv_at hl 0 rfl) ?_
  obtain ⟨hk7, hw⟩ := hw
  obtain ⟨k8, n8, hb1, hb2, hw⟩ := hw
  refine CX4_goes_X4_29 cx hR hS rfl hk7 hw ⟨Nat.le_of_ble_eq_true rfl, Nat.le_of_ble_eq_true rfl⟩ (Nat.le_of_ble_eq_true rfl) hl.1 ⟨by dsimp only; omega, by dsimp only; omega⟩ dX4_takes_11 (fun s6 H locs hw hR hS => ?_)
  have hcb := xadd hb1 hcb
  have hsb := xadd hb2 hsb
  exact vx_ret (x_vret cx hR hS (xle hcb) (xle hsb) hw dX4_takes_14)
-- X4_tooMany
theorem CX4_begins_X4_187 {l : Launch} {p : Program} {e : Env} {R : Room} {s : State} {m : MethodId} {args : Array Value} {below : List Frame} {meth : Method} {c : Code} {H : Heap} {locs : List Loc} {cells slots : Nat} {Qz : State → Prop} {cc : ByteArray} {nL : Nat} {ret : Option FieldType} {E : xx_E} {σ : XS} {pc : Nat} {ls : Array Slot} {rest : List Value} {th : Nat} (cx : xx_X "StruckCounts$Reader" cc nL ret E p s m args meth c) (hR0 : xR E σ H) (hS0 : va_S (xA E) s.heap H locs) {r0 : Option Nat} (hr : r0 = some th) (hk : kd σ th = 4) {Qf : Int32 → XS → Prop} (hw : wX4_begins th σ Qf) (hR : (({ frames := 5, cells := 0, slots := 0, locals := 200 } : Room)).frames + 1 ≤ R.frames ∧ 8 + (1 + 11) + (({ frames := 5, cells := 0, slots := 0, locals := 200 } : Room)).locals ≤ R.locals) (hrest : rest.length ≤ 4) (hsize : ls.size = nL) (hf : cells + 0 ≤ R.cells ∧ slots + 0 ≤ R.slots) (hdg : decode cc pc = .ok (.invokevirtual 187, 3))
    (kk : ∀ (r : Int32) (σ1 : XS) (H1 : Heap) (locs1 : List Loc), Qf r σ1 → xR E σ1 H1 → va_S (xA E) s.heap H1 locs1 → W p l e R s m args below meth c H1 locs1 (cells + 0) (slots + 0) Qz (F0 m (pc + 3) ls (.int r :: rest))) : W p l e R s m args below meth c H locs cells slots Qz (F0 m pc ls (xv E r0 :: rest)) := by
  subst hr
  obtain ⟨hx, hb, hml, hown, hts, hrt, hlk, hK, hZ⟩ := id cx
  exact x_goi (va_runV (As := []) (rest := rest) (x_fix cx) (MX4_begins l E th σ Qf hw) (cwV 0 hts (lw_V q1673 q1675 qs17 q173 q1676) rfl rfl rfl (by decide +kernel) hR) (x_preV cx hR0 hS0 hk (by decide) (q := (RX4, TX4, 9)) rfl rfl []) rfl rfl hsize rfl (lv_room (xroom hrest)) hdg hf) hS0 kk
def wX4_tooMany_50 (Q : XS → Prop) (T : Nat → XS → Prop) (th : Nat) (bc : Nat) (bs : Nat) (σ : XS) : Prop :=
  kd σ th = 4 ∧ (∃ k3 n3 : Nat, k3 ≤ bc ∧ n3 ≤ bs ∧ (wX4_must th (0 : Int32) (4 : Int32) k3 n3 σ (fun s1 => Q s1) T))
set_option maxHeartbeats 4000000 in
theorem BX4_tooMany_50 {l : Launch} {p : Program} {e : Env} {s : State} {m : MethodId} {args : Array Value} {below : List Frame} {meth : Method} {c : Code} {E : xx_E} {mc ms : Nat} {Q : XS → Prop} {T : Nat → XS → Prop} (cx : xx_X "StruckCounts$Reader" cX4_tooMany 1 none E p s m args meth c) (hnt : xnt c) : ∀ (th : Nat) (bc : Nat) (bs : Nat) (σ : XS), wX4_tooMany_50 Q T th bc bs σ → x_TT p l e ({ frames := 12, cells := mc, slots := ms, locals := 480 } : Room) s m args below meth c E T (va_Qv Q (fun σ' t => xW E σ' t) (xA E)) mc ms 1 50 bc bs σ [(0, xv E (some th))] [] := by
  intro th bc bs σ hw H locs ls cells slots hR hS hl hcb hsb
  unfold wX4_tooMany_50 at hw
  obtain ⟨hx, hb, hml, hown, hts, hrt, hlk, hMK, hZ⟩ := id cx
  refine x_aload_n cx dX4_tooMany_50 rfl (lv_at hl 0 rfl) ?_
  refine lv_iconst (v := (0 : Int32)) hx hb dX4_tooMany_51 (by decide) ?_
  refine lv_iconst (v := (4 : Int32)) hx hb dX4_tooMany_52 (by decide) ?_
  obtain ⟨hk2, hw⟩ := hw
  obtain ⟨k3, n3, hb1, hb2, hw⟩ := hw
  refine CX4_must_X4_112T cx hnt hR hS rfl hk2 hw ⟨Nat.le_of_ble_eq_true rfl, Nat.le_of_ble_eq_true rfl⟩ (Nat.le_of_ble_eq_true rfl) hl.1 ⟨by dsimp only; omega, by dsimp only; omega⟩ (xle (xadd hb1 hcb)) (xle (xadd hb2 hsb)) dX4_tooMany_53 (fun s1 H locs hw hR hS => ?_)
  have hcb := xadd hb1 hcb
  have hsb := xadd hb2 hsb
  exact vx_ret (x_vret cx hR hS (xle hcb) (xle hsb) hw dX4_tooMany_56)
def wX4_tooMany_32 (Q : XS → Prop) (T : Nat → XS → Prop) (th : Nat) (t0 : Option Nat) (t1 : Int32) (bc : Nat) (bs : Nat) (σ : XS) : Prop :=
  oc σ t0 4 (fun a5 => ∃ k6 n6 : Nat, k6 ≤ bc ∧ n6 ≤ bs ∧ (wX4_must a5 t1 (2 : Int32) k6 n6 σ (fun s4 => kd s4 th = 4 ∧ (if (fi s4 th 5) = (1 : Int32) then (∃ k9 n9 : Nat, k9 ≤ (bc - k6) ∧ n9 ≤ (bs - n6) ∧ (wX4_told th (1 : Int32) k9 n9 s4 (fun r8 s8 => wX4_tooMany_50 Q T th ((bc - k6) - k9) ((bs - n6) - n9) s8) T)) else (wX4_tooMany_50 Q T th (bc - k6) (bs - n6) s4))) T))
set_option maxHeartbeats 4000000 in
theorem BX4_tooMany_32 {l : Launch} {p : Program} {e : Env} {s : State} {m : MethodId} {args : Array Value} {below : List Frame} {meth : Method} {c : Code} {E : xx_E} {mc ms : Nat} {Q : XS → Prop} {T : Nat → XS → Prop} (cx : xx_X "StruckCounts$Reader" cX4_tooMany 1 none E p s m args meth c) (hnt : xnt c) : ∀ (th : Nat) (t0 : Option Nat) (t1 : Int32) (bc : Nat) (bs : Nat) (σ : XS), wX4_tooMany_32 Q T th t0 t1 bc bs σ → x_TT p l e ({ frames := 12, cells := mc, slots := ms, locals := 480 } : Room) s m args below meth c E T (va_Qv Q (fun σ' t => xW E σ' t) (xA E)) mc ms 1 32 bc bs σ [(0, xv E (some th))] [.int t1, xv E t0] := by
  intro th t0 t1 bc bs σ hw H locs ls cells slots hR hS hl hcb hsb
  unfold wX4_tooMany_32 at hw
  obtain ⟨hx, hb, hml, hown, hts, hrt, hlk, hMK, hZ⟩ := id cx
  refine lv_iconst (v := (2 : Int32)) hx hb dX4_tooMany_32 (by decide) ?_
  obtain ⟨a5, hr5, hk5, hw⟩ := hw
  obtain ⟨k6, n6, hb1, hb2, hw⟩ := hw
  refine CX4_must_X4_112T cx hnt hR hS hr5 hk5 hw ⟨Nat.le_of_ble_eq_true rfl, Nat.le_of_ble_eq_true rfl⟩ (Nat.le_of_ble_eq_true rfl) hl.1 ⟨by dsimp only; omega, by dsimp only; omega⟩ (xle (xadd hb1 hcb)) (xle (xadd hb2 hsb)) dX4_tooMany_33 (fun s4 H locs hw hR hS => ?_)
  have hcb := xadd hb1 hcb
  have hsb := xadd hb2 hsb
  refine x_aload_n cx dX4_tooMany_36 rfl (lv_at hl 0 rfl) ?_
  obtain ⟨hk7, hw⟩ := hw
  refine xg_X4_45_4 cx hR rfl hk7 dX4_tooMany_37 ?_
  refine lv_iconst (v := (1 : Int32)) hx hb dX4_tooMany_40 (by decide) ?_
  refine lv_icmp_ne (tgt := 50) hx hb dX4_tooMany_41 (by decide) (fun hc => ?_) (fun hc => ?_)
  · have hw := mm_in hc hw
    exact BX4_tooMany_50 cx hnt _ _ _ _ hw _ _ _ _ _ hR hS (lv_sub hl [0] rfl) hcb hsb
  · have hw := mm_ip hc hw
    refine x_aload_n cx dX4_tooMany_44 rfl (lv_at hl 0 rfl) ?_
    refine lv_iconst (v := (1 : Int32)) hx hb dX4_tooMany_45 (by decide) ?_
    obtain ⟨k9, n9, hb1, hb2, hw⟩ := hw
    refine CX4_told_X4_208T cx hnt hR hS rfl hk7 hw ⟨Nat.le_of_ble_eq_true rfl, Nat.le_of_ble_eq_true rfl⟩ (Nat.le_of_ble_eq_true rfl) hl.1 ⟨by dsimp only; omega, by dsimp only; omega⟩ (xle (xadd hb1 hcb)) (xle (xadd hb2 hsb)) dX4_tooMany_46 (fun r8 s8 H locs hw hR hS => ?_)
    have hcb := xadd hb1 hcb
    have hsb := xadd hb2 hsb
    refine lv_pop hx hb dX4_tooMany_49 rfl ?_
    exact BX4_tooMany_50 cx hnt _ _ _ _ hw _ _ _ _ _ hR hS (lv_sub hl [0] rfl) hcb hsb
def wX4_tooMany_27 (Q : XS → Prop) (T : Nat → XS → Prop) (th : Nat) (t0 : Option Nat) (bc : Nat) (bs : Nat) (σ : XS) : Prop :=
  wX4_tooMany_32 Q T th t0 (1 : Int32) bc bs σ
set_option maxHeartbeats 4000000 in
theorem BX4_tooMany_27 {l : Launch} {p : Program} {e : Env} {s : State} {m : MethodId} {args : Array Value} {below : List Frame} {meth : Method} {c : Code} {E : xx_E} {mc ms : Nat} {Q : XS → Prop} {T : Nat → XS → Prop} (cx : xx_X "StruckCounts$Reader" cX4_tooMany 1 none E p s m args meth c) (hnt : xnt c) : ∀ (th : Nat) (t0 : Option Nat) (bc : Nat) (bs : Nat) (σ : XS), wX4_tooMany_27 Q T th t0 bc bs σ → x_TT p l e ({ frames := 12, cells := mc, slots := ms, locals := 480 } : Room) s m args below meth c E T (va_Qv Q (fun σ' t => xW E σ' t) (xA E)) mc ms 1 27 bc bs σ [(0, xv E (some th))] [xv E t0] := by
  intro th t0 bc bs σ hw H locs ls cells slots hR hS hl hcb hsb
  unfold wX4_tooMany_27 at hw
  obtain ⟨hx, hb, hml, hown, hts, hrt, hlk, hMK, hZ⟩ := id cx
  refine lv_iconst (v := (1 : Int32)) hx hb dX4_tooMany_27 (by decide) ?_
  refine lv_goto (tgt := 32) hx hb dX4_tooMany_28 (by decide) ?_
  exact BX4_tooMany_32 cx hnt _ _ _ _ _ _ hw _ _ _ _ _ hR hS (lv_sub hl [0] rfl) hcb hsb
def wX4_tooMany (th : Nat) (bc : Nat) (bs : Nat) (σ : XS) (Q : XS → Prop) (T : Nat → XS → Prop) : Prop :=
  kd σ th = 4 ∧ (wX4_begins th σ (fun r10 s10 => kd s10 th = 4 ∧ (∃ k14 n14 : Nat, k14 ≤ bc ∧ n14 ≤ bs ∧ (wX4_must th r10 (1 : Int32) k14 n14 s10 (fun s12 => kd s12 th = 4 ∧ (if (fi s12 th 5) = (2 : Int32) then (if (6 : Int32) < (fi s12 th 6) then (wX4_tooMany_32 Q T th (some th) (0 : Int32) (bc - k14) (bs - n14) s12) else (wX4_tooMany_27 Q T th (some th) (bc - k14) (bs - n14) s12)) else (wX4_tooMany_27 Q T th (some th) (bc - k14) (bs - n14) s12))) T))))
set_option maxHeartbeats 4000000 in
theorem MX4_tooMany (l : Launch) (E : xx_E) (th : Nat) (bc : Nat) (bs : Nat) (σ : XS) (Q : XS → Prop) (T : Nat → XS → Prop) (hw : wX4_tooMany th bc bs σ Q T) : xx_Tv l yX4_tooMany (ws_ yX4_tooMany cX4_tooMany 1 none) ({ frames := 12, cells := bc, slots := bs, locals := 480 } : Room) E [xv E (some th)] σ Q T bc bs := by
  refine x_ofT (own := "StruckCounts$Reader") (by decide +kernel) rfl ?_
  intro p e s m args below meth c cx hnt hR ha hnm
  refine x_entry [xv E (some th)] 1 [(0, xv E (some th))] ha (by simp [lg_sl, xv_cat, vc_i, vc_j, vc_f]) (by simp [lv_args, xv_cat, vc_i, vc_j, vc_f]) (fun ls hl => ?_)
  have hS : va_S (xA E) s.heap s.heap [] := va_S.rf
  have hcb : 0 + bc ≤ bc := Nat.le_of_eq (Nat.zero_add _)
  have hsb : 0 + bs ≤ bs := Nat.le_of_eq (Nat.zero_add _)
  unfold wX4_tooMany at hw
  obtain ⟨hx, hb, hml, hown, hts, hrt, hlk, hMK, hZ⟩ := id cx
  refine x_aload_n cx dX4_tooMany_0 rfl (lv_at hl 0 rfl) ?_
  refine x_aload_n cx dX4_tooMany_1 rfl (lv_at hl 0 rfl) ?_
  obtain ⟨hk11, hw⟩ := hw
  refine CX4_begins_X4_187 cx hR hS rfl hk11 hw ⟨Nat.le_of_ble_eq_true rfl, Nat.le_of_ble_eq_true rfl⟩ (Nat.le_of_ble_eq_true rfl) hl.1 ⟨by dsimp only; omega, by dsimp only; omega⟩ dX4_tooMany_2 (fun r10 s10 H locs hw hR hS => ?_)
  refine lv_iconst (v := (1 : Int32)) hx hb dX4_tooMany_5 (by decide) ?_
  obtain ⟨hk13, hw⟩ := hw
  obtain ⟨k14, n14, hb1, hb2, hw⟩ := hw
  refine CX4_must_X4_112T cx hnt hR hS rfl hk13 hw ⟨Nat.le_of_ble_eq_true rfl, Nat.le_of_ble_eq_true rfl⟩ (Nat.le_of_ble_eq_true rfl) hl.1 ⟨by dsimp only; omega, by dsimp only; omega⟩ (xle (xadd hb1 hcb)) (xle (xadd hb2 hsb)) dX4_tooMany_6 (fun s12 H locs hw hR hS => ?_)
  have hcb := xadd hb1 hcb
  have hsb := xadd hb2 hsb
  refine x_aload_n cx dX4_tooMany_9 rfl (lv_at hl 0 rfl) ?_
  refine x_aload_n cx dX4_tooMany_10 rfl (lv_at hl 0 rfl) ?_
  obtain ⟨hk15, hw⟩ := hw
  refine xg_X4_45_4 cx hR rfl hk15 dX4_tooMany_11 ?_
  refine lv_iconst (v := (2 : Int32)) hx hb dX4_tooMany_14 (by decide) ?_
  refine lv_icmp_ne (tgt := 27) hx hb dX4_tooMany_15 (by decide) (fun hc => ?_) (fun hc => ?_)
  · have hw := mm_in hc hw
    exact BX4_tooMany_27 cx hnt _ _ _ _ _ hw _ _ _ _ _ hR hS (lv_sub hl [0] rfl) hcb hsb
  · have hw := mm_ip hc hw
    refine x_aload_n cx dX4_tooMany_18 rfl (lv_at hl 0 rfl) ?_
    refine xg_X4_42_4 cx hR rfl hk15 dX4_tooMany_19 ?_
    refine lv_bipush (v := (6 : Int32)) hx hb dX4_tooMany_22 (by decide) ?_
    refine lv_icmp_gt (tgt := 31) hx hb dX4_tooMany_24 (by decide) (fun hc => ?_) (fun hc => ?_)
    · have hw := mm_ip hc hw
      refine lv_iconst (v := (0 : Int32)) hx hb dX4_tooMany_31 (by decide) ?_
      exact BX4_tooMany_32 cx hnt _ _ _ _ _ _ hw _ _ _ _ _ hR hS (lv_sub hl [0] rfl) hcb hsb
    · have hw := mm_in hc hw
      exact BX4_tooMany_27 cx hnt _ _ _ _ _ hw _ _ _ _ _ hR hS (lv_sub hl [0] rfl) hcb hsb
-- X4_all
theorem xn_X4_154 {l : Launch} {p : Program} {e : Env} {R : Room} {s : State} {m : MethodId} {args : Array Value} {below : List Frame} {meth : Method} {c : Code} {H : Heap} {locs : List Loc} {cells slots : Nat} {Qz : State → Prop} {cc : ByteArray} {nL : Nat} {ret : Option FieldType} {E : xx_E} {σ : XS} {pc : Nat} {ls : Array Slot} {rest : List Value} (cx : xx_X "StruckCounts$Reader" cc nL ret E p s m args meth c) (hR : xR E σ H) (hS0 : va_S (xA E) s.heap H locs) (hcells : cells + 1 ≤ R.cells) (hslots : slots + 3 ≤ R.slots) (hdg : decode cc pc = .ok (.new 154, 3)) (kk : ∀ (H1 : Heap), xR E (xal σ 16 0) H1 → va_S (xA E) s.heap H1 locs → W p l e R s m args below meth c H1 locs (cells + 1) (slots + 3) Qz (F0 m (pc + 3) ls (xv E (some (xn σ)) :: rest))) : W p l e R s m args below meth c H locs cells slots Qz (F0 m pc ls rest) :=
  x_new cx hR hS0 15 (by decide) rfl in_J7 tyJ7 tyJ7_ok q1663 q299 q165 (fun j hj => by
    match j, hj with
    | 0, _ => exact xnew_i rfl
    | 1, _ => exact xnew_r rfl
    | 2, _ => exact xnew_i rfl) hcells hslots hdg kk
theorem xn_X4_181 {l : Launch} {p : Program} {e : Env} {R : Room} {s : State} {m : MethodId} {args : Array Value} {below : List Frame} {meth : Method} {c : Code} {H : Heap} {locs : List Loc} {cells slots : Nat} {Qz : State → Prop} {cc : ByteArray} {nL : Nat} {ret : Option FieldType} {E : xx_E} {σ : XS} {pc : Nat} {ls : Array Slot} {rest : List Value} (cx : xx_X "StruckCounts$Reader" cc nL ret E p s m args meth c) (hR : xR E σ H) (hS0 : va_S (xA E) s.heap H locs) (hcells : cells + 1 ≤ R.cells) (hslots : slots + 1 ≤ R.slots) (hdg : decode cc pc = .ok (.new 181, 3)) (kk : ∀ (H1 : Heap), xR E (xal σ 11 0) H1 → va_S (xA E) s.heap H1 locs → W p l e R s m args below meth c H1 locs (cells + 1) (slots + 1) Qz (F0 m (pc + 3) ls (xv E (some (xn σ)) :: rest))) : W p l e R s m args below meth c H locs cells slots Qz (F0 m pc ls rest) :=
  x_new cx hR hS0 10 (by decide) rfl in_X11 tyX11 tyX11_ok q1781 q1782 q198 (fun j hj => by
    match j, hj with
    | 0, _ => exact xnew_r rfl) hcells hslots hdg kk
theorem CJ7_init_X4_156 {l : Launch} {p : Program} {e : Env} {R : Room} {s : State} {m : MethodId} {args : Array Value} {below : List Frame} {meth : Method} {c : Code} {H : Heap} {locs : List Loc} {cells slots : Nat} {Qz : State → Prop} {cc : ByteArray} {nL : Nat} {ret : Option FieldType} {E : xx_E} {σ : XS} {pc : Nat} {ls : Array Slot} {rest : List Value} {th : Nat} {x1 : Int32} {k n : Nat} (cx : xx_X "StruckCounts$Reader" cc nL ret E p s m args meth c) (hR0 : xR E σ H) (hS0 : va_S (xA E) s.heap H locs) {r0 : Option Nat} (hr : r0 = some th) (hk : kd σ th = 16) {Qf : XS → Prop} (hw : wJ7_init th x1 k n σ Qf) (hR : (({ frames := 3, cells := k, slots := n, locals := 120 } : Room)).frames + 1 ≤ R.frames ∧ 8 + (2 + 11) + (({ frames := 3, cells := k, slots := n, locals := 120 } : Room)).locals ≤ R.locals) (hrest : rest.length ≤ 4) (hsize : ls.size = nL) (hf : cells + k ≤ R.cells ∧ slots + n ≤ R.slots) (hdg : decode cc pc = .ok (.invokespecial 156, 3))
    (kk : ∀ (σ1 : XS) (H1 : Heap) (locs1 : List Loc), Qf σ1 → xR E σ1 H1 → va_S (xA E) s.heap H1 locs1 → W p l e R s m args below meth c H1 locs1 (cells + k) (slots + n) Qz (F0 m (pc + 3) ls rest)) : W p l e R s m args below meth c H locs cells slots Qz (F0 m pc ls (.int x1 :: xv E r0 :: rest)) := by
  subst hr
  obtain ⟨hx, hb, hml, hown, hts, hrt, hlk, hK, hZ⟩ := id cx
  exact x_gov (va_runI (As := [.int x1]) (rest := rest) (x_fix cx) (MJ7_init l E th x1 k n σ Qf hw) (cwI 1 hts (lw_meth q302) rfl rfl rfl (hts _ q165) (hts _ q1664) (hts _ q301) rfl (by decide +kernel) hR) ⟨xblind, x_pre cx hR0 hS0 (.ref (xr E th) :: [.int x1])⟩ rfl rfl hsize rfl (lv_room (xroom hrest)) hdg hf) hS0 kk
theorem CX4_one_X4_178FT {l : Launch} {p : Program} {e : Env} {R : Room} {s : State} {m : MethodId} {args : Array Value} {below : List Frame} {meth : Method} {c : Code} {H : Heap} {locs : List Loc} {cells slots : Nat} {cc : ByteArray} {nL : Nat} {ret : Option FieldType} {E : xx_E} {σ : XS} {pc : Nat} {ls : Array Slot} {rest : List Value} {F : Nat → Nat → Nat → XS → (Option Nat → XS → Prop) → (Nat → XS → Prop) → Prop} (d : Nat) (hF : ∀ (th : Nat) (k n : Nat) (σ : XS) (Q : Option Nat → XS → Prop) (T : Nat → XS → Prop), F th k n σ Q T → xx_Tr l yX4_one (ws_ yX4_one cX4_one 2 (some (.object "StruckCounts$Expr"))) ({ frames := (13 + 4 * d), cells := k, slots := n, locals := 40 * (13 + 4 * d) } : Room) E [xv E (some th)] σ Q T k n) {th : Nat} {k n : Nat} {T : Nat → XS → Prop} {Qc : Array Value → State → Outcome → State → Prop} {MC MS : Nat} (cx : xx_X "StruckCounts$Reader" cc nL ret E p s m args meth c) (hnt : xnt c) (hR0 : xR E σ H) (hS0 : va_S (xA E) s.heap H locs) {r0 : Option Nat} (hr : r0 = some th) (hk : kd σ th = 4) {Qf : Option Nat → XS → Prop} (hw : F th k n σ Qf T) (hR : (({ frames := (13 + 4 * d), cells := k, slots := n, locals := 40 * (13 + 4 * d) } : Room)).frames + 1 ≤ R.frames ∧ 8 + (2 + 11) + (({ frames := (13 + 4 * d), cells := k, slots := n, locals := 40 * (13 + 4 * d) } : Room)).locals ≤ R.locals) (hrest : rest.length ≤ 4) (hsize : ls.size = nL) (hf : cells + k ≤ R.cells ∧ slots + n ≤ R.slots) (hc : cells + k ≤ MC) (hs : slots + n ≤ MS) (hdg : decode cc pc = .ok (.invokevirtual 178, 3))
    (kk : ∀ (r : Option Nat) (σ1 : XS) (H1 : Heap) (locs1 : List Loc), Qf r σ1 → xR E σ1 H1 → va_S (xA E) s.heap H1 locs1 → W p l e R s m args below meth c H1 locs1 (cells + k) (slots + n) (vx_MQ below Qc (xTX T E) args s MC MS (xA E)) (F0 m (pc + 3) ls (xv E r :: rest))) : W p l e R s m args below meth c H locs cells slots (vx_MQ below Qc (xTX T E) args s MC MS (xA E)) (F0 m pc ls (xv E r0 :: rest)) := by
  subst hr
  obtain ⟨hx, hb, hml, hown, hts, hrt, hlk, hK, hZ⟩ := id cx
  exact x_goTr cx hnt (vx_runV (As := []) (rest := rest) (x_fix cx) (hF th k n σ Qf T hw) (cwV 0 hts (lw_V q1669 q1671 qs16 q173 q1672) rfl rfl rfl (by decide +kernel) hR) (x_preV cx hR0 hS0 hk (by decide) (q := (RX4, TX4, 9)) rfl rfl []) rfl rfl hsize rfl (lv_room (xroom hrest)) hdg hf) hS0 hc hs kk
theorem CJ7_add_X4_163 {l : Launch} {p : Program} {e : Env} {R : Room} {s : State} {m : MethodId} {args : Array Value} {below : List Frame} {meth : Method} {c : Code} {H : Heap} {locs : List Loc} {cells slots : Nat} {Qz : State → Prop} {cc : ByteArray} {nL : Nat} {ret : Option FieldType} {E : xx_E} {σ : XS} {pc : Nat} {ls : Array Slot} {rest : List Value} {th : Nat} {x1 : Option Nat} {k n : Nat} (cx : xx_X "StruckCounts$Reader" cc nL ret E p s m args meth c) (hR0 : xR E σ H) (hS0 : va_S (xA E) s.heap H locs) {r0 : Option Nat} (hr : r0 = some th) (hk : kd σ th = 16) {Qf : Int32 → XS → Prop} (hw : wJ7_add th x1 k n σ Qf) (hR : (({ frames := 7, cells := k, slots := n, locals := 280 } : Room)).frames + 1 ≤ R.frames ∧ 8 + (2 + 11) + (({ frames := 7, cells := k, slots := n, locals := 280 } : Room)).locals ≤ R.locals) (hrest : rest.length ≤ 4) (hsize : ls.size = nL) (hf : cells + k ≤ R.cells ∧ slots + n ≤ R.slots) (hdg : decode cc pc = .ok (.invokevirtual 163, 3))
    (kk : ∀ (r : Int32) (σ1 : XS) (H1 : Heap) (locs1 : List Loc), Qf r σ1 → xR E σ1 H1 → va_S (xA E) s.heap H1 locs1 → W p l e R s m args below meth c H1 locs1 (cells + k) (slots + n) Qz (F0 m (pc + 3) ls (.int r :: rest))) : W p l e R s m args below meth c H locs cells slots Qz (F0 m pc ls (xv E x1 :: xv E r0 :: rest)) := by
  subst hr
  obtain ⟨hx, hb, hml, hown, hts, hrt, hlk, hK, hZ⟩ := id cx
  exact x_goi (va_runV (As := [xv E x1]) (rest := rest) (x_fix cx) (MJ7_add l E th x1 k n σ Qf hw) (cwV 1 hts (lw_V q1707 q1708 q1709 q165 q1710) rfl rfl rfl (by decide +kernel) hR) (x_preV cx hR0 hS0 hk (by decide) (q := (RJ7, TJ7, 3)) rfl rfl [xv E x1]) rfl rfl hsize rfl (lv_room (xroom hrest)) hdg hf) hS0 kk
theorem CJ7_size_X4_166 {l : Launch} {p : Program} {e : Env} {R : Room} {s : State} {m : MethodId} {args : Array Value} {below : List Frame} {meth : Method} {c : Code} {H : Heap} {locs : List Loc} {cells slots : Nat} {Qz : State → Prop} {cc : ByteArray} {nL : Nat} {ret : Option FieldType} {E : xx_E} {σ : XS} {pc : Nat} {ls : Array Slot} {rest : List Value} {th : Nat} (cx : xx_X "StruckCounts$Reader" cc nL ret E p s m args meth c) (hR0 : xR E σ H) (hS0 : va_S (xA E) s.heap H locs) {r0 : Option Nat} (hr : r0 = some th) (hk : kd σ th = 16) {Qf : Int32 → XS → Prop} (hw : wJ7_size th σ Qf) (hR : (({ frames := 0, cells := 0, slots := 0, locals := 0 } : Room)).frames + 1 ≤ R.frames ∧ 8 + (1 + 11) + (({ frames := 0, cells := 0, slots := 0, locals := 0 } : Room)).locals ≤ R.locals) (hrest : rest.length ≤ 4) (hsize : ls.size = nL) (hf : cells + 0 ≤ R.cells ∧ slots + 0 ≤ R.slots) (hdg : decode cc pc = .ok (.invokevirtual 166, 3))
    (kk : ∀ (r : Int32) (σ1 : XS) (H1 : Heap) (locs1 : List Loc), Qf r σ1 → xR E σ1 H1 → va_S (xA E) s.heap H1 locs1 → W p l e R s m args below meth c H1 locs1 (cells + 0) (slots + 0) Qz (F0 m (pc + 3) ls (.int r :: rest))) : W p l e R s m args below meth c H locs cells slots Qz (F0 m pc ls (xv E r0 :: rest)) := by
  subst hr
  obtain ⟨hx, hb, hml, hown, hts, hrt, hlk, hK, hZ⟩ := id cx
  exact x_goi (va_runV (As := []) (rest := rest) (x_fix cx) (MJ7_size l E th σ Qf hw) (cwV 0 hts (lw_V q1658 q391 q392 q165 q393) rfl rfl rfl (by decide +kernel) hR) (x_preV cx hR0 hS0 hk (by decide) (q := (RJ7, TJ7, 3)) rfl rfl []) rfl rfl hsize rfl (lv_room (xroom hrest)) hdg hf) hS0 kk
theorem CX11_init_X4_183 {l : Launch} {p : Program} {e : Env} {R : Room} {s : State} {m : MethodId} {args : Array Value} {below : List Frame} {meth : Method} {c : Code} {H : Heap} {locs : List Loc} {cells slots : Nat} {Qz : State → Prop} {cc : ByteArray} {nL : Nat} {ret : Option FieldType} {E : xx_E} {σ : XS} {pc : Nat} {ls : Array Slot} {rest : List Value} {th : Nat} {x1 : Option Nat} (cx : xx_X "StruckCounts$Reader" cc nL ret E p s m args meth c) (hR0 : xR E σ H) (hS0 : va_S (xA E) s.heap H locs) {r0 : Option Nat} (hr : r0 = some th) (hk : kd σ th = 11) {Qf : XS → Prop} (hw : wX11_init th x1 σ Qf) (hR : (({ frames := 2, cells := 0, slots := 0, locals := 80 } : Room)).frames + 1 ≤ R.frames ∧ 8 + (2 + 11) + (({ frames := 2, cells := 0, slots := 0, locals := 80 } : Room)).locals ≤ R.locals) (hrest : rest.length ≤ 4) (hsize : ls.size = nL) (hf : cells + 0 ≤ R.cells ∧ slots + 0 ≤ R.slots) (hdg : decode cc pc = .ok (.invokespecial 183, 3))
    (kk : ∀ (σ1 : XS) (H1 : Heap) (locs1 : List Loc), Qf σ1 → xR E σ1 H1 → va_S (xA E) s.heap H1 locs1 → W p l e R s m args below meth c H1 locs1 (cells + 0) (slots + 0) Qz (F0 m (pc + 3) ls rest)) : W p l e R s m args below meth c H locs cells slots Qz (F0 m pc ls (xv E x1 :: xv E r0 :: rest)) := by
  subst hr
  obtain ⟨hx, hb, hml, hown, hts, hrt, hlk, hK, hZ⟩ := id cx
  exact x_gov (va_runI (As := [xv E x1]) (rest := rest) (x_fix cx) (MX11_init l E th x1 σ Qf hw) (cwI 1 hts (lw_meth q1785) rfl rfl rfl (hts _ q198) (hts _ q1783) (hts _ q1784) rfl (by decide +kernel) hR) ⟨xblind, x_pre cx hR0 hS0 (.ref (xr E th) :: [xv E x1])⟩ rfl rfl hsize rfl (lv_room (xroom hrest)) hdg hf) hS0 kk
def wX4_all_18 (F : Nat → Nat → Nat → XS → (Option Nat → XS → Prop) → (Nat → XS → Prop) → Prop) (Q : Option Nat → XS → Prop) (T : Nat → XS → Prop) (K18 : Nat → Option Nat → Nat → Nat → XS → Prop) (th : Nat) (x1 : Option Nat) (bc : Nat) (bs : Nat) (σ : XS) : Prop :=
  kd σ th = 4 ∧ (wX4_isSign th (38 : Int32) σ (fun r1 s1 => if r1 = 0 then (oc s1 x1 16 (fun a4 => wJ7_size a4 s1 (fun r3 s3 => if r3 = (1 : Int32) then (oc s3 x1 16 (fun a8 => wJ7_get a8 (0 : Int32) s3 (fun r7 s7 => xck [10, 7, 8, 9, 11] s7 r7 ∧ (Q r7 s7)))) else (1 ≤ bc ∧ 1 ≤ bs ∧ (kd (xal s3 11 0) (xn s3) = 11 ∧ (wX11_init (xn s3) x1 (xal s3 11 0) (fun s5 => Q (some (xn s3)) s5))))))) else (kd s1 th = 4 ∧ (∃ k11 n11 : Nat, k11 ≤ bc ∧ n11 ≤ bs ∧ (wX4_goes th k11 n11 s1 (fun s9 => kd s9 th = 4 ∧ (∃ k14 n14 : Nat, k14 ≤ (bc - k11) ∧ n14 ≤ (bs - n11) ∧ (F th k14 n14 s9 (fun r12 s12 => oc s12 x1 16 (fun a16 => ∃ k17 n17 : Nat, k17 ≤ ((bc - k11) - k14) ∧ n17 ≤ ((bs - n11) - n14) ∧ (wJ7_add a16 r12 k17 n17 s12 (fun r15 s15 => K18 th x1 (((bc - k11) - k14) - k17) (((bs - n11) - n14) - n17) s15)))) T))))))))
set_option maxHeartbeats 4000000 in
theorem BX4_all_18 {l : Launch} {p : Program} {e : Env} {s : State} {m : MethodId} {args : Array Value} {below : List Frame} {meth : Method} {c : Code} {E : xx_E} {F : Nat → Nat → Nat → XS → (Option Nat → XS → Prop) → (Nat → XS → Prop) → Prop} {mc ms : Nat} {Q : Option Nat → XS → Prop} {T : Nat → XS → Prop} {K18 : Nat → Option Nat → Nat → Nat → XS → Prop} (d : Nat) (hF : ∀ (th : Nat) (k n : Nat) (σ : XS) (Q : Option Nat → XS → Prop) (T : Nat → XS → Prop), F th k n σ Q T → xx_Tr l yX4_one (ws_ yX4_one cX4_one 2 (some (.object "StruckCounts$Expr"))) ({ frames := (13 + 4 * d), cells := k, slots := n, locals := 40 * (13 + 4 * d) } : Room) E [xv E (some th)] σ Q T k n) (cx : xx_X "StruckCounts$Reader" cX4_all 2 (some (.object "StruckCounts$Expr")) E p s m args meth c) (hnt : xnt c) (hK18 : ∀ (th : Nat) (x1 : Option Nat) (bc : Nat) (bs : Nat) (σ : XS), K18 th x1 bc bs σ → x_TT p l e ({ frames := (14 + 4 * d), cells := mc, slots := ms, locals := 40 * (14 + 4 * d) } : Room) s m args below meth c E T (va_Qe (xr E) Q (fun σ' t => xW E σ' t) (xA E)) mc ms 2 18 bc bs σ [(0, xv E (some th)), (1, xv E x1)] []) : ∀ (th : Nat) (x1 : Option Nat) (bc : Nat) (bs : Nat) (σ : XS), wX4_all_18 F Q T K18 th x1 bc bs σ → x_TT p l e ({ frames := (14 + 4 * d), cells := mc, slots := ms, locals := 40 * (14 + 4 * d) } : Room) s m args below meth c E T (va_Qe (xr E) Q (fun σ' t => xW E σ' t) (xA E)) mc ms 2 18 bc bs σ [(0, xv E (some th)), (1, xv E x1)] [] := by
  intro th x1 bc bs σ hw H locs ls cells slots hR hS hl hcb hsb
  unfold wX4_all_18 at hw
  obtain ⟨hx, hb, hml, hown, hts, hrt, hlk, hMK, hZ⟩ := id cx
  refine x_aload_n cx dX4_all_18 rfl (lv_at hl 0 rfl) ?_
  refine lv_bipush (v := (38 : Int32)) hx hb dX4_all_19 (by decide) ?_
  obtain ⟨hk2, hw⟩ := hw
  refine CX4_isSign_X4_108 cx hR hS rfl hk2 hw (by constructor <;> dsimp only <;> omega) (Nat.le_of_ble_eq_true rfl) hl.1 ⟨by dsimp only; omega, by dsimp only; omega⟩ dX4_all_21 (fun r1 s1 H locs hw hR hS => ?_)
  refine lv_if_eq (tgt := 43) hx hb dX4_all_24 (by decide) (fun hc => ?_) (fun hc => ?_)
  · have hw := mm_ip hc hw
    refine x_aload_n cx dX4_all_43 rfl (lv_at hl 1 rfl) ?_
    obtain ⟨a4, hr4, hk4, hw⟩ := hw
    refine CJ7_size_X4_166 cx hR hS hr4 hk4 hw (by constructor <;> dsimp only <;> omega) (Nat.le_of_ble_eq_true rfl) hl.1 ⟨by dsimp only; omega, by dsimp only; omega⟩ dX4_all_44 (fun r3 s3 H locs hw hR hS => ?_)
    refine lv_iconst (v := (1 : Int32)) hx hb dX4_all_47 (by decide) ?_
    refine lv_icmp_ne (tgt := 62) hx hb dX4_all_48 (by decide) (fun hc => ?_) (fun hc => ?_)
    · have hw := mm_in hc hw
      obtain ⟨hb1, hb2, hw⟩ := hw
      refine xn_X4_181 cx hR hS (by dsimp only; omega) (by dsimp only; omega) dX4_all_62 (fun H hR hS => ?_)
      have hcb := xadd hb1 hcb
      have hsb := xadd hb2 hsb
      refine lv_dup hx hb dX4_all_65 (xv_cat _ _) ?_
      refine x_aload_n cx dX4_all_66 rfl (lv_at hl 1 rfl) ?_
      obtain ⟨hk6, hw⟩ := hw
      refine CX11_init_X4_183 cx hR hS rfl hk6 hw (by constructor <;> dsimp only <;> omega) (Nat.le_of_ble_eq_true rfl) hl.1 ⟨by dsimp only; omega, by dsimp only; omega⟩ dX4_all_67 (fun s5 H locs hw hR hS => ?_)
      exact vx_ret (x_aret cx (by first | exact Or.inl ⟨_, rfl⟩ | exact Or.inr ⟨_, rfl⟩) hR hS (xle hcb) (xle hsb) hw dX4_all_70)
    · have hw := mm_ip hc hw
      refine x_aload_n cx dX4_all_51 rfl (lv_at hl 1 rfl) ?_
      refine lv_iconst (v := (0 : Int32)) hx hb dX4_all_52 (by decide) ?_
      obtain ⟨a8, hr8, hk8, hw⟩ := hw
      refine CJ7_get_X4_168 cx hR hS hr8 hk8 hw (by constructor <;> dsimp only <;> omega) (Nat.le_of_ble_eq_true rfl) hl.1 ⟨by dsimp only; omega, by dsimp only; omega⟩ dX4_all_53 (fun r7 s7 H locs hw hR hS => ?_)
      obtain ⟨hv, hw⟩ := hw
      refine x_cast cx hR q1780 (xcc_0 hv) dX4_all_56 ?_
      refine lv_goto (tgt := 70) hx hb dX4_all_59 (by decide) ?_
      exact vx_ret (x_aret cx (by first | exact Or.inl ⟨_, rfl⟩ | exact Or.inr ⟨_, rfl⟩) hR hS (xle hcb) (xle hsb) hw dX4_all_70)
  · have hw := mm_in hc hw
    refine x_aload_n cx dX4_all_27 rfl (lv_at hl 0 rfl) ?_
    obtain ⟨hk10, hw⟩ := hw
    obtain ⟨k11, n11, hb1, hb2, hw⟩ := hw
    refine CX4_goes_X4_29 cx hR hS rfl hk10 hw (by constructor <;> dsimp only <;> omega) (Nat.le_of_ble_eq_true rfl) hl.1 ⟨by dsimp only; omega, by dsimp only; omega⟩ dX4_all_28 (fun s9 H locs hw hR hS => ?_)
    have hcb := xadd hb1 hcb
    have hsb := xadd hb2 hsb
    refine x_aload_n cx dX4_all_31 rfl (lv_at hl 1 rfl) ?_
    refine x_aload_n cx dX4_all_32 rfl (lv_at hl 0 rfl) ?_
    obtain ⟨hk13, hw⟩ := hw
    obtain ⟨k14, n14, hb1, hb2, hw⟩ := hw
    refine CX4_one_X4_178FT d hF cx hnt hR hS rfl hk13 hw (by constructor <;> dsimp only <;> omega) (Nat.le_of_ble_eq_true rfl) hl.1 ⟨by dsimp only; omega, by dsimp only; omega⟩ (xle (xadd hb1 hcb)) (xle (xadd hb2 hsb)) dX4_all_33 (fun r12 s12 H locs hw hR hS => ?_)
    have hcb := xadd hb1 hcb
    have hsb := xadd hb2 hsb
    obtain ⟨a16, hr16, hk16, hw⟩ := hw
    obtain ⟨k17, n17, hb1, hb2, hw⟩ := hw
    refine CJ7_add_X4_163 cx hR hS hr16 hk16 hw (by constructor <;> dsimp only <;> omega) (Nat.le_of_ble_eq_true rfl) hl.1 ⟨by dsimp only; omega, by dsimp only; omega⟩ dX4_all_36 (fun r15 s15 H locs hw hR hS => ?_)
    have hcb := xadd hb1 hcb
    have hsb := xadd hb2 hsb
    refine lv_pop hx hb dX4_all_39 rfl ?_
    refine lv_goto (tgt := 18) hx hb dX4_all_40 (by decide) ?_
    exact hK18 _ _ _ _ _ hw _ _ _ _ _ hR hS (lv_sub hl [0, 1] rfl) hcb hsb
theorem LX4_all_18 {l : Launch} {p : Program} {e : Env} {s : State} {m : MethodId} {args : Array Value} {below : List Frame} {meth : Method} {c : Code} {E : xx_E} {F : Nat → Nat → Nat → XS → (Option Nat → XS → Prop) → (Nat → XS → Prop) → Prop} {mc ms : Nat} {Q : Option Nat → XS → Prop} {T : Nat → XS → Prop} (d : Nat) (hF : ∀ (th : Nat) (k n : Nat) (σ : XS) (Q : Option Nat → XS → Prop) (T : Nat → XS → Prop), F th k n σ Q T → xx_Tr l yX4_one (ws_ yX4_one cX4_one 2 (some (.object "StruckCounts$Expr"))) ({ frames := (13 + 4 * d), cells := k, slots := n, locals := 40 * (13 + 4 * d) } : Room) E [xv E (some th)] σ Q T k n) (cx : xx_X "StruckCounts$Reader" cX4_all 2 (some (.object "StruckCounts$Expr")) E p s m args meth c) (hnt : xnt c) : ∀ (th : Nat) (x1 : Option Nat) (bc : Nat) (bs : Nat) (σ : XS), lp5F (wX4_all_18 F Q T) th x1 bc bs σ → x_TT p l e ({ frames := (14 + 4 * d), cells := mc, slots := ms, locals := 40 * (14 + 4 * d) } : Room) s m args below meth c E T (va_Qe (xr E) Q (fun σ' t => xW E σ' t) (xA E)) mc ms 2 18 bc bs σ [(0, xv E (some th)), (1, xv E x1)] [] :=
  lp5F_of (fun K hK => BX4_all_18 d hF cx hnt hK)
def wX4_all (F : Nat → Nat → Nat → XS → (Option Nat → XS → Prop) → (Nat → XS → Prop) → Prop) (th : Nat) (bc : Nat) (bs : Nat) (σ : XS) (Q : Option Nat → XS → Prop) (T : Nat → XS → Prop) : Prop :=
  1 ≤ bc ∧ 3 ≤ bs ∧ (kd (xal σ 16 0) (xn σ) = 16 ∧ (∃ k20 n20 : Nat, k20 ≤ (bc - 1) ∧ n20 ≤ (bs - 3) ∧ (wJ7_init (xn σ) (2 : Int32) k20 n20 (xal σ 16 0) (fun s18 => kd s18 th = 4 ∧ (∃ k23 n23 : Nat, k23 ≤ ((bc - 1) - k20) ∧ n23 ≤ ((bs - 3) - n20) ∧ (F th k23 n23 s18 (fun r21 s21 => kd s21 (xn σ) = 16 ∧ (∃ k26 n26 : Nat, k26 ≤ (((bc - 1) - k20) - k23) ∧ n26 ≤ (((bs - 3) - n20) - n23) ∧ (wJ7_add (xn σ) r21 k26 n26 s21 (fun r24 s24 => lp5F (wX4_all_18 F Q T) th (some (xn σ)) ((((bc - 1) - k20) - k23) - k26) ((((bs - 3) - n20) - n23) - n26) s24)))) T))))))
set_option maxHeartbeats 4000000 in
theorem MX4_all (l : Launch) (E : xx_E) {F : Nat → Nat → Nat → XS → (Option Nat → XS → Prop) → (Nat → XS → Prop) → Prop} (d : Nat) (hF : ∀ (th : Nat) (k n : Nat) (σ : XS) (Q : Option Nat → XS → Prop) (T : Nat → XS → Prop), F th k n σ Q T → xx_Tr l yX4_one (ws_ yX4_one cX4_one 2 (some (.object "StruckCounts$Expr"))) ({ frames := (13 + 4 * d), cells := k, slots := n, locals := 40 * (13 + 4 * d) } : Room) E [xv E (some th)] σ Q T k n) (th : Nat) (bc : Nat) (bs : Nat) (σ : XS) (Q : Option Nat → XS → Prop) (T : Nat → XS → Prop) (hw : wX4_all F th bc bs σ Q T) : xx_Tr l yX4_all (ws_ yX4_all cX4_all 2 (some (.object "StruckCounts$Expr"))) ({ frames := (14 + 4 * d), cells := bc, slots := bs, locals := 40 * (14 + 4 * d) } : Room) E [xv E (some th)] σ Q T bc bs := by
  refine x_ofT (own := "StruckCounts$Reader") (by decide +kernel) rfl ?_
  intro p e s m args below meth c cx hnt hR ha hnm
  refine x_entry [xv E (some th)] 2 [(0, xv E (some th))] ha (by simp [lg_sl, xv_cat, vc_i, vc_j, vc_f]) (by simp [lv_args, xv_cat, vc_i, vc_j, vc_f]) (fun ls hl => ?_)
  have hS : va_S (xA E) s.heap s.heap [] := va_S.rf
  have hcb : 0 + bc ≤ bc := Nat.le_of_eq (Nat.zero_add _)
  have hsb : 0 + bs ≤ bs := Nat.le_of_eq (Nat.zero_add _)
  unfold wX4_all at hw
  obtain ⟨hx, hb, hml, hown, hts, hrt, hlk, hMK, hZ⟩ := id cx
  obtain ⟨hb1, hb2, hw⟩ := hw
  refine xn_X4_154 cx hR hS (by dsimp only; omega) (by dsimp only; omega) dX4_all_0 (fun H hR hS => ?_)
  have hcb := xadd hb1 hcb
  have hsb := xadd hb2 hsb
  refine lv_dup hx hb dX4_all_3 (xv_cat _ _) ?_
  refine lv_iconst (v := (2 : Int32)) hx hb dX4_all_4 (by decide) ?_
  obtain ⟨hk19, hw⟩ := hw
  obtain ⟨k20, n20, hb1, hb2, hw⟩ := hw
  refine CJ7_init_X4_156 cx hR hS rfl hk19 hw (by constructor <;> dsimp only <;> omega) (Nat.le_of_ble_eq_true rfl) hl.1 ⟨by dsimp only; omega, by dsimp only; omega⟩ dX4_all_5 (fun s18 H locs hw hR hS => ?_)
  have hcb := xadd hb1 hcb
  have hsb := xadd hb2 hsb
  refine x_astore_n (i := 1) (r := (some (xn σ))) (lv' := [(1, xv E (some (xn σ))), (0, xv E (some th))]) cx dX4_all_8 rfl hl (by decide) (by simp [xv_cat]) (fun ls hl => ?_)
  refine x_aload_n cx dX4_all_9 rfl (lv_at hl 0 rfl) ?_
  refine x_aload_n cx dX4_all_10 rfl (lv_at hl 1 rfl) ?_
  obtain ⟨hk22, hw⟩ := hw
  obtain ⟨k23, n23, hb1, hb2, hw⟩ := hw
  refine CX4_one_X4_178FT d hF cx hnt hR hS rfl hk22 hw (by constructor <;> dsimp only <;> omega) (Nat.le_of_ble_eq_true rfl) hl.1 ⟨by dsimp only; omega, by dsimp only; omega⟩ (xle (xadd hb1 hcb)) (xle (xadd hb2 hsb)) dX4_all_11 (fun r21 s21 H locs hw hR hS => ?_)
  have hcb := xadd hb1 hcb
  have hsb := xadd hb2 hsb
  obtain ⟨hk25, hw⟩ := hw
  obtain ⟨k26, n26, hb1, hb2, hw⟩ := hw
  refine CJ7_add_X4_163 cx hR hS rfl hk25 hw (by constructor <;> dsimp only <;> omega) (Nat.le_of_ble_eq_true rfl) hl.1 ⟨by dsimp only; omega, by dsimp only; omega⟩ dX4_all_14 (fun r24 s24 H locs hw hR hS => ?_)
  have hcb := xadd hb1 hcb
  have hsb := xadd hb2 hsb
  refine lv_pop hx hb dX4_all_17 rfl ?_
  exact LX4_all_18 d hF cx hnt _ _ _ _ _ hw _ _ _ _ _ hR hS (lv_sub hl [1, 0] rfl) hcb hsb
-- X4_any
theorem xn_X4_173 {l : Launch} {p : Program} {e : Env} {R : Room} {s : State} {m : MethodId} {args : Array Value} {below : List Frame} {meth : Method} {c : Code} {H : Heap} {locs : List Loc} {cells slots : Nat} {Qz : State → Prop} {cc : ByteArray} {nL : Nat} {ret : Option FieldType} {E : xx_E} {σ : XS} {pc : Nat} {ls : Array Slot} {rest : List Value} (cx : xx_X "StruckCounts$Reader" cc nL ret E p s m args meth c) (hR : xR E σ H) (hS0 : va_S (xA E) s.heap H locs) (hcells : cells + 1 ≤ R.cells) (hslots : slots + 1 ≤ R.slots) (hdg : decode cc pc = .ok (.new 173, 3)) (kk : ∀ (H1 : Heap), xR E (xal σ 8 0) H1 → va_S (xA E) s.heap H1 locs → W p l e R s m args below meth c H1 locs (cells + 1) (slots + 1) Qz (F0 m (pc + 3) ls (xv E (some (xn σ)) :: rest))) : W p l e R s m args below meth c H locs cells slots Qz (F0 m pc ls rest) :=
  x_new cx hR hS0 7 (by decide) rfl in_X8 tyX8 tyX8_ok q1789 q1790 q195 (fun j hj => by
    match j, hj with
    | 0, _ => exact xnew_r rfl) hcells hslots hdg kk
theorem CX4_all_X4_159T {l : Launch} {p : Program} {e : Env} {R : Room} {s : State} {m : MethodId} {args : Array Value} {below : List Frame} {meth : Method} {c : Code} {H : Heap} {locs : List Loc} {cells slots : Nat} {cc : ByteArray} {nL : Nat} {ret : Option FieldType} {E : xx_E} {σ : XS} {pc : Nat} {ls : Array Slot} {rest : List Value} {F : Nat → Nat → Nat → XS → (Option Nat → XS → Prop) → (Nat → XS → Prop) → Prop} (d : Nat) (hF : ∀ (th : Nat) (k n : Nat) (σ : XS) (Q : Option Nat → XS → Prop) (T : Nat → XS → Prop), F th k n σ Q T → xx_Tr l yX4_one (ws_ yX4_one cX4_one 2 (some (.object "StruckCounts$Expr"))) ({ frames := (13 + 4 * d), cells := k, slots := n, locals := 40 * (13 + 4 * d) } : Room) E [xv E (some th)] σ Q T k n) {th : Nat} {k n : Nat} {T : Nat → XS → Prop} {Qc : Array Value → State → Outcome → State → Prop} {MC MS : Nat} (cx : xx_X "StruckCounts$Reader" cc nL ret E p s m args meth c) (hnt : xnt c) (hR0 : xR E σ H) (hS0 : va_S (xA E) s.heap H locs) {r0 : Option Nat} (hr : r0 = some th) (hk : kd σ th = 4) {Qf : Option Nat → XS → Prop} (hw : wX4_all F th k n σ Qf T) (hR : (({ frames := (14 + 4 * d), cells := k, slots := n, locals := 40 * (14 + 4 * d) } : Room)).frames + 1 ≤ R.frames ∧ 8 + (2 + 11) + (({ frames := (14 + 4 * d), cells := k, slots := n, locals := 40 * (14 + 4 * d) } : Room)).locals ≤ R.locals) (hrest : rest.length ≤ 4) (hsize : ls.size = nL) (hf : cells + k ≤ R.cells ∧ slots + n ≤ R.slots) (hc : cells + k ≤ MC) (hs : slots + n ≤ MS) (hdg : decode cc pc = .ok (.invokevirtual 159, 3))
    (kk : ∀ (r : Option Nat) (σ1 : XS) (H1 : Heap) (locs1 : List Loc), Qf r σ1 → xR E σ1 H1 → va_S (xA E) s.heap H1 locs1 → W p l e R s m args below meth c H1 locs1 (cells + k) (slots + n) (vx_MQ below Qc (xTX T E) args s MC MS (xA E)) (F0 m (pc + 3) ls (xv E r :: rest))) : W p l e R s m args below meth c H locs cells slots (vx_MQ below Qc (xTX T E) args s MC MS (xA E)) (F0 m pc ls (xv E r0 :: rest)) := by
  subst hr
  obtain ⟨hx, hb, hml, hown, hts, hrt, hlk, hK, hZ⟩ := id cx
  exact x_goTr cx hnt (vx_runV (As := []) (rest := rest) (x_fix cx) (MX4_all l E d hF th k n σ Qf T hw) (cwV 0 hts (lw_V q1665 q1667 qs15 q173 q1668) rfl rfl rfl (by decide +kernel) hR) (x_preV cx hR0 hS0 hk (by decide) (q := (RX4, TX4, 9)) rfl rfl []) rfl rfl hsize rfl (lv_room (xroom hrest)) hdg hf) hS0 hc hs kk
theorem CX8_initS_X4_175 {l : Launch} {p : Program} {e : Env} {R : Room} {s : State} {m : MethodId} {args : Array Value} {below : List Frame} {meth : Method} {c : Code} {H : Heap} {locs : List Loc} {cells slots : Nat} {Qz : State → Prop} {cc : ByteArray} {nL : Nat} {ret : Option FieldType} {E : xx_E} {σ : XS} {pc : Nat} {ls : Array Slot} {rest : List Value} {th : Nat} {x1 : Option Nat} (cx : xx_X "StruckCounts$Reader" cc nL ret E p s m args meth c) (hR0 : xR E σ H) (hS0 : va_S (xA E) s.heap H locs) {r0 : Option Nat} (hr : r0 = some th) (hk : kd σ th = 8) {Qf : XS → Prop} (hw : wX8_initS th x1 σ Qf) (hR : (({ frames := 1, cells := 0, slots := 0, locals := 40 } : Room)).frames + 1 ≤ R.frames ∧ 8 + (2 + 11) + (({ frames := 1, cells := 0, slots := 0, locals := 40 } : Room)).locals ≤ R.locals) (hrest : rest.length ≤ 4) (hsize : ls.size = nL) (hf : cells + 0 ≤ R.cells ∧ slots + 0 ≤ R.slots) (hdg : decode cc pc = .ok (.invokespecial 175, 3))
    (kk : ∀ (σ1 : XS) (H1 : Heap) (locs1 : List Loc), Qf σ1 → xR E σ1 H1 → va_S (xA E) s.heap H1 locs1 → W p l e R s m args below meth c H1 locs1 (cells + 0) (slots + 0) Qz (F0 m (pc + 3) ls rest)) : W p l e R s m args below meth c H locs cells slots Qz (F0 m pc ls (xv E x1 :: xv E r0 :: rest)) := by
  subst hr
  obtain ⟨hx, hb, hml, hown, hts, hrt, hlk, hK, hZ⟩ := id cx
  exact x_gov (va_runI (As := [xv E x1]) (rest := rest) (x_fix cx) (MX8_initS l E th x1 σ Qf hw) (cwI 1 hts (lw_meth q1760) rfl rfl rfl (hts _ q195) (hts _ q1791) (hts _ q1759) rfl (by decide +kernel) hR) ⟨xblind, x_pre cx hR0 hS0 (.ref (xr E th) :: [xv E x1])⟩ rfl rfl hsize rfl (lv_room (xroom hrest)) hdg hf) hS0 kk
def wX4_any_18 (F : Nat → Nat → Nat → XS → (Option Nat → XS → Prop) → (Nat → XS → Prop) → Prop) (Q : Option Nat → XS → Prop) (T : Nat → XS → Prop) (K18 : Nat → Option Nat → Nat → Nat → XS → Prop) (th : Nat) (x1 : Option Nat) (bc : Nat) (bs : Nat) (σ : XS) : Prop :=
  kd σ th = 4 ∧ (wX4_isSign th (124 : Int32) σ (fun r1 s1 => if r1 = 0 then (oc s1 x1 16 (fun a4 => wJ7_size a4 s1 (fun r3 s3 => if r3 = (1 : Int32) then (oc s3 x1 16 (fun a8 => wJ7_get a8 (0 : Int32) s3 (fun r7 s7 => xck [10, 7, 8, 9, 11] s7 r7 ∧ (Q r7 s7)))) else (1 ≤ bc ∧ 1 ≤ bs ∧ (kd (xal s3 8 0) (xn s3) = 8 ∧ (wX8_initS (xn s3) x1 (xal s3 8 0) (fun s5 => Q (some (xn s3)) s5))))))) else (kd s1 th = 4 ∧ (∃ k11 n11 : Nat, k11 ≤ bc ∧ n11 ≤ bs ∧ (wX4_goes th k11 n11 s1 (fun s9 => kd s9 th = 4 ∧ (∃ k14 n14 : Nat, k14 ≤ (bc - k11) ∧ n14 ≤ (bs - n11) ∧ (wX4_all F th k14 n14 s9 (fun r12 s12 => oc s12 x1 16 (fun a16 => ∃ k17 n17 : Nat, k17 ≤ ((bc - k11) - k14) ∧ n17 ≤ ((bs - n11) - n14) ∧ (wJ7_add a16 r12 k17 n17 s12 (fun r15 s15 => K18 th x1 (((bc - k11) - k14) - k17) (((bs - n11) - n14) - n17) s15)))) T))))))))
set_option maxHeartbeats 4000000 in
theorem BX4_any_18 {l : Launch} {p : Program} {e : Env} {s : State} {m : MethodId} {args : Array Value} {below : List Frame} {meth : Method} {c : Code} {E : xx_E} {F : Nat → Nat → Nat → XS → (Option Nat → XS → Prop) → (Nat → XS → Prop) → Prop} {mc ms : Nat} {Q : Option Nat → XS → Prop} {T : Nat → XS → Prop} {K18 : Nat → Option Nat → Nat → Nat → XS → Prop} (d : Nat) (hF : ∀ (th : Nat) (k n : Nat) (σ : XS) (Q : Option Nat → XS → Prop) (T : Nat → XS → Prop), F th k n σ Q T → xx_Tr l yX4_one (ws_ yX4_one cX4_one 2 (some (.object "StruckCounts$Expr"))) ({ frames := (13 + 4 * d), cells := k, slots := n, locals := 40 * (13 + 4 * d) } : Room) E [xv E (some th)] σ Q T k n) (cx : xx_X "StruckCounts$Reader" cX4_any 2 (some (.object "StruckCounts$Expr")) E p s m args meth c) (hnt : xnt c) (hK18 : ∀ (th : Nat) (x1 : Option Nat) (bc : Nat) (bs : Nat) (σ : XS), K18 th x1 bc bs σ → x_TT p l e ({ frames := (15 + 4 * d), cells := mc, slots := ms, locals := 40 * (15 + 4 * d) } : Room) s m args below meth c E T (va_Qe (xr E) Q (fun σ' t => xW E σ' t) (xA E)) mc ms 2 18 bc bs σ [(0, xv E (some th)), (1, xv E x1)] []) : ∀ (th : Nat) (x1 : Option Nat) (bc : Nat) (bs : Nat) (σ : XS), wX4_any_18 F Q T K18 th x1 bc bs σ → x_TT p l e ({ frames := (15 + 4 * d), cells := mc, slots := ms, locals := 40 * (15 + 4 * d) } : Room) s m args below meth c E T (va_Qe (xr E) Q (fun σ' t => xW E σ' t) (xA E)) mc ms 2 18 bc bs σ [(0, xv E (some th)), (1, xv E x1)] [] := by
  intro th x1 bc bs σ hw H locs ls cells slots hR hS hl hcb hsb
  unfold wX4_any_18 at hw
  obtain ⟨hx, hb, hml, hown, hts, hrt, hlk, hMK, hZ⟩ := id cx
  refine x_aload_n cx dX4_any_18 rfl (lv_at hl 0 rfl) ?_
  refine lv_bipush (v := (124 : Int32)) hx hb dX4_any_19 (by decide) ?_
  obtain ⟨hk2, hw⟩ := hw
  refine CX4_isSign_X4_108 cx hR hS rfl hk2 hw (by constructor <;> dsimp only <;> omega) (Nat.le_of_ble_eq_true rfl) hl.1 ⟨by dsimp only; omega, by dsimp only; omega⟩ dX4_any_21 (fun r1 s1 H locs hw hR hS => ?_)
  refine lv_if_eq (tgt := 43) hx hb dX4_any_24 (by decide) (fun hc => ?_) (fun hc => ?_)
  · have hw := mm_ip hc hw
    refine x_aload_n cx dX4_any_43 rfl (lv_at hl 1 rfl) ?_
    obtain ⟨a4, hr4, hk4, hw⟩ := hw
    refine CJ7_size_X4_166 cx hR hS hr4 hk4 hw (by constructor <;> dsimp only <;> omega) (Nat.le_of_ble_eq_true rfl) hl.1 ⟨by dsimp only; omega, by dsimp only; omega⟩ dX4_any_44 (fun r3 s3 H locs hw hR hS => ?_)
    refine lv_iconst (v := (1 : Int32)) hx hb dX4_any_47 (by decide) ?_
    refine lv_icmp_ne (tgt := 62) hx hb dX4_any_48 (by decide) (fun hc => ?_) (fun hc => ?_)
    · have hw := mm_in hc hw
      obtain ⟨hb1, hb2, hw⟩ := hw
      refine xn_X4_173 cx hR hS (by dsimp only; omega) (by dsimp only; omega) dX4_any_62 (fun H hR hS => ?_)
      have hcb := xadd hb1 hcb
      have hsb := xadd hb2 hsb
      refine lv_dup hx hb dX4_any_65 (xv_cat _ _) ?_
      refine x_aload_n cx dX4_any_66 rfl (lv_at hl 1 rfl) ?_
      obtain ⟨hk6, hw⟩ := hw
      refine CX8_initS_X4_175 cx hR hS rfl hk6 hw (by constructor <;> dsimp only <;> omega) (Nat.le_of_ble_eq_true rfl) hl.1 ⟨by dsimp only; omega, by dsimp only; omega⟩ dX4_any_67 (fun s5 H locs hw hR hS => ?_)
      exact vx_ret (x_aret cx (by first | exact Or.inl ⟨_, rfl⟩ | exact Or.inr ⟨_, rfl⟩) hR hS (xle hcb) (xle hsb) hw dX4_any_70)
    · have hw := mm_ip hc hw
      refine x_aload_n cx dX4_any_51 rfl (lv_at hl 1 rfl) ?_
      refine lv_iconst (v := (0 : Int32)) hx hb dX4_any_52 (by decide) ?_
      obtain ⟨a8, hr8, hk8, hw⟩ := hw
      refine CJ7_get_X4_168 cx hR hS hr8 hk8 hw (by constructor <;> dsimp only <;> omega) (Nat.le_of_ble_eq_true rfl) hl.1 ⟨by dsimp only; omega, by dsimp only; omega⟩ dX4_any_53 (fun r7 s7 H locs hw hR hS => ?_)
      obtain ⟨hv, hw⟩ := hw
      refine x_cast cx hR q1780 (xcc_0 hv) dX4_any_56 ?_
      refine lv_goto (tgt := 70) hx hb dX4_any_59 (by decide) ?_
      exact vx_ret (x_aret cx (by first | exact Or.inl ⟨_, rfl⟩ | exact Or.inr ⟨_, rfl⟩) hR hS (xle hcb) (xle hsb) hw dX4_any_70)
  · have hw := mm_in hc hw
    refine x_aload_n cx dX4_any_27 rfl (lv_at hl 0 rfl) ?_
    obtain ⟨hk10, hw⟩ := hw
    obtain ⟨k11, n11, hb1, hb2, hw⟩ := hw
    refine CX4_goes_X4_29 cx hR hS rfl hk10 hw (by constructor <;> dsimp only <;> omega) (Nat.le_of_ble_eq_true rfl) hl.1 ⟨by dsimp only; omega, by dsimp only; omega⟩ dX4_any_28 (fun s9 H locs hw hR hS => ?_)
    have hcb := xadd hb1 hcb
    have hsb := xadd hb2 hsb
    refine x_aload_n cx dX4_any_31 rfl (lv_at hl 1 rfl) ?_
    refine x_aload_n cx dX4_any_32 rfl (lv_at hl 0 rfl) ?_
    obtain ⟨hk13, hw⟩ := hw
    obtain ⟨k14, n14, hb1, hb2, hw⟩ := hw
    refine CX4_all_X4_159T d hF cx hnt hR hS rfl hk13 hw (by constructor <;> dsimp only <;> omega) (Nat.le_of_ble_eq_true rfl) hl.1 ⟨by dsimp only; omega, by dsimp only; omega⟩ (xle (xadd hb1 hcb)) (xle (xadd hb2 hsb)) dX4_any_33 (fun r12 s12 H locs hw hR hS => ?_)
    have hcb := xadd hb1 hcb
    have hsb := xadd hb2 hsb
    obtain ⟨a16, hr16, hk16, hw⟩ := hw
    obtain ⟨k17, n17, hb1, hb2, hw⟩ := hw
    refine CJ7_add_X4_163 cx hR hS hr16 hk16 hw (by constructor <;> dsimp only <;> omega) (Nat.le_of_ble_eq_true rfl) hl.1 ⟨by dsimp only; omega, by dsimp only; omega⟩ dX4_any_36 (fun r15 s15 H locs hw hR hS => ?_)
    have hcb := xadd hb1 hcb
    have hsb := xadd hb2 hsb
    refine lv_pop hx hb dX4_any_39 rfl ?_
    refine lv_goto (tgt := 18) hx hb dX4_any_40 (by decide) ?_
    exact hK18 _ _ _ _ _ hw _ _ _ _ _ hR hS (lv_sub hl [0, 1] rfl) hcb hsb
theorem LX4_any_18 {l : Launch} {p : Program} {e : Env} {s : State} {m : MethodId} {args : Array Value} {below : List Frame} {meth : Method} {c : Code} {E : xx_E} {F : Nat → Nat → Nat → XS → (Option Nat → XS → Prop) → (Nat → XS → Prop) → Prop} {mc ms : Nat} {Q : Option Nat → XS → Prop} {T : Nat → XS → Prop} (d : Nat) (hF : ∀ (th : Nat) (k n : Nat) (σ : XS) (Q : Option Nat → XS → Prop) (T : Nat → XS → Prop), F th k n σ Q T → xx_Tr l yX4_one (ws_ yX4_one cX4_one 2 (some (.object "StruckCounts$Expr"))) ({ frames := (13 + 4 * d), cells := k, slots := n, locals := 40 * (13 + 4 * d) } : Room) E [xv E (some th)] σ Q T k n) (cx : xx_X "StruckCounts$Reader" cX4_any 2 (some (.object "StruckCounts$Expr")) E p s m args meth c) (hnt : xnt c) : ∀ (th : Nat) (x1 : Option Nat) (bc : Nat) (bs : Nat) (σ : XS), lp5F (wX4_any_18 F Q T) th x1 bc bs σ → x_TT p l e ({ frames := (15 + 4 * d), cells := mc, slots := ms, locals := 40 * (15 + 4 * d) } : Room) s m args below meth c E T (va_Qe (xr E) Q (fun σ' t => xW E σ' t) (xA E)) mc ms 2 18 bc bs σ [(0, xv E (some th)), (1, xv E x1)] [] :=
  lp5F_of (fun K hK => BX4_any_18 d hF cx hnt hK)
def wX4_any (F : Nat → Nat → Nat → XS → (Option Nat → XS → Prop) → (Nat → XS → Prop) → Prop) (th : Nat) (bc : Nat) (bs : Nat) (σ : XS) (Q : Option Nat → XS → Prop) (T : Nat → XS → Prop) : Prop :=
  1 ≤ bc ∧ 3 ≤ bs ∧ (kd (xal σ 16 0) (xn σ) = 16 ∧ (∃ k20 n20 : Nat, k20 ≤ (bc - 1) ∧ n20 ≤ (bs - 3) ∧ (wJ7_init (xn σ) (2 : Int32) k20 n20 (xal σ 16 0) (fun s18 => kd s18 th = 4 ∧ (∃ k23 n23 : Nat, k23 ≤ ((bc - 1) - k20) ∧ n23 ≤ ((bs - 3) - n20) ∧ (wX4_all F th k23 n23 s18 (fun r21 s21 => kd s21 (xn σ) = 16 ∧ (∃ k26 n26 : Nat, k26 ≤ (((bc - 1) - k20) - k23) ∧ n26 ≤ (((bs - 3) - n20) - n23) ∧ (wJ7_add (xn σ) r21 k26 n26 s21 (fun r24 s24 => lp5F (wX4_any_18 F Q T) th (some (xn σ)) ((((bc - 1) - k20) - k23) - k26) ((((bs - 3) - n20) - n23) - n26) s24)))) T))))))
set_option maxHeartbeats 4000000 in
theorem MX4_any (l : Launch) (E : xx_E) {F : Nat → Nat → Nat → XS → (Option Nat → XS → Prop) → (Nat → XS → Prop) → Prop} (d : Nat) (hF : ∀ (th : Nat) (k n : Nat) (σ : XS) (Q : Option Nat → XS → Prop) (T : Nat → XS → Prop), F th k n σ Q T → xx_Tr l yX4_one (ws_ yX4_one cX4_one 2 (some (.object "StruckCounts$Expr"))) ({ frames := (13 + 4 * d), cells := k, slots := n, locals := 40 * (13 + 4 * d) } : Room) E [xv E (some th)] σ Q T k n) (th : Nat) (bc : Nat) (bs : Nat) (σ : XS) (Q : Option Nat → XS → Prop) (T : Nat → XS → Prop) (hw : wX4_any F th bc bs σ Q T) : xx_Tr l yX4_any (ws_ yX4_any cX4_any 2 (some (.object "StruckCounts$Expr"))) ({ frames := (15 + 4 * d), cells := bc, slots := bs, locals := 40 * (15 + 4 * d) } : Room) E [xv E (some th)] σ Q T bc bs := by
  refine x_ofT (own := "StruckCounts$Reader") (by decide +kernel) rfl ?_
  intro p e s m args below meth c cx hnt hR ha hnm
  refine x_entry [xv E (some th)] 2 [(0, xv E (some th))] ha (by simp [lg_sl, xv_cat, vc_i, vc_j, vc_f]) (by simp [lv_args, xv_cat, vc_i, vc_j, vc_f]) (fun ls hl => ?_)
  have hS : va_S (xA E) s.heap s.heap [] := va_S.rf
  have hcb : 0 + bc ≤ bc := Nat.le_of_eq (Nat.zero_add _)
  have hsb : 0 + bs ≤ bs := Nat.le_of_eq (Nat.zero_add _)
  unfold wX4_any at hw
  obtain ⟨hx, hb, hml, hown, hts, hrt, hlk, hMK, hZ⟩ := id cx
  obtain ⟨hb1, hb2, hw⟩ := hw
  refine xn_X4_154 cx hR hS (by dsimp only; omega) (by dsimp only; omega) dX4_any_0 (fun H hR hS => ?_)
  have hcb := xadd hb1 hcb
  have hsb := xadd hb2 hsb
  refine lv_dup hx hb dX4_any_3 (xv_cat _ _) ?_
  refine lv_iconst (v := (2 : Int32)) hx hb dX4_any_4 (by decide) ?_
  obtain ⟨hk19, hw⟩ := hw
  obtain ⟨k20, n20, hb1, hb2, hw⟩ := hw
  refine CJ7_init_X4_156 cx hR hS rfl hk19 hw (by constructor <;> dsimp only <;> omega) (Nat.le_of_ble_eq_true rfl) hl.1 ⟨by dsimp only; omega, by dsimp only; omega⟩ dX4_any_5 (fun s18 H locs hw hR hS => ?_)
  have hcb := xadd hb1 hcb
  have hsb := xadd hb2 hsb
  refine x_astore_n (i := 1) (r := (some (xn σ))) (lv' := [(1, xv E (some (xn σ))), (0, xv E (some th))]) cx dX4_any_8 rfl hl (by decide) (by simp [xv_cat]) (fun ls hl => ?_)
  refine x_aload_n cx dX4_any_9 rfl (lv_at hl 0 rfl) ?_
  refine x_aload_n cx dX4_any_10 rfl (lv_at hl 1 rfl) ?_
  obtain ⟨hk22, hw⟩ := hw
  obtain ⟨k23, n23, hb1, hb2, hw⟩ := hw
  refine CX4_all_X4_159T d hF cx hnt hR hS rfl hk22 hw (by constructor <;> dsimp only <;> omega) (Nat.le_of_ble_eq_true rfl) hl.1 ⟨by dsimp only; omega, by dsimp only; omega⟩ (xle (xadd hb1 hcb)) (xle (xadd hb2 hsb)) dX4_any_11 (fun r21 s21 H locs hw hR hS => ?_)
  have hcb := xadd hb1 hcb
  have hsb := xadd hb2 hsb
  obtain ⟨hk25, hw⟩ := hw
  obtain ⟨k26, n26, hb1, hb2, hw⟩ := hw
  refine CJ7_add_X4_163 cx hR hS rfl hk25 hw (by constructor <;> dsimp only <;> omega) (Nat.le_of_ble_eq_true rfl) hl.1 ⟨by dsimp only; omega, by dsimp only; omega⟩ dX4_any_14 (fun r24 s24 H locs hw hR hS => ?_)
  have hcb := xadd hb1 hcb
  have hsb := xadd hb2 hsb
  refine lv_pop hx hb dX4_any_17 rfl ?_
  exact LX4_any_18 d hF cx hnt _ _ _ _ _ hw _ _ _ _ _ hR hS (lv_sub hl [1, 0] rfl) hcb hsb
-- X4_many
theorem xn_X4_225 {l : Launch} {p : Program} {e : Env} {R : Room} {s : State} {m : MethodId} {args : Array Value} {below : List Frame} {meth : Method} {c : Code} {H : Heap} {locs : List Loc} {cells slots : Nat} {Qz : State → Prop} {cc : ByteArray} {nL : Nat} {ret : Option FieldType} {E : xx_E} {σ : XS} {pc : Nat} {ls : Array Slot} {rest : List Value} (cx : xx_X "StruckCounts$Reader" cc nL ret E p s m args meth c) (hR : xR E σ H) (hS0 : va_S (xA E) s.heap H locs) (hcells : cells + 1 ≤ R.cells) (hslots : slots + 2 ≤ R.slots) (hdg : decode cc pc = .ok (.new 225, 3)) (kk : ∀ (H1 : Heap), xR E (xal σ 9 0) H1 → va_S (xA E) s.heap H1 locs → W p l e R s m args below meth c H1 locs (cells + 1) (slots + 2) Qz (F0 m (pc + 3) ls (xv E (some (xn σ)) :: rest))) : W p l e R s m args below meth c H locs cells slots Qz (F0 m pc ls rest) :=
  x_new cx hR hS0 8 (by decide) rfl in_X9 tyX9 tyX9_ok q1753 q1754 q196 (fun j hj => by
    match j, hj with
    | 0, _ => exact xnew_r rfl
    | 1, _ => exact xnew_i rfl) hcells hslots hdg kk
theorem CX4_number_X4_215T {l : Launch} {p : Program} {e : Env} {R : Room} {s : State} {m : MethodId} {args : Array Value} {below : List Frame} {meth : Method} {c : Code} {H : Heap} {locs : List Loc} {cells slots : Nat} {cc : ByteArray} {nL : Nat} {ret : Option FieldType} {E : xx_E} {σ : XS} {pc : Nat} {ls : Array Slot} {rest : List Value} {th : Nat} {x1 : Int32} {x2 : Int32} {k n : Nat} {T : Nat → XS → Prop} {Qc : Array Value → State → Outcome → State → Prop} {MC MS : Nat} (cx : xx_X "StruckCounts$Reader" cc nL ret E p s m args meth c) (hnt : xnt c) (hR0 : xR E σ H) (hS0 : va_S (xA E) s.heap H locs) {r0 : Option Nat} (hr : r0 = some th) (hk : kd σ th = 4) {Qf : Int32 → XS → Prop} (hw : wX4_number th x1 x2 k n σ Qf T) (hR : (({ frames := 7, cells := k, slots := n, locals := 280 } : Room)).frames + 1 ≤ R.frames ∧ 8 + (4 + 11) + (({ frames := 7, cells := k, slots := n, locals := 280 } : Room)).locals ≤ R.locals) (hrest : rest.length ≤ 4) (hsize : ls.size = nL) (hf : cells + k ≤ R.cells ∧ slots + n ≤ R.slots) (hc : cells + k ≤ MC) (hs : slots + n ≤ MS) (hdg : decode cc pc = .ok (.invokevirtual 215, 3))
    (kk : ∀ (r : Int32) (σ1 : XS) (H1 : Heap) (locs1 : List Loc), Qf r σ1 → xR E σ1 H1 → va_S (xA E) s.heap H1 locs1 → W p l e R s m args below meth c H1 locs1 (cells + k) (slots + n) (vx_MQ below Qc (xTX T E) args s MC MS (xA E)) (F0 m (pc + 3) ls (.int r :: rest))) : W p l e R s m args below meth c H locs cells slots (vx_MQ below Qc (xTX T E) args s MC MS (xA E)) (F0 m pc ls (.int x2 :: .int x1 :: xv E r0 :: rest)) := by
  subst hr
  obtain ⟨hx, hb, hml, hown, hts, hrt, hlk, hK, hZ⟩ := id cx
  exact x_goTi cx hnt (vx_runV (As := [.int x1, .int x2]) (rest := rest) (x_fix cx) (MX4_number l E th x1 x2 k n σ Qf T hw) (cwV 2 hts (lw_V q1654 q1656 qs13 q173 q1657) rfl rfl rfl (by decide +kernel) hR) (x_preV cx hR0 hS0 hk (by decide) (q := (RX4, TX4, 9)) rfl rfl [.int x1, .int x2]) rfl rfl hsize rfl (lv_room (xroom hrest)) hdg hf) hS0 hc hs kk
theorem CX4_takes_X4_218T {l : Launch} {p : Program} {e : Env} {R : Room} {s : State} {m : MethodId} {args : Array Value} {below : List Frame} {meth : Method} {c : Code} {H : Heap} {locs : List Loc} {cells slots : Nat} {cc : ByteArray} {nL : Nat} {ret : Option FieldType} {E : xx_E} {σ : XS} {pc : Nat} {ls : Array Slot} {rest : List Value} {th : Nat} {x1 : Option Nat} {k n : Nat} {T : Nat → XS → Prop} {Qc : Array Value → State → Outcome → State → Prop} {MC MS : Nat} (cx : xx_X "StruckCounts$Reader" cc nL ret E p s m args meth c) (hnt : xnt c) (hR0 : xR E σ H) (hS0 : va_S (xA E) s.heap H locs) {r0 : Option Nat} (hr : r0 = some th) (hk : kd σ th = 4) {Qf : XS → Prop} (hw : wX4_takes th x1 k n σ Qf T) (hR : (({ frames := 7, cells := k, slots := n, locals := 280 } : Room)).frames + 1 ≤ R.frames ∧ 8 + (2 + 11) + (({ frames := 7, cells := k, slots := n, locals := 280 } : Room)).locals ≤ R.locals) (hrest : rest.length ≤ 4) (hsize : ls.size = nL) (hf : cells + k ≤ R.cells ∧ slots + n ≤ R.slots) (hc : cells + k ≤ MC) (hs : slots + n ≤ MS) (hdg : decode cc pc = .ok (.invokevirtual 218, 3))
    (kk : ∀ (σ1 : XS) (H1 : Heap) (locs1 : List Loc), Qf σ1 → xR E σ1 H1 → va_S (xA E) s.heap H1 locs1 → W p l e R s m args below meth c H1 locs1 (cells + k) (slots + n) (vx_MQ below Qc (xTX T E) args s MC MS (xA E)) (F0 m (pc + 3) ls rest)) : W p l e R s m args below meth c H locs cells slots (vx_MQ below Qc (xTX T E) args s MC MS (xA E)) (F0 m pc ls (xv E x1 :: xv E r0 :: rest)) := by
  subst hr
  obtain ⟨hx, hb, hml, hown, hts, hrt, hlk, hK, hZ⟩ := id cx
  exact x_goTv cx hnt (vx_runV (As := [xv E x1]) (rest := rest) (x_fix cx) (MX4_takes l E th x1 k n σ Qf T hw) (cwV 1 hts (lw_V q1703 q1705 qs22 q173 q1706) rfl rfl rfl (by decide +kernel) hR) (x_preV cx hR0 hS0 hk (by decide) (q := (RX4, TX4, 9)) rfl rfl [xv E x1]) rfl rfl hsize rfl (lv_room (xroom hrest)) hdg hf) hS0 hc hs kk
theorem CX4_opens_X4_190T {l : Launch} {p : Program} {e : Env} {R : Room} {s : State} {m : MethodId} {args : Array Value} {below : List Frame} {meth : Method} {c : Code} {H : Heap} {locs : List Loc} {cells slots : Nat} {cc : ByteArray} {nL : Nat} {ret : Option FieldType} {E : xx_E} {σ : XS} {pc : Nat} {ls : Array Slot} {rest : List Value} {th : Nat} {k n : Nat} {T : Nat → XS → Prop} {Qc : Array Value → State → Outcome → State → Prop} {MC MS : Nat} (cx : xx_X "StruckCounts$Reader" cc nL ret E p s m args meth c) (hnt : xnt c) (hR0 : xR E σ H) (hS0 : va_S (xA E) s.heap H locs) {r0 : Option Nat} (hr : r0 = some th) (hk : kd σ th = 4) {Qf : XS → Prop} (hw : wX4_opens th k n σ Qf T) (hR : (({ frames := 7, cells := k, slots := n, locals := 280 } : Room)).frames + 1 ≤ R.frames ∧ 8 + (1 + 11) + (({ frames := 7, cells := k, slots := n, locals := 280 } : Room)).locals ≤ R.locals) (hrest : rest.length ≤ 4) (hsize : ls.size = nL) (hf : cells + k ≤ R.cells ∧ slots + n ≤ R.slots) (hc : cells + k ≤ MC) (hs : slots + n ≤ MS) (hdg : decode cc pc = .ok (.invokevirtual 190, 3))
    (kk : ∀ (σ1 : XS) (H1 : Heap) (locs1 : List Loc), Qf σ1 → xR E σ1 H1 → va_S (xA E) s.heap H1 locs1 → W p l e R s m args below meth c H1 locs1 (cells + k) (slots + n) (vx_MQ below Qc (xTX T E) args s MC MS (xA E)) (F0 m (pc + 3) ls rest)) : W p l e R s m args below meth c H locs cells slots (vx_MQ below Qc (xTX T E) args s MC MS (xA E)) (F0 m pc ls (xv E r0 :: rest)) := by
  subst hr
  obtain ⟨hx, hb, hml, hown, hts, hrt, hlk, hK, hZ⟩ := id cx
  exact x_goTv cx hnt (vx_runV (As := []) (rest := rest) (x_fix cx) (MX4_opens l E th k n σ Qf T hw) (cwV 0 hts (lw_V q1681 q1683 qs19 q173 q1684) rfl rfl rfl (by decide +kernel) hR) (x_preV cx hR0 hS0 hk (by decide) (q := (RX4, TX4, 9)) rfl rfl []) rfl rfl hsize rfl (lv_room (xroom hrest)) hdg hf) hS0 hc hs kk
theorem CX4_any_X4_198T {l : Launch} {p : Program} {e : Env} {R : Room} {s : State} {m : MethodId} {args : Array Value} {below : List Frame} {meth : Method} {c : Code} {H : Heap} {locs : List Loc} {cells slots : Nat} {cc : ByteArray} {nL : Nat} {ret : Option FieldType} {E : xx_E} {σ : XS} {pc : Nat} {ls : Array Slot} {rest : List Value} {F : Nat → Nat → Nat → XS → (Option Nat → XS → Prop) → (Nat → XS → Prop) → Prop} (d : Nat) (hF : ∀ (th : Nat) (k n : Nat) (σ : XS) (Q : Option Nat → XS → Prop) (T : Nat → XS → Prop), F th k n σ Q T → xx_Tr l yX4_one (ws_ yX4_one cX4_one 2 (some (.object "StruckCounts$Expr"))) ({ frames := (13 + 4 * d), cells := k, slots := n, locals := 40 * (13 + 4 * d) } : Room) E [xv E (some th)] σ Q T k n) {th : Nat} {k n : Nat} {T : Nat → XS → Prop} {Qc : Array Value → State → Outcome → State → Prop} {MC MS : Nat} (cx : xx_X "StruckCounts$Reader" cc nL ret E p s m args meth c) (hnt : xnt c) (hR0 : xR E σ H) (hS0 : va_S (xA E) s.heap H locs) {r0 : Option Nat} (hr : r0 = some th) (hk : kd σ th = 4) {Qf : Option Nat → XS → Prop} (hw : wX4_any F th k n σ Qf T) (hR : (({ frames := (15 + 4 * d), cells := k, slots := n, locals := 40 * (15 + 4 * d) } : Room)).frames + 1 ≤ R.frames ∧ 8 + (2 + 11) + (({ frames := (15 + 4 * d), cells := k, slots := n, locals := 40 * (15 + 4 * d) } : Room)).locals ≤ R.locals) (hrest : rest.length ≤ 4) (hsize : ls.size = nL) (hf : cells + k ≤ R.cells ∧ slots + n ≤ R.slots) (hc : cells + k ≤ MC) (hs : slots + n ≤ MS) (hdg : decode cc pc = .ok (.invokevirtual 198, 3))
    (kk : ∀ (r : Option Nat) (σ1 : XS) (H1 : Heap) (locs1 : List Loc), Qf r σ1 → xR E σ1 H1 → va_S (xA E) s.heap H1 locs1 → W p l e R s m args below meth c H1 locs1 (cells + k) (slots + n) (vx_MQ below Qc (xTX T E) args s MC MS (xA E)) (F0 m (pc + 3) ls (xv E r :: rest))) : W p l e R s m args below meth c H locs cells slots (vx_MQ below Qc (xTX T E) args s MC MS (xA E)) (F0 m pc ls (xv E r0 :: rest)) := by
  subst hr
  obtain ⟨hx, hb, hml, hown, hts, hrt, hlk, hK, hZ⟩ := id cx
  exact x_goTr cx hnt (vx_runV (As := []) (rest := rest) (x_fix cx) (MX4_any l E d hF th k n σ Qf T hw) (cwV 0 hts (lw_V q1659 q1661 qs14 q173 q1662) rfl rfl rfl (by decide +kernel) hR) (x_preV cx hR0 hS0 hk (by decide) (q := (RX4, TX4, 9)) rfl rfl []) rfl rfl hsize rfl (lv_room (xroom hrest)) hdg hf) hS0 hc hs kk
theorem CX4_tooMany_X4_222T {l : Launch} {p : Program} {e : Env} {R : Room} {s : State} {m : MethodId} {args : Array Value} {below : List Frame} {meth : Method} {c : Code} {H : Heap} {locs : List Loc} {cells slots : Nat} {cc : ByteArray} {nL : Nat} {ret : Option FieldType} {E : xx_E} {σ : XS} {pc : Nat} {ls : Array Slot} {rest : List Value} {th : Nat} {k n : Nat} {T : Nat → XS → Prop} {Qc : Array Value → State → Outcome → State → Prop} {MC MS : Nat} (cx : xx_X "StruckCounts$Reader" cc nL ret E p s m args meth c) (hnt : xnt c) (hR0 : xR E σ H) (hS0 : va_S (xA E) s.heap H locs) {r0 : Option Nat} (hr : r0 = some th) (hk : kd σ th = 4) {Qf : XS → Prop} (hw : wX4_tooMany th k n σ Qf T) (hR : (({ frames := 12, cells := k, slots := n, locals := 480 } : Room)).frames + 1 ≤ R.frames ∧ 8 + (1 + 11) + (({ frames := 12, cells := k, slots := n, locals := 480 } : Room)).locals ≤ R.locals) (hrest : rest.length ≤ 4) (hsize : ls.size = nL) (hf : cells + k ≤ R.cells ∧ slots + n ≤ R.slots) (hc : cells + k ≤ MC) (hs : slots + n ≤ MS) (hdg : decode cc pc = .ok (.invokevirtual 222, 3))
    (kk : ∀ (σ1 : XS) (H1 : Heap) (locs1 : List Loc), Qf σ1 → xR E σ1 H1 → va_S (xA E) s.heap H1 locs1 → W p l e R s m args below meth c H1 locs1 (cells + k) (slots + n) (vx_MQ below Qc (xTX T E) args s MC MS (xA E)) (F0 m (pc + 3) ls rest)) : W p l e R s m args below meth c H locs cells slots (vx_MQ below Qc (xTX T E) args s MC MS (xA E)) (F0 m pc ls (xv E r0 :: rest)) := by
  subst hr
  obtain ⟨hx, hb, hml, hown, hts, hrt, hlk, hK, hZ⟩ := id cx
  exact x_goTv cx hnt (vx_runV (As := []) (rest := rest) (x_fix cx) (MX4_tooMany l E th k n σ Qf T hw) (cwV 0 hts (lw_V q1736 q1738 qs26 q173 q1739) rfl rfl rfl (by decide +kernel) hR) (x_preV cx hR0 hS0 hk (by decide) (q := (RX4, TX4, 9)) rfl rfl []) rfl rfl hsize rfl (lv_room (xroom hrest)) hdg hf) hS0 hc hs kk
theorem CX4_sign_X4_201T {l : Launch} {p : Program} {e : Env} {R : Room} {s : State} {m : MethodId} {args : Array Value} {below : List Frame} {meth : Method} {c : Code} {H : Heap} {locs : List Loc} {cells slots : Nat} {cc : ByteArray} {nL : Nat} {ret : Option FieldType} {E : xx_E} {σ : XS} {pc : Nat} {ls : Array Slot} {rest : List Value} {th : Nat} {x1 : Int32} {k n : Nat} {T : Nat → XS → Prop} {Qc : Array Value → State → Outcome → State → Prop} {MC MS : Nat} (cx : xx_X "StruckCounts$Reader" cc nL ret E p s m args meth c) (hnt : xnt c) (hR0 : xR E σ H) (hS0 : va_S (xA E) s.heap H locs) {r0 : Option Nat} (hr : r0 = some th) (hk : kd σ th = 4) {Qf : XS → Prop} (hw : wX4_sign th x1 k n σ Qf T) (hR : (({ frames := 7, cells := k, slots := n, locals := 280 } : Room)).frames + 1 ≤ R.frames ∧ 8 + (2 + 11) + (({ frames := 7, cells := k, slots := n, locals := 280 } : Room)).locals ≤ R.locals) (hrest : rest.length ≤ 4) (hsize : ls.size = nL) (hf : cells + k ≤ R.cells ∧ slots + n ≤ R.slots) (hc : cells + k ≤ MC) (hs : slots + n ≤ MS) (hdg : decode cc pc = .ok (.invokevirtual 201, 3))
    (kk : ∀ (σ1 : XS) (H1 : Heap) (locs1 : List Loc), Qf σ1 → xR E σ1 H1 → va_S (xA E) s.heap H1 locs1 → W p l e R s m args below meth c H1 locs1 (cells + k) (slots + n) (vx_MQ below Qc (xTX T E) args s MC MS (xA E)) (F0 m (pc + 3) ls rest)) : W p l e R s m args below meth c H locs cells slots (vx_MQ below Qc (xTX T E) args s MC MS (xA E)) (F0 m pc ls (.int x1 :: xv E r0 :: rest)) := by
  subst hr
  obtain ⟨hx, hb, hml, hown, hts, hrt, hlk, hK, hZ⟩ := id cx
  exact x_goTv cx hnt (vx_runV (As := [.int x1]) (rest := rest) (x_fix cx) (MX4_sign l E th x1 k n σ Qf T hw) (cwV 1 hts (lw_V q1695 q1697 qs20 q173 q1698) rfl rfl rfl (by decide +kernel) hR) (x_preV cx hR0 hS0 hk (by decide) (q := (RX4, TX4, 9)) rfl rfl [.int x1]) rfl rfl hsize rfl (lv_room (xroom hrest)) hdg hf) hS0 hc hs kk
theorem CX9_init_X4_227 {l : Launch} {p : Program} {e : Env} {R : Room} {s : State} {m : MethodId} {args : Array Value} {below : List Frame} {meth : Method} {c : Code} {H : Heap} {locs : List Loc} {cells slots : Nat} {Qz : State → Prop} {cc : ByteArray} {nL : Nat} {ret : Option FieldType} {E : xx_E} {σ : XS} {pc : Nat} {ls : Array Slot} {rest : List Value} {th : Nat} {x1 : Int32} {x2 : Option Nat} (cx : xx_X "StruckCounts$Reader" cc nL ret E p s m args meth c) (hR0 : xR E σ H) (hS0 : va_S (xA E) s.heap H locs) {r0 : Option Nat} (hr : r0 = some th) (hk : kd σ th = 9) {Qf : XS → Prop} (hw : wX9_init th x1 x2 σ Qf) (hR : (({ frames := 2, cells := 0, slots := 0, locals := 80 } : Room)).frames + 1 ≤ R.frames ∧ 8 + (3 + 11) + (({ frames := 2, cells := 0, slots := 0, locals := 80 } : Room)).locals ≤ R.locals) (hrest : rest.length ≤ 4) (hsize : ls.size = nL) (hf : cells + 0 ≤ R.cells ∧ slots + 0 ≤ R.slots) (hdg : decode cc pc = .ok (.invokespecial 227, 3))
    (kk : ∀ (σ1 : XS) (H1 : Heap) (locs1 : List Loc), Qf σ1 → xR E σ1 H1 → va_S (xA E) s.heap H1 locs1 → W p l e R s m args below meth c H1 locs1 (cells + 0) (slots + 0) Qz (F0 m (pc + 3) ls rest)) : W p l e R s m args below meth c H locs cells slots Qz (F0 m pc ls (xv E x2 :: .int x1 :: xv E r0 :: rest)) := by
  subst hr
  obtain ⟨hx, hb, hml, hown, hts, hrt, hlk, hK, hZ⟩ := id cx
  exact x_gov (va_runI (As := [.int x1, xv E x2]) (rest := rest) (x_fix cx) (MX9_init l E th x1 x2 σ Qf hw) (cwI 2 hts (lw_meth q1757) rfl rfl rfl (hts _ q196) (hts _ q1755) (hts _ q1756) rfl (by decide +kernel) hR) ⟨xblind, x_pre cx hR0 hS0 (.ref (xr E th) :: [.int x1, xv E x2])⟩ rfl rfl hsize rfl (lv_room (xroom hrest)) hdg hf) hS0 kk
def wX4_many_73 (F : Nat → Nat → Nat → XS → (Option Nat → XS → Prop) → (Nat → XS → Prop) → Prop) (Q : Option Nat → XS → Prop) (T : Nat → XS → Prop) (K47 : Nat → Int32 → Option Nat → Nat → Nat → XS → Prop) (th : Nat) (x1 : Int32) (x2 : Option Nat) (bc : Nat) (bs : Nat) (σ : XS) : Prop :=
  kd σ th = 4 ∧ (∃ k3 n3 : Nat, k3 ≤ bc ∧ n3 ≤ bs ∧ (wX4_any F th k3 n3 σ (fun r1 s1 => oc s1 x2 16 (fun a5 => ∃ k6 n6 : Nat, k6 ≤ (bc - k3) ∧ n6 ≤ (bs - n3) ∧ (wJ7_add a5 r1 k6 n6 s1 (fun r4 s4 => K47 th x1 x2 ((bc - k3) - k6) ((bs - n3) - n6) s4)))) T))
set_option maxHeartbeats 4000000 in
theorem BX4_many_73 {l : Launch} {p : Program} {e : Env} {s : State} {m : MethodId} {args : Array Value} {below : List Frame} {meth : Method} {c : Code} {E : xx_E} {F : Nat → Nat → Nat → XS → (Option Nat → XS → Prop) → (Nat → XS → Prop) → Prop} {mc ms : Nat} {Q : Option Nat → XS → Prop} {T : Nat → XS → Prop} {K47 : Nat → Int32 → Option Nat → Nat → Nat → XS → Prop} (d : Nat) (hF : ∀ (th : Nat) (k n : Nat) (σ : XS) (Q : Option Nat → XS → Prop) (T : Nat → XS → Prop), F th k n σ Q T → xx_Tr l yX4_one (ws_ yX4_one cX4_one 2 (some (.object "StruckCounts$Expr"))) ({ frames := (13 + 4 * d), cells := k, slots := n, locals := 40 * (13 + 4 * d) } : Room) E [xv E (some th)] σ Q T k n) (cx : xx_X "StruckCounts$Reader" cX4_many 3 (some (.object "StruckCounts$Expr")) E p s m args meth c) (hnt : xnt c) (hK47 : ∀ (th : Nat) (x1 : Int32) (x2 : Option Nat) (bc : Nat) (bs : Nat) (σ : XS), K47 th x1 x2 bc bs σ → x_TT p l e ({ frames := (16 + 4 * d), cells := mc, slots := ms, locals := 40 * (16 + 4 * d) } : Room) s m args below meth c E T (va_Qe (xr E) Q (fun σ' t => xW E σ' t) (xA E)) mc ms 3 47 bc bs σ [(0, xv E (some th)), (1, .int x1), (2, xv E x2)] []) : ∀ (th : Nat) (x1 : Int32) (x2 : Option Nat) (bc : Nat) (bs : Nat) (σ : XS), wX4_many_73 F Q T K47 th x1 x2 bc bs σ → x_TT p l e ({ frames := (16 + 4 * d), cells := mc, slots := ms, locals := 40 * (16 + 4 * d) } : Room) s m args below meth c E T (va_Qe (xr E) Q (fun σ' t => xW E σ' t) (xA E)) mc ms 3 73 bc bs σ [(0, xv E (some th)), (1, .int x1), (2, xv E x2)] [] := by
  intro th x1 x2 bc bs σ hw H locs ls cells slots hR hS hl hcb hsb
  unfold wX4_many_73 at hw
  obtain ⟨hx, hb, hml, hown, hts, hrt, hlk, hMK, hZ⟩ := id cx
  refine x_aload_n cx dX4_many_73 rfl (lv_at hl 2 rfl) ?_
  refine x_aload_n cx dX4_many_74 rfl (lv_at hl 0 rfl) ?_
  obtain ⟨hk2, hw⟩ := hw
  obtain ⟨k3, n3, hb1, hb2, hw⟩ := hw
  refine CX4_any_X4_198T d hF cx hnt hR hS rfl hk2 hw (by constructor <;> dsimp only <;> omega) (Nat.le_of_ble_eq_true rfl) hl.1 ⟨by dsimp only; omega, by dsimp only; omega⟩ (xle (xadd hb1 hcb)) (xle (xadd hb2 hsb)) dX4_many_75 (fun r1 s1 H locs hw hR hS => ?_)
  have hcb := xadd hb1 hcb
  have hsb := xadd hb2 hsb
  obtain ⟨a5, hr5, hk5, hw⟩ := hw
  obtain ⟨k6, n6, hb1, hb2, hw⟩ := hw
  refine CJ7_add_X4_163 cx hR hS hr5 hk5 hw (by constructor <;> dsimp only <;> omega) (Nat.le_of_ble_eq_true rfl) hl.1 ⟨by dsimp only; omega, by dsimp only; omega⟩ dX4_many_78 (fun r4 s4 H locs hw hR hS => ?_)
  have hcb := xadd hb1 hcb
  have hsb := xadd hb2 hsb
  refine lv_pop hx hb dX4_many_81 rfl ?_
  refine lv_goto (tgt := 47) hx hb dX4_many_82 (by decide) ?_
  exact hK47 _ _ _ _ _ _ hw _ _ _ _ _ hR hS (lv_sub hl [0, 1, 2] rfl) hcb hsb
def wX4_many_47 (F : Nat → Nat → Nat → XS → (Option Nat → XS → Prop) → (Nat → XS → Prop) → Prop) (Q : Option Nat → XS → Prop) (T : Nat → XS → Prop) (K47 : Nat → Int32 → Option Nat → Nat → Nat → XS → Prop) (th : Nat) (x1 : Int32) (x2 : Option Nat) (bc : Nat) (bs : Nat) (σ : XS) : Prop :=
  kd σ th = 4 ∧ (wX4_isSign th (44 : Int32) σ (fun r7 s7 => if r7 = 0 then (kd s7 th = 4 ∧ (∃ k11 n11 : Nat, k11 ≤ bc ∧ n11 ≤ bs ∧ (wX4_sign th (41 : Int32) k11 n11 s7 (fun s9 => kd s9 th = 4 ∧ (xK ≤ th ∧ (1 ≤ (bc - k11) ∧ 2 ≤ (bs - n11) ∧ (kd (xal (pfi s9 th 7 ((fi s9 th 7) - (1 : Int32))) 9 0) (xn (pfi s9 th 7 ((fi s9 th 7) - (1 : Int32)))) = 9 ∧ (wX9_init (xn (pfi s9 th 7 ((fi s9 th 7) - (1 : Int32)))) x1 x2 (xal (pfi s9 th 7 ((fi s9 th 7) - (1 : Int32))) 9 0) (fun s13 => Q (some (xn (pfi s9 th 7 ((fi s9 th 7) - (1 : Int32))))) s13)))))) T))) else (kd s7 th = 4 ∧ (∃ k17 n17 : Nat, k17 ≤ bc ∧ n17 ≤ bs ∧ (wX4_goes th k17 n17 s7 (fun s15 => oc s15 x2 16 (fun a19 => wJ7_size a19 s15 (fun r18 s18 => if r18 = (6 : Int32) then (kd s18 th = 4 ∧ (∃ k22 n22 : Nat, k22 ≤ (bc - k17) ∧ n22 ≤ (bs - n17) ∧ (wX4_tooMany th k22 n22 s18 (fun s20 => wX4_many_73 F Q T K47 th x1 x2 ((bc - k17) - k22) ((bs - n17) - n22) s20) T))) else (wX4_many_73 F Q T K47 th x1 x2 (bc - k17) (bs - n17) s18)))))))))
set_option maxHeartbeats 4000000 in
theorem BX4_many_47 {l : Launch} {p : Program} {e : Env} {s : State} {m : MethodId} {args : Array Value} {below : List Frame} {meth : Method} {c : Code} {E : xx_E} {F : Nat → Nat → Nat → XS → (Option Nat → XS → Prop) → (Nat → XS → Prop) → Prop} {mc ms : Nat} {Q : Option Nat → XS → Prop} {T : Nat → XS → Prop} {K47 : Nat → Int32 → Option Nat → Nat → Nat → XS → Prop} (d : Nat) (hF : ∀ (th : Nat) (k n : Nat) (σ : XS) (Q : Option Nat → XS → Prop) (T : Nat → XS → Prop), F th k n σ Q T → xx_Tr l yX4_one (ws_ yX4_one cX4_one 2 (some (.object "StruckCounts$Expr"))) ({ frames := (13 + 4 * d), cells := k, slots := n, locals := 40 * (13 + 4 * d) } : Room) E [xv E (some th)] σ Q T k n) (cx : xx_X "StruckCounts$Reader" cX4_many 3 (some (.object "StruckCounts$Expr")) E p s m args meth c) (hnt : xnt c) (hK47 : ∀ (th : Nat) (x1 : Int32) (x2 : Option Nat) (bc : Nat) (bs : Nat) (σ : XS), K47 th x1 x2 bc bs σ → x_TT p l e ({ frames := (16 + 4 * d), cells := mc, slots := ms, locals := 40 * (16 + 4 * d) } : Room) s m args below meth c E T (va_Qe (xr E) Q (fun σ' t => xW E σ' t) (xA E)) mc ms 3 47 bc bs σ [(0, xv E (some th)), (1, .int x1), (2, xv E x2)] []) : ∀ (th : Nat) (x1 : Int32) (x2 : Option Nat) (bc : Nat) (bs : Nat) (σ : XS), wX4_many_47 F Q T K47 th x1 x2 bc bs σ → x_TT p l e ({ frames := (16 + 4 * d), cells := mc, slots := ms, locals := 40 * (16 + 4 * d) } : Room) s m args below meth c E T (va_Qe (xr E) Q (fun σ' t => xW E σ' t) (xA E)) mc ms 3 47 bc bs σ [(0, xv E (some th)), (1, .int x1), (2, xv E x2)] [] := by
  intro th x1 x2 bc bs σ hw H locs ls cells slots hR hS hl hcb hsb
  unfold wX4_many_47 at hw
  obtain ⟨hx, hb, hml, hown, hts, hrt, hlk, hMK, hZ⟩ := id cx
  refine x_aload_n cx dX4_many_47 rfl (lv_at hl 0 rfl) ?_
  refine lv_bipush (v := (44 : Int32)) hx hb dX4_many_48 (by decide) ?_
  obtain ⟨hk8, hw⟩ := hw
  refine CX4_isSign_X4_108 cx hR hS rfl hk8 hw (by constructor <;> dsimp only <;> omega) (Nat.le_of_ble_eq_true rfl) hl.1 ⟨by dsimp only; omega, by dsimp only; omega⟩ dX4_many_50 (fun r7 s7 H locs hw hR hS => ?_)
  refine lv_if_eq (tgt := 85) hx hb dX4_many_53 (by decide) (fun hc => ?_) (fun hc => ?_)
  · have hw := mm_ip hc hw
    refine x_aload_n cx dX4_many_85 rfl (lv_at hl 0 rfl) ?_
    refine lv_bipush (v := (41 : Int32)) hx hb dX4_many_86 (by decide) ?_
    obtain ⟨hk10, hw⟩ := hw
    obtain ⟨k11, n11, hb1, hb2, hw⟩ := hw
    refine CX4_sign_X4_201T cx hnt hR hS rfl hk10 hw (by constructor <;> dsimp only <;> omega) (Nat.le_of_ble_eq_true rfl) hl.1 ⟨by dsimp only; omega, by dsimp only; omega⟩ (xle (xadd hb1 hcb)) (xle (xadd hb2 hsb)) dX4_many_88 (fun s9 H locs hw hR hS => ?_)
    have hcb := xadd hb1 hcb
    have hsb := xadd hb2 hsb
    refine x_aload_n cx dX4_many_91 rfl (lv_at hl 0 rfl) ?_
    refine lv_dup hx hb dX4_many_92 (xv_cat _ _) ?_
    obtain ⟨hk12, hw⟩ := hw
    refine xg_X4_184_4 cx hR rfl hk12 dX4_many_93 ?_
    refine lv_iconst (v := (1 : Int32)) hx hb dX4_many_96 (by decide) ?_
    refine lv_isub hx hb dX4_many_97 ?_
    obtain ⟨hge_th, hw⟩ := hw
    refine xp_X4_184_4 (v := ((fi s9 th 7) - (1 : Int32))) cx hR hS rfl hge_th hk12 dX4_many_98 (fun H locs hR hS => ?_)
    obtain ⟨hb1, hb2, hw⟩ := hw
    refine xn_X4_225 cx hR hS (by dsimp only; omega) (by dsimp only; omega) dX4_many_101 (fun H hR hS => ?_)
    have hcb := xadd hb1 hcb
    have hsb := xadd hb2 hsb
    refine lv_dup hx hb dX4_many_104 (xv_cat _ _) ?_
    refine lv_iload_n hx hb dX4_many_105 rfl (lv_at hl 1 rfl) ?_
    refine x_aload_n cx dX4_many_106 rfl (lv_at hl 2 rfl) ?_
    obtain ⟨hk14, hw⟩ := hw
    refine CX9_init_X4_227 cx hR hS rfl hk14 hw (by constructor <;> dsimp only <;> omega) (Nat.le_of_ble_eq_true rfl) hl.1 ⟨by dsimp only; omega, by dsimp only; omega⟩ dX4_many_107 (fun s13 H locs hw hR hS => ?_)
    exact vx_ret (x_aret cx (by first | exact Or.inl ⟨_, rfl⟩ | exact Or.inr ⟨_, rfl⟩) hR hS (xle hcb) (xle hsb) hw dX4_many_110)
  · have hw := mm_in hc hw
    refine x_aload_n cx dX4_many_56 rfl (lv_at hl 0 rfl) ?_
    obtain ⟨hk16, hw⟩ := hw
    obtain ⟨k17, n17, hb1, hb2, hw⟩ := hw
    refine CX4_goes_X4_29 cx hR hS rfl hk16 hw (by constructor <;> dsimp only <;> omega) (Nat.le_of_ble_eq_true rfl) hl.1 ⟨by dsimp only; omega, by dsimp only; omega⟩ dX4_many_57 (fun s15 H locs hw hR hS => ?_)
    have hcb := xadd hb1 hcb
    have hsb := xadd hb2 hsb
    refine x_aload_n cx dX4_many_60 rfl (lv_at hl 2 rfl) ?_
    obtain ⟨a19, hr19, hk19, hw⟩ := hw
    refine CJ7_size_X4_166 cx hR hS hr19 hk19 hw (by constructor <;> dsimp only <;> omega) (Nat.le_of_ble_eq_true rfl) hl.1 ⟨by dsimp only; omega, by dsimp only; omega⟩ dX4_many_61 (fun r18 s18 H locs hw hR hS => ?_)
    refine lv_bipush (v := (6 : Int32)) hx hb dX4_many_64 (by decide) ?_
    refine lv_icmp_ne (tgt := 73) hx hb dX4_many_66 (by decide) (fun hc => ?_) (fun hc => ?_)
    · have hw := mm_in hc hw
      exact BX4_many_73 d hF cx hnt hK47 _ _ _ _ _ _ hw _ _ _ _ _ hR hS (lv_sub hl [0, 1, 2] rfl) hcb hsb
    · have hw := mm_ip hc hw
      refine x_aload_n cx dX4_many_69 rfl (lv_at hl 0 rfl) ?_
      obtain ⟨hk21, hw⟩ := hw
      obtain ⟨k22, n22, hb1, hb2, hw⟩ := hw
      refine CX4_tooMany_X4_222T cx hnt hR hS rfl hk21 hw (by constructor <;> dsimp only <;> omega) (Nat.le_of_ble_eq_true rfl) hl.1 ⟨by dsimp only; omega, by dsimp only; omega⟩ (xle (xadd hb1 hcb)) (xle (xadd hb2 hsb)) dX4_many_70 (fun s20 H locs hw hR hS => ?_)
      have hcb := xadd hb1 hcb
      have hsb := xadd hb2 hsb
      exact BX4_many_73 d hF cx hnt hK47 _ _ _ _ _ _ hw _ _ _ _ _ hR hS (lv_sub hl [0, 1, 2] rfl) hcb hsb
theorem LX4_many_47 {l : Launch} {p : Program} {e : Env} {s : State} {m : MethodId} {args : Array Value} {below : List Frame} {meth : Method} {c : Code} {E : xx_E} {F : Nat → Nat → Nat → XS → (Option Nat → XS → Prop) → (Nat → XS → Prop) → Prop} {mc ms : Nat} {Q : Option Nat → XS → Prop} {T : Nat → XS → Prop} (d : Nat) (hF : ∀ (th : Nat) (k n : Nat) (σ : XS) (Q : Option Nat → XS → Prop) (T : Nat → XS → Prop), F th k n σ Q T → xx_Tr l yX4_one (ws_ yX4_one cX4_one 2 (some (.object "StruckCounts$Expr"))) ({ frames := (13 + 4 * d), cells := k, slots := n, locals := 40 * (13 + 4 * d) } : Room) E [xv E (some th)] σ Q T k n) (cx : xx_X "StruckCounts$Reader" cX4_many 3 (some (.object "StruckCounts$Expr")) E p s m args meth c) (hnt : xnt c) : ∀ (th : Nat) (x1 : Int32) (x2 : Option Nat) (bc : Nat) (bs : Nat) (σ : XS), lp6F (wX4_many_47 F Q T) th x1 x2 bc bs σ → x_TT p l e ({ frames := (16 + 4 * d), cells := mc, slots := ms, locals := 40 * (16 + 4 * d) } : Room) s m args below meth c E T (va_Qe (xr E) Q (fun σ' t => xW E σ' t) (xA E)) mc ms 3 47 bc bs σ [(0, xv E (some th)), (1, .int x1), (2, xv E x2)] [] :=
  lp6F_of (fun K hK => BX4_many_47 d hF cx hnt hK)
def wX4_many (F : Nat → Nat → Nat → XS → (Option Nat → XS → Prop) → (Nat → XS → Prop) → Prop) (th : Nat) (bc : Nat) (bs : Nat) (σ : XS) (Q : Option Nat → XS → Prop) (T : Nat → XS → Prop) : Prop :=
  kd σ th = 4 ∧ (∃ k25 n25 : Nat, k25 ≤ bc ∧ n25 ≤ bs ∧ (wX4_number th (0 : Int32) (6 : Int32) k25 n25 σ (fun r23 s23 => kd s23 th = 4 ∧ (∃ k28 n28 : Nat, k28 ≤ (bc - k25) ∧ n28 ≤ (bs - n25) ∧ (wX4_takes th (some 24) k28 n28 s23 (fun s26 => kd s26 th = 4 ∧ (wX4_isSign th (40 : Int32) s26 (fun r29 s29 => kd s29 th = 4 ∧ (∃ k33 n33 : Nat, k33 ≤ ((bc - k25) - k28) ∧ n33 ≤ ((bs - n25) - n28) ∧ (wX4_must th r29 (1 : Int32) k33 n33 s29 (fun s31 => kd s31 th = 4 ∧ (∃ k36 n36 : Nat, k36 ≤ (((bc - k25) - k28) - k33) ∧ n36 ≤ (((bs - n25) - n28) - n33) ∧ (wX4_opens th k36 n36 s31 (fun s34 => 1 ≤ ((((bc - k25) - k28) - k33) - k36) ∧ 3 ≤ ((((bs - n25) - n28) - n33) - n36) ∧ (kd (xal s34 16 0) (xn s34) = 16 ∧ (∃ k39 n39 : Nat, k39 ≤ (((((bc - k25) - k28) - k33) - k36) - 1) ∧ n39 ≤ (((((bs - n25) - n28) - n33) - n36) - 3) ∧ (wJ7_init (xn s34) (4 : Int32) k39 n39 (xal s34 16 0) (fun s37 => kd s37 th = 4 ∧ (∃ k42 n42 : Nat, k42 ≤ ((((((bc - k25) - k28) - k33) - k36) - 1) - k39) ∧ n42 ≤ ((((((bs - n25) - n28) - n33) - n36) - 3) - n39) ∧ (wX4_any F th k42 n42 s37 (fun r40 s40 => kd s40 (xn s34) = 16 ∧ (∃ k45 n45 : Nat, k45 ≤ (((((((bc - k25) - k28) - k33) - k36) - 1) - k39) - k42) ∧ n45 ≤ (((((((bs - n25) - n28) - n33) - n36) - 3) - n39) - n42) ∧ (wJ7_add (xn s34) r40 k45 n45 s40 (fun r43 s43 => lp6F (wX4_many_47 F Q T) th r23 (some (xn s34)) ((((((((bc - k25) - k28) - k33) - k36) - 1) - k39) - k42) - k45) ((((((((bs - n25) - n28) - n33) - n36) - 3) - n39) - n42) - n45) s43)))) T))))))) T))) T))))) T))) T))
set_option maxHeartbeats 4000000 in
theorem MX4_many (l : Launch) (E : xx_E) {F : Nat → Nat → Nat → XS → (Option Nat → XS → Prop) → (Nat → XS → Prop) → Prop} (d : Nat) (hF : ∀ (th : Nat) (k n : Nat) (σ : XS) (Q : Option Nat → XS → Prop) (T : Nat → XS → Prop), F th k n σ Q T → xx_Tr l yX4_one (ws_ yX4_one cX4_one 2 (some (.object "StruckCounts$Expr"))) ({ frames := (13 + 4 * d), cells := k, slots := n, locals := 40 * (13 + 4 * d) } : Room) E [xv E (some th)] σ Q T k n) (th : Nat) (bc : Nat) (bs : Nat) (σ : XS) (Q : Option Nat → XS → Prop) (T : Nat → XS → Prop) (hw : wX4_many F th bc bs σ Q T) : xx_Tr l yX4_many (ws_ yX4_many cX4_many 3 (some (.object "StruckCounts$Expr"))) ({ frames := (16 + 4 * d), cells := bc, slots := bs, locals := 40 * (16 + 4 * d) } : Room) E [xv E (some th)] σ Q T bc bs := by
  refine x_ofT (own := "StruckCounts$Reader") (by decide +kernel) rfl ?_
  intro p e s m args below meth c cx hnt hR ha hnm
  refine x_entry [xv E (some th)] 3 [(0, xv E (some th))] ha (by simp [lg_sl, xv_cat, vc_i, vc_j, vc_f]) (by simp [lv_args, xv_cat, vc_i, vc_j, vc_f]) (fun ls hl => ?_)
  have hS : va_S (xA E) s.heap s.heap [] := va_S.rf
  have hcb : 0 + bc ≤ bc := Nat.le_of_eq (Nat.zero_add _)
  have hsb : 0 + bs ≤ bs := Nat.le_of_eq (Nat.zero_add _)
  unfold wX4_many at hw
  obtain ⟨hx, hb, hml, hown, hts, hrt, hlk, hMK, hZ⟩ := id cx
  refine x_aload_n cx dX4_many_0 rfl (lv_at hl 0 rfl) ?_
  refine lv_iconst (v := (0 : Int32)) hx hb dX4_many_1 (by decide) ?_
  refine lv_bipush (v := (6 : Int32)) hx hb dX4_many_2 (by decide) ?_
  obtain ⟨hk24, hw⟩ := hw
  obtain ⟨k25, n25, hb1, hb2, hw⟩ := hw
  refine CX4_number_X4_215T cx hnt hR hS rfl hk24 hw (by constructor <;> dsimp only <;> omega) (Nat.le_of_ble_eq_true rfl) hl.1 ⟨by dsimp only; omega, by dsimp only; omega⟩ (xle (xadd hb1 hcb)) (xle (xadd hb2 hsb)) dX4_many_4 (fun r23 s23 H locs hw hR hS => ?_)
  have hcb := xadd hb1 hcb
  have hsb := xadd hb2 hsb
  refine lv_istore_n (i := 1) (lv' := [(1, .int r23), (0, xv E (some th))]) hx hb dX4_many_7 rfl hl (by decide) (by simp [xv_cat]) (fun ls hl => ?_)
  refine x_aload_n cx dX4_many_8 rfl (lv_at hl 1 rfl) ?_
  refine x_ldcS cx 12 (by decide) rfl rfl dX4_many_9 ?_
  obtain ⟨hk27, hw⟩ := hw
  obtain ⟨k28, n28, hb1, hb2, hw⟩ := hw
  refine CX4_takes_X4_218T cx hnt hR hS rfl hk27 hw (by constructor <;> dsimp only <;> omega) (Nat.le_of_ble_eq_true rfl) hl.1 ⟨by dsimp only; omega, by dsimp only; omega⟩ (xle (xadd hb1 hcb)) (xle (xadd hb2 hsb)) dX4_many_11 (fun s26 H locs hw hR hS => ?_)
  have hcb := xadd hb1 hcb
  have hsb := xadd hb2 hsb
  refine x_aload_n cx dX4_many_14 rfl (lv_at hl 1 rfl) ?_
  refine x_aload_n cx dX4_many_15 rfl (lv_at hl 1 rfl) ?_
  refine lv_bipush (v := (40 : Int32)) hx hb dX4_many_16 (by decide) ?_
  obtain ⟨hk30, hw⟩ := hw
  refine CX4_isSign_X4_108 cx hR hS rfl hk30 hw (by constructor <;> dsimp only <;> omega) (Nat.le_of_ble_eq_true rfl) hl.1 ⟨by dsimp only; omega, by dsimp only; omega⟩ dX4_many_18 (fun r29 s29 H locs hw hR hS => ?_)
  refine lv_iconst (v := (1 : Int32)) hx hb dX4_many_21 (by decide) ?_
  obtain ⟨hk32, hw⟩ := hw
  obtain ⟨k33, n33, hb1, hb2, hw⟩ := hw
  refine CX4_must_X4_112T cx hnt hR hS rfl hk32 hw (by constructor <;> dsimp only <;> omega) (Nat.le_of_ble_eq_true rfl) hl.1 ⟨by dsimp only; omega, by dsimp only; omega⟩ (xle (xadd hb1 hcb)) (xle (xadd hb2 hsb)) dX4_many_22 (fun s31 H locs hw hR hS => ?_)
  have hcb := xadd hb1 hcb
  have hsb := xadd hb2 hsb
  refine x_aload_n cx dX4_many_25 rfl (lv_at hl 1 rfl) ?_
  obtain ⟨hk35, hw⟩ := hw
  obtain ⟨k36, n36, hb1, hb2, hw⟩ := hw
  refine CX4_opens_X4_190T cx hnt hR hS rfl hk35 hw (by constructor <;> dsimp only <;> omega) (Nat.le_of_ble_eq_true rfl) hl.1 ⟨by dsimp only; omega, by dsimp only; omega⟩ (xle (xadd hb1 hcb)) (xle (xadd hb2 hsb)) dX4_many_26 (fun s34 H locs hw hR hS => ?_)
  have hcb := xadd hb1 hcb
  have hsb := xadd hb2 hsb
  obtain ⟨hb1, hb2, hw⟩ := hw
  refine xn_X4_154 cx hR hS (by dsimp only; omega) (by dsimp only; omega) dX4_many_29 (fun H hR hS => ?_)
  have hcb := xadd hb1 hcb
  have hsb := xadd hb2 hsb
  refine lv_dup hx hb dX4_many_32 (xv_cat _ _) ?_
  refine lv_iconst (v := (4 : Int32)) hx hb dX4_many_33 (by decide) ?_
  obtain ⟨hk38, hw⟩ := hw
  obtain ⟨k39, n39, hb1, hb2, hw⟩ := hw
  refine CJ7_init_X4_156 cx hR hS rfl hk38 hw (by constructor <;> dsimp only <;> omega) (Nat.le_of_ble_eq_true rfl) hl.1 ⟨by dsimp only; omega, by dsimp only; omega⟩ dX4_many_34 (fun s37 H locs hw hR hS => ?_)
  have hcb := xadd hb1 hcb
  have hsb := xadd hb2 hsb
  refine x_astore_n (i := 2) (r := (some (xn s34))) (lv' := [(2, xv E (some (xn s34))), (1, .int r23), (0, xv E (some th))]) cx dX4_many_37 rfl hl (by decide) rfl (fun ls hl => ?_)
  refine x_aload_n cx dX4_many_38 rfl (lv_at hl 0 rfl) ?_
  refine x_aload_n cx dX4_many_39 rfl (lv_at hl 2 rfl) ?_
  obtain ⟨hk41, hw⟩ := hw
  obtain ⟨k42, n42, hb1, hb2, hw⟩ := hw
  refine CX4_any_X4_198T d hF cx hnt hR hS rfl hk41 hw (by constructor <;> dsimp only <;> omega) (Nat.le_of_ble_eq_true rfl) hl.1 ⟨by dsimp only; omega, by dsimp only; omega⟩ (xle (xadd hb1 hcb)) (xle (xadd hb2 hsb)) dX4_many_40 (fun r40 s40 H locs hw hR hS => ?_)
  have hcb := xadd hb1 hcb
  have hsb := xadd hb2 hsb
  obtain ⟨hk44, hw⟩ := hw
  obtain ⟨k45, n45, hb1, hb2, hw⟩ := hw
  refine CJ7_add_X4_163 cx hR hS rfl hk44 hw (by constructor <;> dsimp only <;> omega) (Nat.le_of_ble_eq_true rfl) hl.1 ⟨by dsimp only; omega, by dsimp only; omega⟩ dX4_many_43 (fun r43 s43 H locs hw hR hS => ?_)
  have hcb := xadd hb1 hcb
  have hsb := xadd hb2 hsb
  refine lv_pop hx hb dX4_many_46 rfl ?_
  exact LX4_many_47 d hF cx hnt _ _ _ _ _ _ hw _ _ _ _ _ hR hS (lv_sub hl [2, 1, 0] rfl) hcb hsb
-- X4_one
theorem xn_X4_193 {l : Launch} {p : Program} {e : Env} {R : Room} {s : State} {m : MethodId} {args : Array Value} {below : List Frame} {meth : Method} {c : Code} {H : Heap} {locs : List Loc} {cells slots : Nat} {Qz : State → Prop} {cc : ByteArray} {nL : Nat} {ret : Option FieldType} {E : xx_E} {σ : XS} {pc : Nat} {ls : Array Slot} {rest : List Value} (cx : xx_X "StruckCounts$Reader" cc nL ret E p s m args meth c) (hR : xR E σ H) (hS0 : va_S (xA E) s.heap H locs) (hcells : cells + 1 ≤ R.cells) (hslots : slots + 1 ≤ R.slots) (hdg : decode cc pc = .ok (.new 193, 3)) (kk : ∀ (H1 : Heap), xR E (xal σ 7 0) H1 → va_S (xA E) s.heap H1 locs → W p l e R s m args below meth c H1 locs (cells + 1) (slots + 1) Qz (F0 m (pc + 3) ls (xv E (some (xn σ)) :: rest))) : W p l e R s m args below meth c H locs cells slots Qz (F0 m pc ls rest) :=
  x_new cx hR hS0 6 (by decide) rfl in_X7 tyX7 tyX7_ok q1685 q1686 q194 (fun j hj => by
    match j, hj with
    | 0, _ => exact xnew_r rfl) hcells hslots hdg kk
theorem xn_X4_212 {l : Launch} {p : Program} {e : Env} {R : Room} {s : State} {m : MethodId} {args : Array Value} {below : List Frame} {meth : Method} {c : Code} {H : Heap} {locs : List Loc} {cells slots : Nat} {Qz : State → Prop} {cc : ByteArray} {nL : Nat} {ret : Option FieldType} {E : xx_E} {σ : XS} {pc : Nat} {ls : Array Slot} {rest : List Value} (cx : xx_X "StruckCounts$Reader" cc nL ret E p s m args meth c) (hR : xR E σ H) (hS0 : va_S (xA E) s.heap H locs) (hcells : cells + 1 ≤ R.cells) (hslots : slots + 1 ≤ R.slots) (hdg : decode cc pc = .ok (.new 212, 3)) (kk : ∀ (H1 : Heap), xR E (xal σ 10 0) H1 → va_S (xA E) s.heap H1 locs → W p l e R s m args below meth c H1 locs (cells + 1) (slots + 1) Qz (F0 m (pc + 3) ls (xv E (some (xn σ)) :: rest))) : W p l e R s m args below meth c H locs cells slots Qz (F0 m pc ls rest) :=
  x_new cx hR hS0 9 (by decide) rfl in_X10 tyX10 tyX10_ok q1769 q1770 q197 (fun j hj => by
    match j, hj with
    | 0, _ => exact xnew_i rfl) hcells hslots hdg kk
theorem CX7_init_X4_195 {l : Launch} {p : Program} {e : Env} {R : Room} {s : State} {m : MethodId} {args : Array Value} {below : List Frame} {meth : Method} {c : Code} {H : Heap} {locs : List Loc} {cells slots : Nat} {Qz : State → Prop} {cc : ByteArray} {nL : Nat} {ret : Option FieldType} {E : xx_E} {σ : XS} {pc : Nat} {ls : Array Slot} {rest : List Value} {th : Nat} {x1 : Option Nat} (cx : xx_X "StruckCounts$Reader" cc nL ret E p s m args meth c) (hR0 : xR E σ H) (hS0 : va_S (xA E) s.heap H locs) {r0 : Option Nat} (hr : r0 = some th) (hk : kd σ th = 7) {Qf : XS → Prop} (hw : wX7_init th x1 σ Qf) (hR : (({ frames := 1, cells := 0, slots := 0, locals := 40 } : Room)).frames + 1 ≤ R.frames ∧ 8 + (2 + 11) + (({ frames := 1, cells := 0, slots := 0, locals := 40 } : Room)).locals ≤ R.locals) (hrest : rest.length ≤ 4) (hsize : ls.size = nL) (hf : cells + 0 ≤ R.cells ∧ slots + 0 ≤ R.slots) (hdg : decode cc pc = .ok (.invokespecial 195, 3))
    (kk : ∀ (σ1 : XS) (H1 : Heap) (locs1 : List Loc), Qf σ1 → xR E σ1 H1 → va_S (xA E) s.heap H1 locs1 → W p l e R s m args below meth c H1 locs1 (cells + 0) (slots + 0) Qz (F0 m (pc + 3) ls rest)) : W p l e R s m args below meth c H locs cells slots Qz (F0 m pc ls (xv E x1 :: xv E r0 :: rest)) := by
  subst hr
  obtain ⟨hx, hb, hml, hown, hts, hrt, hlk, hK, hZ⟩ := id cx
  exact x_gov (va_runI (As := [xv E x1]) (rest := rest) (x_fix cx) (MX7_init l E th x1 σ Qf hw) (cwI 1 hts (lw_meth q1689) rfl rfl rfl (hts _ q194) (hts _ q1687) (hts _ q1688) rfl (by decide +kernel) hR) ⟨xblind, x_pre cx hR0 hS0 (.ref (xr E th) :: [xv E x1])⟩ rfl rfl hsize rfl (lv_room (xroom hrest)) hdg hf) hS0 kk
theorem CX4_many_X4_205T {l : Launch} {p : Program} {e : Env} {R : Room} {s : State} {m : MethodId} {args : Array Value} {below : List Frame} {meth : Method} {c : Code} {H : Heap} {locs : List Loc} {cells slots : Nat} {cc : ByteArray} {nL : Nat} {ret : Option FieldType} {E : xx_E} {σ : XS} {pc : Nat} {ls : Array Slot} {rest : List Value} {F : Nat → Nat → Nat → XS → (Option Nat → XS → Prop) → (Nat → XS → Prop) → Prop} (d : Nat) (hF : ∀ (th : Nat) (k n : Nat) (σ : XS) (Q : Option Nat → XS → Prop) (T : Nat → XS → Prop), F th k n σ Q T → xx_Tr l yX4_one (ws_ yX4_one cX4_one 2 (some (.object "StruckCounts$Expr"))) ({ frames := (13 + 4 * d), cells := k, slots := n, locals := 40 * (13 + 4 * d) } : Room) E [xv E (some th)] σ Q T k n) {th : Nat} {k n : Nat} {T : Nat → XS → Prop} {Qc : Array Value → State → Outcome → State → Prop} {MC MS : Nat} (cx : xx_X "StruckCounts$Reader" cc nL ret E p s m args meth c) (hnt : xnt c) (hR0 : xR E σ H) (hS0 : va_S (xA E) s.heap H locs) {r0 : Option Nat} (hr : r0 = some th) (hk : kd σ th = 4) {Qf : Option Nat → XS → Prop} (hw : wX4_many F th k n σ Qf T) (hR : (({ frames := (16 + 4 * d), cells := k, slots := n, locals := 40 * (16 + 4 * d) } : Room)).frames + 1 ≤ R.frames ∧ 8 + (3 + 11) + (({ frames := (16 + 4 * d), cells := k, slots := n, locals := 40 * (16 + 4 * d) } : Room)).locals ≤ R.locals) (hrest : rest.length ≤ 4) (hsize : ls.size = nL) (hf : cells + k ≤ R.cells ∧ slots + n ≤ R.slots) (hc : cells + k ≤ MC) (hs : slots + n ≤ MS) (hdg : decode cc pc = .ok (.invokevirtual 205, 3))
    (kk : ∀ (r : Option Nat) (σ1 : XS) (H1 : Heap) (locs1 : List Loc), Qf r σ1 → xR E σ1 H1 → va_S (xA E) s.heap H1 locs1 → W p l e R s m args below meth c H1 locs1 (cells + k) (slots + n) (vx_MQ below Qc (xTX T E) args s MC MS (xA E)) (F0 m (pc + 3) ls (xv E r :: rest))) : W p l e R s m args below meth c H locs cells slots (vx_MQ below Qc (xTX T E) args s MC MS (xA E)) (F0 m pc ls (xv E r0 :: rest)) := by
  subst hr
  obtain ⟨hx, hb, hml, hown, hts, hrt, hlk, hK, hZ⟩ := id cx
  exact x_goTr cx hnt (vx_runV (As := []) (rest := rest) (x_fix cx) (MX4_many l E d hF th k n σ Qf T hw) (cwV 0 hts (lw_V q1699 q1701 qs21 q173 q1702) rfl rfl rfl (by decide +kernel) hR) (x_preV cx hR0 hS0 hk (by decide) (q := (RX4, TX4, 9)) rfl rfl []) rfl rfl hsize rfl (lv_room (xroom hrest)) hdg hf) hS0 hc hs kk
theorem CX10_init_X4_214 {l : Launch} {p : Program} {e : Env} {R : Room} {s : State} {m : MethodId} {args : Array Value} {below : List Frame} {meth : Method} {c : Code} {H : Heap} {locs : List Loc} {cells slots : Nat} {Qz : State → Prop} {cc : ByteArray} {nL : Nat} {ret : Option FieldType} {E : xx_E} {σ : XS} {pc : Nat} {ls : Array Slot} {rest : List Value} {th : Nat} {x1 : Int32} (cx : xx_X "StruckCounts$Reader" cc nL ret E p s m args meth c) (hR0 : xR E σ H) (hS0 : va_S (xA E) s.heap H locs) {r0 : Option Nat} (hr : r0 = some th) (hk : kd σ th = 10) {Qf : XS → Prop} (hw : wX10_init th x1 σ Qf) (hR : (({ frames := 1, cells := 0, slots := 0, locals := 40 } : Room)).frames + 1 ≤ R.frames ∧ 8 + (2 + 11) + (({ frames := 1, cells := 0, slots := 0, locals := 40 } : Room)).locals ≤ R.locals) (hrest : rest.length ≤ 4) (hsize : ls.size = nL) (hf : cells + 0 ≤ R.cells ∧ slots + 0 ≤ R.slots) (hdg : decode cc pc = .ok (.invokespecial 214, 3))
    (kk : ∀ (σ1 : XS) (H1 : Heap) (locs1 : List Loc), Qf σ1 → xR E σ1 H1 → va_S (xA E) s.heap H1 locs1 → W p l e R s m args below meth c H1 locs1 (cells + 0) (slots + 0) Qz (F0 m (pc + 3) ls rest)) : W p l e R s m args below meth c H locs cells slots Qz (F0 m pc ls (.int x1 :: xv E r0 :: rest)) := by
  subst hr
  obtain ⟨hx, hb, hml, hown, hts, hrt, hlk, hK, hZ⟩ := id cx
  exact x_gov (va_runI (As := [.int x1]) (rest := rest) (x_fix cx) (MX10_init l E th x1 σ Qf hw) (cwI 1 hts (lw_meth q1773) rfl rfl rfl (hts _ q197) (hts _ q1771) (hts _ q1772) rfl (by decide +kernel) hR) ⟨xblind, x_pre cx hR0 hS0 (.ref (xr E th) :: [.int x1])⟩ rfl rfl hsize rfl (lv_room (xroom hrest)) hdg hf) hS0 kk
def wX4_one_body (F : Nat → Nat → Nat → XS → (Option Nat → XS → Prop) → (Nat → XS → Prop) → Prop) (th : Nat) (bc : Nat) (bs : Nat) (σ : XS) (Q : Option Nat → XS → Prop) (T : Nat → XS → Prop) : Prop :=
  kd σ th = 4 ∧ (wX4_begins th σ (fun r1 s1 => kd s1 th = 4 ∧ (∃ k5 n5 : Nat, k5 ≤ bc ∧ n5 ≤ bs ∧ (wX4_must th r1 (1 : Int32) k5 n5 s1 (fun s3 => kd s3 th = 4 ∧ (wX4_isSign th (33 : Int32) s3 (fun r6 s6 => if r6 = 0 then (kd s6 th = 4 ∧ (wX4_isSign th (40 : Int32) s6 (fun r8 s8 => if r8 = 0 then (kd s8 th = 4 ∧ (if (fi s8 th 5) = (2 : Int32) then (∃ k19 n19 : Nat, k19 ≤ (bc - k5) ∧ n19 ≤ (bs - n5) ∧ (wX4_many F th k19 n19 s8 (fun r18 s18 => Q r18 s18) T)) else (∃ k12 n12 : Nat, k12 ≤ (bc - k5) ∧ n12 ≤ (bs - n5) ∧ (wX4_told th (1 : Int32) k12 n12 s8 (fun r11 s11 => kd s11 th = 4 ∧ (∃ k15 n15 : Nat, k15 ≤ ((bc - k5) - k12) ∧ n15 ≤ ((bs - n5) - n12) ∧ (wX4_goes th k15 n15 s11 (fun s13 => 1 ≤ (((bc - k5) - k12) - k15) ∧ 1 ≤ (((bs - n5) - n12) - n15) ∧ (kd (xal s13 10 0) (xn s13) = 10 ∧ (wX10_init (xn s13) r11 (xal s13 10 0) (fun s16 => Q (some (xn s13)) s16))))))) T)))) else (kd s8 th = 4 ∧ (∃ k22 n22 : Nat, k22 ≤ (bc - k5) ∧ n22 ≤ (bs - n5) ∧ (wX4_opens th k22 n22 s8 (fun s20 => kd s20 th = 4 ∧ (∃ k25 n25 : Nat, k25 ≤ ((bc - k5) - k22) ∧ n25 ≤ ((bs - n5) - n22) ∧ (wX4_any F th k25 n25 s20 (fun r23 s23 => kd s23 th = 4 ∧ (∃ k28 n28 : Nat, k28 ≤ (((bc - k5) - k22) - k25) ∧ n28 ≤ (((bs - n5) - n22) - n25) ∧ (wX4_sign th (41 : Int32) k28 n28 s23 (fun s26 => kd s26 th = 4 ∧ (xK ≤ th ∧ (Q r23 (pfi s26 th 7 ((fi s26 th 7) - (1 : Int32)))))) T))) T))) T)))))) else (kd s6 th = 4 ∧ (∃ k32 n32 : Nat, k32 ≤ (bc - k5) ∧ n32 ≤ (bs - n5) ∧ (wX4_opens th k32 n32 s6 (fun s30 => kd s30 th = 4 ∧ (∃ k35 n35 : Nat, k35 ≤ ((bc - k5) - k32) ∧ n35 ≤ ((bs - n5) - n32) ∧ (F th k35 n35 s30 (fun r33 s33 => kd s33 th = 4 ∧ (xK ≤ th ∧ (1 ≤ (((bc - k5) - k32) - k35) ∧ 1 ≤ (((bs - n5) - n32) - n35) ∧ (kd (xal (pfi s33 th 7 ((fi s33 th 7) - (1 : Int32))) 7 0) (xn (pfi s33 th 7 ((fi s33 th 7) - (1 : Int32)))) = 7 ∧ (wX7_init (xn (pfi s33 th 7 ((fi s33 th 7) - (1 : Int32)))) r33 (xal (pfi s33 th 7 ((fi s33 th 7) - (1 : Int32))) 7 0) (fun s37 => Q (some (xn (pfi s33 th 7 ((fi s33 th 7) - (1 : Int32))))) s37)))))) T))) T)))))) T))))
set_option maxHeartbeats 4000000 in
theorem MX4_one_body (l : Launch) (E : xx_E) {F : Nat → Nat → Nat → XS → (Option Nat → XS → Prop) → (Nat → XS → Prop) → Prop} (d : Nat) (hF : ∀ (th : Nat) (k n : Nat) (σ : XS) (Q : Option Nat → XS → Prop) (T : Nat → XS → Prop), F th k n σ Q T → xx_Tr l yX4_one (ws_ yX4_one cX4_one 2 (some (.object "StruckCounts$Expr"))) ({ frames := (13 + 4 * d), cells := k, slots := n, locals := 40 * (13 + 4 * d) } : Room) E [xv E (some th)] σ Q T k n) (th : Nat) (bc : Nat) (bs : Nat) (σ : XS) (Q : Option Nat → XS → Prop) (T : Nat → XS → Prop) (hw : wX4_one_body F th bc bs σ Q T) : xx_Tr l yX4_one (ws_ yX4_one cX4_one 2 (some (.object "StruckCounts$Expr"))) ({ frames := (13 + 4 * (d + 1)), cells := bc, slots := bs, locals := 40 * (13 + 4 * (d + 1)) } : Room) E [xv E (some th)] σ Q T bc bs := by
  refine x_ofT (own := "StruckCounts$Reader") (by decide +kernel) rfl ?_
  intro p e s m args below meth c cx hnt hR ha hnm
  refine x_entry [xv E (some th)] 2 [(0, xv E (some th))] ha (by simp [lg_sl, xv_cat, vc_i, vc_j, vc_f]) (by simp [lv_args, xv_cat, vc_i, vc_j, vc_f]) (fun ls hl => ?_)
  have hS : va_S (xA E) s.heap s.heap [] := va_S.rf
  have hcb : 0 + bc ≤ bc := Nat.le_of_eq (Nat.zero_add _)
  have hsb : 0 + bs ≤ bs := Nat.le_of_eq (Nat.zero_add _)
  unfold wX4_one_body at hw
  obtain ⟨hx, hb, hml, hown, hts, hrt, hlk, hMK, hZ⟩ := id cx
  refine x_aload_n cx dX4_one_0 rfl (lv_at hl 0 rfl) ?_
  refine x_aload_n cx dX4_one_1 rfl (lv_at hl 0 rfl) ?_
  obtain ⟨hk2, hw⟩ := hw
  refine CX4_begins_X4_187 cx hR hS rfl hk2 hw (by constructor <;> dsimp only <;> omega) (Nat.le_of_ble_eq_true rfl) hl.1 ⟨by dsimp only; omega, by dsimp only; omega⟩ dX4_one_2 (fun r1 s1 H locs hw hR hS => ?_)
  refine lv_iconst (v := (1 : Int32)) hx hb dX4_one_5 (by decide) ?_
  obtain ⟨hk4, hw⟩ := hw
  obtain ⟨k5, n5, hb1, hb2, hw⟩ := hw
  refine CX4_must_X4_112T cx hnt hR hS rfl hk4 hw (by constructor <;> dsimp only <;> omega) (Nat.le_of_ble_eq_true rfl) hl.1 ⟨by dsimp only; omega, by dsimp only; omega⟩ (xle (xadd hb1 hcb)) (xle (xadd hb2 hsb)) dX4_one_6 (fun s3 H locs hw hR hS => ?_)
  have hcb := xadd hb1 hcb
  have hsb := xadd hb2 hsb
  refine x_aload_n cx dX4_one_9 rfl (lv_at hl 0 rfl) ?_
  refine lv_bipush (v := (33 : Int32)) hx hb dX4_one_10 (by decide) ?_
  obtain ⟨hk7, hw⟩ := hw
  refine CX4_isSign_X4_108 cx hR hS rfl hk7 hw (by constructor <;> dsimp only <;> omega) (Nat.le_of_ble_eq_true rfl) hl.1 ⟨by dsimp only; omega, by dsimp only; omega⟩ dX4_one_12 (fun r6 s6 H locs hw hR hS => ?_)
  refine lv_if_eq (tgt := 46) hx hb dX4_one_15 (by decide) (fun hc => ?_) (fun hc => ?_)
  · have hw := mm_ip hc hw
    refine x_aload_n cx dX4_one_46 rfl (lv_at hl 0 rfl) ?_
    refine lv_bipush (v := (40 : Int32)) hx hb dX4_one_47 (by decide) ?_
    obtain ⟨hk9, hw⟩ := hw
    refine CX4_isSign_X4_108 cx hR hS rfl hk9 hw (by constructor <;> dsimp only <;> omega) (Nat.le_of_ble_eq_true rfl) hl.1 ⟨by dsimp only; omega, by dsimp only; omega⟩ dX4_one_49 (fun r8 s8 H locs hw hR hS => ?_)
    refine lv_if_eq (tgt := 82) hx hb dX4_one_52 (by decide) (fun hc => ?_) (fun hc => ?_)
    · have hw := mm_ip hc hw
      refine x_aload_n cx dX4_one_82 rfl (lv_at hl 0 rfl) ?_
      obtain ⟨hk10, hw⟩ := hw
      refine xg_X4_45_4 cx hR rfl hk10 dX4_one_83 ?_
      refine lv_iconst (v := (2 : Int32)) hx hb dX4_one_86 (by decide) ?_
      refine lv_icmp_ne (tgt := 95) hx hb dX4_one_87 (by decide) (fun hc => ?_) (fun hc => ?_)
      · have hw := mm_in hc hw
        refine x_aload_n cx dX4_one_95 rfl (lv_at hl 0 rfl) ?_
        refine lv_iconst (v := (1 : Int32)) hx hb dX4_one_96 (by decide) ?_
        obtain ⟨k12, n12, hb1, hb2, hw⟩ := hw
        refine CX4_told_X4_208T cx hnt hR hS rfl hk10 hw (by constructor <;> dsimp only <;> omega) (Nat.le_of_ble_eq_true rfl) hl.1 ⟨by dsimp only; omega, by dsimp only; omega⟩ (xle (xadd hb1 hcb)) (xle (xadd hb2 hsb)) dX4_one_97 (fun r11 s11 H locs hw hR hS => ?_)
        have hcb := xadd hb1 hcb
        have hsb := xadd hb2 hsb
        refine lv_istore_n (i := 1) (lv' := [(1, .int r11), (0, xv E (some th))]) hx hb dX4_one_100 rfl hl (by decide) (by simp [xv_cat]) (fun ls hl => ?_)
        refine x_aload_n cx dX4_one_101 rfl (lv_at hl 1 rfl) ?_
        obtain ⟨hk14, hw⟩ := hw
        obtain ⟨k15, n15, hb1, hb2, hw⟩ := hw
        refine CX4_goes_X4_29 cx hR hS rfl hk14 hw (by constructor <;> dsimp only <;> omega) (Nat.le_of_ble_eq_true rfl) hl.1 ⟨by dsimp only; omega, by dsimp only; omega⟩ dX4_one_102 (fun s13 H locs hw hR hS => ?_)
        have hcb := xadd hb1 hcb
        have hsb := xadd hb2 hsb
        obtain ⟨hb1, hb2, hw⟩ := hw
        refine xn_X4_212 cx hR hS (by dsimp only; omega) (by dsimp only; omega) dX4_one_105 (fun H hR hS => ?_)
        have hcb := xadd hb1 hcb
        have hsb := xadd hb2 hsb
        refine lv_dup hx hb dX4_one_108 (xv_cat _ _) ?_
        refine lv_iload_n hx hb dX4_one_109 rfl (lv_at hl 0 rfl) ?_
        obtain ⟨hk17, hw⟩ := hw
        refine CX10_init_X4_214 cx hR hS rfl hk17 hw (by constructor <;> dsimp only <;> omega) (Nat.le_of_ble_eq_true rfl) hl.1 ⟨by dsimp only; omega, by dsimp only; omega⟩ dX4_one_110 (fun s16 H locs hw hR hS => ?_)
        exact vx_ret (x_aret cx (by first | exact Or.inl ⟨_, rfl⟩ | exact Or.inr ⟨_, rfl⟩) hR hS (xle hcb) (xle hsb) hw dX4_one_113)
      · have hw := mm_ip hc hw
        refine x_aload_n cx dX4_one_90 rfl (lv_at hl 0 rfl) ?_
        obtain ⟨k19, n19, hb1, hb2, hw⟩ := hw
        refine CX4_many_X4_205T d hF cx hnt hR hS rfl hk10 hw (by constructor <;> dsimp only <;> omega) (Nat.le_of_ble_eq_true rfl) hl.1 ⟨by dsimp only; omega, by dsimp only; omega⟩ (xle (xadd hb1 hcb)) (xle (xadd hb2 hsb)) dX4_one_91 (fun r18 s18 H locs hw hR hS => ?_)
        have hcb := xadd hb1 hcb
        have hsb := xadd hb2 hsb
        exact vx_ret (x_aret cx (by first | exact Or.inl ⟨_, rfl⟩ | exact Or.inr ⟨_, rfl⟩) hR hS (xle hcb) (xle hsb) hw dX4_one_94)
    · have hw := mm_in hc hw
      refine x_aload_n cx dX4_one_55 rfl (lv_at hl 0 rfl) ?_
      obtain ⟨hk21, hw⟩ := hw
      obtain ⟨k22, n22, hb1, hb2, hw⟩ := hw
      refine CX4_opens_X4_190T cx hnt hR hS rfl hk21 hw (by constructor <;> dsimp only <;> omega) (Nat.le_of_ble_eq_true rfl) hl.1 ⟨by dsimp only; omega, by dsimp only; omega⟩ (xle (xadd hb1 hcb)) (xle (xadd hb2 hsb)) dX4_one_56 (fun s20 H locs hw hR hS => ?_)
      have hcb := xadd hb1 hcb
      have hsb := xadd hb2 hsb
      refine x_aload_n cx dX4_one_59 rfl (lv_at hl 0 rfl) ?_
      obtain ⟨hk24, hw⟩ := hw
      obtain ⟨k25, n25, hb1, hb2, hw⟩ := hw
      refine CX4_any_X4_198T d hF cx hnt hR hS rfl hk24 hw (by constructor <;> dsimp only <;> omega) (Nat.le_of_ble_eq_true rfl) hl.1 ⟨by dsimp only; omega, by dsimp only; omega⟩ (xle (xadd hb1 hcb)) (xle (xadd hb2 hsb)) dX4_one_60 (fun r23 s23 H locs hw hR hS => ?_)
      have hcb := xadd hb1 hcb
      have hsb := xadd hb2 hsb
      refine x_astore_n (i := 1) (r := r23) (lv' := [(1, xv E r23), (0, xv E (some th))]) cx dX4_one_63 rfl hl (by decide) (by simp [xv_cat]) (fun ls hl => ?_)
      refine x_aload_n cx dX4_one_64 rfl (lv_at hl 1 rfl) ?_
      refine lv_bipush (v := (41 : Int32)) hx hb dX4_one_65 (by decide) ?_
      obtain ⟨hk27, hw⟩ := hw
      obtain ⟨k28, n28, hb1, hb2, hw⟩ := hw
      refine CX4_sign_X4_201T cx hnt hR hS rfl hk27 hw (by constructor <;> dsimp only <;> omega) (Nat.le_of_ble_eq_true rfl) hl.1 ⟨by dsimp only; omega, by dsimp only; omega⟩ (xle (xadd hb1 hcb)) (xle (xadd hb2 hsb)) dX4_one_67 (fun s26 H locs hw hR hS => ?_)
      have hcb := xadd hb1 hcb
      have hsb := xadd hb2 hsb
      refine x_aload_n cx dX4_one_70 rfl (lv_at hl 1 rfl) ?_
      refine lv_dup hx hb dX4_one_71 (xv_cat _ _) ?_
      obtain ⟨hk29, hw⟩ := hw
      refine xg_X4_184_4 cx hR rfl hk29 dX4_one_72 ?_
      refine lv_iconst (v := (1 : Int32)) hx hb dX4_one_75 (by decide) ?_
      refine lv_isub hx hb dX4_one_76 ?_
      obtain ⟨hge_th, hw⟩ := hw
      refine xp_X4_184_4 (v := ((fi s26 th 7) - (1 : Int32))) cx hR hS rfl hge_th hk29 dX4_one_77 (fun H locs hR hS => ?_)
      refine x_aload_n cx dX4_one_80 rfl (lv_at hl 0 rfl) ?_
      exact vx_ret (x_aret cx (by first | exact Or.inl ⟨_, rfl⟩ | exact Or.inr ⟨_, rfl⟩) hR hS (xle hcb) (xle hsb) hw dX4_one_81)
  · have hw := mm_in hc hw
    refine x_aload_n cx dX4_one_18 rfl (lv_at hl 0 rfl) ?_
    obtain ⟨hk31, hw⟩ := hw
    obtain ⟨k32, n32, hb1, hb2, hw⟩ := hw
    refine CX4_opens_X4_190T cx hnt hR hS rfl hk31 hw (by constructor <;> dsimp only <;> omega) (Nat.le_of_ble_eq_true rfl) hl.1 ⟨by dsimp only; omega, by dsimp only; omega⟩ (xle (xadd hb1 hcb)) (xle (xadd hb2 hsb)) dX4_one_19 (fun s30 H locs hw hR hS => ?_)
    have hcb := xadd hb1 hcb
    have hsb := xadd hb2 hsb
    refine x_aload_n cx dX4_one_22 rfl (lv_at hl 0 rfl) ?_
    obtain ⟨hk34, hw⟩ := hw
    obtain ⟨k35, n35, hb1, hb2, hw⟩ := hw
    refine CX4_one_X4_178FT d hF cx hnt hR hS rfl hk34 hw (by constructor <;> dsimp only <;> omega) (Nat.le_of_ble_eq_true rfl) hl.1 ⟨by dsimp only; omega, by dsimp only; omega⟩ (xle (xadd hb1 hcb)) (xle (xadd hb2 hsb)) dX4_one_23 (fun r33 s33 H locs hw hR hS => ?_)
    have hcb := xadd hb1 hcb
    have hsb := xadd hb2 hsb
    refine x_astore_n (i := 1) (r := r33) (lv' := [(1, xv E r33), (0, xv E (some th))]) cx dX4_one_26 rfl hl (by decide) (by simp [xv_cat]) (fun ls hl => ?_)
    refine x_aload_n cx dX4_one_27 rfl (lv_at hl 1 rfl) ?_
    refine lv_dup hx hb dX4_one_28 (xv_cat _ _) ?_
    obtain ⟨hk36, hw⟩ := hw
    refine xg_X4_184_4 cx hR rfl hk36 dX4_one_29 ?_
    refine lv_iconst (v := (1 : Int32)) hx hb dX4_one_32 (by decide) ?_
    refine lv_isub hx hb dX4_one_33 ?_
    obtain ⟨hge_th, hw⟩ := hw
    refine xp_X4_184_4 (v := ((fi s33 th 7) - (1 : Int32))) cx hR hS rfl hge_th hk36 dX4_one_34 (fun H locs hR hS => ?_)
    obtain ⟨hb1, hb2, hw⟩ := hw
    refine xn_X4_193 cx hR hS (by dsimp only; omega) (by dsimp only; omega) dX4_one_37 (fun H hR hS => ?_)
    have hcb := xadd hb1 hcb
    have hsb := xadd hb2 hsb
    refine lv_dup hx hb dX4_one_40 (xv_cat _ _) ?_
    refine x_aload_n cx dX4_one_41 rfl (lv_at hl 0 rfl) ?_
    obtain ⟨hk38, hw⟩ := hw
    refine CX7_init_X4_195 cx hR hS rfl hk38 hw (by constructor <;> dsimp only <;> omega) (Nat.le_of_ble_eq_true rfl) hl.1 ⟨by dsimp only; omega, by dsimp only; omega⟩ dX4_one_42 (fun s37 H locs hw hR hS => ?_)
    exact vx_ret (x_aret cx (by first | exact Or.inl ⟨_, rfl⟩ | exact Or.inr ⟨_, rfl⟩) hR hS (xle hcb) (xle hsb) hw dX4_one_45)
def wX4_one (d : Nat) : Nat → Nat → Nat → XS → (Option Nat → XS → Prop) → (Nat → XS → Prop) → Prop := Nat.rec (motive := fun _ => Nat → Nat → Nat → XS → (Option Nat → XS → Prop) → (Nat → XS → Prop) → Prop) (fun _ _ _ _ _ _ => False) (fun _ ih => wX4_one_body ih) d
theorem MX4_one (l : Launch) (E : xx_E) : ∀ (d : Nat), ∀ (th : Nat) (k n : Nat) (σ : XS) (Q : Option Nat → XS → Prop) (T : Nat → XS → Prop), wX4_one d th k n σ Q T → xx_Tr l yX4_one (ws_ yX4_one cX4_one 2 (some (.object "StruckCounts$Expr"))) ({ frames := (13 + 4 * d), cells := k, slots := n, locals := 40 * (13 + 4 * d) } : Room) E [xv E (some th)] σ Q T k n := by
  intro d
  induction d with
  | zero => exact fun th k n σ Q T h => h.elim
  | succ d ih => exact fun th k n σ Q T h => MX4_one_body l E d ih th k n σ Q T h
