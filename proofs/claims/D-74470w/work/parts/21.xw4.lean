set_option maxRecDepth 100000
-- X4_init
theorem xp_X4_17_4 {l : Launch} {p : Program} {e : Env} {R : Room} {s : State} {m : MethodId} {args : Array Value} {below : List Frame} {meth : Method} {c : Code} {H : Heap} {locs : List Loc} {cells slots : Nat} {Qz : State → Prop} {cc : ByteArray} {nL : Nat} {ret : Option FieldType} {E : xx_E} {σ : XS} {pc : Nat} {ls : Array Slot} {rest : List Value} (cx : xx_X "StruckCounts$Reader" cc nL ret E p s m args meth c) (hR : xR E σ H) (hS0 : va_S (xA E) s.heap H locs) {a : Nat} {r : Option Nat} {v : Option Nat} (hr : r = some a) (ha : xK ≤ a) (hk : kd σ a = 4) (hini : meth.name = "<init>") (hdg : decode cc pc = .ok (.putfield 17, 3)) (kk : ∀ (H1 : Heap) (locs1 : List Loc), xR E (pfr σ a 0 v) H1 → va_S (xA E) s.heap H1 locs1 → W p l e R s m args below meth c H1 locs1 cells slots Qz (F0 m (pc + 3) ls rest)) : W p l e R s m args below meth c H locs cells slots Qz (F0 m pc ls (xv E v :: xv E r :: rest)) :=
  x_put (ci := 3) cx hR hS0 hr ha hk (by decide) rfl in_X4 tyX4 tyX4_ok nmX4 0 (by decide) (Or.inr (Or.inl ⟨q935, rfl, hini, rfl⟩)) (fun _ h => h) (by cases v <;> rfl) (by cases v <;> rfl) (xput_r rfl) hdg kk
theorem xp_X4_21_4 {l : Launch} {p : Program} {e : Env} {R : Room} {s : State} {m : MethodId} {args : Array Value} {below : List Frame} {meth : Method} {c : Code} {H : Heap} {locs : List Loc} {cells slots : Nat} {Qz : State → Prop} {cc : ByteArray} {nL : Nat} {ret : Option FieldType} {E : xx_E} {σ : XS} {pc : Nat} {ls : Array Slot} {rest : List Value} (cx : xx_X "StruckCounts$Reader" cc nL ret E p s m args meth c) (hR : xR E σ H) (hS0 : va_S (xA E) s.heap H locs) {a : Nat} {r : Option Nat} {v : Int32} (hr : r = some a) (ha : xK ≤ a) (hk : kd σ a = 4) (hini : meth.name = "<init>") (hdg : decode cc pc = .ok (.putfield 21, 3)) (kk : ∀ (H1 : Heap) (locs1 : List Loc), xR E (pfi σ a 1 v) H1 → va_S (xA E) s.heap H1 locs1 → W p l e R s m args below meth c H1 locs1 cells slots Qz (F0 m (pc + 3) ls rest)) : W p l e R s m args below meth c H locs cells slots Qz (F0 m pc ls (.int v :: xv E r :: rest)) :=
  x_put (ci := 3) cx hR hS0 hr ha hk (by decide) rfl in_X4 tyX4 tyX4_ok nmX4 1 (by decide) (Or.inr (Or.inl ⟨q936, rfl, hini, rfl⟩)) (fun _ h => h) rfl rfl (xput_i rfl) hdg kk
theorem xp_X4_25_4 {l : Launch} {p : Program} {e : Env} {R : Room} {s : State} {m : MethodId} {args : Array Value} {below : List Frame} {meth : Method} {c : Code} {H : Heap} {locs : List Loc} {cells slots : Nat} {Qz : State → Prop} {cc : ByteArray} {nL : Nat} {ret : Option FieldType} {E : xx_E} {σ : XS} {pc : Nat} {ls : Array Slot} {rest : List Value} (cx : xx_X "StruckCounts$Reader" cc nL ret E p s m args meth c) (hR : xR E σ H) (hS0 : va_S (xA E) s.heap H locs) {a : Nat} {r : Option Nat} {v : Option Nat} (hr : r = some a) (ha : xK ≤ a) (hk : kd σ a = 4) (hdg : decode cc pc = .ok (.putfield 25, 3)) (kk : ∀ (H1 : Heap) (locs1 : List Loc), xR E (pfr σ a 2 v) H1 → va_S (xA E) s.heap H1 locs1 → W p l e R s m args below meth c H1 locs1 cells slots Qz (F0 m (pc + 3) ls rest)) : W p l e R s m args below meth c H locs cells slots Qz (F0 m pc ls (xv E v :: xv E r :: rest)) :=
  x_put (ci := 3) cx hR hS0 hr ha hk (by decide) rfl in_X4 tyX4 tyX4_ok nmX4 2 (by decide) (Or.inl ⟨q937, rfl⟩) (fun _ h => h) (by cases v <;> rfl) (by cases v <;> rfl) (xput_r rfl) hdg kk
theorem CX4_goes_X4_29 {l : Launch} {p : Program} {e : Env} {R : Room} {s : State} {m : MethodId} {args : Array Value} {below : List Frame} {meth : Method} {c : Code} {H : Heap} {locs : List Loc} {cells slots : Nat} {Qz : State → Prop} {cc : ByteArray} {nL : Nat} {ret : Option FieldType} {E : xx_E} {σ : XS} {pc : Nat} {ls : Array Slot} {rest : List Value} {th : Nat} {k n : Nat} (cx : xx_X "StruckCounts$Reader" cc nL ret E p s m args meth c) (hR0 : xR E σ H) (hS0 : va_S (xA E) s.heap H locs) {r0 : Option Nat} (hr : r0 = some th) (hk : kd σ th = 4) {Qf : XS → Prop} (hw : wX4_goes th k n σ Qf) (hR : (({ frames := 6, cells := k, slots := n, locals := 240 } : Room)).frames + 1 ≤ R.frames ∧ 8 + (2 + 11) + (({ frames := 6, cells := k, slots := n, locals := 240 } : Room)).locals ≤ R.locals) (hrest : rest.length ≤ 4) (hsize : ls.size = nL) (hf : cells + k ≤ R.cells ∧ slots + n ≤ R.slots) (hdg : decode cc pc = .ok (.invokevirtual 29, 3))
    (kk : ∀ (σ1 : XS) (H1 : Heap) (locs1 : List Loc), Qf σ1 → xR E σ1 H1 → va_S (xA E) s.heap H1 locs1 → W p l e R s m args below meth c H1 locs1 (cells + k) (slots + n) Qz (F0 m (pc + 3) ls rest)) : W p l e R s m args below meth c H locs cells slots Qz (F0 m pc ls (xv E r0 :: rest)) := by
  subst hr
  obtain ⟨hx, hb, hml, hown, hts, hrt, hlk, hK, hZ⟩ := id cx
  exact x_gov (va_runV (As := []) (rest := rest) (x_fix cx) (MX4_goes l E th k n σ Qf hw) (cwV 0 hts (lw_V q671 q673 qs2 q173 q674) rfl rfl rfl (by decide +kernel) hR) (x_preV cx hR0 hS0 hk (by decide) (q := (RX4, TX4, 9)) rfl rfl []) rfl rfl hsize rfl (lv_room (xroom hrest)) hdg hf) hS0 kk
def wX4_init (th : Nat) (x1 : Option Nat) (x2 : Int32) (x3 : Option Nat) (bc : Nat) (bs : Nat) (σ : XS) (Q : XS → Prop) : Prop :=
  kd σ th = 4 ∧ (xK ≤ th ∧ (∃ k3 n3 : Nat, k3 ≤ bc ∧ n3 ≤ bs ∧ (wX4_goes th k3 n3 (pfr (pfi (pfr (pfr σ th 8 (some 0)) th 0 x1) th 1 x2) th 2 x3) (fun s2 => Q s2))))
set_option maxHeartbeats 4000000 in
theorem MX4_init (l : Launch) (E : xx_E) (th : Nat) (x1 : Option Nat) (x2 : Int32) (x3 : Option Nat) (bc : Nat) (bs : Nat) (σ : XS) (Q : XS → Prop) (hw : wX4_init th x1 x2 x3 bc bs σ Q) : xx_Mv l yX4_init (ws_ yX4_init cX4_init 4 none) ({ frames := 7, cells := bc, slots := bs, locals := 280 } : Room) E [xv E (some th), xv E x1, .int x2, xv E x3] σ Q bc bs := by
  refine x_of (own := "StruckCounts$Reader") (by decide +kernel) rfl ?_
  intro p e s m args below meth c cx hR ha hnm
  refine x_entry [xv E (some th), xv E x1, .int x2, xv E x3] 4 [(0, xv E (some th)), (1, xv E x1), (2, .int x2), (3, xv E x3)] ha (by simp [lg_sl, xv_cat, vc_i, vc_j, vc_f]) (by simp [lv_args, xv_cat, vc_i, vc_j, vc_f]) (fun ls hl => ?_)
  have hS : va_S (xA E) s.heap s.heap [] := va_S.rf
  have hcb : 0 + bc ≤ bc := Nat.le_of_eq (Nat.zero_add _)
  have hsb : 0 + bs ≤ bs := Nat.le_of_eq (Nat.zero_add _)
  have hini : meth.name = "<init>" := hnm
  unfold wX4_init at hw
  obtain ⟨hx, hb, hml, hown, hts, hrt, hlk, hMK, hZ⟩ := id cx
  refine x_aload_n cx dX4_init_0 rfl (lv_at hl 0 rfl) ?_
  refine x_objinit cx hl.1 rfl q669 (xroom12 (Nat.le_of_ble_eq_true rfl) (by dsimp only; omega)) (by dsimp only; omega) dX4_init_1 ?_
  refine x_aload_n cx dX4_init_4 rfl (lv_at hl 0 rfl) ?_
  refine x_ldcS cx 0 (by decide) rfl rfl dX4_init_5 ?_
  obtain ⟨hk1, hw⟩ := hw
  obtain ⟨hge_th, hw⟩ := hw
  refine xp_X4_11_4 (v := (some 0)) cx hR hS rfl hge_th hk1 dX4_init_7 (fun H locs hR hS => ?_)
  refine x_aload_n cx dX4_init_10 rfl (lv_at hl 0 rfl) ?_
  refine x_aload_n cx dX4_init_11 rfl (lv_at hl 1 rfl) ?_
  refine xp_X4_17_4 (v := x1) cx hR hS rfl hge_th hk1 hini dX4_init_12 (fun H locs hR hS => ?_)
  refine x_aload_n cx dX4_init_15 rfl (lv_at hl 0 rfl) ?_
  refine lv_iload_n hx hb dX4_init_16 rfl (lv_at hl 2 rfl) ?_
  refine xp_X4_21_4 (v := x2) cx hR hS rfl hge_th hk1 hini dX4_init_17 (fun H locs hR hS => ?_)
  refine x_aload_n cx dX4_init_20 rfl (lv_at hl 0 rfl) ?_
  refine x_aload_n cx dX4_init_21 rfl (lv_at hl 3 rfl) ?_
  refine xp_X4_25_4 (v := x3) cx hR hS rfl hge_th hk1 dX4_init_22 (fun H locs hR hS => ?_)
  refine x_aload_n cx dX4_init_25 rfl (lv_at hl 0 rfl) ?_
  obtain ⟨k3, n3, hb1, hb2, hw⟩ := hw
  refine CX4_goes_X4_29 cx hR hS rfl hk1 hw ⟨Nat.le_of_ble_eq_true rfl, Nat.le_of_ble_eq_true rfl⟩ (Nat.le_of_ble_eq_true rfl) hl.1 ⟨by dsimp only; omega, by dsimp only; omega⟩ dX4_init_26 (fun s2 H locs hw hR hS => ?_)
  have hcb := xadd hb1 hcb
  have hsb := xadd hb2 hsb
  exact x_vret cx hR hS (xle hcb) (xle hsb) hw dX4_init_29
-- X0_reads
theorem xp_X0_100_1 {l : Launch} {p : Program} {e : Env} {R : Room} {s : State} {m : MethodId} {args : Array Value} {below : List Frame} {meth : Method} {c : Code} {H : Heap} {locs : List Loc} {cells slots : Nat} {Qz : State → Prop} {cc : ByteArray} {nL : Nat} {ret : Option FieldType} {E : xx_E} {σ : XS} {pc : Nat} {ls : Array Slot} {rest : List Value} (cx : xx_X "StruckCounts" cc nL ret E p s m args meth c) (hR : xR E σ H) (hS0 : va_S (xA E) s.heap H locs) {a : Nat} {r : Option Nat} {v : Int32} (hr : r = some a) (ha : xK ≤ a) (hk : kd σ a = 1) (hdg : decode cc pc = .ok (.putfield 100, 3)) (kk : ∀ (H1 : Heap) (locs1 : List Loc), xR E (pfi σ a 2 v) H1 → va_S (xA E) s.heap H1 locs1 → W p l e R s m args below meth c H1 locs1 cells slots Qz (F0 m (pc + 3) ls rest)) : W p l e R s m args below meth c H locs cells slots Qz (F0 m pc ls (.int v :: xv E r :: rest)) :=
  x_put (ci := 0) cx hR hS0 hr ha hk (by decide) rfl in_X0 tyX0 tyX0_ok nmX0 2 (by decide) (Or.inl ⟨q573, rfl⟩) (fun _ h => h) rfl rfl (xput_i rfl) hdg kk
theorem xn_X0_103 {l : Launch} {p : Program} {e : Env} {R : Room} {s : State} {m : MethodId} {args : Array Value} {below : List Frame} {meth : Method} {c : Code} {H : Heap} {locs : List Loc} {cells slots : Nat} {Qz : State → Prop} {cc : ByteArray} {nL : Nat} {ret : Option FieldType} {E : xx_E} {σ : XS} {pc : Nat} {ls : Array Slot} {rest : List Value} (cx : xx_X "StruckCounts" cc nL ret E p s m args meth c) (hR : xR E σ H) (hS0 : va_S (xA E) s.heap H locs) (hcells : cells + 1 ≤ R.cells) (hslots : slots + 9 ≤ R.slots) (hdg : decode cc pc = .ok (.new 103, 3)) (kk : ∀ (H1 : Heap), xR E (xal σ 4 0) H1 → va_S (xA E) s.heap H1 locs → W p l e R s m args below meth c H1 locs (cells + 1) (slots + 9) Qz (F0 m (pc + 3) ls (xv E (some (xn σ)) :: rest))) : W p l e R s m args below meth c H locs cells slots Qz (F0 m pc ls rest) :=
  x_new cx hR hS0 3 (by decide) rfl in_X4 tyX4 tyX4_ok q664 q665 q173 (fun j hj => by
    match j, hj with
    | 0, _ => exact xnew_r rfl
    | 1, _ => exact xnew_i rfl
    | 2, _ => exact xnew_r rfl
    | 3, _ => exact xnew_i rfl
    | 4, _ => exact xnew_i rfl
    | 5, _ => exact xnew_i rfl
    | 6, _ => exact xnew_i rfl
    | 7, _ => exact xnew_i rfl
    | 8, _ => exact xnew_r rfl) hcells hslots hdg kk
theorem CX4_init_X0_105 {l : Launch} {p : Program} {e : Env} {R : Room} {s : State} {m : MethodId} {args : Array Value} {below : List Frame} {meth : Method} {c : Code} {H : Heap} {locs : List Loc} {cells slots : Nat} {Qz : State → Prop} {cc : ByteArray} {nL : Nat} {ret : Option FieldType} {E : xx_E} {σ : XS} {pc : Nat} {ls : Array Slot} {rest : List Value} {th : Nat} {x1 : Option Nat} {x2 : Int32} {x3 : Option Nat} {k n : Nat} (cx : xx_X "StruckCounts" cc nL ret E p s m args meth c) (hR0 : xR E σ H) (hS0 : va_S (xA E) s.heap H locs) {r0 : Option Nat} (hr : r0 = some th) (hk : kd σ th = 4) {Qf : XS → Prop} (hw : wX4_init th x1 x2 x3 k n σ Qf) (hR : (({ frames := 7, cells := k, slots := n, locals := 280 } : Room)).frames + 1 ≤ R.frames ∧ 8 + (4 + 11) + (({ frames := 7, cells := k, slots := n, locals := 280 } : Room)).locals ≤ R.locals) (hrest : rest.length ≤ 4) (hsize : ls.size = nL) (hf : cells + k ≤ R.cells ∧ slots + n ≤ R.slots) (hdg : decode cc pc = .ok (.invokespecial 105, 3))
    (kk : ∀ (σ1 : XS) (H1 : Heap) (locs1 : List Loc), Qf σ1 → xR E σ1 H1 → va_S (xA E) s.heap H1 locs1 → W p l e R s m args below meth c H1 locs1 (cells + k) (slots + n) Qz (F0 m (pc + 3) ls rest)) : W p l e R s m args below meth c H locs cells slots Qz (F0 m pc ls (xv E x3 :: .int x2 :: xv E x1 :: xv E r0 :: rest)) := by
  subst hr
  obtain ⟨hx, hb, hml, hown, hts, hrt, hlk, hK, hZ⟩ := id cx
  exact x_gov (va_runI (As := [xv E x1, .int x2, xv E x3]) (rest := rest) (x_fix cx) (MX4_init l E th x1 x2 x3 k n σ Qf hw) (cwI 3 hts (lw_meth q668) rfl rfl rfl (hts _ q173) (hts _ q666) (hts _ q667) rfl (by decide +kernel) hR) ⟨xblind, x_pre cx hR0 hS0 (.ref (xr E th) :: [xv E x1, .int x2, xv E x3])⟩ rfl rfl hsize rfl (lv_room (xroom hrest)) hdg hf) hS0 kk
def wX0_reads (th : Nat) (x1 : Option Nat) (bc : Nat) (bs : Nat) (σ : XS) (Q : Option Nat → XS → Prop) : Prop :=
  kd σ th = 1 ∧ (∀ v2 : Int32, v2 = (fi σ th 1) → xK ≤ th ∧ (1 ≤ bc ∧ 9 ≤ bs ∧ (kd (xal (pfi (pfi (pfi σ th 1 (0 : Int32)) th 2 (0 : Int32)) th 3 (-1 : Int32)) 4 0) th = 1 ∧ (kd (xal (pfi (pfi (pfi σ th 1 (0 : Int32)) th 2 (0 : Int32)) th 3 (-1 : Int32)) 4 0) (xn (pfi (pfi (pfi σ th 1 (0 : Int32)) th 2 (0 : Int32)) th 3 (-1 : Int32))) = 4 ∧ (∃ k6 n6 : Nat, k6 ≤ (bc - 1) ∧ n6 ≤ (bs - 9) ∧ (wX4_init (xn (pfi (pfi (pfi σ th 1 (0 : Int32)) th 2 (0 : Int32)) th 3 (-1 : Int32))) (fr (xal (pfi (pfi (pfi σ th 1 (0 : Int32)) th 2 (0 : Int32)) th 3 (-1 : Int32)) 4 0) th 0) v2 x1 k6 n6 (xal (pfi (pfi (pfi σ th 1 (0 : Int32)) th 2 (0 : Int32)) th 3 (-1 : Int32)) 4 0) (fun s4 => Q (some (xn (pfi (pfi (pfi σ th 1 (0 : Int32)) th 2 (0 : Int32)) th 3 (-1 : Int32)))) s4)))))))
set_option maxHeartbeats 4000000 in
theorem MX0_reads (l : Launch) (E : xx_E) (th : Nat) (x1 : Option Nat) (bc : Nat) (bs : Nat) (σ : XS) (Q : Option Nat → XS → Prop) (hw : wX0_reads th x1 bc bs σ Q) : xx_Mr l yX0_reads (ws_ yX0_reads cX0_reads 3 (some (.object "StruckCounts$Reader"))) ({ frames := 8, cells := bc, slots := bs, locals := 320 } : Room) E [xv E (some th), xv E x1] σ Q bc bs := by
  refine x_of (own := "StruckCounts") (by decide +kernel) rfl ?_
  intro p e s m args below meth c cx hR ha hnm
  refine x_entry [xv E (some th), xv E x1] 3 [(0, xv E (some th)), (1, xv E x1)] ha (by simp [lg_sl, xv_cat, vc_i, vc_j, vc_f]) (by simp [lv_args, xv_cat, vc_i, vc_j, vc_f]) (fun ls hl => ?_)
  have hS : va_S (xA E) s.heap s.heap [] := va_S.rf
  have hcb : 0 + bc ≤ bc := Nat.le_of_eq (Nat.zero_add _)
  have hsb : 0 + bs ≤ bs := Nat.le_of_eq (Nat.zero_add _)
  unfold wX0_reads at hw
  obtain ⟨hx, hb, hml, hown, hts, hrt, hlk, hMK, hZ⟩ := id cx
  refine x_aload_n cx dX0_reads_0 rfl (lv_at hl 0 rfl) ?_
  obtain ⟨hk1, hw⟩ := hw
  refine xg_X0_93_1 cx hR rfl hk1 dX0_reads_1 ?_
  refine lv_topi (fun v2 hv2 => ?_)
  have hw := hw v2 hv2
  refine lv_istore_n (i := 2) (lv' := [(2, .int v2), (0, xv E (some th)), (1, xv E x1)]) hx hb dX0_reads_4 rfl hl (by decide) (by simp [xv_cat]) (fun ls hl => ?_)
  refine x_aload_n cx dX0_reads_5 rfl (lv_at hl 1 rfl) ?_
  refine lv_iconst (v := (0 : Int32)) hx hb dX0_reads_6 (by decide) ?_
  obtain ⟨hge_th, hw⟩ := hw
  refine xp_X0_93_1 (v := (0 : Int32)) cx hR hS rfl hge_th hk1 dX0_reads_7 (fun H locs hR hS => ?_)
  refine x_aload_n cx dX0_reads_10 rfl (lv_at hl 1 rfl) ?_
  refine lv_iconst (v := (0 : Int32)) hx hb dX0_reads_11 (by decide) ?_
  refine xp_X0_100_1 (v := (0 : Int32)) cx hR hS rfl hge_th hk1 dX0_reads_12 (fun H locs hR hS => ?_)
  refine x_aload_n cx dX0_reads_15 rfl (lv_at hl 1 rfl) ?_
  refine lv_iconst (v := (-1 : Int32)) hx hb dX0_reads_16 (by decide) ?_
  refine xp_X0_13_1 (v := (-1 : Int32)) cx hR hS rfl hge_th hk1 dX0_reads_17 (fun H locs hR hS => ?_)
  obtain ⟨hb1, hb2, hw⟩ := hw
  refine xn_X0_103 cx hR hS (by dsimp only; omega) (by dsimp only; omega) dX0_reads_20 (fun H hR hS => ?_)
  have hcb := xadd hb1 hcb
  have hsb := xadd hb2 hsb
  refine lv_dup hx hb dX0_reads_23 (xv_cat _ _) ?_
  refine x_aload_n cx dX0_reads_24 rfl (lv_at hl 1 rfl) ?_
  obtain ⟨hk3, hw⟩ := hw
  refine xg_X0_9_1 cx hR rfl hk3 dX0_reads_25 ?_
  refine lv_iload_n hx hb dX0_reads_28 rfl (lv_at hl 0 rfl) ?_
  refine x_aload_n cx dX0_reads_29 rfl (lv_at hl 2 rfl) ?_
  obtain ⟨hk5, hw⟩ := hw
  obtain ⟨k6, n6, hb1, hb2, hw⟩ := hw
  refine CX4_init_X0_105 cx hR hS rfl hk5 hw ⟨Nat.le_of_ble_eq_true rfl, Nat.le_of_ble_eq_true rfl⟩ (Nat.le_of_ble_eq_true rfl) hl.1 ⟨by dsimp only; omega, by dsimp only; omega⟩ dX0_reads_30 (fun s4 H locs hw hR hS => ?_)
  have hcb := xadd hb1 hcb
  have hsb := xadd hb2 hsb
  exact x_aret cx (by first | exact Or.inl ⟨_, rfl⟩ | exact Or.inr ⟨_, rfl⟩) hR hS (xle hcb) (xle hsb) hw dX0_reads_33
-- J19_equals
def wJ19_equals_9 (Q : Int32 → XS → Prop) (K9 : Option Nat → Option Nat → Int32 → XS → Prop) (x0 : Option Nat) (x1 : Option Nat) (x2 : Int32) (σ : XS) : Prop :=
  oc σ x0 102 (fun a1 => if (nI (ln σ a1)) ≤ x2 then (Q (1 : Int32) σ) else (vp_in x2 (ln σ a1) ∧ (oc σ x1 102 (fun a2 => vp_in x2 (ln σ a2) ∧ (if (ai σ a1 x2.toNatClampNeg) = (ai σ a2 x2.toNatClampNeg) then (∀ v3 : Int32, v3 = x2 + (1 : Int32) → K9 x0 x1 v3 σ) else (Q (0 : Int32) σ))))))
set_option maxHeartbeats 4000000 in
theorem BJ19_equals_9 {l : Launch} {p : Program} {e : Env} {s : State} {m : MethodId} {args : Array Value} {below : List Frame} {meth : Method} {c : Code} {E : xx_E} {Q : Int32 → XS → Prop} {K9 : Option Nat → Option Nat → Int32 → XS → Prop} (cx : xx_X "java/lang/StringLatin1" cJ19_equals 3 (some .boolean) E p s m args meth c) (hK9 : ∀ (x0 : Option Nat) (x1 : Option Nat) (x2 : Int32) (σ : XS), K9 x0 x1 x2 σ → x_T p l e ({ frames := 0, cells := 0, slots := 0, locals := 0 } : Room) s m args below meth c E (va_Qi Q (fun σ' t => xW E σ' t) (xA E)) 0 0 3 9 0 0 σ [(0, xv E x0), (1, xv E x1), (2, .int x2)] []) : ∀ (x0 : Option Nat) (x1 : Option Nat) (x2 : Int32) (σ : XS), wJ19_equals_9 Q K9 x0 x1 x2 σ → x_T p l e ({ frames := 0, cells := 0, slots := 0, locals := 0 } : Room) s m args below meth c E (va_Qi Q (fun σ' t => xW E σ' t) (xA E)) 0 0 3 9 0 0 σ [(0, xv E x0), (1, xv E x1), (2, .int x2)] [] := by
  intro x0 x1 x2 σ hw H locs ls cells slots hR hS hl hcb hsb
  unfold wJ19_equals_9 at hw
  obtain ⟨hx, hb, hml, hown, hts, hrt, hlk, hMK, hZ⟩ := id cx
  refine lv_iload_n hx hb dJ19_equals_9 rfl (lv_at hl 2 rfl) ?_
  refine x_aload_n cx dJ19_equals_10 rfl (lv_at hl 0 rfl) ?_
  obtain ⟨a1, hr1, hk1, hw⟩ := hw
  refine x_alen cx hR hr1 2 hk1 (by decide) dJ19_equals_11 ?_
  refine lv_icmp_ge (tgt := 32) hx hb dJ19_equals_12 (by decide) (fun hc => ?_) (fun hc => ?_)
  · have hw := mm_ip hc hw
    refine lv_iconst (v := (1 : Int32)) hx hb dJ19_equals_32 (by decide) ?_
    exact x_nret cx hR hS (xle hcb) (xle hsb) (zb_nar (Or.inr rfl)) hw dJ19_equals_33
  · have hw := mm_in hc hw
    refine x_aload_n cx dJ19_equals_15 rfl (lv_at hl 0 rfl) ?_
    refine lv_iload_n hx hb dJ19_equals_16 rfl (lv_at hl 2 rfl) ?_
    obtain ⟨hi, hw⟩ := hw
    refine x_bald cx hR hr1 hk1 (j := x2.toNatClampNeg) rfl hi dJ19_equals_17 ?_
    refine x_aload_n cx dJ19_equals_18 rfl (lv_at hl 1 rfl) ?_
    refine lv_iload_n hx hb dJ19_equals_19 rfl (lv_at hl 2 rfl) ?_
    obtain ⟨a2, hr2, hk2, hw⟩ := hw
    obtain ⟨hi, hw⟩ := hw
    refine x_bald cx hR hr2 hk2 (j := x2.toNatClampNeg) rfl hi dJ19_equals_20 ?_
    refine lv_icmp_eq (tgt := 26) hx hb dJ19_equals_21 (by decide) (fun hc => ?_) (fun hc => ?_)
    · have hw := mm_ip hc hw
      obtain ⟨v3, hv3⟩ : ∃ v : Int32, v = x2 + (1 : Int32) := ⟨_, rfl⟩
      have hw := hw v3 hv3
      refine lv_iinc (v := v3) (lv' := [(2, .int v3), (0, xv E x0), (1, xv E x1)]) hx hb dJ19_equals_26 hl (k := 2) rfl (by rw [hv3]; rfl) (by decide) (by simp [xv_cat]) (fun ls hl => ?_)
      refine lv_goto (tgt := 9) hx hb dJ19_equals_29 (by decide) ?_
      exact hK9 _ _ _ _ hw _ _ _ _ _ hR hS (lv_sub hl [1, 2, 0] rfl) hcb hsb
    · have hw := mm_in hc hw
      refine lv_iconst (v := (0 : Int32)) hx hb dJ19_equals_24 (by decide) ?_
      exact x_nret cx hR hS (xle hcb) (xle hsb) (zb_nar (Or.inl rfl)) hw dJ19_equals_25
theorem LJ19_equals_9 {l : Launch} {p : Program} {e : Env} {s : State} {m : MethodId} {args : Array Value} {below : List Frame} {meth : Method} {c : Code} {E : xx_E} {Q : Int32 → XS → Prop} (cx : xx_X "java/lang/StringLatin1" cJ19_equals 3 (some .boolean) E p s m args meth c) : ∀ (x0 : Option Nat) (x1 : Option Nat) (x2 : Int32) (σ : XS), lp4F (wJ19_equals_9 Q) x0 x1 x2 σ → x_T p l e ({ frames := 0, cells := 0, slots := 0, locals := 0 } : Room) s m args below meth c E (va_Qi Q (fun σ' t => xW E σ' t) (xA E)) 0 0 3 9 0 0 σ [(0, xv E x0), (1, xv E x1), (2, .int x2)] [] :=
  lp4F_of (fun K hK => BJ19_equals_9 cx hK)
def wJ19_equals (x0 : Option Nat) (x1 : Option Nat) (σ : XS) (Q : Int32 → XS → Prop) : Prop :=
  oc σ x0 102 (fun a4 => oc σ x1 102 (fun a5 => if (nI (ln σ a4)) = (nI (ln σ a5)) then (lp4F (wJ19_equals_9 Q) x0 x1 (0 : Int32) σ) else (Q (0 : Int32) σ)))
set_option maxHeartbeats 4000000 in
theorem MJ19_equals (l : Launch) (E : xx_E) (x0 : Option Nat) (x1 : Option Nat) (σ : XS) (Q : Int32 → XS → Prop) (hw : wJ19_equals x0 x1 σ Q) : xx_Mi l yJ19_equals (ws_ yJ19_equals cJ19_equals 3 (some .boolean)) ({ frames := 0, cells := 0, slots := 0, locals := 0 } : Room) E [xv E x0, xv E x1] σ Q 0 0 := by
  refine x_of (own := "java/lang/StringLatin1") (by decide +kernel) rfl ?_
  intro p e s m args below meth c cx hR ha hnm
  refine x_entry [xv E x0, xv E x1] 3 [(0, xv E x0), (1, xv E x1)] ha (by simp [lg_sl, xv_cat, vc_i, vc_j, vc_f]) (by simp [lv_args, xv_cat, vc_i, vc_j, vc_f]) (fun ls hl => ?_)
  have hS : va_S (xA E) s.heap s.heap [] := va_S.rf
  have hcb : 0 + 0 ≤ 0 := Nat.le_of_eq (Nat.zero_add _)
  have hsb : 0 + 0 ≤ 0 := Nat.le_of_eq (Nat.zero_add _)
  unfold wJ19_equals at hw
  obtain ⟨hx, hb, hml, hown, hts, hrt, hlk, hMK, hZ⟩ := id cx
  refine x_aload_n cx dJ19_equals_0 rfl (lv_at hl 0 rfl) ?_
  obtain ⟨a4, hr4, hk4, hw⟩ := hw
  refine x_alen cx hR hr4 2 hk4 (by decide) dJ19_equals_1 ?_
  refine x_aload_n cx dJ19_equals_2 rfl (lv_at hl 1 rfl) ?_
  obtain ⟨a5, hr5, hk5, hw⟩ := hw
  refine x_alen cx hR hr5 2 hk5 (by decide) dJ19_equals_3 ?_
  refine lv_icmp_ne (tgt := 34) hx hb dJ19_equals_4 (by decide) (fun hc => ?_) (fun hc => ?_)
  · have hw := mm_in hc hw
    refine lv_iconst (v := (0 : Int32)) hx hb dJ19_equals_34 (by decide) ?_
    exact x_nret cx hR hS (xle hcb) (xle hsb) (zb_nar (Or.inl rfl)) hw dJ19_equals_35
  · have hw := mm_ip hc hw
    refine lv_iconst (v := (0 : Int32)) hx hb dJ19_equals_7 (by decide) ?_
    refine lv_istore_n (i := 2) (lv' := [(2, .int (0 : Int32)), (0, xv E x0), (1, xv E x1)]) hx hb dJ19_equals_8 rfl hl (by decide) (by simp [xv_cat]) (fun ls hl => ?_)
    exact LJ19_equals_9 cx _ _ _ _ hw _ _ _ _ _ hR hS (lv_sub hl [1, 2, 0] rfl) hcb hsb
-- J14_equals
theorem xcc_3 {σ : XS} {r : Option Nat} (h : xck [22] σ r) : ∀ a, r = some a → xcl σ "java/lang/String" a := by
  intro a ha
  have h := h a ha
  have h : kd σ a = 22 := by simpa using h
  rcases h with h
  · exact ⟨21, _, h, by decide, rfl, by decide⟩
theorem CJ19_equals_J14_541 {l : Launch} {p : Program} {e : Env} {R : Room} {s : State} {m : MethodId} {args : Array Value} {below : List Frame} {meth : Method} {c : Code} {H : Heap} {locs : List Loc} {cells slots : Nat} {Qz : State → Prop} {cc : ByteArray} {nL : Nat} {ret : Option FieldType} {E : xx_E} {σ : XS} {pc : Nat} {ls : Array Slot} {rest : List Value} {x0 : Option Nat} {x1 : Option Nat} (cx : xx_X "java/lang/String" cc nL ret E p s m args meth c) (hR0 : xR E σ H) (hS0 : va_S (xA E) s.heap H locs) {Qf : Int32 → XS → Prop} (hw : wJ19_equals x0 x1 σ Qf) (hR : (({ frames := 0, cells := 0, slots := 0, locals := 0 } : Room)).frames + 1 ≤ R.frames ∧ 8 + (3 + 11) + (({ frames := 0, cells := 0, slots := 0, locals := 0 } : Room)).locals ≤ R.locals) (hrest : rest.length ≤ 4) (hsize : ls.size = nL) (hf : cells + 0 ≤ R.cells ∧ slots + 0 ≤ R.slots) (hdg : decode cc pc = .ok (.invokestatic 541, 3))
    (kk : ∀ (r : Int32) (σ1 : XS) (H1 : Heap) (locs1 : List Loc), Qf r σ1 → xR E σ1 H1 → va_S (xA E) s.heap H1 locs1 → W p l e R s m args below meth c H1 locs1 (cells + 0) (slots + 0) Qz (F0 m (pc + 3) ls (.int r :: rest))) : W p l e R s m args below meth c H locs cells slots Qz (F0 m pc ls (xv E x1 :: xv E x0 :: rest)) := by
  obtain ⟨hx, hb, hml, hown, hts, hrt, hlk, hK, hZ⟩ := id cx
  exact x_goi (va_runS (As := [xv E x0, xv E x1]) (rest := rest) (x_fix cx) (MJ19_equals l E x0 x1 σ Qf hw) (va_cwS 2 hts (lw_S q977 q978 q182 q979) rfl rfl rfl (by decide +kernel) hR) ⟨xblind, x_pre cx hR0 hS0 [xv E x0, xv E x1]⟩ rfl rfl hsize rfl (lv_room (xroom hrest)) hdg hf) hS0 kk
def wJ14_equals (th : Nat) (x1 : Option Nat) (σ : XS) (Q : Int32 → XS → Prop) : Prop :=
  xok (some th) x1 ∧ (if (some th) = x1 then (Q (1 : Int32) σ) else (oc σ x1 22 (fun a1 => xck [22] σ x1 ∧ (kd σ th = 22 ∧ (if (fi σ th 1) = (fi σ a1 1) then (wJ19_equals (fr σ th 0) (fr σ a1 0) σ (fun r3 s3 => if r3 = 0 then (Q (0 : Int32) s3) else (Q (1 : Int32) s3))) else (Q (0 : Int32) σ))))))
set_option maxHeartbeats 4000000 in
theorem MJ14_equals (l : Launch) (E : xx_E) (th : Nat) (x1 : Option Nat) (σ : XS) (Q : Int32 → XS → Prop) (hw : wJ14_equals th x1 σ Q) : xx_Mi l yJ14_equals (ws_ yJ14_equals cJ14_equals 3 (some .boolean)) ({ frames := 1, cells := 0, slots := 0, locals := 40 } : Room) E [xv E (some th), xv E x1] σ Q 0 0 := by
  refine x_of (own := "java/lang/String") (by decide +kernel) rfl ?_
  intro p e s m args below meth c cx hR ha hnm
  refine x_entry [xv E (some th), xv E x1] 3 [(0, xv E (some th)), (1, xv E x1)] ha (by simp [lg_sl, xv_cat, vc_i, vc_j, vc_f]) (by simp [lv_args, xv_cat, vc_i, vc_j, vc_f]) (fun ls hl => ?_)
  have hS : va_S (xA E) s.heap s.heap [] := va_S.rf
  have hcb : 0 + 0 ≤ 0 := Nat.le_of_eq (Nat.zero_add _)
  have hsb : 0 + 0 ≤ 0 := Nat.le_of_eq (Nat.zero_add _)
  unfold wJ14_equals at hw
  obtain ⟨hx, hb, hml, hown, hts, hrt, hlk, hMK, hZ⟩ := id cx
  refine x_aload_n cx dJ14_equals_0 rfl (lv_at hl 0 rfl) ?_
  refine x_aload_n cx dJ14_equals_1 rfl (lv_at hl 1 rfl) ?_
  obtain ⟨hok, hw⟩ := hw
  refine x_acmp_ne (tgt := 7) cx hok dJ14_equals_2 (by decide) (fun hc => ?_) (fun hc => ?_)
  · have hw := mm_in hc hw
    refine x_aload_n cx dJ14_equals_7 rfl (lv_at hl 1 rfl) ?_
    obtain ⟨a1, hr1, hk1, hw⟩ := hw
    refine x_instY cx hR hr1 hk1 (by decide) rfl q976 rfl dJ14_equals_8 ?_
    refine lv_if_eq (tgt := 54) hx hb dJ14_equals_11 (by decide) (fun hc => ?_) (fun hc => ?_)
    · exact absurd hc (by decide)
    refine x_aload_n cx dJ14_equals_14 rfl (lv_at hl 1 rfl) ?_
    obtain ⟨hv, hw⟩ := hw
    refine x_cast cx hR q976 (xcc_3 hv) dJ14_equals_15 ?_
    refine x_astore_n (i := 2) (r := x1) (lv' := [(2, xv E x1), (0, xv E (some th)), (1, xv E x1)]) cx dJ14_equals_18 rfl hl (by decide) (by simp [xv_cat]) (fun ls hl => ?_)
    refine va_gets (v := .int 1) (C := "java/lang/String") (n := "COMPACT_STRINGS") (d := "Z") hx hb hZ.1 hS hown (hts _ q840) (fun _ h => h) dJ14_equals_19 ?_
    refine lv_if_eq (tgt := 36) hx hb dJ14_equals_22 (by decide) (fun hc => ?_) (fun hc => ?_)
    · exact absurd hc (by decide)
    refine x_aload_n cx dJ14_equals_25 rfl (lv_at hl 1 rfl) ?_
    obtain ⟨hk2, hw⟩ := hw
    refine xg_J14_15_22 cx hR rfl hk2 dJ14_equals_26 ?_
    refine x_aload_n cx dJ14_equals_29 rfl (lv_at hl 0 rfl) ?_
    refine xg_J14_15_22 cx hR hr1 hk1 dJ14_equals_30 ?_
    refine lv_icmp_ne (tgt := 54) hx hb dJ14_equals_33 (by decide) (fun hc => ?_) (fun hc => ?_)
    · have hw := mm_in hc hw
      refine lv_iconst (v := (0 : Int32)) hx hb dJ14_equals_54 (by decide) ?_
      exact x_nret cx hR hS (xle hcb) (xle hsb) (zb_nar (Or.inl rfl)) hw dJ14_equals_55
    · have hw := mm_ip hc hw
      refine x_aload_n cx dJ14_equals_36 rfl (lv_at hl 1 rfl) ?_
      refine xg_J14_9_22 cx hR rfl hk2 dJ14_equals_37 ?_
      refine x_aload_n cx dJ14_equals_40 rfl (lv_at hl 0 rfl) ?_
      refine xg_J14_9_22 cx hR hr1 hk1 dJ14_equals_41 ?_
      refine CJ19_equals_J14_541 cx hR hS  hw ⟨Nat.le_of_ble_eq_true rfl, Nat.le_of_ble_eq_true rfl⟩ (Nat.le_of_ble_eq_true rfl) hl.1 ⟨by dsimp only; omega, by dsimp only; omega⟩ dJ14_equals_44 (fun r3 s3 H locs hw hR hS => ?_)
      refine lv_if_eq (tgt := 54) hx hb dJ14_equals_47 (by decide) (fun hc => ?_) (fun hc => ?_)
      · have hw := mm_ip hc hw
        refine lv_iconst (v := (0 : Int32)) hx hb dJ14_equals_54 (by decide) ?_
        exact x_nret cx hR hS (xle hcb) (xle hsb) (zb_nar (Or.inl rfl)) hw dJ14_equals_55
      · have hw := mm_in hc hw
        refine lv_iconst (v := (1 : Int32)) hx hb dJ14_equals_50 (by decide) ?_
        refine lv_goto (tgt := 55) hx hb dJ14_equals_51 (by decide) ?_
        exact x_nret cx hR hS (xle hcb) (xle hsb) (zb_nar (Or.inr rfl)) hw dJ14_equals_55
  · have hw := mm_ip hc hw
    refine lv_iconst (v := (1 : Int32)) hx hb dJ14_equals_5 (by decide) ?_
    exact x_nret cx hR hS (xle hcb) (xle hsb) (zb_nar (Or.inr rfl)) hw dJ14_equals_6
-- X4_isWord
theorem xg_X4_45_4 {l : Launch} {p : Program} {e : Env} {R : Room} {s : State} {m : MethodId} {args : Array Value} {below : List Frame} {meth : Method} {c : Code} {H : Heap} {locs : List Loc} {cells slots : Nat} {Qz : State → Prop} {cc : ByteArray} {nL : Nat} {ret : Option FieldType} {E : xx_E} {σ : XS} {pc : Nat} {ls : Array Slot} {rest : List Value} (cx : xx_X "StruckCounts$Reader" cc nL ret E p s m args meth c) (hR : xR E σ H) {a : Nat} {r : Option Nat} (hr : r = some a) (hk : kd σ a = 4) (hdg : decode cc pc = .ok (.getfield 45, 3)) (kk : W p l e R s m args below meth c H locs cells slots Qz (F0 m (pc + 3) ls (.int (fi σ a 5) :: rest))) : W p l e R s m args below meth c H locs cells slots Qz (F0 m pc ls (xv E r :: rest)) :=
  x_get (ci := 3) cx hR hr hk (by decide) rfl in_X4 5 (by decide) q940 (fun _ h => h) (v := .int (fi σ a 5)) rfl hdg kk
theorem CJ14_equals_X4_79 {l : Launch} {p : Program} {e : Env} {R : Room} {s : State} {m : MethodId} {args : Array Value} {below : List Frame} {meth : Method} {c : Code} {H : Heap} {locs : List Loc} {cells slots : Nat} {Qz : State → Prop} {cc : ByteArray} {nL : Nat} {ret : Option FieldType} {E : xx_E} {σ : XS} {pc : Nat} {ls : Array Slot} {rest : List Value} {th : Nat} {x1 : Option Nat} (cx : xx_X "StruckCounts$Reader" cc nL ret E p s m args meth c) (hR0 : xR E σ H) (hS0 : va_S (xA E) s.heap H locs) {r0 : Option Nat} (hr : r0 = some th) (hk : kd σ th = 22) {Qf : Int32 → XS → Prop} (hw : wJ14_equals th x1 σ Qf) (hR : (({ frames := 1, cells := 0, slots := 0, locals := 40 } : Room)).frames + 1 ≤ R.frames ∧ 8 + (3 + 11) + (({ frames := 1, cells := 0, slots := 0, locals := 40 } : Room)).locals ≤ R.locals) (hrest : rest.length ≤ 4) (hsize : ls.size = nL) (hf : cells + 0 ≤ R.cells ∧ slots + 0 ≤ R.slots) (hdg : decode cc pc = .ok (.invokevirtual 79, 3))
    (kk : ∀ (r : Int32) (σ1 : XS) (H1 : Heap) (locs1 : List Loc), Qf r σ1 → xR E σ1 H1 → va_S (xA E) s.heap H1 locs1 → W p l e R s m args below meth c H1 locs1 (cells + 0) (slots + 0) Qz (F0 m (pc + 3) ls (.int r :: rest))) : W p l e R s m args below meth c H locs cells slots Qz (F0 m pc ls (xv E x1 :: xv E r0 :: rest)) := by
  subst hr
  obtain ⟨hx, hb, hml, hown, hts, hrt, hlk, hK, hZ⟩ := id cx
  exact x_goi (va_runV (As := [xv E x1]) (rest := rest) (x_fix cx) (MJ14_equals l E th x1 σ Qf hw) (cwV 1 hts (lw_V q972 q973 q974 q176 q975) rfl rfl rfl (by decide +kernel) hR) (x_preV cx hR0 hS0 hk (by decide) (q := (RJ14, TJ14, 4)) rfl rfl [xv E x1]) rfl rfl hsize rfl (lv_room (xroom hrest)) hdg hf) hS0 kk
def wX4_isWord (th : Nat) (x1 : Option Nat) (σ : XS) (Q : Int32 → XS → Prop) : Prop :=
  kd σ th = 4 ∧ (if (fi σ th 5) = (1 : Int32) then (oc σ (fr σ th 8) 22 (fun a3 => wJ14_equals a3 x1 σ (fun r2 s2 => if r2 = 0 then (Q (0 : Int32) s2) else (Q (1 : Int32) s2)))) else (Q (0 : Int32) σ))
set_option maxHeartbeats 4000000 in
theorem MX4_isWord (l : Launch) (E : xx_E) (th : Nat) (x1 : Option Nat) (σ : XS) (Q : Int32 → XS → Prop) (hw : wX4_isWord th x1 σ Q) : xx_Mi l yX4_isWord (ws_ yX4_isWord cX4_isWord 2 (some .boolean)) ({ frames := 2, cells := 0, slots := 0, locals := 80 } : Room) E [xv E (some th), xv E x1] σ Q 0 0 := by
  refine x_of (own := "StruckCounts$Reader") (by decide +kernel) rfl ?_
  intro p e s m args below meth c cx hR ha hnm
  refine x_entry [xv E (some th), xv E x1] 2 [(0, xv E (some th)), (1, xv E x1)] ha (by simp [lg_sl, xv_cat, vc_i, vc_j, vc_f]) (by simp [lv_args, xv_cat, vc_i, vc_j, vc_f]) (fun ls hl => ?_)
  have hS : va_S (xA E) s.heap s.heap [] := va_S.rf
  have hcb : 0 + 0 ≤ 0 := Nat.le_of_eq (Nat.zero_add _)
  have hsb : 0 + 0 ≤ 0 := Nat.le_of_eq (Nat.zero_add _)
  unfold wX4_isWord at hw
  obtain ⟨hx, hb, hml, hown, hts, hrt, hlk, hMK, hZ⟩ := id cx
  refine x_aload_n cx dX4_isWord_0 rfl (lv_at hl 0 rfl) ?_
  obtain ⟨hk1, hw⟩ := hw
  refine xg_X4_45_4 cx hR rfl hk1 dX4_isWord_1 ?_
  refine lv_iconst (v := (1 : Int32)) hx hb dX4_isWord_4 (by decide) ?_
  refine lv_icmp_ne (tgt := 23) hx hb dX4_isWord_5 (by decide) (fun hc => ?_) (fun hc => ?_)
  · have hw := mm_in hc hw
    refine lv_iconst (v := (0 : Int32)) hx hb dX4_isWord_23 (by decide) ?_
    exact x_nret cx hR hS (xle hcb) (xle hsb) (zb_nar (Or.inl rfl)) hw dX4_isWord_24
  · have hw := mm_ip hc hw
    refine x_aload_n cx dX4_isWord_8 rfl (lv_at hl 0 rfl) ?_
    refine xg_X4_11_4 cx hR rfl hk1 dX4_isWord_9 ?_
    refine x_aload_n cx dX4_isWord_12 rfl (lv_at hl 1 rfl) ?_
    obtain ⟨a3, hr3, hk3, hw⟩ := hw
    refine CJ14_equals_X4_79 cx hR hS hr3 hk3 hw ⟨Nat.le_of_ble_eq_true rfl, Nat.le_of_ble_eq_true rfl⟩ (Nat.le_of_ble_eq_true rfl) hl.1 ⟨by dsimp only; omega, by dsimp only; omega⟩ dX4_isWord_13 (fun r2 s2 H locs hw hR hS => ?_)
    refine lv_if_eq (tgt := 23) hx hb dX4_isWord_16 (by decide) (fun hc => ?_) (fun hc => ?_)
    · have hw := mm_ip hc hw
      refine lv_iconst (v := (0 : Int32)) hx hb dX4_isWord_23 (by decide) ?_
      exact x_nret cx hR hS (xle hcb) (xle hsb) (zb_nar (Or.inl rfl)) hw dX4_isWord_24
    · have hw := mm_in hc hw
      refine lv_iconst (v := (1 : Int32)) hx hb dX4_isWord_19 (by decide) ?_
      refine lv_goto (tgt := 24) hx hb dX4_isWord_20 (by decide) ?_
      exact x_nret cx hR hS (xle hcb) (xle hsb) (zb_nar (Or.inr rfl)) hw dX4_isWord_24
-- J21_init_2F
theorem xp_J21_7_5 {l : Launch} {p : Program} {e : Env} {R : Room} {s : State} {m : MethodId} {args : Array Value} {below : List Frame} {meth : Method} {c : Code} {H : Heap} {locs : List Loc} {cells slots : Nat} {Qz : State → Prop} {cc : ByteArray} {nL : Nat} {ret : Option FieldType} {E : xx_E} {σ : XS} {pc : Nat} {ls : Array Slot} {rest : List Value} (cx : xx_X "java/lang/Throwable" cc nL ret E p s m args meth c) (hR : xR E σ H) (hS0 : va_S (xA E) s.heap H locs) {a : Nat} {r : Option Nat} {v : Option Nat} (hr : r = some a) (ha : xK ≤ a) (hk : kd σ a = 5) (hdg : decode cc pc = .ok (.putfield 7, 3)) (kk : ∀ (H1 : Heap) (locs1 : List Loc), xR E (pfr σ a 0 v) H1 → va_S (xA E) s.heap H1 locs1 → W p l e R s m args below meth c H1 locs1 cells slots Qz (F0 m (pc + 3) ls rest)) : W p l e R s m args below meth c H locs cells slots Qz (F0 m pc ls (xv E v :: xv E r :: rest)) :=
  x_put (ci := 4) cx hR hS0 hr ha hk (by decide) rfl in_X5 tyX5 tyX5_ok nmX5 0 (by decide) (Or.inl ⟨q1041, rfl⟩) (fun _ h => h) (by cases v <;> rfl) (by cases v <;> rfl) (xput_r rfl) hdg kk
theorem xp_J21_17_5 {l : Launch} {p : Program} {e : Env} {R : Room} {s : State} {m : MethodId} {args : Array Value} {below : List Frame} {meth : Method} {c : Code} {H : Heap} {locs : List Loc} {cells slots : Nat} {Qz : State → Prop} {cc : ByteArray} {nL : Nat} {ret : Option FieldType} {E : xx_E} {σ : XS} {pc : Nat} {ls : Array Slot} {rest : List Value} (cx : xx_X "java/lang/Throwable" cc nL ret E p s m args meth c) (hR : xR E σ H) (hS0 : va_S (xA E) s.heap H locs) {a : Nat} {r : Option Nat} {v : Option Nat} (hr : r = some a) (ha : xK ≤ a) (hk : kd σ a = 5) (hdg : decode cc pc = .ok (.putfield 17, 3)) (kk : ∀ (H1 : Heap) (locs1 : List Loc), xR E (pfr σ a 1 v) H1 → va_S (xA E) s.heap H1 locs1 → W p l e R s m args below meth c H1 locs1 cells slots Qz (F0 m (pc + 3) ls rest)) : W p l e R s m args below meth c H locs cells slots Qz (F0 m pc ls (xv E v :: xv E r :: rest)) :=
  x_put (ci := 4) cx hR hS0 hr ha hk (by decide) rfl in_X5 tyX5 tyX5_ok nmX5 1 (by decide) (Or.inl ⟨q1042, rfl⟩) (fun _ h => h) (by cases v <;> rfl) (by cases v <;> rfl) (xput_r rfl) hdg kk
theorem xp_J21_24_5 {l : Launch} {p : Program} {e : Env} {R : Room} {s : State} {m : MethodId} {args : Array Value} {below : List Frame} {meth : Method} {c : Code} {H : Heap} {locs : List Loc} {cells slots : Nat} {Qz : State → Prop} {cc : ByteArray} {nL : Nat} {ret : Option FieldType} {E : xx_E} {σ : XS} {pc : Nat} {ls : Array Slot} {rest : List Value} (cx : xx_X "java/lang/Throwable" cc nL ret E p s m args meth c) (hR : xR E σ H) (hS0 : va_S (xA E) s.heap H locs) {a : Nat} {r : Option Nat} {v : Option Nat} (hr : r = some a) (ha : xK ≤ a) (hk : kd σ a = 5) (hdg : decode cc pc = .ok (.putfield 24, 3)) (kk : ∀ (H1 : Heap) (locs1 : List Loc), xR E (pfr σ a 2 v) H1 → va_S (xA E) s.heap H1 locs1 → W p l e R s m args below meth c H1 locs1 cells slots Qz (F0 m (pc + 3) ls rest)) : W p l e R s m args below meth c H locs cells slots Qz (F0 m pc ls (xv E v :: xv E r :: rest)) :=
  x_put (ci := 4) cx hR hS0 hr ha hk (by decide) rfl in_X5 tyX5 tyX5_ok nmX5 2 (by decide) (Or.inl ⟨q1043, rfl⟩) (fun _ h => h) (by cases v <;> rfl) (by cases v <;> rfl) (xput_r rfl) hdg kk
theorem xp_J21_31_5 {l : Launch} {p : Program} {e : Env} {R : Room} {s : State} {m : MethodId} {args : Array Value} {below : List Frame} {meth : Method} {c : Code} {H : Heap} {locs : List Loc} {cells slots : Nat} {Qz : State → Prop} {cc : ByteArray} {nL : Nat} {ret : Option FieldType} {E : xx_E} {σ : XS} {pc : Nat} {ls : Array Slot} {rest : List Value} (cx : xx_X "java/lang/Throwable" cc nL ret E p s m args meth c) (hR : xR E σ H) (hS0 : va_S (xA E) s.heap H locs) {a : Nat} {r : Option Nat} {v : Option Nat} (hr : r = some a) (ha : xK ≤ a) (hk : kd σ a = 5) (hdg : decode cc pc = .ok (.putfield 31, 3)) (kk : ∀ (H1 : Heap) (locs1 : List Loc), xR E (pfr σ a 3 v) H1 → va_S (xA E) s.heap H1 locs1 → W p l e R s m args below meth c H1 locs1 cells slots Qz (F0 m (pc + 3) ls rest)) : W p l e R s m args below meth c H locs cells slots Qz (F0 m pc ls (xv E v :: xv E r :: rest)) :=
  x_put (ci := 4) cx hR hS0 hr ha hk (by decide) rfl in_X5 tyX5 tyX5_ok nmX5 3 (by decide) (Or.inl ⟨q1040, rfl⟩) (fun _ h => h) (by cases v <;> rfl) (by cases v <;> rfl) (xput_r rfl) hdg kk
def wJ21_init_2F (th : Nat) (x1 : Option Nat) (x2 : Option Nat) (x3 : Int32) (x4 : Int32) (σ : XS) (Q : XS → Prop) : Prop :=
  kd σ th = 5 ∧ (xK ≤ th ∧ (∀ u2 : Option Nat, ∀ u3 : Option Nat, if x4 = 0 then (if x3 = 0 then (Q (pfr (pfr (pfr (pfr (pfr (pfr (pfr σ th 0 (some th)) th 1 u2) th 2 u3) th 1 none) th 3 x1) th 0 x2) th 2 none)) else (Q (pfr (pfr (pfr (pfr (pfr (pfr σ th 0 (some th)) th 1 u2) th 2 u3) th 1 none) th 3 x1) th 0 x2))) else False))
set_option maxHeartbeats 4000000 in
theorem MJ21_init_2F (l : Launch) (E : xx_E) (th : Nat) (x1 : Option Nat) (x2 : Option Nat) (x3 : Int32) (x4 : Int32) (σ : XS) (Q : XS → Prop) (hw : wJ21_init_2F th x1 x2 x3 x4 σ Q) : xx_Mv l yJ21_init_2 (ws_ yJ21_init_2 cJ21_init_2 5 none) ({ frames := 1, cells := 0, slots := 0, locals := 40 } : Room) E [xv E (some th), xv E x1, xv E x2, .int x3, .int x4] σ Q 0 0 := by
  refine x_of (own := "java/lang/Throwable") (by decide +kernel) rfl ?_
  intro p e s m args below meth c cx hR ha hnm
  refine x_entry [xv E (some th), xv E x1, xv E x2, .int x3, .int x4] 5 [(0, xv E (some th)), (1, xv E x1), (2, xv E x2), (3, .int x3), (4, .int x4)] ha (by simp [lg_sl, xv_cat, vc_i, vc_j, vc_f]) (by simp [lv_args, xv_cat, vc_i, vc_j, vc_f]) (fun ls hl => ?_)
  have hS : va_S (xA E) s.heap s.heap [] := va_S.rf
  have hcb : 0 + 0 ≤ 0 := Nat.le_of_eq (Nat.zero_add _)
  have hsb : 0 + 0 ≤ 0 := Nat.le_of_eq (Nat.zero_add _)
  have hini : meth.name = "<init>" := hnm
  unfold wJ21_init_2F at hw
  obtain ⟨hx, hb, hml, hown, hts, hrt, hlk, hMK, hZ⟩ := id cx
  refine x_aload_n cx dJ21_init_2_0 rfl (lv_at hl 0 rfl) ?_
  refine x_objinit cx hl.1 rfl q1011 (xroom12 (Nat.le_of_ble_eq_true rfl) (by dsimp only; omega)) (by dsimp only; omega) dJ21_init_2_1 ?_
  refine x_aload_n cx dJ21_init_2_4 rfl (lv_at hl 0 rfl) ?_
  refine x_aload_n cx dJ21_init_2_5 rfl (lv_at hl 0 rfl) ?_
  obtain ⟨hk1, hw⟩ := hw
  obtain ⟨hge_th, hw⟩ := hw
  refine xp_J21_7_5 (v := (some th)) cx hR hS rfl hge_th hk1 dJ21_init_2_6 (fun H locs hR hS => ?_)
  refine x_aload_n cx dJ21_init_2_9 rfl (lv_at hl 0 rfl) ?_
  obtain ⟨u2, hu2⟩ : ∃ u, u = xx_u E 1 := ⟨_, rfl⟩
  have hw := hw u2
  refine va_gets (v := xv E u2) (C := "java/lang/Throwable") (n := "UNASSIGNED_STACK") (d := "[Ljava/lang/StackTraceElement;") hx hb (by rw [hu2]; exact hZ.2.2.2.1) hS hown (hts _ q1012) (fun _ h => h) dJ21_init_2_10 ?_
  refine xp_J21_17_5 (v := u2) cx hR hS rfl hge_th hk1 dJ21_init_2_13 (fun H locs hR hS => ?_)
  refine x_aload_n cx dJ21_init_2_16 rfl (lv_at hl 0 rfl) ?_
  obtain ⟨u3, hu3⟩ : ∃ u, u = xx_u E 2 := ⟨_, rfl⟩
  have hw := hw u3
  refine va_gets (v := xv E u3) (C := "java/lang/Throwable") (n := "SUPPRESSED_SENTINEL") (d := "Ljava/util/List;") hx hb (by rw [hu3]; exact hZ.2.2.2.2.1) hS hown (hts _ q1014) (fun _ h => h) dJ21_init_2_17 ?_
  refine xp_J21_24_5 (v := u3) cx hR hS rfl hge_th hk1 dJ21_init_2_20 (fun H locs hR hS => ?_)
  refine lv_iload hx hb dJ21_init_2_23 (lv_at hl 4 rfl) ?_
  refine lv_if_eq (tgt := 36) hx hb dJ21_init_2_25 (by decide) (fun hc => ?_) (fun hc => ?_)
  · have hw := mm_ip hc hw
    refine x_aload_n cx dJ21_init_2_36 rfl (lv_at hl 0 rfl) ?_
    refine lv_null hx hb dJ21_init_2_37 ?_
    refine xp_J21_17_5 (v := none) cx hR hS rfl hge_th hk1 dJ21_init_2_38 (fun H locs hR hS => ?_)
    refine x_aload_n cx dJ21_init_2_41 rfl (lv_at hl 0 rfl) ?_
    refine x_aload_n cx dJ21_init_2_42 rfl (lv_at hl 1 rfl) ?_
    refine xp_J21_31_5 (v := x1) cx hR hS rfl hge_th hk1 dJ21_init_2_43 (fun H locs hR hS => ?_)
    refine x_aload_n cx dJ21_init_2_46 rfl (lv_at hl 0 rfl) ?_
    refine x_aload_n cx dJ21_init_2_47 rfl (lv_at hl 2 rfl) ?_
    refine xp_J21_7_5 (v := x2) cx hR hS rfl hge_th hk1 dJ21_init_2_48 (fun H locs hR hS => ?_)
    refine lv_iload_n hx hb dJ21_init_2_51 rfl (lv_at hl 3 rfl) ?_
    refine lv_if_ne (tgt := 60) hx hb dJ21_init_2_52 (by decide) (fun hc => ?_) (fun hc => ?_)
    · have hw := mm_in hc hw
      exact x_vret cx hR hS (xle hcb) (xle hsb) hw dJ21_init_2_60
    · have hw := mm_ip hc hw
      refine x_aload_n cx dJ21_init_2_55 rfl (lv_at hl 0 rfl) ?_
      refine lv_null hx hb dJ21_init_2_56 ?_
      refine xp_J21_24_5 (v := none) cx hR hS rfl hge_th hk1 dJ21_init_2_57 (fun H locs hR hS => ?_)
      exact x_vret cx hR hS (xle hcb) (xle hsb) hw dJ21_init_2_60
  · have hw := mm_in hc hw
    refine x_aload_n cx dJ21_init_2_28 rfl (lv_at hl 0 rfl) ?_
    exact hw.elim
-- J22_initF
theorem CJ21_init_2F_J22_16 {l : Launch} {p : Program} {e : Env} {R : Room} {s : State} {m : MethodId} {args : Array Value} {below : List Frame} {meth : Method} {c : Code} {H : Heap} {locs : List Loc} {cells slots : Nat} {Qz : State → Prop} {cc : ByteArray} {nL : Nat} {ret : Option FieldType} {E : xx_E} {σ : XS} {pc : Nat} {ls : Array Slot} {rest : List Value} {th : Nat} {x1 : Option Nat} {x2 : Option Nat} {x3 : Int32} {x4 : Int32} (cx : xx_X "java/lang/Exception" cc nL ret E p s m args meth c) (hR0 : xR E σ H) (hS0 : va_S (xA E) s.heap H locs) {r0 : Option Nat} (hr : r0 = some th) (hk : kd σ th = 5) {Qf : XS → Prop} (hw : wJ21_init_2F th x1 x2 x3 x4 σ Qf) (hR : (({ frames := 1, cells := 0, slots := 0, locals := 40 } : Room)).frames + 1 ≤ R.frames ∧ 8 + (5 + 11) + (({ frames := 1, cells := 0, slots := 0, locals := 40 } : Room)).locals ≤ R.locals) (hrest : rest.length ≤ 4) (hsize : ls.size = nL) (hf : cells + 0 ≤ R.cells ∧ slots + 0 ≤ R.slots) (hdg : decode cc pc = .ok (.invokespecial 16, 3))
    (kk : ∀ (σ1 : XS) (H1 : Heap) (locs1 : List Loc), Qf σ1 → xR E σ1 H1 → va_S (xA E) s.heap H1 locs1 → W p l e R s m args below meth c H1 locs1 (cells + 0) (slots + 0) Qz (F0 m (pc + 3) ls rest)) : W p l e R s m args below meth c H locs cells slots Qz (F0 m pc ls (.int x4 :: .int x3 :: xv E x2 :: xv E x1 :: xv E r0 :: rest)) := by
  subst hr
  obtain ⟨hx, hb, hml, hown, hts, hrt, hlk, hK, hZ⟩ := id cx
  exact x_gov (va_runI (As := [xv E x1, xv E x2, .int x3, .int x4]) (rest := rest) (x_fix cx) (MJ21_init_2F l E th x1 x2 x3 x4 σ Qf hw) (cwI 4 hts (lw_meth q1034) rfl rfl rfl (hts _ q184) (hts _ q1032) (hts _ q1033) rfl (by decide +kernel) hR) ⟨xblind, x_pre cx hR0 hS0 (.ref (xr E th) :: [xv E x1, xv E x2, .int x3, .int x4])⟩ rfl rfl hsize rfl (lv_room (xroom hrest)) hdg hf) hS0 kk
def wJ22_initF (th : Nat) (x1 : Option Nat) (x2 : Option Nat) (x3 : Int32) (x4 : Int32) (σ : XS) (Q : XS → Prop) : Prop :=
  kd σ th = 5 ∧ (wJ21_init_2F th x1 x2 x3 x4 σ (fun s1 => Q s1))
set_option maxHeartbeats 4000000 in
theorem MJ22_initF (l : Launch) (E : xx_E) (th : Nat) (x1 : Option Nat) (x2 : Option Nat) (x3 : Int32) (x4 : Int32) (σ : XS) (Q : XS → Prop) (hw : wJ22_initF th x1 x2 x3 x4 σ Q) : xx_Mv l yJ22_init (ws_ yJ22_init cJ22_init 5 none) ({ frames := 2, cells := 0, slots := 0, locals := 80 } : Room) E [xv E (some th), xv E x1, xv E x2, .int x3, .int x4] σ Q 0 0 := by
  refine x_of (own := "java/lang/Exception") (by decide +kernel) rfl ?_
  intro p e s m args below meth c cx hR ha hnm
  refine x_entry [xv E (some th), xv E x1, xv E x2, .int x3, .int x4] 5 [(0, xv E (some th)), (1, xv E x1), (2, xv E x2), (3, .int x3), (4, .int x4)] ha (by simp [lg_sl, xv_cat, vc_i, vc_j, vc_f]) (by simp [lv_args, xv_cat, vc_i, vc_j, vc_f]) (fun ls hl => ?_)
  have hS : va_S (xA E) s.heap s.heap [] := va_S.rf
  have hcb : 0 + 0 ≤ 0 := Nat.le_of_eq (Nat.zero_add _)
  have hsb : 0 + 0 ≤ 0 := Nat.le_of_eq (Nat.zero_add _)
  have hini : meth.name = "<init>" := hnm
  unfold wJ22_initF at hw
  obtain ⟨hx, hb, hml, hown, hts, hrt, hlk, hMK, hZ⟩ := id cx
  refine x_aload_n cx dJ22_init_0 rfl (lv_at hl 0 rfl) ?_
  refine x_aload_n cx dJ22_init_1 rfl (lv_at hl 1 rfl) ?_
  refine x_aload_n cx dJ22_init_2 rfl (lv_at hl 2 rfl) ?_
  refine lv_iload_n hx hb dJ22_init_3 rfl (lv_at hl 3 rfl) ?_
  refine lv_iload hx hb dJ22_init_4 (lv_at hl 4 rfl) ?_
  obtain ⟨hk2, hw⟩ := hw
  refine CJ21_init_2F_J22_16 cx hR hS rfl hk2 hw ⟨Nat.le_of_ble_eq_true rfl, Nat.le_of_ble_eq_true rfl⟩ (Nat.le_of_ble_eq_true rfl) hl.1 ⟨by dsimp only; omega, by dsimp only; omega⟩ dJ22_init_6 (fun s1 H locs hw hR hS => ?_)
  exact x_vret cx hR hS (xle hcb) (xle hsb) hw dJ22_init_9
-- X5_init
theorem xp_X5_7_5 {l : Launch} {p : Program} {e : Env} {R : Room} {s : State} {m : MethodId} {args : Array Value} {below : List Frame} {meth : Method} {c : Code} {H : Heap} {locs : List Loc} {cells slots : Nat} {Qz : State → Prop} {cc : ByteArray} {nL : Nat} {ret : Option FieldType} {E : xx_E} {σ : XS} {pc : Nat} {ls : Array Slot} {rest : List Value} (cx : xx_X "StruckCounts$Fault" cc nL ret E p s m args meth c) (hR : xR E σ H) (hS0 : va_S (xA E) s.heap H locs) {a : Nat} {r : Option Nat} {v : Int32} (hr : r = some a) (ha : xK ≤ a) (hk : kd σ a = 5) (hini : meth.name = "<init>") (hdg : decode cc pc = .ok (.putfield 7, 3)) (kk : ∀ (H1 : Heap) (locs1 : List Loc), xR E (pfi σ a 6 v) H1 → va_S (xA E) s.heap H1 locs1 → W p l e R s m args below meth c H1 locs1 cells slots Qz (F0 m (pc + 3) ls rest)) : W p l e R s m args below meth c H locs cells slots Qz (F0 m pc ls (.int v :: xv E r :: rest)) :=
  x_put (ci := 4) cx hR hS0 hr ha hk (by decide) rfl in_X5 tyX5 tyX5_ok nmX5 6 (by decide) (Or.inr (Or.inl ⟨q1035, rfl, hini, rfl⟩)) (fun _ h => h) rfl rfl (xput_i rfl) hdg kk
theorem xp_X5_13_5 {l : Launch} {p : Program} {e : Env} {R : Room} {s : State} {m : MethodId} {args : Array Value} {below : List Frame} {meth : Method} {c : Code} {H : Heap} {locs : List Loc} {cells slots : Nat} {Qz : State → Prop} {cc : ByteArray} {nL : Nat} {ret : Option FieldType} {E : xx_E} {σ : XS} {pc : Nat} {ls : Array Slot} {rest : List Value} (cx : xx_X "StruckCounts$Fault" cc nL ret E p s m args meth c) (hR : xR E σ H) (hS0 : va_S (xA E) s.heap H locs) {a : Nat} {r : Option Nat} {v : Int32} (hr : r = some a) (ha : xK ≤ a) (hk : kd σ a = 5) (hini : meth.name = "<init>") (hdg : decode cc pc = .ok (.putfield 13, 3)) (kk : ∀ (H1 : Heap) (locs1 : List Loc), xR E (pfi σ a 7 v) H1 → va_S (xA E) s.heap H1 locs1 → W p l e R s m args below meth c H1 locs1 cells slots Qz (F0 m (pc + 3) ls rest)) : W p l e R s m args below meth c H locs cells slots Qz (F0 m pc ls (.int v :: xv E r :: rest)) :=
  x_put (ci := 4) cx hR hS0 hr ha hk (by decide) rfl in_X5 tyX5 tyX5_ok nmX5 7 (by decide) (Or.inr (Or.inl ⟨q1037, rfl, hini, rfl⟩)) (fun _ h => h) rfl rfl (xput_i rfl) hdg kk
theorem CJ22_initF_X5_1 {l : Launch} {p : Program} {e : Env} {R : Room} {s : State} {m : MethodId} {args : Array Value} {below : List Frame} {meth : Method} {c : Code} {H : Heap} {locs : List Loc} {cells slots : Nat} {Qz : State → Prop} {cc : ByteArray} {nL : Nat} {ret : Option FieldType} {E : xx_E} {σ : XS} {pc : Nat} {ls : Array Slot} {rest : List Value} {th : Nat} {x1 : Option Nat} {x2 : Option Nat} {x3 : Int32} {x4 : Int32} (cx : xx_X "StruckCounts$Fault" cc nL ret E p s m args meth c) (hR0 : xR E σ H) (hS0 : va_S (xA E) s.heap H locs) {r0 : Option Nat} (hr : r0 = some th) (hk : kd σ th = 5) {Qf : XS → Prop} (hw : wJ22_initF th x1 x2 x3 x4 σ Qf) (hR : (({ frames := 2, cells := 0, slots := 0, locals := 80 } : Room)).frames + 1 ≤ R.frames ∧ 8 + (5 + 11) + (({ frames := 2, cells := 0, slots := 0, locals := 80 } : Room)).locals ≤ R.locals) (hrest : rest.length ≤ 4) (hsize : ls.size = nL) (hf : cells + 0 ≤ R.cells ∧ slots + 0 ≤ R.slots) (hdg : decode cc pc = .ok (.invokespecial 1, 3))
    (kk : ∀ (σ1 : XS) (H1 : Heap) (locs1 : List Loc), Qf σ1 → xR E σ1 H1 → va_S (xA E) s.heap H1 locs1 → W p l e R s m args below meth c H1 locs1 (cells + 0) (slots + 0) Qz (F0 m (pc + 3) ls rest)) : W p l e R s m args below meth c H locs cells slots Qz (F0 m pc ls (.int x4 :: .int x3 :: xv E x2 :: xv E x1 :: xv E r0 :: rest)) := by
  subst hr
  obtain ⟨hx, hb, hml, hown, hts, hrt, hlk, hK, hZ⟩ := id cx
  exact x_gov (va_runI (As := [xv E x1, xv E x2, .int x3, .int x4]) (rest := rest) (x_fix cx) (MJ22_initF l E th x1 x2 x3 x4 σ Qf hw) (cwI 4 hts (lw_meth q1031) rfl rfl rfl (hts _ q185) (hts _ q1029) (hts _ q1030) rfl (by decide +kernel) hR) ⟨xblind, x_pre cx hR0 hS0 (.ref (xr E th) :: [xv E x1, xv E x2, .int x3, .int x4])⟩ rfl rfl hsize rfl (lv_room (xroom hrest)) hdg hf) hS0 kk
def wX5_init (th : Nat) (x1 : Int32) (x2 : Int32) (σ : XS) (Q : XS → Prop) : Prop :=
  kd σ th = 5 ∧ (wJ22_initF th none none (0 : Int32) (0 : Int32) σ (fun s1 => kd s1 th = 5 ∧ (xK ≤ th ∧ (Q (pfi (pfi s1 th 6 x1) th 7 x2)))))
set_option maxHeartbeats 4000000 in
theorem MX5_init (l : Launch) (E : xx_E) (th : Nat) (x1 : Int32) (x2 : Int32) (σ : XS) (Q : XS → Prop) (hw : wX5_init th x1 x2 σ Q) : xx_Mv l yX5_init (ws_ yX5_init cX5_init 3 none) ({ frames := 3, cells := 0, slots := 0, locals := 120 } : Room) E [xv E (some th), .int x1, .int x2] σ Q 0 0 := by
  refine x_of (own := "StruckCounts$Fault") (by decide +kernel) rfl ?_
  intro p e s m args below meth c cx hR ha hnm
  refine x_entry [xv E (some th), .int x1, .int x2] 3 [(0, xv E (some th)), (1, .int x1), (2, .int x2)] ha (by simp [lg_sl, xv_cat, vc_i, vc_j, vc_f]) (by simp [lv_args, xv_cat, vc_i, vc_j, vc_f]) (fun ls hl => ?_)
  have hS : va_S (xA E) s.heap s.heap [] := va_S.rf
  have hcb : 0 + 0 ≤ 0 := Nat.le_of_eq (Nat.zero_add _)
  have hsb : 0 + 0 ≤ 0 := Nat.le_of_eq (Nat.zero_add _)
  have hini : meth.name = "<init>" := hnm
  unfold wX5_init at hw
  obtain ⟨hx, hb, hml, hown, hts, hrt, hlk, hMK, hZ⟩ := id cx
  refine x_aload_n cx dX5_init_0 rfl (lv_at hl 0 rfl) ?_
  refine lv_null hx hb dX5_init_1 ?_
  refine lv_null hx hb dX5_init_2 ?_
  refine lv_iconst (v := (0 : Int32)) hx hb dX5_init_3 (by decide) ?_
  refine lv_iconst (v := (0 : Int32)) hx hb dX5_init_4 (by decide) ?_
  obtain ⟨hk2, hw⟩ := hw
  refine CJ22_initF_X5_1 cx hR hS rfl hk2 hw ⟨Nat.le_of_ble_eq_true rfl, Nat.le_of_ble_eq_true rfl⟩ (Nat.le_of_ble_eq_true rfl) hl.1 ⟨by dsimp only; omega, by dsimp only; omega⟩ dX5_init_5 (fun s1 H locs hw hR hS => ?_)
  refine x_aload_n cx dX5_init_8 rfl (lv_at hl 0 rfl) ?_
  refine lv_iload_n hx hb dX5_init_9 rfl (lv_at hl 1 rfl) ?_
  obtain ⟨hk3, hw⟩ := hw
  obtain ⟨hge_th, hw⟩ := hw
  refine xp_X5_7_5 (v := x1) cx hR hS rfl hge_th hk3 hini dX5_init_10 (fun H locs hR hS => ?_)
  refine x_aload_n cx dX5_init_13 rfl (lv_at hl 0 rfl) ?_
  refine lv_iload_n hx hb dX5_init_14 rfl (lv_at hl 2 rfl) ?_
  refine xp_X5_13_5 (v := x2) cx hR hS rfl hge_th hk3 hini dX5_init_15 (fun H locs hR hS => ?_)
  exact x_vret cx hR hS (xle hcb) (xle hsb) hw dX5_init_18
-- J16_hashCode_2
def wJ16_hashCode_2_8 (Q : Int32 → XS → Prop) (K8 : Int32 → Option Nat → Int32 → Int32 → XS → Prop) (x0 : Int32) (x1 : Option Nat) (x4 : Int32) (x5 : Int32) (σ : XS) : Prop :=
  if x4 ≤ x5 then (Q x0 σ) else (oc σ x1 102 (fun a1 => vp_in x5 (ln σ a1) ∧ (∀ v2 : Int32, v2 = (((31 : Int32) * x0) + (ai σ a1 x5.toNatClampNeg)) → ∀ v3 : Int32, v3 = x5 + (1 : Int32) → K8 v2 x1 x4 v3 σ)))
set_option maxHeartbeats 4000000 in
theorem BJ16_hashCode_2_8 {l : Launch} {p : Program} {e : Env} {s : State} {m : MethodId} {args : Array Value} {below : List Frame} {meth : Method} {c : Code} {E : xx_E} {Q : Int32 → XS → Prop} {K8 : Int32 → Option Nat → Int32 → Int32 → XS → Prop} (cx : xx_X "jdk/internal/util/ArraysSupport" cJ16_hashCode_2 6 (some .int) E p s m args meth c) (hK8 : ∀ (x0 : Int32) (x1 : Option Nat) (x4 : Int32) (x5 : Int32) (σ : XS), K8 x0 x1 x4 x5 σ → x_T p l e ({ frames := 0, cells := 0, slots := 0, locals := 0 } : Room) s m args below meth c E (va_Qi Q (fun σ' t => xW E σ' t) (xA E)) 0 0 6 8 0 0 σ [(0, .int x0), (1, xv E x1), (4, .int x4), (5, .int x5)] []) : ∀ (x0 : Int32) (x1 : Option Nat) (x4 : Int32) (x5 : Int32) (σ : XS), wJ16_hashCode_2_8 Q K8 x0 x1 x4 x5 σ → x_T p l e ({ frames := 0, cells := 0, slots := 0, locals := 0 } : Room) s m args below meth c E (va_Qi Q (fun σ' t => xW E σ' t) (xA E)) 0 0 6 8 0 0 σ [(0, .int x0), (1, xv E x1), (4, .int x4), (5, .int x5)] [] := by
  intro x0 x1 x4 x5 σ hw H locs ls cells slots hR hS hl hcb hsb
  unfold wJ16_hashCode_2_8 at hw
  obtain ⟨hx, hb, hml, hown, hts, hrt, hlk, hMK, hZ⟩ := id cx
  refine lv_iload hx hb dJ16_hashCode_2_8 (lv_at hl 3 rfl) ?_
  refine lv_iload hx hb dJ16_hashCode_2_10 (lv_at hl 2 rfl) ?_
  refine lv_icmp_ge (tgt := 31) hx hb dJ16_hashCode_2_12 (by decide) (fun hc => ?_) (fun hc => ?_)
  · have hw := mm_ip hc hw
    refine lv_iload_n hx hb dJ16_hashCode_2_31 rfl (lv_at hl 0 rfl) ?_
    exact x_iret cx hR hS (xle hcb) (xle hsb) hw dJ16_hashCode_2_32
  · have hw := mm_in hc hw
    refine lv_bipush (v := (31 : Int32)) hx hb dJ16_hashCode_2_15 (by decide) ?_
    refine lv_iload_n hx hb dJ16_hashCode_2_17 rfl (lv_at hl 0 rfl) ?_
    refine lv_imul hx hb dJ16_hashCode_2_18 ?_
    refine x_aload_n cx dJ16_hashCode_2_19 rfl (lv_at hl 1 rfl) ?_
    refine lv_iload hx hb dJ16_hashCode_2_20 (lv_at hl 3 rfl) ?_
    obtain ⟨a1, hr1, hk1, hw⟩ := hw
    obtain ⟨hi, hw⟩ := hw
    refine x_bald cx hR hr1 hk1 (j := x5.toNatClampNeg) rfl hi dJ16_hashCode_2_22 ?_
    refine lv_iadd hx hb dJ16_hashCode_2_23 ?_
    refine lv_topi (fun v2 hv2 => ?_)
    have hw := hw v2 hv2
    refine lv_istore_n (i := 0) (lv' := [(0, .int v2), (1, xv E x1), (4, .int x4), (5, .int x5)]) hx hb dJ16_hashCode_2_24 rfl hl (by decide) rfl (fun ls hl => ?_)
    obtain ⟨v3, hv3⟩ : ∃ v : Int32, v = x5 + (1 : Int32) := ⟨_, rfl⟩
    have hw := hw v3 hv3
    refine lv_iinc (v := v3) (lv' := [(5, .int v3), (0, .int v2), (1, xv E x1), (4, .int x4)]) hx hb dJ16_hashCode_2_25 hl (k := 3) rfl (by rw [hv3]; rfl) (by decide) rfl (fun ls hl => ?_)
    refine lv_goto (tgt := 8) hx hb dJ16_hashCode_2_28 (by decide) ?_
    exact hK8 _ _ _ _ _ hw _ _ _ _ _ hR hS (lv_sub hl [1, 2, 3, 0] rfl) hcb hsb
theorem LJ16_hashCode_2_8 {l : Launch} {p : Program} {e : Env} {s : State} {m : MethodId} {args : Array Value} {below : List Frame} {meth : Method} {c : Code} {E : xx_E} {Q : Int32 → XS → Prop} (cx : xx_X "jdk/internal/util/ArraysSupport" cJ16_hashCode_2 6 (some .int) E p s m args meth c) : ∀ (x0 : Int32) (x1 : Option Nat) (x4 : Int32) (x5 : Int32) (σ : XS), lp5F (wJ16_hashCode_2_8 Q) x0 x1 x4 x5 σ → x_T p l e ({ frames := 0, cells := 0, slots := 0, locals := 0 } : Room) s m args below meth c E (va_Qi Q (fun σ' t => xW E σ' t) (xA E)) 0 0 6 8 0 0 σ [(0, .int x0), (1, xv E x1), (4, .int x4), (5, .int x5)] [] :=
  lp5F_of (fun K hK => BJ16_hashCode_2_8 cx hK)
def wJ16_hashCode_2 (x0 : Int32) (x1 : Option Nat) (x2 : Int32) (x3 : Int32) (σ : XS) (Q : Int32 → XS → Prop) : Prop :=
  ∀ v4 : Int32, v4 = (x2 + x3) → lp5F (wJ16_hashCode_2_8 Q) x0 x1 v4 x2 σ
set_option maxHeartbeats 4000000 in
theorem MJ16_hashCode_2 (l : Launch) (E : xx_E) (x0 : Int32) (x1 : Option Nat) (x2 : Int32) (x3 : Int32) (σ : XS) (Q : Int32 → XS → Prop) (hw : wJ16_hashCode_2 x0 x1 x2 x3 σ Q) : xx_Mi l yJ16_hashCode_2 (ws_ yJ16_hashCode_2 cJ16_hashCode_2 6 (some .int)) ({ frames := 0, cells := 0, slots := 0, locals := 0 } : Room) E [.int x0, xv E x1, .int x2, .int x3] σ Q 0 0 := by
  refine x_of (own := "jdk/internal/util/ArraysSupport") (by decide +kernel) rfl ?_
  intro p e s m args below meth c cx hR ha hnm
  refine x_entry [.int x0, xv E x1, .int x2, .int x3] 6 [(0, .int x0), (1, xv E x1), (2, .int x2), (3, .int x3)] ha (by simp [lg_sl, xv_cat, vc_i, vc_j, vc_f]) (by simp [lv_args, xv_cat, vc_i, vc_j, vc_f]) (fun ls hl => ?_)
  have hS : va_S (xA E) s.heap s.heap [] := va_S.rf
  have hcb : 0 + 0 ≤ 0 := Nat.le_of_eq (Nat.zero_add _)
  have hsb : 0 + 0 ≤ 0 := Nat.le_of_eq (Nat.zero_add _)
  unfold wJ16_hashCode_2 at hw
  obtain ⟨hx, hb, hml, hown, hts, hrt, hlk, hMK, hZ⟩ := id cx
  refine lv_iload_n hx hb dJ16_hashCode_2_0 rfl (lv_at hl 2 rfl) ?_
  refine lv_iload_n hx hb dJ16_hashCode_2_1 rfl (lv_at hl 3 rfl) ?_
  refine lv_iadd hx hb dJ16_hashCode_2_2 ?_
  refine lv_topi (fun v4 hv4 => ?_)
  have hw := hw v4 hv4
  refine lv_istore (i := 4) (lv' := [(4, .int v4), (0, .int x0), (1, xv E x1), (2, .int x2), (3, .int x3)]) hx hb dJ16_hashCode_2_3 hl (by decide) rfl (fun ls hl => ?_)
  refine lv_iload_n hx hb dJ16_hashCode_2_5 rfl (lv_at hl 3 rfl) ?_
  refine lv_istore (i := 5) (lv' := [(5, .int x2), (4, .int v4), (0, .int x0), (1, xv E x1), (2, .int x2), (3, .int x3)]) hx hb dJ16_hashCode_2_6 hl (by decide) rfl (fun ls hl => ?_)
  exact LJ16_hashCode_2_8 cx _ _ _ _ _ hw _ _ _ _ _ hR hS (lv_sub hl [2, 3, 1, 0] rfl) hcb hsb
-- J16_signedHashCode
def wJ16_signedHashCode_8 (Q : Int32 → XS → Prop) (K8 : Int32 → Option Nat → Int32 → Int32 → XS → Prop) (x0 : Int32) (x1 : Option Nat) (x4 : Int32) (x5 : Int32) (σ : XS) : Prop :=
  if x4 ≤ x5 then (Q x0 σ) else (oc σ x1 102 (fun a1 => vp_in x5 (ln σ a1) ∧ (∀ v2 : Int32, v2 = (((31 : Int32) * x0) + ((ai σ a1 x5.toNatClampNeg) &&& (255 : Int32))) → ∀ v3 : Int32, v3 = x5 + (1 : Int32) → K8 v2 x1 x4 v3 σ)))
set_option maxHeartbeats 4000000 in
theorem BJ16_signedHashCode_8 {l : Launch} {p : Program} {e : Env} {s : State} {m : MethodId} {args : Array Value} {below : List Frame} {meth : Method} {c : Code} {E : xx_E} {Q : Int32 → XS → Prop} {K8 : Int32 → Option Nat → Int32 → Int32 → XS → Prop} (cx : xx_X "jdk/internal/util/ArraysSupport" cJ16_signedHashCode 6 (some .int) E p s m args meth c) (hK8 : ∀ (x0 : Int32) (x1 : Option Nat) (x4 : Int32) (x5 : Int32) (σ : XS), K8 x0 x1 x4 x5 σ → x_T p l e ({ frames := 0, cells := 0, slots := 0, locals := 0 } : Room) s m args below meth c E (va_Qi Q (fun σ' t => xW E σ' t) (xA E)) 0 0 6 8 0 0 σ [(0, .int x0), (1, xv E x1), (4, .int x4), (5, .int x5)] []) : ∀ (x0 : Int32) (x1 : Option Nat) (x4 : Int32) (x5 : Int32) (σ : XS), wJ16_signedHashCode_8 Q K8 x0 x1 x4 x5 σ → x_T p l e ({ frames := 0, cells := 0, slots := 0, locals := 0 } : Room) s m args below meth c E (va_Qi Q (fun σ' t => xW E σ' t) (xA E)) 0 0 6 8 0 0 σ [(0, .int x0), (1, xv E x1), (4, .int x4), (5, .int x5)] [] := by
  intro x0 x1 x4 x5 σ hw H locs ls cells slots hR hS hl hcb hsb
  unfold wJ16_signedHashCode_8 at hw
  obtain ⟨hx, hb, hml, hown, hts, hrt, hlk, hMK, hZ⟩ := id cx
  refine lv_iload hx hb dJ16_signedHashCode_8 (lv_at hl 3 rfl) ?_
  refine lv_iload hx hb dJ16_signedHashCode_10 (lv_at hl 2 rfl) ?_
  refine lv_icmp_ge (tgt := 35) hx hb dJ16_signedHashCode_12 (by decide) (fun hc => ?_) (fun hc => ?_)
  · have hw := mm_ip hc hw
    refine lv_iload_n hx hb dJ16_signedHashCode_35 rfl (lv_at hl 0 rfl) ?_
    exact x_iret cx hR hS (xle hcb) (xle hsb) hw dJ16_signedHashCode_36
  · have hw := mm_in hc hw
    refine lv_bipush (v := (31 : Int32)) hx hb dJ16_signedHashCode_15 (by decide) ?_
    refine lv_iload_n hx hb dJ16_signedHashCode_17 rfl (lv_at hl 0 rfl) ?_
    refine lv_imul hx hb dJ16_signedHashCode_18 ?_
    refine x_aload_n cx dJ16_signedHashCode_19 rfl (lv_at hl 1 rfl) ?_
    refine lv_iload hx hb dJ16_signedHashCode_20 (lv_at hl 3 rfl) ?_
    obtain ⟨a1, hr1, hk1, hw⟩ := hw
    obtain ⟨hi, hw⟩ := hw
    refine x_bald cx hR hr1 hk1 (j := x5.toNatClampNeg) rfl hi dJ16_signedHashCode_22 ?_
    refine lv_sipush (v := (255 : Int32)) hx hb dJ16_signedHashCode_23 (by decide) ?_
    refine lv_iand hx hb dJ16_signedHashCode_26 ?_
    refine lv_iadd hx hb dJ16_signedHashCode_27 ?_
    refine lv_topi (fun v2 hv2 => ?_)
    have hw := hw v2 hv2
    refine lv_istore_n (i := 0) (lv' := [(0, .int v2), (1, xv E x1), (4, .int x4), (5, .int x5)]) hx hb dJ16_signedHashCode_28 rfl hl (by decide) rfl (fun ls hl => ?_)
    obtain ⟨v3, hv3⟩ : ∃ v : Int32, v = x5 + (1 : Int32) := ⟨_, rfl⟩
    have hw := hw v3 hv3
    refine lv_iinc (v := v3) (lv' := [(5, .int v3), (0, .int v2), (1, xv E x1), (4, .int x4)]) hx hb dJ16_signedHashCode_29 hl (k := 3) rfl (by rw [hv3]; rfl) (by decide) rfl (fun ls hl => ?_)
    refine lv_goto (tgt := 8) hx hb dJ16_signedHashCode_32 (by decide) ?_
    exact hK8 _ _ _ _ _ hw _ _ _ _ _ hR hS (lv_sub hl [1, 2, 3, 0] rfl) hcb hsb
theorem LJ16_signedHashCode_8 {l : Launch} {p : Program} {e : Env} {s : State} {m : MethodId} {args : Array Value} {below : List Frame} {meth : Method} {c : Code} {E : xx_E} {Q : Int32 → XS → Prop} (cx : xx_X "jdk/internal/util/ArraysSupport" cJ16_signedHashCode 6 (some .int) E p s m args meth c) : ∀ (x0 : Int32) (x1 : Option Nat) (x4 : Int32) (x5 : Int32) (σ : XS), lp5F (wJ16_signedHashCode_8 Q) x0 x1 x4 x5 σ → x_T p l e ({ frames := 0, cells := 0, slots := 0, locals := 0 } : Room) s m args below meth c E (va_Qi Q (fun σ' t => xW E σ' t) (xA E)) 0 0 6 8 0 0 σ [(0, .int x0), (1, xv E x1), (4, .int x4), (5, .int x5)] [] :=
  lp5F_of (fun K hK => BJ16_signedHashCode_8 cx hK)
def wJ16_signedHashCode (x0 : Int32) (x1 : Option Nat) (x2 : Int32) (x3 : Int32) (σ : XS) (Q : Int32 → XS → Prop) : Prop :=
  ∀ v4 : Int32, v4 = (x2 + x3) → lp5F (wJ16_signedHashCode_8 Q) x0 x1 v4 x2 σ
set_option maxHeartbeats 4000000 in
theorem MJ16_signedHashCode (l : Launch) (E : xx_E) (x0 : Int32) (x1 : Option Nat) (x2 : Int32) (x3 : Int32) (σ : XS) (Q : Int32 → XS → Prop) (hw : wJ16_signedHashCode x0 x1 x2 x3 σ Q) : xx_Mi l yJ16_signedHashCode (ws_ yJ16_signedHashCode cJ16_signedHashCode 6 (some .int)) ({ frames := 0, cells := 0, slots := 0, locals := 0 } : Room) E [.int x0, xv E x1, .int x2, .int x3] σ Q 0 0 := by
  refine x_of (own := "jdk/internal/util/ArraysSupport") (by decide +kernel) rfl ?_
  intro p e s m args below meth c cx hR ha hnm
  refine x_entry [.int x0, xv E x1, .int x2, .int x3] 6 [(0, .int x0), (1, xv E x1), (2, .int x2), (3, .int x3)] ha (by simp [lg_sl, xv_cat, vc_i, vc_j, vc_f]) (by simp [lv_args, xv_cat, vc_i, vc_j, vc_f]) (fun ls hl => ?_)
  have hS : va_S (xA E) s.heap s.heap [] := va_S.rf
  have hcb : 0 + 0 ≤ 0 := Nat.le_of_eq (Nat.zero_add _)
  have hsb : 0 + 0 ≤ 0 := Nat.le_of_eq (Nat.zero_add _)
  unfold wJ16_signedHashCode at hw
  obtain ⟨hx, hb, hml, hown, hts, hrt, hlk, hMK, hZ⟩ := id cx
  refine lv_iload_n hx hb dJ16_signedHashCode_0 rfl (lv_at hl 2 rfl) ?_
  refine lv_iload_n hx hb dJ16_signedHashCode_1 rfl (lv_at hl 3 rfl) ?_
  refine lv_iadd hx hb dJ16_signedHashCode_2 ?_
  refine lv_topi (fun v4 hv4 => ?_)
  have hw := hw v4 hv4
  refine lv_istore (i := 4) (lv' := [(4, .int v4), (0, .int x0), (1, xv E x1), (2, .int x2), (3, .int x3)]) hx hb dJ16_signedHashCode_3 hl (by decide) rfl (fun ls hl => ?_)
  refine lv_iload_n hx hb dJ16_signedHashCode_5 rfl (lv_at hl 3 rfl) ?_
  refine lv_istore (i := 5) (lv' := [(5, .int x2), (4, .int v4), (0, .int x0), (1, xv E x1), (2, .int x2), (3, .int x3)]) hx hb dJ16_signedHashCode_6 hl (by decide) rfl (fun ls hl => ?_)
  exact LJ16_signedHashCode_8 cx _ _ _ _ _ hw _ _ _ _ _ hR hS (lv_sub hl [2, 3, 1, 0] rfl) hcb hsb
-- J16_vectorizedHashCode
theorem sw_r_4_10 : ∀ z : Int, 4 ≤ z → z ≤ 10 → ∃ c ∈ ([(4 : Int32), (5 : Int32), (6 : Int32), (7 : Int32), (8 : Int32), (9 : Int32), (10 : Int32)] : List Int32), c.toInt = z := by
  intro z h1 h2
  have h : z = 4 ∨ z = 5 ∨ z = 6 ∨ z = 7 ∨ z = 8 ∨ z = 9 ∨ z = 10 := by omega
  rcases h with rfl | rfl | rfl | rfl | rfl | rfl | rfl
  · exact ⟨4, by decide, by decide⟩
  · exact ⟨5, by decide, by decide⟩
  · exact ⟨6, by decide, by decide⟩
  · exact ⟨7, by decide, by decide⟩
  · exact ⟨8, by decide, by decide⟩
  · exact ⟨9, by decide, by decide⟩
  · exact ⟨10, by decide, by decide⟩
theorem CJ16_hashCode_2_J16_75 {l : Launch} {p : Program} {e : Env} {R : Room} {s : State} {m : MethodId} {args : Array Value} {below : List Frame} {meth : Method} {c : Code} {H : Heap} {locs : List Loc} {cells slots : Nat} {Qz : State → Prop} {cc : ByteArray} {nL : Nat} {ret : Option FieldType} {E : xx_E} {σ : XS} {pc : Nat} {ls : Array Slot} {rest : List Value} {x0 : Int32} {x1 : Option Nat} {x2 : Int32} {x3 : Int32} (cx : xx_X "jdk/internal/util/ArraysSupport" cc nL ret E p s m args meth c) (hR0 : xR E σ H) (hS0 : va_S (xA E) s.heap H locs) {Qf : Int32 → XS → Prop} (hw : wJ16_hashCode_2 x0 x1 x2 x3 σ Qf) (hR : (({ frames := 0, cells := 0, slots := 0, locals := 0 } : Room)).frames + 1 ≤ R.frames ∧ 8 + (6 + 11) + (({ frames := 0, cells := 0, slots := 0, locals := 0 } : Room)).locals ≤ R.locals) (hrest : rest.length ≤ 4) (hsize : ls.size = nL) (hf : cells + 0 ≤ R.cells ∧ slots + 0 ≤ R.slots) (hdg : decode cc pc = .ok (.invokestatic 75, 3))
    (kk : ∀ (r : Int32) (σ1 : XS) (H1 : Heap) (locs1 : List Loc), Qf r σ1 → xR E σ1 H1 → va_S (xA E) s.heap H1 locs1 → W p l e R s m args below meth c H1 locs1 (cells + 0) (slots + 0) Qz (F0 m (pc + 3) ls (.int r :: rest))) : W p l e R s m args below meth c H locs cells slots Qz (F0 m pc ls (.int x3 :: .int x2 :: xv E x1 :: .int x0 :: rest)) := by
  obtain ⟨hx, hb, hml, hown, hts, hrt, hlk, hK, hZ⟩ := id cx
  exact x_goi (va_runS (As := [.int x0, xv E x1, .int x2, .int x3]) (rest := rest) (x_fix cx) (MJ16_hashCode_2 l E x0 x1 x2 x3 σ Qf hw) (va_cwS 4 hts (lw_S q1090 q1091 q178 q1092) rfl rfl rfl (by decide +kernel) hR) ⟨xblind, x_pre cx hR0 hS0 [.int x0, xv E x1, .int x2, .int x3]⟩ rfl rfl hsize rfl (lv_room (xroom hrest)) hdg hf) hS0 kk
theorem CJ16_signedHashCode_J16_62 {l : Launch} {p : Program} {e : Env} {R : Room} {s : State} {m : MethodId} {args : Array Value} {below : List Frame} {meth : Method} {c : Code} {H : Heap} {locs : List Loc} {cells slots : Nat} {Qz : State → Prop} {cc : ByteArray} {nL : Nat} {ret : Option FieldType} {E : xx_E} {σ : XS} {pc : Nat} {ls : Array Slot} {rest : List Value} {x0 : Int32} {x1 : Option Nat} {x2 : Int32} {x3 : Int32} (cx : xx_X "jdk/internal/util/ArraysSupport" cc nL ret E p s m args meth c) (hR0 : xR E σ H) (hS0 : va_S (xA E) s.heap H locs) {Qf : Int32 → XS → Prop} (hw : wJ16_signedHashCode x0 x1 x2 x3 σ Qf) (hR : (({ frames := 0, cells := 0, slots := 0, locals := 0 } : Room)).frames + 1 ≤ R.frames ∧ 8 + (6 + 11) + (({ frames := 0, cells := 0, slots := 0, locals := 0 } : Room)).locals ≤ R.locals) (hrest : rest.length ≤ 4) (hsize : ls.size = nL) (hf : cells + 0 ≤ R.cells ∧ slots + 0 ≤ R.slots) (hdg : decode cc pc = .ok (.invokestatic 62, 3))
    (kk : ∀ (r : Int32) (σ1 : XS) (H1 : Heap) (locs1 : List Loc), Qf r σ1 → xR E σ1 H1 → va_S (xA E) s.heap H1 locs1 → W p l e R s m args below meth c H1 locs1 (cells + 0) (slots + 0) Qz (F0 m (pc + 3) ls (.int r :: rest))) : W p l e R s m args below meth c H locs cells slots Qz (F0 m pc ls (.int x3 :: .int x2 :: xv E x1 :: .int x0 :: rest)) := by
  obtain ⟨hx, hb, hml, hown, hts, hrt, hlk, hK, hZ⟩ := id cx
  exact x_goi (va_runS (As := [.int x0, xv E x1, .int x2, .int x3]) (rest := rest) (x_fix cx) (MJ16_signedHashCode l E x0 x1 x2 x3 σ Qf hw) (va_cwS 4 hts (lw_S q1067 q1068 q178 q1069) rfl rfl rfl (by decide +kernel) hR) ⟨xblind, x_pre cx hR0 hS0 [.int x0, xv E x1, .int x2, .int x3]⟩ rfl rfl hsize rfl (lv_room (xroom hrest)) hdg hf) hS0 kk
def wJ16_vectorizedHashCode (x0 : Option Nat) (x1 : Int32) (x2 : Int32) (x3 : Int32) (x4 : Int32) (σ : XS) (Q : Int32 → XS → Prop) : Prop :=
  if x4 = 4 then (xck [102] σ x0 ∧ (wJ16_signedHashCode x3 x0 x1 x2 σ (fun r1 s1 => Q r1 s1))) else (if x4 = 5 then False else (if x4 = 6 then False else (if x4 = 7 then False else (if x4 = 8 then (xck [102] σ x0 ∧ (wJ16_hashCode_2 x3 x0 x1 x2 σ (fun r2 s2 => Q r2 s2))) else (if x4 = 9 then False else (if x4 = 10 then False else (False)))))))
set_option maxHeartbeats 4000000 in
theorem MJ16_vectorizedHashCode (l : Launch) (E : xx_E) (x0 : Option Nat) (x1 : Int32) (x2 : Int32) (x3 : Int32) (x4 : Int32) (σ : XS) (Q : Int32 → XS → Prop) (hw : wJ16_vectorizedHashCode x0 x1 x2 x3 x4 σ Q) : xx_Mi l yJ16_vectorizedHashCode (ws_ yJ16_vectorizedHashCode cJ16_vectorizedHashCode 5 (some .int)) ({ frames := 1, cells := 0, slots := 0, locals := 40 } : Room) E [xv E x0, .int x1, .int x2, .int x3, .int x4] σ Q 0 0 := by
  refine x_of (own := "jdk/internal/util/ArraysSupport") (by decide +kernel) rfl ?_
  intro p e s m args below meth c cx hR ha hnm
  refine x_entry [xv E x0, .int x1, .int x2, .int x3, .int x4] 5 [(0, xv E x0), (1, .int x1), (2, .int x2), (3, .int x3), (4, .int x4)] ha (by simp [lg_sl, xv_cat, vc_i, vc_j, vc_f]) (by simp [lv_args, xv_cat, vc_i, vc_j, vc_f]) (fun ls hl => ?_)
  have hS : va_S (xA E) s.heap s.heap [] := va_S.rf
  have hcb : 0 + 0 ≤ 0 := Nat.le_of_eq (Nat.zero_add _)
  have hsb : 0 + 0 ≤ 0 := Nat.le_of_eq (Nat.zero_add _)
  unfold wJ16_vectorizedHashCode at hw
  obtain ⟨hx, hb, hml, hown, hts, hrt, hlk, hMK, hZ⟩ := id cx
  refine lv_iload hx hb dJ16_vectorizedHashCode_0 (lv_at hl 4 rfl) ?_
  by_cases hc0 : x4 = 4
  · have hw := mm_ip hc0 hw
    refine lv_tableIn (off := 42) (tgt := 44) hx hb dJ16_vectorizedHashCode_2 (by rw [hc0]; decide) (by rw [hc0]; decide) (by rw [hc0]; decide) (by decide) ?_
    refine lv_iload_n hx hb dJ16_vectorizedHashCode_44 rfl (lv_at hl 3 rfl) ?_
    refine x_aload_n cx dJ16_vectorizedHashCode_45 rfl (lv_at hl 0 rfl) ?_
    obtain ⟨hv, hw⟩ := hw
    refine x_castB cx hR q1066 hv dJ16_vectorizedHashCode_46 ?_
    refine lv_iload_n hx hb dJ16_vectorizedHashCode_49 rfl (lv_at hl 1 rfl) ?_
    refine lv_iload_n hx hb dJ16_vectorizedHashCode_50 rfl (lv_at hl 2 rfl) ?_
    refine CJ16_signedHashCode_J16_62 cx hR hS  hw ⟨Nat.le_of_ble_eq_true rfl, Nat.le_of_ble_eq_true rfl⟩ (Nat.le_of_ble_eq_true rfl) hl.1 ⟨by dsimp only; omega, by dsimp only; omega⟩ dJ16_vectorizedHashCode_51 (fun r1 s1 H locs hw hR hS => ?_)
    refine lv_goto (tgt := 157) hx hb dJ16_vectorizedHashCode_54 (by decide) ?_
    exact x_iret cx hR hS (xle hcb) (xle hsb) hw dJ16_vectorizedHashCode_157
  have hw := mm_in hc0 hw
  by_cases hc1 : x4 = 5
  · have hw := mm_ip hc1 hw
    refine lv_tableIn (off := 55) (tgt := 57) hx hb dJ16_vectorizedHashCode_2 (by rw [hc1]; decide) (by rw [hc1]; decide) (by rw [hc1]; decide) (by decide) ?_
    refine x_aload_n cx dJ16_vectorizedHashCode_57 rfl (lv_at hl 0 rfl) ?_
    exact hw.elim
  have hw := mm_in hc1 hw
  by_cases hc2 : x4 = 6
  · have hw := mm_ip hc2 hw
    refine lv_tableIn (off := 127) (tgt := 129) hx hb dJ16_vectorizedHashCode_2 (by rw [hc2]; decide) (by rw [hc2]; decide) (by rw [hc2]; decide) (by decide) ?_
    exact hw.elim
  have hw := mm_in hc2 hw
  by_cases hc3 : x4 = 7
  · have hw := mm_ip hc3 hw
    refine lv_tableIn (off := 127) (tgt := 129) hx hb dJ16_vectorizedHashCode_2 (by rw [hc3]; decide) (by rw [hc3]; decide) (by rw [hc3]; decide) (by decide) ?_
    exact hw.elim
  have hw := mm_in hc3 hw
  by_cases hc4 : x4 = 8
  · have hw := mm_ip hc4 hw
    refine lv_tableIn (off := 88) (tgt := 90) hx hb dJ16_vectorizedHashCode_2 (by rw [hc4]; decide) (by rw [hc4]; decide) (by rw [hc4]; decide) (by decide) ?_
    refine lv_iload_n hx hb dJ16_vectorizedHashCode_90 rfl (lv_at hl 3 rfl) ?_
    refine x_aload_n cx dJ16_vectorizedHashCode_91 rfl (lv_at hl 0 rfl) ?_
    obtain ⟨hv, hw⟩ := hw
    refine x_castB cx hR q1066 hv dJ16_vectorizedHashCode_92 ?_
    refine lv_iload_n hx hb dJ16_vectorizedHashCode_95 rfl (lv_at hl 1 rfl) ?_
    refine lv_iload_n hx hb dJ16_vectorizedHashCode_96 rfl (lv_at hl 2 rfl) ?_
    refine CJ16_hashCode_2_J16_75 cx hR hS  hw ⟨Nat.le_of_ble_eq_true rfl, Nat.le_of_ble_eq_true rfl⟩ (Nat.le_of_ble_eq_true rfl) hl.1 ⟨by dsimp only; omega, by dsimp only; omega⟩ dJ16_vectorizedHashCode_97 (fun r2 s2 H locs hw hR hS => ?_)
    refine lv_goto (tgt := 157) hx hb dJ16_vectorizedHashCode_100 (by decide) ?_
    exact x_iret cx hR hS (xle hcb) (xle hsb) hw dJ16_vectorizedHashCode_157
  have hw := mm_in hc4 hw
  by_cases hc5 : x4 = 9
  · have hw := mm_ip hc5 hw
    refine lv_tableIn (off := 101) (tgt := 103) hx hb dJ16_vectorizedHashCode_2 (by rw [hc5]; decide) (by rw [hc5]; decide) (by rw [hc5]; decide) (by decide) ?_
    refine lv_iload_n hx hb dJ16_vectorizedHashCode_103 rfl (lv_at hl 3 rfl) ?_
    refine x_aload_n cx dJ16_vectorizedHashCode_104 rfl (lv_at hl 0 rfl) ?_
    exact hw.elim
  have hw := mm_in hc5 hw
  by_cases hc6 : x4 = 10
  · have hw := mm_ip hc6 hw
    refine lv_tableIn (off := 114) (tgt := 116) hx hb dJ16_vectorizedHashCode_2 (by rw [hc6]; decide) (by rw [hc6]; decide) (by rw [hc6]; decide) (by decide) ?_
    refine lv_iload_n hx hb dJ16_vectorizedHashCode_116 rfl (lv_at hl 3 rfl) ?_
    refine x_aload_n cx dJ16_vectorizedHashCode_117 rfl (lv_at hl 0 rfl) ?_
    exact hw.elim
  have hw := mm_in hc6 hw
  refine lv_tableOut (tgt := 129) hx hb dJ16_vectorizedHashCode_2 (sw_out 4 10 [(4 : Int32), (5 : Int32), (6 : Int32), (7 : Int32), (8 : Int32), (9 : Int32), (10 : Int32)] (by simp only [List.all_cons, List.all_nil, Bool.and_true, Bool.and_eq_true, decide_eq_true_eq]; exact ⟨hc0, hc1, hc2, hc3, hc4, hc5, hc6⟩) (by intro z h1 h2; exact sw_r_4_10 z h1 h2)) (by decide) ?_
  exact hw.elim
-- J19_hashCode
theorem CJ16_vectorizedHashCode_J19_84 {l : Launch} {p : Program} {e : Env} {R : Room} {s : State} {m : MethodId} {args : Array Value} {below : List Frame} {meth : Method} {c : Code} {H : Heap} {locs : List Loc} {cells slots : Nat} {Qz : State → Prop} {cc : ByteArray} {nL : Nat} {ret : Option FieldType} {E : xx_E} {σ : XS} {pc : Nat} {ls : Array Slot} {rest : List Value} {x0 : Option Nat} {x1 : Int32} {x2 : Int32} {x3 : Int32} {x4 : Int32} (cx : xx_X "java/lang/StringLatin1" cc nL ret E p s m args meth c) (hR0 : xR E σ H) (hS0 : va_S (xA E) s.heap H locs) {Qf : Int32 → XS → Prop} (hw : wJ16_vectorizedHashCode x0 x1 x2 x3 x4 σ Qf) (hR : (({ frames := 1, cells := 0, slots := 0, locals := 40 } : Room)).frames + 1 ≤ R.frames ∧ 8 + (5 + 11) + (({ frames := 1, cells := 0, slots := 0, locals := 40 } : Room)).locals ≤ R.locals) (hrest : rest.length ≤ 4) (hsize : ls.size = nL) (hf : cells + 0 ≤ R.cells ∧ slots + 0 ≤ R.slots) (hdg : decode cc pc = .ok (.invokestatic 84, 3))
    (kk : ∀ (r : Int32) (σ1 : XS) (H1 : Heap) (locs1 : List Loc), Qf r σ1 → xR E σ1 H1 → va_S (xA E) s.heap H1 locs1 → W p l e R s m args below meth c H1 locs1 (cells + 0) (slots + 0) Qz (F0 m (pc + 3) ls (.int r :: rest))) : W p l e R s m args below meth c H locs cells slots Qz (F0 m pc ls (.int x4 :: .int x3 :: .int x2 :: .int x1 :: xv E x0 :: rest)) := by
  obtain ⟨hx, hb, hml, hown, hts, hrt, hlk, hK, hZ⟩ := id cx
  exact x_goi (va_runS (As := [xv E x0, .int x1, .int x2, .int x3, .int x4]) (rest := rest) (x_fix cx) (MJ16_vectorizedHashCode l E x0 x1 x2 x3 x4 σ Qf hw) (va_cwS 5 hts (lw_S q1063 q1064 q178 q1065) rfl rfl rfl (by decide +kernel) hR) ⟨xblind, x_pre cx hR0 hS0 [xv E x0, .int x1, .int x2, .int x3, .int x4]⟩ rfl rfl hsize rfl (lv_room (xroom hrest)) hdg hf) hS0 kk
def wJ19_hashCode (x0 : Option Nat) (σ : XS) (Q : Int32 → XS → Prop) : Prop :=
  oc σ x0 102 (fun a1 => ∀ v2 : Int32, v2 = (nI (ln σ a1)) → if v2 = (0 : Int32) then (Q (0 : Int32) σ) else (if v2 = (1 : Int32) then (vp_in (0 : Int32) (ln σ a1) ∧ (Q ((ai σ a1 0) &&& (255 : Int32)) σ)) else (wJ16_vectorizedHashCode x0 (0 : Int32) (nI (ln σ a1)) (0 : Int32) (4 : Int32) σ (fun r3 s3 => Q r3 s3))))
set_option maxHeartbeats 4000000 in
theorem MJ19_hashCode (l : Launch) (E : xx_E) (x0 : Option Nat) (σ : XS) (Q : Int32 → XS → Prop) (hw : wJ19_hashCode x0 σ Q) : xx_Mi l yJ19_hashCode (ws_ yJ19_hashCode cJ19_hashCode 1 (some .int)) ({ frames := 2, cells := 0, slots := 0, locals := 80 } : Room) E [xv E x0] σ Q 0 0 := by
  refine x_of (own := "java/lang/StringLatin1") (by decide +kernel) rfl ?_
  intro p e s m args below meth c cx hR ha hnm
  refine x_entry [xv E x0] 1 [(0, xv E x0)] ha (by simp [lg_sl, xv_cat, vc_i, vc_j, vc_f]) (by simp [lv_args, xv_cat, vc_i, vc_j, vc_f]) (fun ls hl => ?_)
  have hS : va_S (xA E) s.heap s.heap [] := va_S.rf
  have hcb : 0 + 0 ≤ 0 := Nat.le_of_eq (Nat.zero_add _)
  have hsb : 0 + 0 ≤ 0 := Nat.le_of_eq (Nat.zero_add _)
  unfold wJ19_hashCode at hw
  obtain ⟨hx, hb, hml, hown, hts, hrt, hlk, hMK, hZ⟩ := id cx
  refine x_aload_n cx dJ19_hashCode_0 rfl (lv_at hl 0 rfl) ?_
  obtain ⟨a1, hr1, hk1, hw⟩ := hw
  refine x_alen cx hR hr1 2 hk1 (by decide) dJ19_hashCode_1 ?_
  refine lv_topi (fun v2 hv2 => ?_)
  have hw := hw v2 hv2
  by_cases hc0 : v2 = (0 : Int32)
  · have hw := mm_ip hc0 hw
    refine lv_lookup (off := 26) (tgt := 28) hx hb dJ19_hashCode_2 (by decide +kernel) (by rw [hc0]; decide +kernel) (by decide) ?_
    refine lv_iconst (v := (0 : Int32)) hx hb dJ19_hashCode_28 (by decide) ?_
    refine lv_goto (tgt := 51) hx hb dJ19_hashCode_29 (by decide) ?_
    exact x_iret cx hR hS (xle hcb) (xle hsb) hw dJ19_hashCode_51
  have hw := mm_in hc0 hw
  by_cases hc1 : v2 = (1 : Int32)
  · have hw := mm_ip hc1 hw
    refine lv_lookup (off := 30) (tgt := 32) hx hb dJ19_hashCode_2 (by decide +kernel) (by rw [hc1]; decide +kernel) (by decide) ?_
    refine x_aload_n cx dJ19_hashCode_32 rfl (lv_at hl 0 rfl) ?_
    refine lv_iconst (v := (0 : Int32)) hx hb dJ19_hashCode_33 (by decide) ?_
    obtain ⟨hi, hw⟩ := hw
    refine x_bald cx hR hr1 hk1 (j := 0) (by decide) hi dJ19_hashCode_34 ?_
    refine lv_sipush (v := (255 : Int32)) hx hb dJ19_hashCode_35 (by decide) ?_
    refine lv_iand hx hb dJ19_hashCode_38 ?_
    refine lv_goto (tgt := 51) hx hb dJ19_hashCode_39 (by decide) ?_
    exact x_iret cx hR hS (xle hcb) (xle hsb) hw dJ19_hashCode_51
  have hw := mm_in hc1 hw
  refine lv_lookup (off := 40) (tgt := 42) hx hb dJ19_hashCode_2 (by decide +kernel) (sw_look [((0 : Int32), (26 : Int)), ((1 : Int32), (30 : Int))] (by simp only [List.all_cons, List.all_nil, Bool.and_true, Bool.and_eq_true, decide_eq_true_eq]; exact ⟨hc0, hc1⟩) (by decide +kernel)) (by decide) ?_
  refine x_aload_n cx dJ19_hashCode_42 rfl (lv_at hl 0 rfl) ?_
  refine lv_iconst (v := (0 : Int32)) hx hb dJ19_hashCode_43 (by decide) ?_
  refine x_aload_n cx dJ19_hashCode_44 rfl (lv_at hl 0 rfl) ?_
  refine x_alen cx hR hr1 2 hk1 (by decide) dJ19_hashCode_45 ?_
  refine lv_iconst (v := (0 : Int32)) hx hb dJ19_hashCode_46 (by decide) ?_
  refine lv_iconst (v := (4 : Int32)) hx hb dJ19_hashCode_47 (by decide) ?_
  refine CJ16_vectorizedHashCode_J19_84 cx hR hS  hw ⟨Nat.le_of_ble_eq_true rfl, Nat.le_of_ble_eq_true rfl⟩ (Nat.le_of_ble_eq_true rfl) hl.1 ⟨by dsimp only; omega, by dsimp only; omega⟩ dJ19_hashCode_48 (fun r3 s3 H locs hw hR hS => ?_)
  exact x_iret cx hR hS (xle hcb) (xle hsb) hw dJ19_hashCode_51
-- J14_hashCode
theorem xg_J14_19_22 {l : Launch} {p : Program} {e : Env} {R : Room} {s : State} {m : MethodId} {args : Array Value} {below : List Frame} {meth : Method} {c : Code} {H : Heap} {locs : List Loc} {cells slots : Nat} {Qz : State → Prop} {cc : ByteArray} {nL : Nat} {ret : Option FieldType} {E : xx_E} {σ : XS} {pc : Nat} {ls : Array Slot} {rest : List Value} (cx : xx_X "java/lang/String" cc nL ret E p s m args meth c) (hR : xR E σ H) {a : Nat} {r : Option Nat} (hr : r = some a) (hk : kd σ a = 22) (hdg : decode cc pc = .ok (.getfield 19, 3)) (kk : W p l e R s m args below meth c H locs cells slots Qz (F0 m (pc + 3) ls (.int (fi σ a 2) :: rest))) : W p l e R s m args below meth c H locs cells slots Qz (F0 m pc ls (xv E r :: rest)) :=
  x_get (ci := 21) cx hR hr hk (by decide) rfl in_J14 2 (by decide) q856 (fun _ h => h) (v := .int (fi σ a 2)) rfl hdg kk
theorem xg_J14_23_22 {l : Launch} {p : Program} {e : Env} {R : Room} {s : State} {m : MethodId} {args : Array Value} {below : List Frame} {meth : Method} {c : Code} {H : Heap} {locs : List Loc} {cells slots : Nat} {Qz : State → Prop} {cc : ByteArray} {nL : Nat} {ret : Option FieldType} {E : xx_E} {σ : XS} {pc : Nat} {ls : Array Slot} {rest : List Value} (cx : xx_X "java/lang/String" cc nL ret E p s m args meth c) (hR : xR E σ H) {a : Nat} {r : Option Nat} (hr : r = some a) (hk : kd σ a = 22) (hdg : decode cc pc = .ok (.getfield 23, 3)) (kk : W p l e R s m args below meth c H locs cells slots Qz (F0 m (pc + 3) ls (.int (fi σ a 3) :: rest))) : W p l e R s m args below meth c H locs cells slots Qz (F0 m pc ls (xv E r :: rest)) :=
  x_get (ci := 21) cx hR hr hk (by decide) rfl in_J14 3 (by decide) q857 (fun _ h => h) (v := .int (fi σ a 3)) rfl hdg kk
theorem xp_J14_19_22 {l : Launch} {p : Program} {e : Env} {R : Room} {s : State} {m : MethodId} {args : Array Value} {below : List Frame} {meth : Method} {c : Code} {H : Heap} {locs : List Loc} {cells slots : Nat} {Qz : State → Prop} {cc : ByteArray} {nL : Nat} {ret : Option FieldType} {E : xx_E} {σ : XS} {pc : Nat} {ls : Array Slot} {rest : List Value} (cx : xx_X "java/lang/String" cc nL ret E p s m args meth c) (hR : xR E σ H) (hS0 : va_S (xA E) s.heap H locs) {a : Nat} {r : Option Nat} {v : Int32} (hr : r = some a) (ha : xK ≤ a) (hk : kd σ a = 22) (hdg : decode cc pc = .ok (.putfield 19, 3)) (kk : ∀ (H1 : Heap) (locs1 : List Loc), xR E (pfi σ a 2 v) H1 → va_S (xA E) s.heap H1 locs1 → W p l e R s m args below meth c H1 locs1 cells slots Qz (F0 m (pc + 3) ls rest)) : W p l e R s m args below meth c H locs cells slots Qz (F0 m pc ls (.int v :: xv E r :: rest)) :=
  x_put (ci := 21) cx hR hS0 hr ha hk (by decide) rfl in_J14 tyJ14 tyJ14_ok nmJ14 2 (by decide) (Or.inl ⟨q856, rfl⟩) (fun _ h => h) rfl rfl (xput_i rfl) hdg kk
theorem xp_J14_23_22 {l : Launch} {p : Program} {e : Env} {R : Room} {s : State} {m : MethodId} {args : Array Value} {below : List Frame} {meth : Method} {c : Code} {H : Heap} {locs : List Loc} {cells slots : Nat} {Qz : State → Prop} {cc : ByteArray} {nL : Nat} {ret : Option FieldType} {E : xx_E} {σ : XS} {pc : Nat} {ls : Array Slot} {rest : List Value} (cx : xx_X "java/lang/String" cc nL ret E p s m args meth c) (hR : xR E σ H) (hS0 : va_S (xA E) s.heap H locs) {a : Nat} {r : Option Nat} {v : Int32} (hr : r = some a) (ha : xK ≤ a) (hk : kd σ a = 22) (hz : zb v) (hdg : decode cc pc = .ok (.putfield 23, 3)) (kk : ∀ (H1 : Heap) (locs1 : List Loc), xR E (pfi σ a 3 v) H1 → va_S (xA E) s.heap H1 locs1 → W p l e R s m args below meth c H1 locs1 cells slots Qz (F0 m (pc + 3) ls rest)) : W p l e R s m args below meth c H locs cells slots Qz (F0 m pc ls (.int v :: xv E r :: rest)) :=
  x_put (ci := 21) cx hR hS0 hr ha hk (by decide) rfl in_J14 tyJ14 tyJ14_ok nmJ14 3 (by decide) (Or.inl ⟨q857, rfl⟩) (fun _ h => h) (zb_nar hz) (by rcases hz with rfl | rfl <;> rfl) (xput_i rfl) hdg kk
theorem CJ19_hashCode_J14_628 {l : Launch} {p : Program} {e : Env} {R : Room} {s : State} {m : MethodId} {args : Array Value} {below : List Frame} {meth : Method} {c : Code} {H : Heap} {locs : List Loc} {cells slots : Nat} {Qz : State → Prop} {cc : ByteArray} {nL : Nat} {ret : Option FieldType} {E : xx_E} {σ : XS} {pc : Nat} {ls : Array Slot} {rest : List Value} {x0 : Option Nat} (cx : xx_X "java/lang/String" cc nL ret E p s m args meth c) (hR0 : xR E σ H) (hS0 : va_S (xA E) s.heap H locs) {Qf : Int32 → XS → Prop} (hw : wJ19_hashCode x0 σ Qf) (hR : (({ frames := 2, cells := 0, slots := 0, locals := 80 } : Room)).frames + 1 ≤ R.frames ∧ 8 + (1 + 11) + (({ frames := 2, cells := 0, slots := 0, locals := 80 } : Room)).locals ≤ R.locals) (hrest : rest.length ≤ 4) (hsize : ls.size = nL) (hf : cells + 0 ≤ R.cells ∧ slots + 0 ≤ R.slots) (hdg : decode cc pc = .ok (.invokestatic 628, 3))
    (kk : ∀ (r : Int32) (σ1 : XS) (H1 : Heap) (locs1 : List Loc), Qf r σ1 → xR E σ1 H1 → va_S (xA E) s.heap H1 locs1 → W p l e R s m args below meth c H1 locs1 (cells + 0) (slots + 0) Qz (F0 m (pc + 3) ls (.int r :: rest))) : W p l e R s m args below meth c H locs cells slots Qz (F0 m pc ls (xv E x0 :: rest)) := by
  obtain ⟨hx, hb, hml, hown, hts, hrt, hlk, hK, hZ⟩ := id cx
  exact x_goi (va_runS (As := [xv E x0]) (rest := rest) (x_fix cx) (MJ19_hashCode l E x0 σ Qf hw) (va_cwS 1 hts (lw_S q1060 q1061 q182 q1062) rfl rfl rfl (by decide +kernel) hR) ⟨xblind, x_pre cx hR0 hS0 [xv E x0]⟩ rfl rfl hsize rfl (lv_room (xroom hrest)) hdg hf) hS0 kk
def wJ14_hashCode (th : Nat) (σ : XS) (Q : Int32 → XS → Prop) : Prop :=
  kd σ th = 22 ∧ (∀ v2 : Int32, v2 = (fi σ th 2) → if v2 = 0 then (if (fi σ th 3) = 0 then (wJ14_isLatin1 th σ (fun r3 s3 => if r3 = 0 then (kd s3 th = 22 ∧ (False)) else (kd s3 th = 22 ∧ (wJ19_hashCode (fr s3 th 0) s3 (fun r6 s6 => if r6 = 0 then (kd s6 th = 22 ∧ (xK ≤ th ∧ (Q r6 (pfi s6 th 3 (1 : Int32))))) else (kd s6 th = 22 ∧ (xK ≤ th ∧ (Q r6 (pfi s6 th 2 r6))))))))) else (Q v2 σ)) else (Q v2 σ))
set_option maxHeartbeats 4000000 in
theorem MJ14_hashCode (l : Launch) (E : xx_E) (th : Nat) (σ : XS) (Q : Int32 → XS → Prop) (hw : wJ14_hashCode th σ Q) : xx_Mi l yJ14_hashCode (ws_ yJ14_hashCode cJ14_hashCode 2 (some .int)) ({ frames := 3, cells := 0, slots := 0, locals := 120 } : Room) E [xv E (some th)] σ Q 0 0 := by
  refine x_of (own := "java/lang/String") (by decide +kernel) rfl ?_
  intro p e s m args below meth c cx hR ha hnm
  refine x_entry [xv E (some th)] 2 [(0, xv E (some th))] ha (by simp [lg_sl, xv_cat, vc_i, vc_j, vc_f]) (by simp [lv_args, xv_cat, vc_i, vc_j, vc_f]) (fun ls hl => ?_)
  have hS : va_S (xA E) s.heap s.heap [] := va_S.rf
  have hcb : 0 + 0 ≤ 0 := Nat.le_of_eq (Nat.zero_add _)
  have hsb : 0 + 0 ≤ 0 := Nat.le_of_eq (Nat.zero_add _)
  unfold wJ14_hashCode at hw
  obtain ⟨hx, hb, hml, hown, hts, hrt, hlk, hMK, hZ⟩ := id cx
  refine x_aload_n cx dJ14_hashCode_0 rfl (lv_at hl 0 rfl) ?_
  obtain ⟨hk1, hw⟩ := hw
  refine xg_J14_19_22 cx hR rfl hk1 dJ14_hashCode_1 ?_
  refine lv_topi (fun v2 hv2 => ?_)
  have hw := hw v2 hv2
  refine lv_istore_n (i := 1) (lv' := [(1, .int v2), (0, xv E (some th))]) hx hb dJ14_hashCode_4 rfl hl (by decide) (by simp [xv_cat]) (fun ls hl => ?_)
  refine lv_iload_n hx hb dJ14_hashCode_5 rfl (lv_at hl 0 rfl) ?_
  refine lv_if_ne (tgt := 58) hx hb dJ14_hashCode_6 (by decide) (fun hc => ?_) (fun hc => ?_)
  · have hw := mm_in hc hw
    refine lv_iload_n hx hb dJ14_hashCode_58 rfl (lv_at hl 0 rfl) ?_
    exact x_iret cx hR hS (xle hcb) (xle hsb) hw dJ14_hashCode_59
  · have hw := mm_ip hc hw
    refine x_aload_n cx dJ14_hashCode_9 rfl (lv_at hl 1 rfl) ?_
    refine xg_J14_23_22 cx hR rfl hk1 dJ14_hashCode_10 ?_
    refine lv_if_ne (tgt := 58) hx hb dJ14_hashCode_13 (by decide) (fun hc => ?_) (fun hc => ?_)
    · have hw := mm_in hc hw
      refine lv_iload_n hx hb dJ14_hashCode_58 rfl (lv_at hl 0 rfl) ?_
      exact x_iret cx hR hS (xle hcb) (xle hsb) hw dJ14_hashCode_59
    · have hw := mm_ip hc hw
      refine x_aload_n cx dJ14_hashCode_16 rfl (lv_at hl 1 rfl) ?_
      refine CJ14_isLatin1_J14_492 cx hR hS rfl hk1 hw ⟨Nat.le_of_ble_eq_true rfl, Nat.le_of_ble_eq_true rfl⟩ (Nat.le_of_ble_eq_true rfl) hl.1 ⟨by dsimp only; omega, by dsimp only; omega⟩ dJ14_hashCode_17 (fun r3 s3 H locs hw hR hS => ?_)
      refine lv_if_eq (tgt := 33) hx hb dJ14_hashCode_20 (by decide) (fun hc => ?_) (fun hc => ?_)
      · have hw := mm_ip hc hw
        refine x_aload_n cx dJ14_hashCode_33 rfl (lv_at hl 1 rfl) ?_
        obtain ⟨hk4, hw⟩ := hw
        refine xg_J14_9_22 cx hR rfl hk4 dJ14_hashCode_34 ?_
        exact hw.elim
      · have hw := mm_in hc hw
        refine x_aload_n cx dJ14_hashCode_23 rfl (lv_at hl 1 rfl) ?_
        obtain ⟨hk5, hw⟩ := hw
        refine xg_J14_9_22 cx hR rfl hk5 dJ14_hashCode_24 ?_
        refine CJ19_hashCode_J14_628 cx hR hS  hw ⟨Nat.le_of_ble_eq_true rfl, Nat.le_of_ble_eq_true rfl⟩ (Nat.le_of_ble_eq_true rfl) hl.1 ⟨by dsimp only; omega, by dsimp only; omega⟩ dJ14_hashCode_27 (fun r6 s6 H locs hw hR hS => ?_)
        refine lv_goto (tgt := 40) hx hb dJ14_hashCode_30 (by decide) ?_
        refine lv_istore_n (i := 1) (lv' := [(1, .int r6), (0, xv E (some th))]) hx hb dJ14_hashCode_40 rfl hl (by decide) (by simp [xv_cat]) (fun ls hl => ?_)
        refine lv_iload_n hx hb dJ14_hashCode_41 rfl (lv_at hl 0 rfl) ?_
        refine lv_if_ne (tgt := 53) hx hb dJ14_hashCode_42 (by decide) (fun hc => ?_) (fun hc => ?_)
        · have hw := mm_in hc hw
          refine x_aload_n cx dJ14_hashCode_53 rfl (lv_at hl 1 rfl) ?_
          refine lv_iload_n hx hb dJ14_hashCode_54 rfl (lv_at hl 0 rfl) ?_
          obtain ⟨hk7, hw⟩ := hw
          obtain ⟨hge_th, hw⟩ := hw
          refine xp_J14_19_22 (v := r6) cx hR hS rfl hge_th hk7 dJ14_hashCode_55 (fun H locs hR hS => ?_)
          refine lv_iload_n hx hb dJ14_hashCode_58 rfl (lv_at hl 0 rfl) ?_
          exact x_iret cx hR hS (xle hcb) (xle hsb) hw dJ14_hashCode_59
        · have hw := mm_ip hc hw
          refine x_aload_n cx dJ14_hashCode_45 rfl (lv_at hl 1 rfl) ?_
          refine lv_iconst (v := (1 : Int32)) hx hb dJ14_hashCode_46 (by decide) ?_
          obtain ⟨hk8, hw⟩ := hw
          obtain ⟨hge_th, hw⟩ := hw
          refine xp_J14_23_22 (v := (1 : Int32)) cx hR hS rfl hge_th hk8 (Or.inr rfl) dJ14_hashCode_47 (fun H locs hR hS => ?_)
          refine lv_goto (tgt := 58) hx hb dJ14_hashCode_50 (by decide) ?_
          refine lv_iload_n hx hb dJ14_hashCode_58 rfl (lv_at hl 0 rfl) ?_
          exact x_iret cx hR hS (xle hcb) (xle hsb) hw dJ14_hashCode_59
-- X4_isName
theorem CJ14_hashCode_X4_83 {l : Launch} {p : Program} {e : Env} {R : Room} {s : State} {m : MethodId} {args : Array Value} {below : List Frame} {meth : Method} {c : Code} {H : Heap} {locs : List Loc} {cells slots : Nat} {Qz : State → Prop} {cc : ByteArray} {nL : Nat} {ret : Option FieldType} {E : xx_E} {σ : XS} {pc : Nat} {ls : Array Slot} {rest : List Value} {th : Nat} (cx : xx_X "StruckCounts$Reader" cc nL ret E p s m args meth c) (hR0 : xR E σ H) (hS0 : va_S (xA E) s.heap H locs) {r0 : Option Nat} (hr : r0 = some th) (hk : kd σ th = 22) {Qf : Int32 → XS → Prop} (hw : wJ14_hashCode th σ Qf) (hR : (({ frames := 3, cells := 0, slots := 0, locals := 120 } : Room)).frames + 1 ≤ R.frames ∧ 8 + (2 + 11) + (({ frames := 3, cells := 0, slots := 0, locals := 120 } : Room)).locals ≤ R.locals) (hrest : rest.length ≤ 4) (hsize : ls.size = nL) (hf : cells + 0 ≤ R.cells ∧ slots + 0 ≤ R.slots) (hdg : decode cc pc = .ok (.invokevirtual 83, 3))
    (kk : ∀ (r : Int32) (σ1 : XS) (H1 : Heap) (locs1 : List Loc), Qf r σ1 → xR E σ1 H1 → va_S (xA E) s.heap H1 locs1 → W p l e R s m args below meth c H1 locs1 (cells + 0) (slots + 0) Qz (F0 m (pc + 3) ls (.int r :: rest))) : W p l e R s m args below meth c H locs cells slots Qz (F0 m pc ls (xv E r0 :: rest)) := by
  subst hr
  obtain ⟨hx, hb, hml, hown, hts, hrt, hlk, hK, hZ⟩ := id cx
  exact x_goi (va_runV (As := []) (rest := rest) (x_fix cx) (MJ14_hashCode l E th σ Qf hw) (cwV 0 hts (lw_V q1056 q1057 q1058 q176 q1059) rfl rfl rfl (by decide +kernel) hR) (x_preV cx hR0 hS0 hk (by decide) (q := (RJ14, TJ14, 4)) rfl rfl []) rfl rfl hsize rfl (lv_room (xroom hrest)) hdg hf) hS0 kk
def wX4_isName_276 (Q : Int32 → XS → Prop) (th : Nat) (x2 : Int32) (σ : XS) : Prop :=
  if x2 = 0 then (Q (0 : Int32) σ) else (if x2 = 1 then (Q (0 : Int32) σ) else (if x2 = 2 then (Q (0 : Int32) σ) else (if x2 = 3 then (Q (0 : Int32) σ) else (if x2 = 4 then (Q (0 : Int32) σ) else (if x2 = 5 then (Q (0 : Int32) σ) else (if x2 = 6 then (Q (0 : Int32) σ) else (if x2 = 7 then (Q (0 : Int32) σ) else (if x2 = 8 then (Q (0 : Int32) σ) else (if x2 = 9 then (Q (0 : Int32) σ) else (if x2 = 10 then (Q (0 : Int32) σ) else (Q (1 : Int32) σ)))))))))))
set_option maxHeartbeats 4000000 in
theorem BX4_isName_276 {l : Launch} {p : Program} {e : Env} {s : State} {m : MethodId} {args : Array Value} {below : List Frame} {meth : Method} {c : Code} {E : xx_E} {Q : Int32 → XS → Prop} (cx : xx_X "StruckCounts$Reader" cX4_isName 3 (some .boolean) E p s m args meth c) : ∀ (th : Nat) (x2 : Int32) (σ : XS), wX4_isName_276 Q th x2 σ → x_T p l e ({ frames := 4, cells := 0, slots := 0, locals := 160 } : Room) s m args below meth c E (va_Qi Q (fun σ' t => xW E σ' t) (xA E)) 0 0 3 276 0 0 σ [(0, xv E (some th)), (2, .int x2)] [] := by
  intro th x2 σ hw H locs ls cells slots hR hS hl hcb hsb
  unfold wX4_isName_276 at hw
  obtain ⟨hx, hb, hml, hown, hts, hrt, hlk, hMK, hZ⟩ := id cx
  refine lv_iload_n hx hb dX4_isName_276 rfl (lv_at hl 1 rfl) ?_
  by_cases hc0 : x2 = 0
  · have hw := mm_ip hc0 hw
    refine lv_tableIn (off := 59) (tgt := 336) hx hb dX4_isName_277 (by rw [hc0]; decide) (by rw [hc0]; decide) (by rw [hc0]; decide) (by decide) ?_
    refine lv_iconst (v := (0 : Int32)) hx hb dX4_isName_336 (by decide) ?_
    exact x_nret cx hR hS (xle hcb) (xle hsb) (zb_nar (Or.inl rfl)) hw dX4_isName_337
  have hw := mm_in hc0 hw
  by_cases hc1 : x2 = 1
  · have hw := mm_ip hc1 hw
    refine lv_tableIn (off := 59) (tgt := 336) hx hb dX4_isName_277 (by rw [hc1]; decide) (by rw [hc1]; decide) (by rw [hc1]; decide) (by decide) ?_
    refine lv_iconst (v := (0 : Int32)) hx hb dX4_isName_336 (by decide) ?_
    exact x_nret cx hR hS (xle hcb) (xle hsb) (zb_nar (Or.inl rfl)) hw dX4_isName_337
  have hw := mm_in hc1 hw
  by_cases hc2 : x2 = 2
  · have hw := mm_ip hc2 hw
    refine lv_tableIn (off := 59) (tgt := 336) hx hb dX4_isName_277 (by rw [hc2]; decide) (by rw [hc2]; decide) (by rw [hc2]; decide) (by decide) ?_
    refine lv_iconst (v := (0 : Int32)) hx hb dX4_isName_336 (by decide) ?_
    exact x_nret cx hR hS (xle hcb) (xle hsb) (zb_nar (Or.inl rfl)) hw dX4_isName_337
  have hw := mm_in hc2 hw
  by_cases hc3 : x2 = 3
  · have hw := mm_ip hc3 hw
    refine lv_tableIn (off := 59) (tgt := 336) hx hb dX4_isName_277 (by rw [hc3]; decide) (by rw [hc3]; decide) (by rw [hc3]; decide) (by decide) ?_
    refine lv_iconst (v := (0 : Int32)) hx hb dX4_isName_336 (by decide) ?_
    exact x_nret cx hR hS (xle hcb) (xle hsb) (zb_nar (Or.inl rfl)) hw dX4_isName_337
  have hw := mm_in hc3 hw
  by_cases hc4 : x2 = 4
  · have hw := mm_ip hc4 hw
    refine lv_tableIn (off := 59) (tgt := 336) hx hb dX4_isName_277 (by rw [hc4]; decide) (by rw [hc4]; decide) (by rw [hc4]; decide) (by decide) ?_
    refine lv_iconst (v := (0 : Int32)) hx hb dX4_isName_336 (by decide) ?_
    exact x_nret cx hR hS (xle hcb) (xle hsb) (zb_nar (Or.inl rfl)) hw dX4_isName_337
  have hw := mm_in hc4 hw
  by_cases hc5 : x2 = 5
  · have hw := mm_ip hc5 hw
    refine lv_tableIn (off := 59) (tgt := 336) hx hb dX4_isName_277 (by rw [hc5]; decide) (by rw [hc5]; decide) (by rw [hc5]; decide) (by decide) ?_
    refine lv_iconst (v := (0 : Int32)) hx hb dX4_isName_336 (by decide) ?_
    exact x_nret cx hR hS (xle hcb) (xle hsb) (zb_nar (Or.inl rfl)) hw dX4_isName_337
  have hw := mm_in hc5 hw
  by_cases hc6 : x2 = 6
  · have hw := mm_ip hc6 hw
    refine lv_tableIn (off := 59) (tgt := 336) hx hb dX4_isName_277 (by rw [hc6]; decide) (by rw [hc6]; decide) (by rw [hc6]; decide) (by decide) ?_
    refine lv_iconst (v := (0 : Int32)) hx hb dX4_isName_336 (by decide) ?_
    exact x_nret cx hR hS (xle hcb) (xle hsb) (zb_nar (Or.inl rfl)) hw dX4_isName_337
  have hw := mm_in hc6 hw
  by_cases hc7 : x2 = 7
  · have hw := mm_ip hc7 hw
    refine lv_tableIn (off := 59) (tgt := 336) hx hb dX4_isName_277 (by rw [hc7]; decide) (by rw [hc7]; decide) (by rw [hc7]; decide) (by decide) ?_
    refine lv_iconst (v := (0 : Int32)) hx hb dX4_isName_336 (by decide) ?_
    exact x_nret cx hR hS (xle hcb) (xle hsb) (zb_nar (Or.inl rfl)) hw dX4_isName_337
  have hw := mm_in hc7 hw
  by_cases hc8 : x2 = 8
  · have hw := mm_ip hc8 hw
    refine lv_tableIn (off := 59) (tgt := 336) hx hb dX4_isName_277 (by rw [hc8]; decide) (by rw [hc8]; decide) (by rw [hc8]; decide) (by decide) ?_
    refine lv_iconst (v := (0 : Int32)) hx hb dX4_isName_336 (by decide) ?_
    exact x_nret cx hR hS (xle hcb) (xle hsb) (zb_nar (Or.inl rfl)) hw dX4_isName_337
  have hw := mm_in hc8 hw
  by_cases hc9 : x2 = 9
  · have hw := mm_ip hc9 hw
    refine lv_tableIn (off := 59) (tgt := 336) hx hb dX4_isName_277 (by rw [hc9]; decide) (by rw [hc9]; decide) (by rw [hc9]; decide) (by decide) ?_
    refine lv_iconst (v := (0 : Int32)) hx hb dX4_isName_336 (by decide) ?_
    exact x_nret cx hR hS (xle hcb) (xle hsb) (zb_nar (Or.inl rfl)) hw dX4_isName_337
  have hw := mm_in hc9 hw
  by_cases hc10 : x2 = 10
  · have hw := mm_ip hc10 hw
    refine lv_tableIn (off := 59) (tgt := 336) hx hb dX4_isName_277 (by rw [hc10]; decide) (by rw [hc10]; decide) (by rw [hc10]; decide) (by decide) ?_
    refine lv_iconst (v := (0 : Int32)) hx hb dX4_isName_336 (by decide) ?_
    exact x_nret cx hR hS (xle hcb) (xle hsb) (zb_nar (Or.inl rfl)) hw dX4_isName_337
  have hw := mm_in hc10 hw
  refine lv_tableOut (tgt := 338) hx hb dX4_isName_277 (sw_out 0 10 [(0 : Int32), (1 : Int32), (2 : Int32), (3 : Int32), (4 : Int32), (5 : Int32), (6 : Int32), (7 : Int32), (8 : Int32), (9 : Int32), (10 : Int32)] (by simp only [List.all_cons, List.all_nil, Bool.and_true, Bool.and_eq_true, decide_eq_true_eq]; exact ⟨hc0, hc1, hc2, hc3, hc4, hc5, hc6, hc7, hc8, hc9, hc10⟩) (by intro z h1 h2; exact sw_in11 z h1 h2)) (by decide) ?_
  refine lv_iconst (v := (1 : Int32)) hx hb dX4_isName_338 (by decide) ?_
  exact x_nret cx hR hS (xle hcb) (xle hsb) (zb_nar (Or.inr rfl)) hw dX4_isName_339
def wX4_isName (th : Nat) (σ : XS) (Q : Int32 → XS → Prop) : Prop :=
  kd σ th = 4 ∧ (if (fi σ th 5) = (1 : Int32) then (oc σ (fr σ th 8) 22 (fun a3 => wJ14_hashCode a3 σ (fun r2 s2 => if r2 = (3543 : Int32) then (oc s2 (fr σ th 8) 22 (fun a5 => wJ14_equals a5 (some 24) s2 (fun r4 s4 => if r4 = 0 then (wX4_isName_276 Q th (-1 : Int32) s4) else (wX4_isName_276 Q th (10 : Int32) s4)))) else (if r2 = (3135084 : Int32) then (oc s2 (fr σ th 8) 22 (fun a7 => wJ14_equals a7 (some 4) s2 (fun r6 s6 => if r6 = 0 then (wX4_isName_276 Q th (-1 : Int32) s6) else (wX4_isName_276 Q th (0 : Int32) s6)))) else (if r2 = (3443608 : Int32) then (oc s2 (fr σ th 8) 22 (fun a9 => wJ14_equals a9 (some 16) s2 (fun r8 s8 => if r8 = 0 then (wX4_isName_276 Q th (-1 : Int32) s8) else (wX4_isName_276 Q th (6 : Int32) s8)))) else (if r2 = (3522662 : Int32) then (oc s2 (fr σ th 8) 22 (fun a11 => wJ14_equals a11 (some 20) s2 (fun r10 s10 => if r10 = 0 then (wX4_isName_276 Q th (-1 : Int32) s10) else (wX4_isName_276 Q th (8 : Int32) s10)))) else (if r2 = (3523048 : Int32) then (oc s2 (fr σ th 8) 22 (fun a13 => wJ14_equals a13 (some 18) s2 (fun r12 s12 => if r12 = 0 then (wX4_isName_276 Q th (-1 : Int32) s12) else (wX4_isName_276 Q th (7 : Int32) s12)))) else (if r2 = (93088048 : Int32) then (oc s2 (fr σ th 8) 22 (fun a15 => wJ14_equals a15 (some 12) s2 (fun r14 s14 => if r14 = 0 then (wX4_isName_276 Q th (-1 : Int32) s14) else (wX4_isName_276 Q th (4 : Int32) s14)))) else (if r2 = (94851343 : Int32) then (oc s2 (fr σ th 8) 22 (fun a17 => wJ14_equals a17 (some 8) s2 (fun r16 s16 => if r16 = 0 then (wX4_isName_276 Q th (-1 : Int32) s16) else (wX4_isName_276 Q th (2 : Int32) s16)))) else (if r2 = (102976443 : Int32) then (oc s2 (fr σ th 8) 22 (fun a19 => wJ14_equals a19 (some 22) s2 (fun r18 s18 => if r18 = 0 then (wX4_isName_276 Q th (-1 : Int32) s18) else (wX4_isName_276 Q th (9 : Int32) s18)))) else (if r2 = (104696477 : Int32) then (oc s2 (fr σ th 8) 22 (fun a21 => wJ14_equals a21 (some 14) s2 (fun r20 s20 => if r20 = 0 then (wX4_isName_276 Q th (-1 : Int32) s20) else (wX4_isName_276 Q th (5 : Int32) s20)))) else (if r2 = (104712844 : Int32) then (oc s2 (fr σ th 8) 22 (fun a23 => wJ14_equals a23 (some 6) s2 (fun r22 s22 => if r22 = 0 then (wX4_isName_276 Q th (-1 : Int32) s22) else (wX4_isName_276 Q th (1 : Int32) s22)))) else (if r2 = (113319054 : Int32) then (oc s2 (fr σ th 8) 22 (fun a25 => wJ14_equals a25 (some 10) s2 (fun r24 s24 => if r24 = 0 then (wX4_isName_276 Q th (-1 : Int32) s24) else (wX4_isName_276 Q th (3 : Int32) s24)))) else (wX4_isName_276 Q th (-1 : Int32) s2)))))))))))))) else (Q (0 : Int32) σ))
set_option maxHeartbeats 4000000 in
theorem MX4_isName (l : Launch) (E : xx_E) (th : Nat) (σ : XS) (Q : Int32 → XS → Prop) (hw : wX4_isName th σ Q) : xx_Mi l yX4_isName (ws_ yX4_isName cX4_isName 3 (some .boolean)) ({ frames := 4, cells := 0, slots := 0, locals := 160 } : Room) E [xv E (some th)] σ Q 0 0 := by
  refine x_of (own := "StruckCounts$Reader") (by decide +kernel) rfl ?_
  intro p e s m args below meth c cx hR ha hnm
  refine x_entry [xv E (some th)] 3 [(0, xv E (some th))] ha (by simp [lg_sl, xv_cat, vc_i, vc_j, vc_f]) (by simp [lv_args, xv_cat, vc_i, vc_j, vc_f]) (fun ls hl => ?_)
  have hS : va_S (xA E) s.heap s.heap [] := va_S.rf
  have hcb : 0 + 0 ≤ 0 := Nat.le_of_eq (Nat.zero_add _)
  have hsb : 0 + 0 ≤ 0 := Nat.le_of_eq (Nat.zero_add _)
  unfold wX4_isName at hw
  obtain ⟨hx, hb, hml, hown, hts, hrt, hlk, hMK, hZ⟩ := id cx
  refine x_aload_n cx dX4_isName_0 rfl (lv_at hl 0 rfl) ?_
  obtain ⟨hk1, hw⟩ := hw
  refine xg_X4_45_4 cx hR rfl hk1 dX4_isName_1 ?_
  refine lv_iconst (v := (1 : Int32)) hx hb dX4_isName_4 (by decide) ?_
  refine lv_icmp_eq (tgt := 10) hx hb dX4_isName_5 (by decide) (fun hc => ?_) (fun hc => ?_)
  · have hw := mm_ip hc hw
    refine x_aload_n cx dX4_isName_10 rfl (lv_at hl 0 rfl) ?_
    refine xg_X4_11_4 cx hR rfl hk1 dX4_isName_11 ?_
    refine x_astore_n (i := 1) (r := (fr σ th 8)) (lv' := [(1, xv E (fr σ th 8)), (0, xv E (some th))]) cx dX4_isName_14 rfl hl (by decide) (by simp [xv_cat]) (fun ls hl => ?_)
    refine lv_iconst (v := (-1 : Int32)) hx hb dX4_isName_15 (by decide) ?_
    refine lv_istore_n (i := 2) (lv' := [(2, .int (-1 : Int32)), (1, xv E (fr σ th 8)), (0, xv E (some th))]) hx hb dX4_isName_16 rfl hl (by decide) (by simp [xv_cat]) (fun ls hl => ?_)
    refine x_aload_n cx dX4_isName_17 rfl (lv_at hl 1 rfl) ?_
    obtain ⟨a3, hr3, hk3, hw⟩ := hw
    refine CJ14_hashCode_X4_83 cx hR hS hr3 hk3 hw ⟨Nat.le_of_ble_eq_true rfl, Nat.le_of_ble_eq_true rfl⟩ (Nat.le_of_ble_eq_true rfl) hl.1 ⟨by dsimp only; omega, by dsimp only; omega⟩ dX4_isName_18 (fun r2 s2 H locs hw hR hS => ?_)
    by_cases hc0 : r2 = (3543 : Int32)
    · have hw := mm_ip hc0 hw
      refine lv_lookup (off := 243) (tgt := 264) hx hb dX4_isName_21 (by decide +kernel) (by rw [hc0]; decide +kernel) (by decide) ?_
      refine x_aload_n cx dX4_isName_264 rfl (lv_at hl 1 rfl) ?_
      refine x_ldcS cx 12 (by decide) rfl rfl dX4_isName_265 ?_
      obtain ⟨a5, hr5, hk5, hw⟩ := hw
      refine CJ14_equals_X4_79 cx hR hS hr5 hk5 hw ⟨Nat.le_of_ble_eq_true rfl, Nat.le_of_ble_eq_true rfl⟩ (Nat.le_of_ble_eq_true rfl) hl.1 ⟨by dsimp only; omega, by dsimp only; omega⟩ dX4_isName_267 (fun r4 s4 H locs hw hR hS => ?_)
      refine lv_if_eq (tgt := 276) hx hb dX4_isName_270 (by decide) (fun hc => ?_) (fun hc => ?_)
      · have hw := mm_ip hc hw
        exact BX4_isName_276 cx _ _ _ hw _ _ _ _ _ hR hS (lv_sub hl [2, 0] rfl) hcb hsb
      · have hw := mm_in hc hw
        refine lv_bipush (v := (10 : Int32)) hx hb dX4_isName_273 (by decide) ?_
        refine lv_istore_n (i := 2) (lv' := [(2, .int (10 : Int32)), (1, xv E (fr σ th 8)), (0, xv E (some th))]) hx hb dX4_isName_275 rfl hl (by decide) (by simp [xv_cat]) (fun ls hl => ?_)
        exact BX4_isName_276 cx _ _ _ hw _ _ _ _ _ hR hS (lv_sub hl [2, 0] rfl) hcb hsb
    have hw := mm_in hc0 hw
    by_cases hc1 : r2 = (3135084 : Int32)
    · have hw := mm_ip hc1 hw
      refine lv_lookup (off := 99) (tgt := 120) hx hb dX4_isName_21 (by decide +kernel) (by rw [hc1]; decide +kernel) (by decide) ?_
      refine x_aload_n cx dX4_isName_120 rfl (lv_at hl 1 rfl) ?_
      refine x_ldcS cx 2 (by decide) rfl rfl dX4_isName_121 ?_
      obtain ⟨a7, hr7, hk7, hw⟩ := hw
      refine CJ14_equals_X4_79 cx hR hS hr7 hk7 hw ⟨Nat.le_of_ble_eq_true rfl, Nat.le_of_ble_eq_true rfl⟩ (Nat.le_of_ble_eq_true rfl) hl.1 ⟨by dsimp only; omega, by dsimp only; omega⟩ dX4_isName_123 (fun r6 s6 H locs hw hR hS => ?_)
      refine lv_if_eq (tgt := 276) hx hb dX4_isName_126 (by decide) (fun hc => ?_) (fun hc => ?_)
      · have hw := mm_ip hc hw
        exact BX4_isName_276 cx _ _ _ hw _ _ _ _ _ hR hS (lv_sub hl [2, 0] rfl) hcb hsb
      · have hw := mm_in hc hw
        refine lv_iconst (v := (0 : Int32)) hx hb dX4_isName_129 (by decide) ?_
        refine lv_istore_n (i := 2) (lv' := [(2, .int (0 : Int32)), (1, xv E (fr σ th 8)), (0, xv E (some th))]) hx hb dX4_isName_130 rfl hl (by decide) (by simp [xv_cat]) (fun ls hl => ?_)
        refine lv_goto (tgt := 276) hx hb dX4_isName_131 (by decide) ?_
        exact BX4_isName_276 cx _ _ _ hw _ _ _ _ _ hR hS (lv_sub hl [2, 0] rfl) hcb hsb
    have hw := mm_in hc1 hw
    by_cases hc2 : r2 = (3443608 : Int32)
    · have hw := mm_ip hc2 hw
      refine lv_lookup (off := 183) (tgt := 204) hx hb dX4_isName_21 (by decide +kernel) (by rw [hc2]; decide +kernel) (by decide) ?_
      refine x_aload_n cx dX4_isName_204 rfl (lv_at hl 1 rfl) ?_
      refine x_ldcS cx 8 (by decide) rfl rfl dX4_isName_205 ?_
      obtain ⟨a9, hr9, hk9, hw⟩ := hw
      refine CJ14_equals_X4_79 cx hR hS hr9 hk9 hw ⟨Nat.le_of_ble_eq_true rfl, Nat.le_of_ble_eq_true rfl⟩ (Nat.le_of_ble_eq_true rfl) hl.1 ⟨by dsimp only; omega, by dsimp only; omega⟩ dX4_isName_207 (fun r8 s8 H locs hw hR hS => ?_)
      refine lv_if_eq (tgt := 276) hx hb dX4_isName_210 (by decide) (fun hc => ?_) (fun hc => ?_)
      · have hw := mm_ip hc hw
        exact BX4_isName_276 cx _ _ _ hw _ _ _ _ _ hR hS (lv_sub hl [2, 0] rfl) hcb hsb
      · have hw := mm_in hc hw
        refine lv_bipush (v := (6 : Int32)) hx hb dX4_isName_213 (by decide) ?_
        refine lv_istore_n (i := 2) (lv' := [(2, .int (6 : Int32)), (1, xv E (fr σ th 8)), (0, xv E (some th))]) hx hb dX4_isName_215 rfl hl (by decide) (by simp [xv_cat]) (fun ls hl => ?_)
        refine lv_goto (tgt := 276) hx hb dX4_isName_216 (by decide) ?_
        exact BX4_isName_276 cx _ _ _ hw _ _ _ _ _ hR hS (lv_sub hl [2, 0] rfl) hcb hsb
    have hw := mm_in hc2 hw
    by_cases hc3 : r2 = (3522662 : Int32)
    · have hw := mm_ip hc3 hw
      refine lv_lookup (off := 213) (tgt := 234) hx hb dX4_isName_21 (by decide +kernel) (by rw [hc3]; decide +kernel) (by decide) ?_
      refine x_aload_n cx dX4_isName_234 rfl (lv_at hl 1 rfl) ?_
      refine x_ldcS cx 10 (by decide) rfl rfl dX4_isName_235 ?_
      obtain ⟨a11, hr11, hk11, hw⟩ := hw
      refine CJ14_equals_X4_79 cx hR hS hr11 hk11 hw ⟨Nat.le_of_ble_eq_true rfl, Nat.le_of_ble_eq_true rfl⟩ (Nat.le_of_ble_eq_true rfl) hl.1 ⟨by dsimp only; omega, by dsimp only; omega⟩ dX4_isName_237 (fun r10 s10 H locs hw hR hS => ?_)
      refine lv_if_eq (tgt := 276) hx hb dX4_isName_240 (by decide) (fun hc => ?_) (fun hc => ?_)
      · have hw := mm_ip hc hw
        exact BX4_isName_276 cx _ _ _ hw _ _ _ _ _ hR hS (lv_sub hl [2, 0] rfl) hcb hsb
      · have hw := mm_in hc hw
        refine lv_bipush (v := (8 : Int32)) hx hb dX4_isName_243 (by decide) ?_
        refine lv_istore_n (i := 2) (lv' := [(2, .int (8 : Int32)), (1, xv E (fr σ th 8)), (0, xv E (some th))]) hx hb dX4_isName_245 rfl hl (by decide) (by simp [xv_cat]) (fun ls hl => ?_)
        refine lv_goto (tgt := 276) hx hb dX4_isName_246 (by decide) ?_
        exact BX4_isName_276 cx _ _ _ hw _ _ _ _ _ hR hS (lv_sub hl [2, 0] rfl) hcb hsb
    have hw := mm_in hc3 hw
    by_cases hc4 : r2 = (3523048 : Int32)
    · have hw := mm_ip hc4 hw
      refine lv_lookup (off := 198) (tgt := 219) hx hb dX4_isName_21 (by decide +kernel) (by rw [hc4]; decide +kernel) (by decide) ?_
      refine x_aload_n cx dX4_isName_219 rfl (lv_at hl 1 rfl) ?_
      refine x_ldcS cx 9 (by decide) rfl rfl dX4_isName_220 ?_
      obtain ⟨a13, hr13, hk13, hw⟩ := hw
      refine CJ14_equals_X4_79 cx hR hS hr13 hk13 hw ⟨Nat.le_of_ble_eq_true rfl, Nat.le_of_ble_eq_true rfl⟩ (Nat.le_of_ble_eq_true rfl) hl.1 ⟨by dsimp only; omega, by dsimp only; omega⟩ dX4_isName_222 (fun r12 s12 H locs hw hR hS => ?_)
      refine lv_if_eq (tgt := 276) hx hb dX4_isName_225 (by decide) (fun hc => ?_) (fun hc => ?_)
      · have hw := mm_ip hc hw
        exact BX4_isName_276 cx _ _ _ hw _ _ _ _ _ hR hS (lv_sub hl [2, 0] rfl) hcb hsb
      · have hw := mm_in hc hw
        refine lv_bipush (v := (7 : Int32)) hx hb dX4_isName_228 (by decide) ?_
        refine lv_istore_n (i := 2) (lv' := [(2, .int (7 : Int32)), (1, xv E (fr σ th 8)), (0, xv E (some th))]) hx hb dX4_isName_230 rfl hl (by decide) (by simp [xv_cat]) (fun ls hl => ?_)
        refine lv_goto (tgt := 276) hx hb dX4_isName_231 (by decide) ?_
        exact BX4_isName_276 cx _ _ _ hw _ _ _ _ _ hR hS (lv_sub hl [2, 0] rfl) hcb hsb
    have hw := mm_in hc4 hw
    by_cases hc5 : r2 = (93088048 : Int32)
    · have hw := mm_ip hc5 hw
      refine lv_lookup (off := 155) (tgt := 176) hx hb dX4_isName_21 (by decide +kernel) (by rw [hc5]; decide +kernel) (by decide) ?_
      refine x_aload_n cx dX4_isName_176 rfl (lv_at hl 1 rfl) ?_
      refine x_ldcS cx 6 (by decide) rfl rfl dX4_isName_177 ?_
      obtain ⟨a15, hr15, hk15, hw⟩ := hw
      refine CJ14_equals_X4_79 cx hR hS hr15 hk15 hw ⟨Nat.le_of_ble_eq_true rfl, Nat.le_of_ble_eq_true rfl⟩ (Nat.le_of_ble_eq_true rfl) hl.1 ⟨by dsimp only; omega, by dsimp only; omega⟩ dX4_isName_179 (fun r14 s14 H locs hw hR hS => ?_)
      refine lv_if_eq (tgt := 276) hx hb dX4_isName_182 (by decide) (fun hc => ?_) (fun hc => ?_)
      · have hw := mm_ip hc hw
        exact BX4_isName_276 cx _ _ _ hw _ _ _ _ _ hR hS (lv_sub hl [2, 0] rfl) hcb hsb
      · have hw := mm_in hc hw
        refine lv_iconst (v := (4 : Int32)) hx hb dX4_isName_185 (by decide) ?_
        refine lv_istore_n (i := 2) (lv' := [(2, .int (4 : Int32)), (1, xv E (fr σ th 8)), (0, xv E (some th))]) hx hb dX4_isName_186 rfl hl (by decide) (by simp [xv_cat]) (fun ls hl => ?_)
        refine lv_goto (tgt := 276) hx hb dX4_isName_187 (by decide) ?_
        exact BX4_isName_276 cx _ _ _ hw _ _ _ _ _ hR hS (lv_sub hl [2, 0] rfl) hcb hsb
    have hw := mm_in hc5 hw
    by_cases hc6 : r2 = (94851343 : Int32)
    · have hw := mm_ip hc6 hw
      refine lv_lookup (off := 127) (tgt := 148) hx hb dX4_isName_21 (by decide +kernel) (by rw [hc6]; decide +kernel) (by decide) ?_
      refine x_aload_n cx dX4_isName_148 rfl (lv_at hl 1 rfl) ?_
      refine x_ldcS cx 4 (by decide) rfl rfl dX4_isName_149 ?_
      obtain ⟨a17, hr17, hk17, hw⟩ := hw
      refine CJ14_equals_X4_79 cx hR hS hr17 hk17 hw ⟨Nat.le_of_ble_eq_true rfl, Nat.le_of_ble_eq_true rfl⟩ (Nat.le_of_ble_eq_true rfl) hl.1 ⟨by dsimp only; omega, by dsimp only; omega⟩ dX4_isName_151 (fun r16 s16 H locs hw hR hS => ?_)
      refine lv_if_eq (tgt := 276) hx hb dX4_isName_154 (by decide) (fun hc => ?_) (fun hc => ?_)
      · have hw := mm_ip hc hw
        exact BX4_isName_276 cx _ _ _ hw _ _ _ _ _ hR hS (lv_sub hl [2, 0] rfl) hcb hsb
      · have hw := mm_in hc hw
        refine lv_iconst (v := (2 : Int32)) hx hb dX4_isName_157 (by decide) ?_
        refine lv_istore_n (i := 2) (lv' := [(2, .int (2 : Int32)), (1, xv E (fr σ th 8)), (0, xv E (some th))]) hx hb dX4_isName_158 rfl hl (by decide) (by simp [xv_cat]) (fun ls hl => ?_)
        refine lv_goto (tgt := 276) hx hb dX4_isName_159 (by decide) ?_
        exact BX4_isName_276 cx _ _ _ hw _ _ _ _ _ hR hS (lv_sub hl [2, 0] rfl) hcb hsb
    have hw := mm_in hc6 hw
    by_cases hc7 : r2 = (102976443 : Int32)
    · have hw := mm_ip hc7 hw
      refine lv_lookup (off := 228) (tgt := 249) hx hb dX4_isName_21 (by decide +kernel) (by rw [hc7]; decide +kernel) (by decide) ?_
      refine x_aload_n cx dX4_isName_249 rfl (lv_at hl 1 rfl) ?_
      refine x_ldcS cx 11 (by decide) rfl rfl dX4_isName_250 ?_
      obtain ⟨a19, hr19, hk19, hw⟩ := hw
      refine CJ14_equals_X4_79 cx hR hS hr19 hk19 hw ⟨Nat.le_of_ble_eq_true rfl, Nat.le_of_ble_eq_true rfl⟩ (Nat.le_of_ble_eq_true rfl) hl.1 ⟨by dsimp only; omega, by dsimp only; omega⟩ dX4_isName_252 (fun r18 s18 H locs hw hR hS => ?_)
      refine lv_if_eq (tgt := 276) hx hb dX4_isName_255 (by decide) (fun hc => ?_) (fun hc => ?_)
      · have hw := mm_ip hc hw
        exact BX4_isName_276 cx _ _ _ hw _ _ _ _ _ hR hS (lv_sub hl [2, 0] rfl) hcb hsb
      · have hw := mm_in hc hw
        refine lv_bipush (v := (9 : Int32)) hx hb dX4_isName_258 (by decide) ?_
        refine lv_istore_n (i := 2) (lv' := [(2, .int (9 : Int32)), (1, xv E (fr σ th 8)), (0, xv E (some th))]) hx hb dX4_isName_260 rfl hl (by decide) (by simp [xv_cat]) (fun ls hl => ?_)
        refine lv_goto (tgt := 276) hx hb dX4_isName_261 (by decide) ?_
        exact BX4_isName_276 cx _ _ _ hw _ _ _ _ _ hR hS (lv_sub hl [2, 0] rfl) hcb hsb
    have hw := mm_in hc7 hw
    by_cases hc8 : r2 = (104696477 : Int32)
    · have hw := mm_ip hc8 hw
      refine lv_lookup (off := 169) (tgt := 190) hx hb dX4_isName_21 (by decide +kernel) (by rw [hc8]; decide +kernel) (by decide) ?_
      refine x_aload_n cx dX4_isName_190 rfl (lv_at hl 1 rfl) ?_
      refine x_ldcS cx 7 (by decide) rfl rfl dX4_isName_191 ?_
      obtain ⟨a21, hr21, hk21, hw⟩ := hw
      refine CJ14_equals_X4_79 cx hR hS hr21 hk21 hw ⟨Nat.le_of_ble_eq_true rfl, Nat.le_of_ble_eq_true rfl⟩ (Nat.le_of_ble_eq_true rfl) hl.1 ⟨by dsimp only; omega, by dsimp only; omega⟩ dX4_isName_193 (fun r20 s20 H locs hw hR hS => ?_)
      refine lv_if_eq (tgt := 276) hx hb dX4_isName_196 (by decide) (fun hc => ?_) (fun hc => ?_)
      · have hw := mm_ip hc hw
        exact BX4_isName_276 cx _ _ _ hw _ _ _ _ _ hR hS (lv_sub hl [2, 0] rfl) hcb hsb
      · have hw := mm_in hc hw
        refine lv_iconst (v := (5 : Int32)) hx hb dX4_isName_199 (by decide) ?_
        refine lv_istore_n (i := 2) (lv' := [(2, .int (5 : Int32)), (1, xv E (fr σ th 8)), (0, xv E (some th))]) hx hb dX4_isName_200 rfl hl (by decide) (by simp [xv_cat]) (fun ls hl => ?_)
        refine lv_goto (tgt := 276) hx hb dX4_isName_201 (by decide) ?_
        exact BX4_isName_276 cx _ _ _ hw _ _ _ _ _ hR hS (lv_sub hl [2, 0] rfl) hcb hsb
    have hw := mm_in hc8 hw
    by_cases hc9 : r2 = (104712844 : Int32)
    · have hw := mm_ip hc9 hw
      refine lv_lookup (off := 113) (tgt := 134) hx hb dX4_isName_21 (by decide +kernel) (by rw [hc9]; decide +kernel) (by decide) ?_
      refine x_aload_n cx dX4_isName_134 rfl (lv_at hl 1 rfl) ?_
      refine x_ldcS cx 3 (by decide) rfl rfl dX4_isName_135 ?_
      obtain ⟨a23, hr23, hk23, hw⟩ := hw
      refine CJ14_equals_X4_79 cx hR hS hr23 hk23 hw ⟨Nat.le_of_ble_eq_true rfl, Nat.le_of_ble_eq_true rfl⟩ (Nat.le_of_ble_eq_true rfl) hl.1 ⟨by dsimp only; omega, by dsimp only; omega⟩ dX4_isName_137 (fun r22 s22 H locs hw hR hS => ?_)
      refine lv_if_eq (tgt := 276) hx hb dX4_isName_140 (by decide) (fun hc => ?_) (fun hc => ?_)
      · have hw := mm_ip hc hw
        exact BX4_isName_276 cx _ _ _ hw _ _ _ _ _ hR hS (lv_sub hl [2, 0] rfl) hcb hsb
      · have hw := mm_in hc hw
        refine lv_iconst (v := (1 : Int32)) hx hb dX4_isName_143 (by decide) ?_
        refine lv_istore_n (i := 2) (lv' := [(2, .int (1 : Int32)), (1, xv E (fr σ th 8)), (0, xv E (some th))]) hx hb dX4_isName_144 rfl hl (by decide) (by simp [xv_cat]) (fun ls hl => ?_)
        refine lv_goto (tgt := 276) hx hb dX4_isName_145 (by decide) ?_
        exact BX4_isName_276 cx _ _ _ hw _ _ _ _ _ hR hS (lv_sub hl [2, 0] rfl) hcb hsb
    have hw := mm_in hc9 hw
    by_cases hc10 : r2 = (113319054 : Int32)
    · have hw := mm_ip hc10 hw
      refine lv_lookup (off := 141) (tgt := 162) hx hb dX4_isName_21 (by decide +kernel) (by rw [hc10]; decide +kernel) (by decide) ?_
      refine x_aload_n cx dX4_isName_162 rfl (lv_at hl 1 rfl) ?_
      refine x_ldcS cx 5 (by decide) rfl rfl dX4_isName_163 ?_
      obtain ⟨a25, hr25, hk25, hw⟩ := hw
      refine CJ14_equals_X4_79 cx hR hS hr25 hk25 hw ⟨Nat.le_of_ble_eq_true rfl, Nat.le_of_ble_eq_true rfl⟩ (Nat.le_of_ble_eq_true rfl) hl.1 ⟨by dsimp only; omega, by dsimp only; omega⟩ dX4_isName_165 (fun r24 s24 H locs hw hR hS => ?_)
      refine lv_if_eq (tgt := 276) hx hb dX4_isName_168 (by decide) (fun hc => ?_) (fun hc => ?_)
      · have hw := mm_ip hc hw
        exact BX4_isName_276 cx _ _ _ hw _ _ _ _ _ hR hS (lv_sub hl [2, 0] rfl) hcb hsb
      · have hw := mm_in hc hw
        refine lv_iconst (v := (3 : Int32)) hx hb dX4_isName_171 (by decide) ?_
        refine lv_istore_n (i := 2) (lv' := [(2, .int (3 : Int32)), (1, xv E (fr σ th 8)), (0, xv E (some th))]) hx hb dX4_isName_172 rfl hl (by decide) (by simp [xv_cat]) (fun ls hl => ?_)
        refine lv_goto (tgt := 276) hx hb dX4_isName_173 (by decide) ?_
        exact BX4_isName_276 cx _ _ _ hw _ _ _ _ _ hR hS (lv_sub hl [2, 0] rfl) hcb hsb
    have hw := mm_in hc10 hw
    refine lv_lookup (off := 255) (tgt := 276) hx hb dX4_isName_21 (by decide +kernel) (sw_look [((3543 : Int32), (243 : Int)), ((3135084 : Int32), (99 : Int)), ((3443608 : Int32), (183 : Int)), ((3522662 : Int32), (213 : Int)), ((3523048 : Int32), (198 : Int)), ((93088048 : Int32), (155 : Int)), ((94851343 : Int32), (127 : Int)), ((102976443 : Int32), (228 : Int)), ((104696477 : Int32), (169 : Int)), ((104712844 : Int32), (113 : Int)), ((113319054 : Int32), (141 : Int))] (by simp only [List.all_cons, List.all_nil, Bool.and_true, Bool.and_eq_true, decide_eq_true_eq]; exact ⟨hc0, hc1, hc2, hc3, hc4, hc5, hc6, hc7, hc8, hc9, hc10⟩) (by decide +kernel)) (by decide) ?_
    exact BX4_isName_276 cx _ _ _ hw _ _ _ _ _ hR hS (lv_sub hl [2, 0] rfl) hcb hsb
  · have hw := mm_in hc hw
    refine lv_iconst (v := (0 : Int32)) hx hb dX4_isName_8 (by decide) ?_
    exact x_nret cx hR hS (xle hcb) (xle hsb) (zb_nar (Or.inl rfl)) hw dX4_isName_9
-- X14_hashCode
theorem xg_X14_7_14 {l : Launch} {p : Program} {e : Env} {R : Room} {s : State} {m : MethodId} {args : Array Value} {below : List Frame} {meth : Method} {c : Code} {H : Heap} {locs : List Loc} {cells slots : Nat} {Qz : State → Prop} {cc : ByteArray} {nL : Nat} {ret : Option FieldType} {E : xx_E} {σ : XS} {pc : Nat} {ls : Array Slot} {rest : List Value} (cx : xx_X "StruckCounts$Couple" cc nL ret E p s m args meth c) (hR : xR E σ H) {a : Nat} {r : Option Nat} (hr : r = some a) (hk : kd σ a = 14) (hdg : decode cc pc = .ok (.getfield 7, 3)) (kk : W p l e R s m args below meth c H locs cells slots Qz (F0 m (pc + 3) ls (.int (fi σ a 0) :: rest))) : W p l e R s m args below meth c H locs cells slots Qz (F0 m pc ls (xv E r :: rest)) :=
  x_get (ci := 13) cx hR hr hk (by decide) rfl in_X14 0 (by decide) q1869 (fun _ h => h) (v := .int (fi σ a 0)) rfl hdg kk
theorem xg_X14_13_14 {l : Launch} {p : Program} {e : Env} {R : Room} {s : State} {m : MethodId} {args : Array Value} {below : List Frame} {meth : Method} {c : Code} {H : Heap} {locs : List Loc} {cells slots : Nat} {Qz : State → Prop} {cc : ByteArray} {nL : Nat} {ret : Option FieldType} {E : xx_E} {σ : XS} {pc : Nat} {ls : Array Slot} {rest : List Value} (cx : xx_X "StruckCounts$Couple" cc nL ret E p s m args meth c) (hR : xR E σ H) {a : Nat} {r : Option Nat} (hr : r = some a) (hk : kd σ a = 14) (hdg : decode cc pc = .ok (.getfield 13, 3)) (kk : W p l e R s m args below meth c H locs cells slots Qz (F0 m (pc + 3) ls (.int (fi σ a 1) :: rest))) : W p l e R s m args below meth c H locs cells slots Qz (F0 m pc ls (xv E r :: rest)) :=
  x_get (ci := 13) cx hR hr hk (by decide) rfl in_X14 1 (by decide) q1870 (fun _ h => h) (v := .int (fi σ a 1)) rfl hdg kk
def wX14_hashCode (th : Nat) (σ : XS) (Q : Int32 → XS → Prop) : Prop :=
  kd σ th = 14 ∧ (Q (((1 : Int32) <<< ((fi σ th 0) &&& 31)) ||| ((1 : Int32) <<< ((fi σ th 1) &&& 31))) σ)
set_option maxHeartbeats 4000000 in
theorem MX14_hashCode (l : Launch) (E : xx_E) (th : Nat) (σ : XS) (Q : Int32 → XS → Prop) (hw : wX14_hashCode th σ Q) : xx_Mi l yX14_hashCode (ws_ yX14_hashCode cX14_hashCode 1 (some .int)) ({ frames := 0, cells := 0, slots := 0, locals := 0 } : Room) E [xv E (some th)] σ Q 0 0 := by
  refine x_of (own := "StruckCounts$Couple") (by decide +kernel) rfl ?_
  intro p e s m args below meth c cx hR ha hnm
  refine x_entry [xv E (some th)] 1 [(0, xv E (some th))] ha (by simp [lg_sl, xv_cat, vc_i, vc_j, vc_f]) (by simp [lv_args, xv_cat, vc_i, vc_j, vc_f]) (fun ls hl => ?_)
  have hS : va_S (xA E) s.heap s.heap [] := va_S.rf
  have hcb : 0 + 0 ≤ 0 := Nat.le_of_eq (Nat.zero_add _)
  have hsb : 0 + 0 ≤ 0 := Nat.le_of_eq (Nat.zero_add _)
  unfold wX14_hashCode at hw
  obtain ⟨hx, hb, hml, hown, hts, hrt, hlk, hMK, hZ⟩ := id cx
  refine lv_iconst (v := (1 : Int32)) hx hb dX14_hashCode_0 (by decide) ?_
  refine x_aload_n cx dX14_hashCode_1 rfl (lv_at hl 0 rfl) ?_
  obtain ⟨hk1, hw⟩ := hw
  refine xg_X14_7_14 cx hR rfl hk1 dX14_hashCode_2 ?_
  refine lv_ishl hx hb dX14_hashCode_5 ?_
  refine lv_iconst (v := (1 : Int32)) hx hb dX14_hashCode_6 (by decide) ?_
  refine x_aload_n cx dX14_hashCode_7 rfl (lv_at hl 0 rfl) ?_
  refine xg_X14_13_14 cx hR rfl hk1 dX14_hashCode_8 ?_
  refine lv_ishl hx hb dX14_hashCode_11 ?_
  refine lv_ior hx hb dX14_hashCode_12 ?_
  exact x_iret cx hR hS (xle hcb) (xle hsb) hw dX14_hashCode_13
-- X16_hashCode
theorem xg_X16_7_15 {l : Launch} {p : Program} {e : Env} {R : Room} {s : State} {m : MethodId} {args : Array Value} {below : List Frame} {meth : Method} {c : Code} {H : Heap} {locs : List Loc} {cells slots : Nat} {Qz : State → Prop} {cc : ByteArray} {nL : Nat} {ret : Option FieldType} {E : xx_E} {σ : XS} {pc : Nat} {ls : Array Slot} {rest : List Value} (cx : xx_X "StruckCounts$Outcome" cc nL ret E p s m args meth c) (hR : xR E σ H) {a : Nat} {r : Option Nat} (hr : r = some a) (hk : kd σ a = 15) (hdg : decode cc pc = .ok (.getfield 7, 3)) (kk : W p l e R s m args below meth c H locs cells slots Qz (F0 m (pc + 3) ls (.int (fi σ a 0) :: rest))) : W p l e R s m args below meth c H locs cells slots Qz (F0 m pc ls (xv E r :: rest)) :=
  x_get (ci := 14) cx hR hr hk (by decide) rfl in_X16 0 (by decide) q2282 (fun _ h => h) (v := .int (fi σ a 0)) rfl hdg kk
def wX16_hashCode (th : Nat) (σ : XS) (Q : Int32 → XS → Prop) : Prop :=
  kd σ th = 15 ∧ (Q (fi σ th 0) σ)
set_option maxHeartbeats 4000000 in
theorem MX16_hashCode (l : Launch) (E : xx_E) (th : Nat) (σ : XS) (Q : Int32 → XS → Prop) (hw : wX16_hashCode th σ Q) : xx_Mi l yX16_hashCode (ws_ yX16_hashCode cX16_hashCode 1 (some .int)) ({ frames := 0, cells := 0, slots := 0, locals := 0 } : Room) E [xv E (some th)] σ Q 0 0 := by
  refine x_of (own := "StruckCounts$Outcome") (by decide +kernel) rfl ?_
  intro p e s m args below meth c cx hR ha hnm
  refine x_entry [xv E (some th)] 1 [(0, xv E (some th))] ha (by simp [lg_sl, xv_cat, vc_i, vc_j, vc_f]) (by simp [lv_args, xv_cat, vc_i, vc_j, vc_f]) (fun ls hl => ?_)
  have hS : va_S (xA E) s.heap s.heap [] := va_S.rf
  have hcb : 0 + 0 ≤ 0 := Nat.le_of_eq (Nat.zero_add _)
  have hsb : 0 + 0 ≤ 0 := Nat.le_of_eq (Nat.zero_add _)
  unfold wX16_hashCode at hw
  obtain ⟨hx, hb, hml, hown, hts, hrt, hlk, hMK, hZ⟩ := id cx
  refine x_aload_n cx dX16_hashCode_0 rfl (lv_at hl 0 rfl) ?_
  obtain ⟨hk1, hw⟩ := hw
  refine xg_X16_7_15 cx hR rfl hk1 dX16_hashCode_1 ?_
  exact x_iret cx hR hS (xle hcb) (xle hsb) hw dX16_hashCode_4
-- J1_hash
def wO_hashCode (th : Nat) (σ : XS) (Q : Int32 → XS → Prop) : Prop := if kd σ th = 22 then wJ14_hashCode th σ Q else if kd σ th = 14 then wX14_hashCode th σ Q else if kd σ th = 15 then wX16_hashCode th σ Q else False
theorem CJ14_hashCode_J1_1 {l : Launch} {p : Program} {e : Env} {R : Room} {s : State} {m : MethodId} {args : Array Value} {below : List Frame} {meth : Method} {c : Code} {H : Heap} {locs : List Loc} {cells slots : Nat} {Qz : State → Prop} {cc : ByteArray} {nL : Nat} {ret : Option FieldType} {E : xx_E} {σ : XS} {pc : Nat} {ls : Array Slot} {rest : List Value} {th : Nat} (cx : xx_X "java/util/HashMap" cc nL ret E p s m args meth c) (hR0 : xR E σ H) (hS0 : va_S (xA E) s.heap H locs) {r0 : Option Nat} (hr : r0 = some th) (hk : kd σ th = 22) {Qf : Int32 → XS → Prop} (hw : wJ14_hashCode th σ Qf) (hR : (({ frames := 3, cells := 0, slots := 0, locals := 120 } : Room)).frames + 1 ≤ R.frames ∧ 8 + (2 + 11) + (({ frames := 3, cells := 0, slots := 0, locals := 120 } : Room)).locals ≤ R.locals) (hrest : rest.length ≤ 4) (hsize : ls.size = nL) (hf : cells + 0 ≤ R.cells ∧ slots + 0 ≤ R.slots) (hdg : decode cc pc = .ok (.invokevirtual 1, 3))
    (kk : ∀ (r : Int32) (σ1 : XS) (H1 : Heap) (locs1 : List Loc), Qf r σ1 → xR E σ1 H1 → va_S (xA E) s.heap H1 locs1 → W p l e R s m args below meth c H1 locs1 (cells + 0) (slots + 0) Qz (F0 m (pc + 3) ls (.int r :: rest))) : W p l e R s m args below meth c H locs cells slots Qz (F0 m pc ls (xv E r0 :: rest)) := by
  subst hr
  obtain ⟨hx, hb, hml, hown, hts, hrt, hlk, hK, hZ⟩ := id cx
  exact x_goi (va_runU (C := "java/lang/String") (owner := "java/lang/Object") (As := []) (rest := rest) (x_fix cx) (MJ14_hashCode l E th σ Qf hw) (va_cwA (C := "java/lang/String") (owner := "java/lang/Object") (x := ⟨"java/lang/Object", "hashCode", "()I"⟩) 0 hts (lw_app (xin5 q1143 q1145 q1167 q1057 q176) (lw_meth q1059)) rfl rfl rfl hK.2.2.2.2.2.2.2.2.1 (by decide +kernel) hR) (x_preV cx hR0 hS0 hk (by decide) (q := (RJ14, TJ14, 4)) rfl rfl []) rfl rfl hsize rfl (lv_room (xroom hrest)) hdg hf) hS0 kk
theorem CX14_hashCode_J1_1 {l : Launch} {p : Program} {e : Env} {R : Room} {s : State} {m : MethodId} {args : Array Value} {below : List Frame} {meth : Method} {c : Code} {H : Heap} {locs : List Loc} {cells slots : Nat} {Qz : State → Prop} {cc : ByteArray} {nL : Nat} {ret : Option FieldType} {E : xx_E} {σ : XS} {pc : Nat} {ls : Array Slot} {rest : List Value} {th : Nat} (cx : xx_X "java/util/HashMap" cc nL ret E p s m args meth c) (hR0 : xR E σ H) (hS0 : va_S (xA E) s.heap H locs) {r0 : Option Nat} (hr : r0 = some th) (hk : kd σ th = 14) {Qf : Int32 → XS → Prop} (hw : wX14_hashCode th σ Qf) (hR : (({ frames := 0, cells := 0, slots := 0, locals := 0 } : Room)).frames + 1 ≤ R.frames ∧ 8 + (1 + 11) + (({ frames := 0, cells := 0, slots := 0, locals := 0 } : Room)).locals ≤ R.locals) (hrest : rest.length ≤ 4) (hsize : ls.size = nL) (hf : cells + 0 ≤ R.cells ∧ slots + 0 ≤ R.slots) (hdg : decode cc pc = .ok (.invokevirtual 1, 3))
    (kk : ∀ (r : Int32) (σ1 : XS) (H1 : Heap) (locs1 : List Loc), Qf r σ1 → xR E σ1 H1 → va_S (xA E) s.heap H1 locs1 → W p l e R s m args below meth c H1 locs1 (cells + 0) (slots + 0) Qz (F0 m (pc + 3) ls (.int r :: rest))) : W p l e R s m args below meth c H locs cells slots Qz (F0 m pc ls (xv E r0 :: rest)) := by
  subst hr
  obtain ⟨hx, hb, hml, hown, hts, hrt, hlk, hK, hZ⟩ := id cx
  exact x_goi (va_runU (C := "StruckCounts$Couple") (owner := "java/lang/Object") (As := []) (rest := rest) (x_fix cx) (MX14_hashCode l E th σ Qf hw) (va_cwA (C := "StruckCounts$Couple") (owner := "java/lang/Object") (x := ⟨"java/lang/Object", "hashCode", "()I"⟩) 0 hts (lw_app (xin5 q1143 q1145 q1148 q1149 q201) (lw_meth q1150)) rfl rfl rfl hK.2.2.2.2.2.2.2.2.1 (by decide +kernel) hR) (x_preV cx hR0 hS0 hk (by decide) (q := (RX14, TX14, 2)) rfl rfl []) rfl rfl hsize rfl (lv_room (xroom hrest)) hdg hf) hS0 kk
theorem CX16_hashCode_J1_1 {l : Launch} {p : Program} {e : Env} {R : Room} {s : State} {m : MethodId} {args : Array Value} {below : List Frame} {meth : Method} {c : Code} {H : Heap} {locs : List Loc} {cells slots : Nat} {Qz : State → Prop} {cc : ByteArray} {nL : Nat} {ret : Option FieldType} {E : xx_E} {σ : XS} {pc : Nat} {ls : Array Slot} {rest : List Value} {th : Nat} (cx : xx_X "java/util/HashMap" cc nL ret E p s m args meth c) (hR0 : xR E σ H) (hS0 : va_S (xA E) s.heap H locs) {r0 : Option Nat} (hr : r0 = some th) (hk : kd σ th = 15) {Qf : Int32 → XS → Prop} (hw : wX16_hashCode th σ Qf) (hR : (({ frames := 0, cells := 0, slots := 0, locals := 0 } : Room)).frames + 1 ≤ R.frames ∧ 8 + (1 + 11) + (({ frames := 0, cells := 0, slots := 0, locals := 0 } : Room)).locals ≤ R.locals) (hrest : rest.length ≤ 4) (hsize : ls.size = nL) (hf : cells + 0 ≤ R.cells ∧ slots + 0 ≤ R.slots) (hdg : decode cc pc = .ok (.invokevirtual 1, 3))
    (kk : ∀ (r : Int32) (σ1 : XS) (H1 : Heap) (locs1 : List Loc), Qf r σ1 → xR E σ1 H1 → va_S (xA E) s.heap H1 locs1 → W p l e R s m args below meth c H1 locs1 (cells + 0) (slots + 0) Qz (F0 m (pc + 3) ls (.int r :: rest))) : W p l e R s m args below meth c H locs cells slots Qz (F0 m pc ls (xv E r0 :: rest)) := by
  subst hr
  obtain ⟨hx, hb, hml, hown, hts, hrt, hlk, hK, hZ⟩ := id cx
  exact x_goi (va_runU (C := "StruckCounts$Outcome") (owner := "java/lang/Object") (As := []) (rest := rest) (x_fix cx) (MX16_hashCode l E th σ Qf hw) (va_cwA (C := "StruckCounts$Outcome") (owner := "java/lang/Object") (x := ⟨"java/lang/Object", "hashCode", "()I"⟩) 0 hts (lw_app (xin5 q1143 q1145 q1154 q1155 q205) (lw_meth q1156)) rfl rfl rfl hK.2.2.2.2.2.2.2.2.1 (by decide +kernel) hR) (x_preV cx hR0 hS0 hk (by decide) (q := (RX16, TX16, 3)) rfl rfl []) rfl rfl hsize rfl (lv_room (xroom hrest)) hdg hf) hS0 kk
theorem CO_hashCode_J1_1 {l : Launch} {p : Program} {e : Env} {R : Room} {s : State} {m : MethodId} {args : Array Value} {below : List Frame} {meth : Method} {c : Code} {H : Heap} {locs : List Loc} {cells slots : Nat} {Qz : State → Prop} {cc : ByteArray} {nL : Nat} {ret : Option FieldType} {E : xx_E} {σ : XS} {pc : Nat} {ls : Array Slot} {rest : List Value} {th : Nat} (cx : xx_X "java/util/HashMap" cc nL ret E p s m args meth c) (hR0 : xR E σ H) (hS0 : va_S (xA E) s.heap H locs) {r0 : Option Nat} (hr : r0 = some th) {Qf : Int32 → XS → Prop} (hw : wO_hashCode th σ Qf) (hR : 7 + 1 ≤ R.frames ∧ 40 * (7 + 1) ≤ R.locals) (hrest : rest.length ≤ 4) (hsize : ls.size = nL) (hf : cells + 0 ≤ R.cells ∧ slots + 0 ≤ R.slots) (hdg : decode cc pc = .ok (.invokevirtual 1, 3))
    (kk : ∀ (r : Int32) (σ1 : XS) (H1 : Heap) (locs1 : List Loc), Qf r σ1 → xR E σ1 H1 → va_S (xA E) s.heap H1 locs1 → W p l e R s m args below meth c H1 locs1 (cells + 0) (slots + 0) Qz (F0 m (pc + 3) ls (.int r :: rest))) : W p l e R s m args below meth c H locs cells slots Qz (F0 m pc ls (xv E r0 :: rest)) := by
  by_cases hk : kd σ th = 22
  · exact CJ14_hashCode_J1_1 cx hR0 hS0 hr hk (mm_ip hk hw) ⟨by dsimp only; omega, by dsimp only; omega⟩ hrest hsize hf hdg kk
  replace hw := mm_in hk hw
  by_cases hk : kd σ th = 14
  · exact CX14_hashCode_J1_1 cx hR0 hS0 hr hk (mm_ip hk hw) ⟨by dsimp only; omega, by dsimp only; omega⟩ hrest hsize hf hdg kk
  replace hw := mm_in hk hw
  by_cases hk : kd σ th = 15
  · exact CX16_hashCode_J1_1 cx hR0 hS0 hr hk (mm_ip hk hw) ⟨by dsimp only; omega, by dsimp only; omega⟩ hrest hsize hf hdg kk
  replace hw := mm_in hk hw
  exact hw.elim
def wJ1_hash (x0 : Option Nat) (σ : XS) (Q : Int32 → XS → Prop) : Prop :=
  if x0 = none then (Q (0 : Int32) σ) else (oe x0 (fun a2 => wO_hashCode a2 σ (fun r1 s1 => Q (r1 ^^^ (ushr r1 (16 : Int32))) s1)))
set_option maxHeartbeats 4000000 in
theorem MJ1_hash (l : Launch) (E : xx_E) (x0 : Option Nat) (σ : XS) (Q : Int32 → XS → Prop) (hw : wJ1_hash x0 σ Q) : xx_Mi l yJ1_hash (ws_ yJ1_hash cJ1_hash 2 (some .int)) ({ frames := 8, cells := 0, slots := 0, locals := 320 } : Room) E [xv E x0] σ Q 0 0 := by
  refine x_of (own := "java/util/HashMap") (by decide +kernel) rfl ?_
  intro p e s m args below meth c cx hR ha hnm
  refine x_entry [xv E x0] 2 [(0, xv E x0)] ha (by simp [lg_sl, xv_cat, vc_i, vc_j, vc_f]) (by simp [lv_args, xv_cat, vc_i, vc_j, vc_f]) (fun ls hl => ?_)
  have hS : va_S (xA E) s.heap s.heap [] := va_S.rf
  have hcb : 0 + 0 ≤ 0 := Nat.le_of_eq (Nat.zero_add _)
  have hsb : 0 + 0 ≤ 0 := Nat.le_of_eq (Nat.zero_add _)
  unfold wJ1_hash at hw
  obtain ⟨hx, hb, hml, hown, hts, hrt, hlk, hMK, hZ⟩ := id cx
  refine x_aload_n cx dJ1_hash_0 rfl (lv_at hl 0 rfl) ?_
  refine x_ifnonnull (tgt := 8) cx dJ1_hash_1 (by decide) (fun hc => ?_) (fun hc => ?_)
  · have hw := mm_in hc hw
    refine x_aload_n cx dJ1_hash_8 rfl (lv_at hl 0 rfl) ?_
    obtain ⟨a2, hr2, hw⟩ := hw
    refine CO_hashCode_J1_1 cx hR hS hr2 hw ⟨Nat.le_of_ble_eq_true rfl, Nat.le_of_ble_eq_true rfl⟩ (Nat.le_of_ble_eq_true rfl) hl.1 ⟨by dsimp only; omega, by dsimp only; omega⟩ dJ1_hash_9 (fun r1 s1 H locs hw hR hS => ?_)
    refine lv_dup hx hb dJ1_hash_12 rfl ?_
    refine lv_istore_n (i := 1) (lv' := [(1, .int r1), (0, xv E x0)]) hx hb dJ1_hash_13 rfl hl (by decide) (by simp [xv_cat]) (fun ls hl => ?_)
    refine lv_iload_n hx hb dJ1_hash_14 rfl (lv_at hl 0 rfl) ?_
    refine lv_bipush (v := (16 : Int32)) hx hb dJ1_hash_15 (by decide) ?_
    refine lv_iushr (v := (ushr r1 (16 : Int32))) hx hb dJ1_hash_17 rfl ?_
    refine lv_ixor hx hb dJ1_hash_18 ?_
    exact x_iret cx hR hS (xle hcb) (xle hsb) hw dJ1_hash_19
  · have hw := mm_ip hc hw
    refine lv_iconst (v := (0 : Int32)) hx hb dJ1_hash_4 (by decide) ?_
    refine lv_goto (tgt := 19) hx hb dJ1_hash_5 (by decide) ?_
    exact x_iret cx hR hS (xle hcb) (xle hsb) hw dJ1_hash_19
-- X14_equals
theorem xcc_4 {σ : XS} {r : Option Nat} (h : xck [14] σ r) : ∀ a, r = some a → xcl σ "StruckCounts$Couple" a := by
  intro a ha
  have h := h a ha
  have h : kd σ a = 14 := by simpa using h
  rcases h with h
  · exact ⟨13, _, h, by decide, rfl, by decide⟩
def wX14_equals_58 (Q : Int32 → XS → Prop) (th : Nat) (σ : XS) : Prop :=
  Q (1 : Int32) σ
set_option maxHeartbeats 4000000 in
theorem BX14_equals_58 {l : Launch} {p : Program} {e : Env} {s : State} {m : MethodId} {args : Array Value} {below : List Frame} {meth : Method} {c : Code} {E : xx_E} {Q : Int32 → XS → Prop} (cx : xx_X "StruckCounts$Couple" cX14_equals 3 (some .boolean) E p s m args meth c) : ∀ (th : Nat) (σ : XS), wX14_equals_58 Q th σ → x_T p l e ({ frames := 0, cells := 0, slots := 0, locals := 0 } : Room) s m args below meth c E (va_Qi Q (fun σ' t => xW E σ' t) (xA E)) 0 0 3 58 0 0 σ [(0, xv E (some th))] [] := by
  intro th σ hw H locs ls cells slots hR hS hl hcb hsb
  unfold wX14_equals_58 at hw
  obtain ⟨hx, hb, hml, hown, hts, hrt, hlk, hMK, hZ⟩ := id cx
  refine lv_iconst (v := (1 : Int32)) hx hb dX14_equals_58 (by decide) ?_
  refine lv_goto (tgt := 63) hx hb dX14_equals_59 (by decide) ?_
  exact x_nret cx hR hS (xle hcb) (xle hsb) (zb_nar (Or.inr rfl)) hw dX14_equals_63
def wX14_equals_36 (Q : Int32 → XS → Prop) (th : Nat) (x2 : Option Nat) (σ : XS) : Prop :=
  kd σ th = 14 ∧ (oc σ x2 14 (fun a2 => if (fi σ th 0) = (fi σ a2 1) then (if (fi σ th 1) = (fi σ a2 0) then (wX14_equals_58 Q th σ) else (Q (0 : Int32) σ)) else (Q (0 : Int32) σ)))
set_option maxHeartbeats 4000000 in
theorem BX14_equals_36 {l : Launch} {p : Program} {e : Env} {s : State} {m : MethodId} {args : Array Value} {below : List Frame} {meth : Method} {c : Code} {E : xx_E} {Q : Int32 → XS → Prop} (cx : xx_X "StruckCounts$Couple" cX14_equals 3 (some .boolean) E p s m args meth c) : ∀ (th : Nat) (x2 : Option Nat) (σ : XS), wX14_equals_36 Q th x2 σ → x_T p l e ({ frames := 0, cells := 0, slots := 0, locals := 0 } : Room) s m args below meth c E (va_Qi Q (fun σ' t => xW E σ' t) (xA E)) 0 0 3 36 0 0 σ [(0, xv E (some th)), (2, xv E x2)] [] := by
  intro th x2 σ hw H locs ls cells slots hR hS hl hcb hsb
  unfold wX14_equals_36 at hw
  obtain ⟨hx, hb, hml, hown, hts, hrt, hlk, hMK, hZ⟩ := id cx
  refine x_aload_n cx dX14_equals_36 rfl (lv_at hl 0 rfl) ?_
  obtain ⟨hk1, hw⟩ := hw
  refine xg_X14_7_14 cx hR rfl hk1 dX14_equals_37 ?_
  refine x_aload_n cx dX14_equals_40 rfl (lv_at hl 1 rfl) ?_
  obtain ⟨a2, hr2, hk2, hw⟩ := hw
  refine xg_X14_13_14 cx hR hr2 hk2 dX14_equals_41 ?_
  refine lv_icmp_ne (tgt := 62) hx hb dX14_equals_44 (by decide) (fun hc => ?_) (fun hc => ?_)
  · have hw := mm_in hc hw
    refine lv_iconst (v := (0 : Int32)) hx hb dX14_equals_62 (by decide) ?_
    exact x_nret cx hR hS (xle hcb) (xle hsb) (zb_nar (Or.inl rfl)) hw dX14_equals_63
  · have hw := mm_ip hc hw
    refine x_aload_n cx dX14_equals_47 rfl (lv_at hl 0 rfl) ?_
    refine xg_X14_13_14 cx hR rfl hk1 dX14_equals_48 ?_
    refine x_aload_n cx dX14_equals_51 rfl (lv_at hl 1 rfl) ?_
    refine xg_X14_7_14 cx hR hr2 hk2 dX14_equals_52 ?_
    refine lv_icmp_ne (tgt := 62) hx hb dX14_equals_55 (by decide) (fun hc => ?_) (fun hc => ?_)
    · have hw := mm_in hc hw
      refine lv_iconst (v := (0 : Int32)) hx hb dX14_equals_62 (by decide) ?_
      exact x_nret cx hR hS (xle hcb) (xle hsb) (zb_nar (Or.inl rfl)) hw dX14_equals_63
    · have hw := mm_ip hc hw
      exact BX14_equals_58 cx _ _ hw _ _ _ _ _ hR hS (lv_sub hl [0] rfl) hcb hsb
def wX14_equals (th : Nat) (x1 : Option Nat) (σ : XS) (Q : Int32 → XS → Prop) : Prop :=
  oc σ x1 14 (fun a3 => xck [14] σ x1 ∧ (kd σ th = 14 ∧ (if (fi σ th 0) = (fi σ a3 0) then (if (fi σ th 1) = (fi σ a3 1) then (wX14_equals_58 Q th σ) else (wX14_equals_36 Q th x1 σ)) else (wX14_equals_36 Q th x1 σ))))
set_option maxHeartbeats 4000000 in
theorem MX14_equals (l : Launch) (E : xx_E) (th : Nat) (x1 : Option Nat) (σ : XS) (Q : Int32 → XS → Prop) (hw : wX14_equals th x1 σ Q) : xx_Mi l yX14_equals (ws_ yX14_equals cX14_equals 3 (some .boolean)) ({ frames := 0, cells := 0, slots := 0, locals := 0 } : Room) E [xv E (some th), xv E x1] σ Q 0 0 := by
  refine x_of (own := "StruckCounts$Couple") (by decide +kernel) rfl ?_
  intro p e s m args below meth c cx hR ha hnm
  refine x_entry [xv E (some th), xv E x1] 3 [(0, xv E (some th)), (1, xv E x1)] ha (by simp [lg_sl, xv_cat, vc_i, vc_j, vc_f]) (by simp [lv_args, xv_cat, vc_i, vc_j, vc_f]) (fun ls hl => ?_)
  have hS : va_S (xA E) s.heap s.heap [] := va_S.rf
  have hcb : 0 + 0 ≤ 0 := Nat.le_of_eq (Nat.zero_add _)
  have hsb : 0 + 0 ≤ 0 := Nat.le_of_eq (Nat.zero_add _)
  unfold wX14_equals at hw
  obtain ⟨hx, hb, hml, hown, hts, hrt, hlk, hMK, hZ⟩ := id cx
  refine x_aload_n cx dX14_equals_0 rfl (lv_at hl 1 rfl) ?_
  obtain ⟨a3, hr3, hk3, hw⟩ := hw
  refine x_instY cx hR hr3 hk3 (by decide) rfl q1181 rfl dX14_equals_1 ?_
  refine lv_if_ne (tgt := 9) hx hb dX14_equals_4 (by decide) (fun hc => ?_) (fun hc => ?_)
  rotate_left
  · exact absurd hc (by decide)
  refine x_aload_n cx dX14_equals_9 rfl (lv_at hl 1 rfl) ?_
  obtain ⟨hv, hw⟩ := hw
  refine x_cast cx hR q1181 (xcc_4 hv) dX14_equals_10 ?_
  refine x_astore_n (i := 2) (r := x1) (lv' := [(2, xv E x1), (0, xv E (some th)), (1, xv E x1)]) cx dX14_equals_13 rfl hl (by decide) (by simp [xv_cat]) (fun ls hl => ?_)
  refine x_aload_n cx dX14_equals_14 rfl (lv_at hl 1 rfl) ?_
  obtain ⟨hk4, hw⟩ := hw
  refine xg_X14_7_14 cx hR rfl hk4 dX14_equals_15 ?_
  refine x_aload_n cx dX14_equals_18 rfl (lv_at hl 0 rfl) ?_
  refine xg_X14_7_14 cx hR hr3 hk3 dX14_equals_19 ?_
  refine lv_icmp_ne (tgt := 36) hx hb dX14_equals_22 (by decide) (fun hc => ?_) (fun hc => ?_)
  · have hw := mm_in hc hw
    exact BX14_equals_36 cx _ _ _ hw _ _ _ _ _ hR hS (lv_sub hl [1, 0] rfl) hcb hsb
  · have hw := mm_ip hc hw
    refine x_aload_n cx dX14_equals_25 rfl (lv_at hl 1 rfl) ?_
    refine xg_X14_13_14 cx hR rfl hk4 dX14_equals_26 ?_
    refine x_aload_n cx dX14_equals_29 rfl (lv_at hl 0 rfl) ?_
    refine xg_X14_13_14 cx hR hr3 hk3 dX14_equals_30 ?_
    refine lv_icmp_eq (tgt := 58) hx hb dX14_equals_33 (by decide) (fun hc => ?_) (fun hc => ?_)
    · have hw := mm_ip hc hw
      exact BX14_equals_58 cx _ _ hw _ _ _ _ _ hR hS (lv_sub hl [1] rfl) hcb hsb
    · have hw := mm_in hc hw
      exact BX14_equals_36 cx _ _ _ hw _ _ _ _ _ hR hS (lv_sub hl [1, 0] rfl) hcb hsb
-- X16_equals
theorem xcc_5 {σ : XS} {r : Option Nat} (h : xck [15] σ r) : ∀ a, r = some a → xcl σ "StruckCounts$Outcome" a := by
  intro a ha
  have h := h a ha
  have h : kd σ a = 15 := by simpa using h
  rcases h with h
  · exact ⟨14, _, h, by decide, rfl, by decide⟩
def wX16_equals (th : Nat) (x1 : Option Nat) (σ : XS) (Q : Int32 → XS → Prop) : Prop :=
  oc σ x1 15 (fun a1 => xck [15] σ x1 ∧ (kd σ th = 15 ∧ (if (fi σ a1 0) = (fi σ th 0) then (Q (1 : Int32) σ) else (Q (0 : Int32) σ))))
set_option maxHeartbeats 4000000 in
theorem MX16_equals (l : Launch) (E : xx_E) (th : Nat) (x1 : Option Nat) (σ : XS) (Q : Int32 → XS → Prop) (hw : wX16_equals th x1 σ Q) : xx_Mi l yX16_equals (ws_ yX16_equals cX16_equals 2 (some .boolean)) ({ frames := 0, cells := 0, slots := 0, locals := 0 } : Room) E [xv E (some th), xv E x1] σ Q 0 0 := by
  refine x_of (own := "StruckCounts$Outcome") (by decide +kernel) rfl ?_
  intro p e s m args below meth c cx hR ha hnm
  refine x_entry [xv E (some th), xv E x1] 2 [(0, xv E (some th)), (1, xv E x1)] ha (by simp [lg_sl, xv_cat, vc_i, vc_j, vc_f]) (by simp [lv_args, xv_cat, vc_i, vc_j, vc_f]) (fun ls hl => ?_)
  have hS : va_S (xA E) s.heap s.heap [] := va_S.rf
  have hcb : 0 + 0 ≤ 0 := Nat.le_of_eq (Nat.zero_add _)
  have hsb : 0 + 0 ≤ 0 := Nat.le_of_eq (Nat.zero_add _)
  unfold wX16_equals at hw
  obtain ⟨hx, hb, hml, hown, hts, hrt, hlk, hMK, hZ⟩ := id cx
  refine x_aload_n cx dX16_equals_0 rfl (lv_at hl 1 rfl) ?_
  obtain ⟨a1, hr1, hk1, hw⟩ := hw
  refine x_instY cx hR hr1 hk1 (by decide) rfl q1188 rfl dX16_equals_1 ?_
  refine lv_if_eq (tgt := 25) hx hb dX16_equals_4 (by decide) (fun hc => ?_) (fun hc => ?_)
  · exact absurd hc (by decide)
  refine x_aload_n cx dX16_equals_7 rfl (lv_at hl 1 rfl) ?_
  obtain ⟨hv, hw⟩ := hw
  refine x_cast cx hR q1188 (xcc_5 hv) dX16_equals_8 ?_
  refine xg_X16_7_15 cx hR hr1 hk1 dX16_equals_11 ?_
  refine x_aload_n cx dX16_equals_14 rfl (lv_at hl 0 rfl) ?_
  obtain ⟨hk2, hw⟩ := hw
  refine xg_X16_7_15 cx hR rfl hk2 dX16_equals_15 ?_
  refine lv_icmp_ne (tgt := 25) hx hb dX16_equals_18 (by decide) (fun hc => ?_) (fun hc => ?_)
  · have hw := mm_in hc hw
    refine lv_iconst (v := (0 : Int32)) hx hb dX16_equals_25 (by decide) ?_
    exact x_nret cx hR hS (xle hcb) (xle hsb) (zb_nar (Or.inl rfl)) hw dX16_equals_26
  · have hw := mm_ip hc hw
    refine lv_iconst (v := (1 : Int32)) hx hb dX16_equals_21 (by decide) ?_
    refine lv_goto (tgt := 26) hx hb dX16_equals_22 (by decide) ?_
    exact x_nret cx hR hS (xle hcb) (xle hsb) (zb_nar (Or.inr rfl)) hw dX16_equals_26
-- J1_getNodeL
theorem xg_J1_177_21 {l : Launch} {p : Program} {e : Env} {R : Room} {s : State} {m : MethodId} {args : Array Value} {below : List Frame} {meth : Method} {c : Code} {H : Heap} {locs : List Loc} {cells slots : Nat} {Qz : State → Prop} {cc : ByteArray} {nL : Nat} {ret : Option FieldType} {E : xx_E} {σ : XS} {pc : Nat} {ls : Array Slot} {rest : List Value} (cx : xx_X "java/util/HashMap" cc nL ret E p s m args meth c) (hR : xR E σ H) {a : Nat} {r : Option Nat} (hr : r = some a) (hk : kd σ a = 21) (hdg : decode cc pc = .ok (.getfield 177, 3)) (kk : W p l e R s m args below meth c H locs cells slots Qz (F0 m (pc + 3) ls (xv E (fr σ a 3) :: rest))) : W p l e R s m args below meth c H locs cells slots Qz (F0 m pc ls (xv E r :: rest)) :=
  x_get (ci := 20) cx hR hr hk (by decide) rfl in_J26 3 (by decide) q1520 (fun _ h => h) (v := xv E (fr σ a 3)) rfl hdg kk
theorem xg_J1_168_21 {l : Launch} {p : Program} {e : Env} {R : Room} {s : State} {m : MethodId} {args : Array Value} {below : List Frame} {meth : Method} {c : Code} {H : Heap} {locs : List Loc} {cells slots : Nat} {Qz : State → Prop} {cc : ByteArray} {nL : Nat} {ret : Option FieldType} {E : xx_E} {σ : XS} {pc : Nat} {ls : Array Slot} {rest : List Value} (cx : xx_X "java/util/HashMap" cc nL ret E p s m args meth c) (hR : xR E σ H) {a : Nat} {r : Option Nat} (hr : r = some a) (hk : kd σ a = 21) (hdg : decode cc pc = .ok (.getfield 168, 3)) (kk : W p l e R s m args below meth c H locs cells slots Qz (F0 m (pc + 3) ls (.int (fi σ a 0) :: rest))) : W p l e R s m args below meth c H locs cells slots Qz (F0 m pc ls (xv E r :: rest)) :=
  x_get (ci := 20) cx hR hr hk (by decide) rfl in_J26 0 (by decide) q1504 (fun _ h => h) (v := .int (fi σ a 0)) rfl hdg kk
theorem xg_J1_170_21 {l : Launch} {p : Program} {e : Env} {R : Room} {s : State} {m : MethodId} {args : Array Value} {below : List Frame} {meth : Method} {c : Code} {H : Heap} {locs : List Loc} {cells slots : Nat} {Qz : State → Prop} {cc : ByteArray} {nL : Nat} {ret : Option FieldType} {E : xx_E} {σ : XS} {pc : Nat} {ls : Array Slot} {rest : List Value} (cx : xx_X "java/util/HashMap" cc nL ret E p s m args meth c) (hR : xR E σ H) {a : Nat} {r : Option Nat} (hr : r = some a) (hk : kd σ a = 21) (hdg : decode cc pc = .ok (.getfield 170, 3)) (kk : W p l e R s m args below meth c H locs cells slots Qz (F0 m (pc + 3) ls (xv E (fr σ a 1) :: rest))) : W p l e R s m args below meth c H locs cells slots Qz (F0 m pc ls (xv E r :: rest)) :=
  x_get (ci := 20) cx hR hr hk (by decide) rfl in_J26 1 (by decide) q1510 (fun _ h => h) (v := xv E (fr σ a 1)) rfl hdg kk
theorem xg_J1_105_18 {l : Launch} {p : Program} {e : Env} {R : Room} {s : State} {m : MethodId} {args : Array Value} {below : List Frame} {meth : Method} {c : Code} {H : Heap} {locs : List Loc} {cells slots : Nat} {Qz : State → Prop} {cc : ByteArray} {nL : Nat} {ret : Option FieldType} {E : xx_E} {σ : XS} {pc : Nat} {ls : Array Slot} {rest : List Value} (cx : xx_X "java/util/HashMap" cc nL ret E p s m args meth c) (hR : xR E σ H) {a : Nat} {r : Option Nat} (hr : r = some a) (hk : kd σ a = 18) (hdg : decode cc pc = .ok (.getfield 105, 3)) (kk : W p l e R s m args below meth c H locs cells slots Qz (F0 m (pc + 3) ls (xv E (fr σ a 2) :: rest))) : W p l e R s m args below meth c H locs cells slots Qz (F0 m pc ls (xv E r :: rest)) :=
  x_get (ci := 17) cx hR hr hk (by decide) rfl in_J2 2 (by decide) q237 (fun _ h => h) (v := xv E (fr σ a 2)) rfl hdg kk
theorem CJ1_hash_J1_149 {l : Launch} {p : Program} {e : Env} {R : Room} {s : State} {m : MethodId} {args : Array Value} {below : List Frame} {meth : Method} {c : Code} {H : Heap} {locs : List Loc} {cells slots : Nat} {Qz : State → Prop} {cc : ByteArray} {nL : Nat} {ret : Option FieldType} {E : xx_E} {σ : XS} {pc : Nat} {ls : Array Slot} {rest : List Value} {x0 : Option Nat} (cx : xx_X "java/util/HashMap" cc nL ret E p s m args meth c) (hR0 : xR E σ H) (hS0 : va_S (xA E) s.heap H locs) {Qf : Int32 → XS → Prop} (hw : wJ1_hash x0 σ Qf) (hR : (({ frames := 8, cells := 0, slots := 0, locals := 320 } : Room)).frames + 1 ≤ R.frames ∧ 8 + (2 + 11) + (({ frames := 8, cells := 0, slots := 0, locals := 320 } : Room)).locals ≤ R.locals) (hrest : rest.length ≤ 4) (hsize : ls.size = nL) (hf : cells + 0 ≤ R.cells ∧ slots + 0 ≤ R.slots) (hdg : decode cc pc = .ok (.invokestatic 149, 3))
    (kk : ∀ (r : Int32) (σ1 : XS) (H1 : Heap) (locs1 : List Loc), Qf r σ1 → xR E σ1 H1 → va_S (xA E) s.heap H1 locs1 → W p l e R s m args below meth c H1 locs1 (cells + 0) (slots + 0) Qz (F0 m (pc + 3) ls (.int r :: rest))) : W p l e R s m args below meth c H locs cells slots Qz (F0 m pc ls (xv E x0 :: rest)) := by
  obtain ⟨hx, hb, hml, hown, hts, hrt, hlk, hK, hZ⟩ := id cx
  exact x_goi (va_runS (As := [xv E x0]) (rest := rest) (x_fix cx) (MJ1_hash l E x0 σ Qf hw) (va_cwS 1 hts (lw_S q1139 q1140 q159 q1141) rfl rfl rfl (by decide +kernel) hR) ⟨xblind, x_pre cx hR0 hS0 [xv E x0]⟩ rfl rfl hsize rfl (lv_room (xroom hrest)) hdg hf) hS0 kk
def wO_equals (th : Nat) (x1 : Option Nat) (σ : XS) (Q : Int32 → XS → Prop) : Prop := if kd σ th = 22 then wJ14_equals th x1 σ Q else if kd σ th = 14 then wX14_equals th x1 σ Q else if kd σ th = 15 then wX16_equals th x1 σ Q else False
theorem CJ14_equals_J1_173 {l : Launch} {p : Program} {e : Env} {R : Room} {s : State} {m : MethodId} {args : Array Value} {below : List Frame} {meth : Method} {c : Code} {H : Heap} {locs : List Loc} {cells slots : Nat} {Qz : State → Prop} {cc : ByteArray} {nL : Nat} {ret : Option FieldType} {E : xx_E} {σ : XS} {pc : Nat} {ls : Array Slot} {rest : List Value} {th : Nat} {x1 : Option Nat} (cx : xx_X "java/util/HashMap" cc nL ret E p s m args meth c) (hR0 : xR E σ H) (hS0 : va_S (xA E) s.heap H locs) {r0 : Option Nat} (hr : r0 = some th) (hk : kd σ th = 22) {Qf : Int32 → XS → Prop} (hw : wJ14_equals th x1 σ Qf) (hR : (({ frames := 1, cells := 0, slots := 0, locals := 40 } : Room)).frames + 1 ≤ R.frames ∧ 8 + (3 + 11) + (({ frames := 1, cells := 0, slots := 0, locals := 40 } : Room)).locals ≤ R.locals) (hrest : rest.length ≤ 4) (hsize : ls.size = nL) (hf : cells + 0 ≤ R.cells ∧ slots + 0 ≤ R.slots) (hdg : decode cc pc = .ok (.invokevirtual 173, 3))
    (kk : ∀ (r : Int32) (σ1 : XS) (H1 : Heap) (locs1 : List Loc), Qf r σ1 → xR E σ1 H1 → va_S (xA E) s.heap H1 locs1 → W p l e R s m args below meth c H1 locs1 (cells + 0) (slots + 0) Qz (F0 m (pc + 3) ls (.int r :: rest))) : W p l e R s m args below meth c H locs cells slots Qz (F0 m pc ls (xv E x1 :: xv E r0 :: rest)) := by
  subst hr
  obtain ⟨hx, hb, hml, hown, hts, hrt, hlk, hK, hZ⟩ := id cx
  exact x_goi (va_runU (C := "java/lang/String") (owner := "java/lang/Object") (As := [xv E x1]) (rest := rest) (x_fix cx) (MJ14_equals l E th x1 σ Qf hw) (va_cwO (C := "java/lang/String") (owner := "java/lang/Object") (x := ⟨"java/lang/Object", "equals", "(Ljava/lang/Object;)Z"⟩) 1 hts (lw_app (xin6 q1173 q1175 q1174 q1199 q973 q176) (lw_meth q975)) rfl rfl rfl q1203 (by decide +kernel) hR) (x_preV cx hR0 hS0 hk (by decide) (q := (RJ14, TJ14, 4)) rfl rfl [xv E x1]) rfl rfl hsize rfl (lv_room (xroom hrest)) hdg hf) hS0 kk
theorem CX14_equals_J1_173 {l : Launch} {p : Program} {e : Env} {R : Room} {s : State} {m : MethodId} {args : Array Value} {below : List Frame} {meth : Method} {c : Code} {H : Heap} {locs : List Loc} {cells slots : Nat} {Qz : State → Prop} {cc : ByteArray} {nL : Nat} {ret : Option FieldType} {E : xx_E} {σ : XS} {pc : Nat} {ls : Array Slot} {rest : List Value} {th : Nat} {x1 : Option Nat} (cx : xx_X "java/util/HashMap" cc nL ret E p s m args meth c) (hR0 : xR E σ H) (hS0 : va_S (xA E) s.heap H locs) {r0 : Option Nat} (hr : r0 = some th) (hk : kd σ th = 14) {Qf : Int32 → XS → Prop} (hw : wX14_equals th x1 σ Qf) (hR : (({ frames := 0, cells := 0, slots := 0, locals := 0 } : Room)).frames + 1 ≤ R.frames ∧ 8 + (3 + 11) + (({ frames := 0, cells := 0, slots := 0, locals := 0 } : Room)).locals ≤ R.locals) (hrest : rest.length ≤ 4) (hsize : ls.size = nL) (hf : cells + 0 ≤ R.cells ∧ slots + 0 ≤ R.slots) (hdg : decode cc pc = .ok (.invokevirtual 173, 3))
    (kk : ∀ (r : Int32) (σ1 : XS) (H1 : Heap) (locs1 : List Loc), Qf r σ1 → xR E σ1 H1 → va_S (xA E) s.heap H1 locs1 → W p l e R s m args below meth c H1 locs1 (cells + 0) (slots + 0) Qz (F0 m (pc + 3) ls (.int r :: rest))) : W p l e R s m args below meth c H locs cells slots Qz (F0 m pc ls (xv E x1 :: xv E r0 :: rest)) := by
  subst hr
  obtain ⟨hx, hb, hml, hown, hts, hrt, hlk, hK, hZ⟩ := id cx
  exact x_goi (va_runU (C := "StruckCounts$Couple") (owner := "java/lang/Object") (As := [xv E x1]) (rest := rest) (x_fix cx) (MX14_equals l E th x1 σ Qf hw) (va_cwO (C := "StruckCounts$Couple") (owner := "java/lang/Object") (x := ⟨"java/lang/Object", "equals", "(Ljava/lang/Object;)Z"⟩) 1 hts (lw_app (xin6 q1173 q1175 q1174 q1178 q1179 q201) (lw_meth q1180)) rfl rfl rfl q1203 (by decide +kernel) hR) (x_preV cx hR0 hS0 hk (by decide) (q := (RX14, TX14, 2)) rfl rfl [xv E x1]) rfl rfl hsize rfl (lv_room (xroom hrest)) hdg hf) hS0 kk
theorem CX16_equals_J1_173 {l : Launch} {p : Program} {e : Env} {R : Room} {s : State} {m : MethodId} {args : Array Value} {below : List Frame} {meth : Method} {c : Code} {H : Heap} {locs : List Loc} {cells slots : Nat} {Qz : State → Prop} {cc : ByteArray} {nL : Nat} {ret : Option FieldType} {E : xx_E} {σ : XS} {pc : Nat} {ls : Array Slot} {rest : List Value} {th : Nat} {x1 : Option Nat} (cx : xx_X "java/util/HashMap" cc nL ret E p s m args meth c) (hR0 : xR E σ H) (hS0 : va_S (xA E) s.heap H locs) {r0 : Option Nat} (hr : r0 = some th) (hk : kd σ th = 15) {Qf : Int32 → XS → Prop} (hw : wX16_equals th x1 σ Qf) (hR : (({ frames := 0, cells := 0, slots := 0, locals := 0 } : Room)).frames + 1 ≤ R.frames ∧ 8 + (2 + 11) + (({ frames := 0, cells := 0, slots := 0, locals := 0 } : Room)).locals ≤ R.locals) (hrest : rest.length ≤ 4) (hsize : ls.size = nL) (hf : cells + 0 ≤ R.cells ∧ slots + 0 ≤ R.slots) (hdg : decode cc pc = .ok (.invokevirtual 173, 3))
    (kk : ∀ (r : Int32) (σ1 : XS) (H1 : Heap) (locs1 : List Loc), Qf r σ1 → xR E σ1 H1 → va_S (xA E) s.heap H1 locs1 → W p l e R s m args below meth c H1 locs1 (cells + 0) (slots + 0) Qz (F0 m (pc + 3) ls (.int r :: rest))) : W p l e R s m args below meth c H locs cells slots Qz (F0 m pc ls (xv E x1 :: xv E r0 :: rest)) := by
  subst hr
  obtain ⟨hx, hb, hml, hown, hts, hrt, hlk, hK, hZ⟩ := id cx
  exact x_goi (va_runU (C := "StruckCounts$Outcome") (owner := "java/lang/Object") (As := [xv E x1]) (rest := rest) (x_fix cx) (MX16_equals l E th x1 σ Qf hw) (va_cwO (C := "StruckCounts$Outcome") (owner := "java/lang/Object") (x := ⟨"java/lang/Object", "equals", "(Ljava/lang/Object;)Z"⟩) 1 hts (lw_app (xin6 q1173 q1175 q1174 q1185 q1186 q205) (lw_meth q1187)) rfl rfl rfl q1203 (by decide +kernel) hR) (x_preV cx hR0 hS0 hk (by decide) (q := (RX16, TX16, 3)) rfl rfl [xv E x1]) rfl rfl hsize rfl (lv_room (xroom hrest)) hdg hf) hS0 kk
theorem CO_equals_J1_173 {l : Launch} {p : Program} {e : Env} {R : Room} {s : State} {m : MethodId} {args : Array Value} {below : List Frame} {meth : Method} {c : Code} {H : Heap} {locs : List Loc} {cells slots : Nat} {Qz : State → Prop} {cc : ByteArray} {nL : Nat} {ret : Option FieldType} {E : xx_E} {σ : XS} {pc : Nat} {ls : Array Slot} {rest : List Value} {th : Nat} {x1 : Option Nat} (cx : xx_X "java/util/HashMap" cc nL ret E p s m args meth c) (hR0 : xR E σ H) (hS0 : va_S (xA E) s.heap H locs) {r0 : Option Nat} (hr : r0 = some th) {Qf : Int32 → XS → Prop} (hw : wO_equals th x1 σ Qf) (hR : 4 + 1 ≤ R.frames ∧ 40 * (4 + 1) ≤ R.locals) (hrest : rest.length ≤ 4) (hsize : ls.size = nL) (hf : cells + 0 ≤ R.cells ∧ slots + 0 ≤ R.slots) (hdg : decode cc pc = .ok (.invokevirtual 173, 3))
    (kk : ∀ (r : Int32) (σ1 : XS) (H1 : Heap) (locs1 : List Loc), Qf r σ1 → xR E σ1 H1 → va_S (xA E) s.heap H1 locs1 → W p l e R s m args below meth c H1 locs1 (cells + 0) (slots + 0) Qz (F0 m (pc + 3) ls (.int r :: rest))) : W p l e R s m args below meth c H locs cells slots Qz (F0 m pc ls (xv E x1 :: xv E r0 :: rest)) := by
  by_cases hk : kd σ th = 22
  · exact CJ14_equals_J1_173 cx hR0 hS0 hr hk (mm_ip hk hw) ⟨by dsimp only; omega, by dsimp only; omega⟩ hrest hsize hf hdg kk
  replace hw := mm_in hk hw
  by_cases hk : kd σ th = 14
  · exact CX14_equals_J1_173 cx hR0 hS0 hr hk (mm_ip hk hw) ⟨by dsimp only; omega, by dsimp only; omega⟩ hrest hsize hf hdg kk
  replace hw := mm_in hk hw
  by_cases hk : kd σ th = 15
  · exact CX16_equals_J1_173 cx hR0 hS0 hr hk (mm_ip hk hw) ⟨by dsimp only; omega, by dsimp only; omega⟩ hrest hsize hf hdg kk
  replace hw := mm_in hk hw
  exact hw.elim
def wJ1_getNodeL_137 (Q : Option Nat → XS → Prop) (K99 : Nat → Option Nat → Option Nat → Int32 → XS → Prop) (th : Nat) (x1 : Option Nat) (x4 : Option Nat) (x6 : Int32) (σ : XS) : Prop :=
  oc σ x4 21 (fun a1 => if (fr σ a1 3) = none then (Q none σ) else (K99 th x1 (fr σ a1 3) x6 σ))
set_option maxHeartbeats 4000000 in
theorem BJ1_getNodeL_137 {l : Launch} {p : Program} {e : Env} {s : State} {m : MethodId} {args : Array Value} {below : List Frame} {meth : Method} {c : Code} {E : xx_E} {Q : Option Nat → XS → Prop} {K99 : Nat → Option Nat → Option Nat → Int32 → XS → Prop} (cx : xx_X "java/util/HashMap" cJ1_getNode 8 (some (.object "java/util/HashMap$Node")) E p s m args meth c) (hK99 : ∀ (th : Nat) (x1 : Option Nat) (x4 : Option Nat) (x6 : Int32) (σ : XS), K99 th x1 x4 x6 σ → x_T p l e ({ frames := 9, cells := 0, slots := 0, locals := 360 } : Room) s m args below meth c E (va_Qe (xr E) Q (fun σ' t => xW E σ' t) (xA E)) 0 0 8 99 0 0 σ [(0, xv E (some th)), (1, xv E x1), (4, xv E x4), (6, .int x6)] []) : ∀ (th : Nat) (x1 : Option Nat) (x4 : Option Nat) (x6 : Int32) (σ : XS), wJ1_getNodeL_137 Q K99 th x1 x4 x6 σ → x_T p l e ({ frames := 9, cells := 0, slots := 0, locals := 360 } : Room) s m args below meth c E (va_Qe (xr E) Q (fun σ' t => xW E σ' t) (xA E)) 0 0 8 137 0 0 σ [(0, xv E (some th)), (1, xv E x1), (4, xv E x4), (6, .int x6)] [] := by
  intro th x1 x4 x6 σ hw H locs ls cells slots hR hS hl hcb hsb
  unfold wJ1_getNodeL_137 at hw
  obtain ⟨hx, hb, hml, hown, hts, hrt, hlk, hMK, hZ⟩ := id cx
  refine x_aload cx dJ1_getNode_137 (lv_at hl 2 rfl) ?_
  obtain ⟨a1, hr1, hk1, hw⟩ := hw
  refine xg_J1_177_21 cx hR hr1 hk1 dJ1_getNode_139 ?_
  refine lv_dup hx hb dJ1_getNode_142 (xv_cat _ _) ?_
  refine x_astore (i := 4) (r := (fr σ a1 3)) (lv' := [(4, xv E (fr σ a1 3)), (0, xv E (some th)), (1, xv E x1), (6, .int x6)]) cx dJ1_getNode_143 hl (by decide) rfl (fun ls hl => ?_)
  refine x_ifnonnull (tgt := 99) cx dJ1_getNode_145 (by decide) (fun hc => ?_) (fun hc => ?_)
  · have hw := mm_in hc hw
    exact hK99 _ _ _ _ _ hw _ _ _ _ _ hR hS (lv_sub hl [1, 2, 0, 3] rfl) hcb hsb
  · have hw := mm_ip hc hw
    refine lv_null hx hb dJ1_getNode_148 ?_
    exact x_aret cx (by first | exact Or.inl ⟨_, rfl⟩ | exact Or.inr ⟨_, rfl⟩) hR hS (xle hcb) (xle hsb) hw dJ1_getNode_149
def wJ1_getNodeL_99 (Q : Option Nat → XS → Prop) (K99 : Nat → Option Nat → Option Nat → Int32 → XS → Prop) (th : Nat) (x1 : Option Nat) (x4 : Option Nat) (x6 : Int32) (σ : XS) : Prop :=
  oc σ x4 21 (fun a2 => if (fi σ a2 0) = x6 then (xok (fr σ a2 1) x1 ∧ (if (fr σ a2 1) = x1 then (Q x4 σ) else (if x1 = none then (wJ1_getNodeL_137 Q K99 th x1 x4 x6 σ) else (oe x1 (fun a4 => wO_equals a4 (fr σ a2 1) σ (fun r3 s3 => if r3 = 0 then (wJ1_getNodeL_137 Q K99 th x1 x4 x6 s3) else (Q x4 s3))))))) else (wJ1_getNodeL_137 Q K99 th x1 x4 x6 σ))
set_option maxHeartbeats 4000000 in
theorem BJ1_getNodeL_99 {l : Launch} {p : Program} {e : Env} {s : State} {m : MethodId} {args : Array Value} {below : List Frame} {meth : Method} {c : Code} {E : xx_E} {Q : Option Nat → XS → Prop} {K99 : Nat → Option Nat → Option Nat → Int32 → XS → Prop} (cx : xx_X "java/util/HashMap" cJ1_getNode 8 (some (.object "java/util/HashMap$Node")) E p s m args meth c) (hK99 : ∀ (th : Nat) (x1 : Option Nat) (x4 : Option Nat) (x6 : Int32) (σ : XS), K99 th x1 x4 x6 σ → x_T p l e ({ frames := 9, cells := 0, slots := 0, locals := 360 } : Room) s m args below meth c E (va_Qe (xr E) Q (fun σ' t => xW E σ' t) (xA E)) 0 0 8 99 0 0 σ [(0, xv E (some th)), (1, xv E x1), (4, xv E x4), (6, .int x6)] []) : ∀ (th : Nat) (x1 : Option Nat) (x4 : Option Nat) (x6 : Int32) (σ : XS), wJ1_getNodeL_99 Q K99 th x1 x4 x6 σ → x_T p l e ({ frames := 9, cells := 0, slots := 0, locals := 360 } : Room) s m args below meth c E (va_Qe (xr E) Q (fun σ' t => xW E σ' t) (xA E)) 0 0 8 99 0 0 σ [(0, xv E (some th)), (1, xv E x1), (4, xv E x4), (6, .int x6)] [] := by
  intro th x1 x4 x6 σ hw H locs ls cells slots hR hS hl hcb hsb
  unfold wJ1_getNodeL_99 at hw
  obtain ⟨hx, hb, hml, hown, hts, hrt, hlk, hMK, hZ⟩ := id cx
  refine x_aload cx dJ1_getNode_99 (lv_at hl 2 rfl) ?_
  obtain ⟨a2, hr2, hk2, hw⟩ := hw
  refine xg_J1_168_21 cx hR hr2 hk2 dJ1_getNode_101 ?_
  refine lv_iload hx hb dJ1_getNode_104 (lv_at hl 3 rfl) ?_
  refine lv_icmp_ne (tgt := 137) hx hb dJ1_getNode_106 (by decide) (fun hc => ?_) (fun hc => ?_)
  · have hw := mm_in hc hw
    exact BJ1_getNodeL_137 cx hK99 _ _ _ _ _ hw _ _ _ _ _ hR hS (lv_sub hl [0, 1, 2, 3] rfl) hcb hsb
  · have hw := mm_ip hc hw
    refine x_aload cx dJ1_getNode_109 (lv_at hl 2 rfl) ?_
    refine xg_J1_170_21 cx hR hr2 hk2 dJ1_getNode_111 ?_
    refine lv_dup hx hb dJ1_getNode_114 (xv_cat _ _) ?_
    refine x_astore (i := 7) (r := (fr σ a2 1)) (lv' := [(7, xv E (fr σ a2 1)), (0, xv E (some th)), (1, xv E x1), (4, xv E x4), (6, .int x6)]) cx dJ1_getNode_115 hl (by decide) rfl (fun ls hl => ?_)
    refine x_aload_n cx dJ1_getNode_117 rfl (lv_at hl 2 rfl) ?_
    obtain ⟨hok, hw⟩ := hw
    refine x_acmp_eq (tgt := 134) cx hok dJ1_getNode_118 (by decide) (fun hc => ?_) (fun hc => ?_)
    · have hw := mm_ip hc hw
      refine x_aload cx dJ1_getNode_134 (lv_at hl 3 rfl) ?_
      exact x_aret cx (by first | exact Or.inl ⟨_, rfl⟩ | exact Or.inr ⟨_, rfl⟩) hR hS (xle hcb) (xle hsb) hw dJ1_getNode_136
    · have hw := mm_in hc hw
      refine x_aload_n cx dJ1_getNode_121 rfl (lv_at hl 2 rfl) ?_
      refine x_ifnull (tgt := 137) cx dJ1_getNode_122 (by decide) (fun hc => ?_) (fun hc => ?_)
      · have hw := mm_ip hc hw
        exact BJ1_getNodeL_137 cx hK99 _ _ _ _ _ hw _ _ _ _ _ hR hS (lv_sub hl [1, 2, 3, 4] rfl) hcb hsb
      · have hw := mm_in hc hw
        refine x_aload_n cx dJ1_getNode_125 rfl (lv_at hl 2 rfl) ?_
        refine x_aload cx dJ1_getNode_126 (lv_at hl 0 rfl) ?_
        obtain ⟨a4, hr4, hw⟩ := hw
        refine CO_equals_J1_173 cx hR hS hr4 hw ⟨Nat.le_of_ble_eq_true rfl, Nat.le_of_ble_eq_true rfl⟩ (Nat.le_of_ble_eq_true rfl) hl.1 ⟨by dsimp only; omega, by dsimp only; omega⟩ dJ1_getNode_128 (fun r3 s3 H locs hw hR hS => ?_)
        refine lv_if_eq (tgt := 137) hx hb dJ1_getNode_131 (by decide) (fun hc => ?_) (fun hc => ?_)
        · have hw := mm_ip hc hw
          exact BJ1_getNodeL_137 cx hK99 _ _ _ _ _ hw _ _ _ _ _ hR hS (lv_sub hl [1, 2, 3, 4] rfl) hcb hsb
        · have hw := mm_in hc hw
          refine x_aload cx dJ1_getNode_134 (lv_at hl 3 rfl) ?_
          exact x_aret cx (by first | exact Or.inl ⟨_, rfl⟩ | exact Or.inr ⟨_, rfl⟩) hR hS (xle hcb) (xle hsb) hw dJ1_getNode_136
theorem LJ1_getNodeL_99 {l : Launch} {p : Program} {e : Env} {s : State} {m : MethodId} {args : Array Value} {below : List Frame} {meth : Method} {c : Code} {E : xx_E} {Q : Option Nat → XS → Prop} (cx : xx_X "java/util/HashMap" cJ1_getNode 8 (some (.object "java/util/HashMap$Node")) E p s m args meth c) : ∀ (th : Nat) (x1 : Option Nat) (x4 : Option Nat) (x6 : Int32) (σ : XS), lp5F (wJ1_getNodeL_99 Q) th x1 x4 x6 σ → x_T p l e ({ frames := 9, cells := 0, slots := 0, locals := 360 } : Room) s m args below meth c E (va_Qe (xr E) Q (fun σ' t => xW E σ' t) (xA E)) 0 0 8 99 0 0 σ [(0, xv E (some th)), (1, xv E x1), (4, xv E x4), (6, .int x6)] [] :=
  lp5F_of (fun K hK => BJ1_getNodeL_99 cx hK)
def wJ1_getNodeL_71 (Q : Option Nat → XS → Prop) (th : Nat) (x1 : Option Nat) (x3 : Option Nat) (x6 : Int32) (σ : XS) : Prop :=
  oc σ x3 21 (fun a5 => if (fr σ a5 3) = none then (Q none σ) else (lp5F (wJ1_getNodeL_99 Q) th x1 (fr σ a5 3) x6 σ))
set_option maxHeartbeats 4000000 in
theorem BJ1_getNodeL_71 {l : Launch} {p : Program} {e : Env} {s : State} {m : MethodId} {args : Array Value} {below : List Frame} {meth : Method} {c : Code} {E : xx_E} {Q : Option Nat → XS → Prop} (cx : xx_X "java/util/HashMap" cJ1_getNode 8 (some (.object "java/util/HashMap$Node")) E p s m args meth c) : ∀ (th : Nat) (x1 : Option Nat) (x3 : Option Nat) (x6 : Int32) (σ : XS), wJ1_getNodeL_71 Q th x1 x3 x6 σ → x_T p l e ({ frames := 9, cells := 0, slots := 0, locals := 360 } : Room) s m args below meth c E (va_Qe (xr E) Q (fun σ' t => xW E σ' t) (xA E)) 0 0 8 71 0 0 σ [(0, xv E (some th)), (1, xv E x1), (3, xv E x3), (6, .int x6)] [] := by
  intro th x1 x3 x6 σ hw H locs ls cells slots hR hS hl hcb hsb
  unfold wJ1_getNodeL_71 at hw
  obtain ⟨hx, hb, hml, hown, hts, hrt, hlk, hMK, hZ⟩ := id cx
  refine x_aload_n cx dJ1_getNode_71 rfl (lv_at hl 2 rfl) ?_
  obtain ⟨a5, hr5, hk5, hw⟩ := hw
  refine xg_J1_177_21 cx hR hr5 hk5 dJ1_getNode_72 ?_
  refine lv_dup hx hb dJ1_getNode_75 (xv_cat _ _) ?_
  refine x_astore (i := 4) (r := (fr σ a5 3)) (lv' := [(4, xv E (fr σ a5 3)), (0, xv E (some th)), (1, xv E x1), (3, xv E x3), (6, .int x6)]) cx dJ1_getNode_76 hl (by decide) (by simp [xv_cat]) (fun ls hl => ?_)
  refine x_ifnull (tgt := 148) cx dJ1_getNode_78 (by decide) (fun hc => ?_) (fun hc => ?_)
  · have hw := mm_ip hc hw
    refine lv_null hx hb dJ1_getNode_148 ?_
    exact x_aret cx (by first | exact Or.inl ⟨_, rfl⟩ | exact Or.inr ⟨_, rfl⟩) hR hS (xle hcb) (xle hsb) hw dJ1_getNode_149
  · have hw := mm_in hc hw
    refine x_aload_n cx dJ1_getNode_81 rfl (lv_at hl 3 rfl) ?_
    refine x_instN cx hR hr5 hk5 (by decide) rfl q1204 (by decide) dJ1_getNode_82 ?_
    refine lv_if_eq (tgt := 99) hx hb dJ1_getNode_85 (by decide) (fun hc => ?_) (fun hc => ?_)
    rotate_left
    · exact absurd hc (by decide)
    exact LJ1_getNodeL_99 cx _ _ _ _ _ hw _ _ _ _ _ hR hS (lv_sub hl [1, 2, 0, 4] rfl) hcb hsb
def wJ1_getNodeL (th : Nat) (x1 : Option Nat) (σ : XS) (Q : Option Nat → XS → Prop) : Prop :=
  kd σ th = 18 ∧ (if (fr σ th 2) = none then (Q none σ) else (oc σ (fr σ th 2) 106 (fun a7 => ∀ v8 : Int32, v8 = (nI (ln σ a7)) → if (nI (ln σ a7)) ≤ 0 then (Q none σ) else (wJ1_hash x1 σ (fun r9 s9 => oc s9 (fr σ th 2) 106 (fun a10 => vp_in ((v8 - (1 : Int32)) &&& r9) (ln s9 a10) ∧ (if (ar s9 a10 (((v8 - (1 : Int32)) &&& r9).toNatClampNeg)) = none then (Q none s9) else (oc s9 (ar s9 a10 (((v8 - (1 : Int32)) &&& r9).toNatClampNeg)) 21 (fun a11 => if (fi s9 a11 0) = r9 then (xok (fr s9 a11 1) x1 ∧ (if (fr s9 a11 1) = x1 then (Q (ar s9 a10 (((v8 - (1 : Int32)) &&& r9).toNatClampNeg)) s9) else (if x1 = none then (wJ1_getNodeL_71 Q th x1 (ar s9 a10 (((v8 - (1 : Int32)) &&& r9).toNatClampNeg)) r9 s9) else (oe x1 (fun a13 => wO_equals a13 (fr s9 a11 1) s9 (fun r12 s12 => if r12 = 0 then (wJ1_getNodeL_71 Q th x1 (ar s9 a10 (((v8 - (1 : Int32)) &&& r9).toNatClampNeg)) r9 s12) else (Q (ar s9 a10 (((v8 - (1 : Int32)) &&& r9).toNatClampNeg)) s12))))))) else (wJ1_getNodeL_71 Q th x1 (ar s9 a10 (((v8 - (1 : Int32)) &&& r9).toNatClampNeg)) r9 s9))))))))))
set_option maxHeartbeats 4000000 in
theorem MJ1_getNodeL (l : Launch) (E : xx_E) (th : Nat) (x1 : Option Nat) (σ : XS) (Q : Option Nat → XS → Prop) (hw : wJ1_getNodeL th x1 σ Q) : xx_Mr l yJ1_getNode (ws_ yJ1_getNode cJ1_getNode 8 (some (.object "java/util/HashMap$Node"))) ({ frames := 9, cells := 0, slots := 0, locals := 360 } : Room) E [xv E (some th), xv E x1] σ Q 0 0 := by
  refine x_of (own := "java/util/HashMap") (by decide +kernel) rfl ?_
  intro p e s m args below meth c cx hR ha hnm
  refine x_entry [xv E (some th), xv E x1] 8 [(0, xv E (some th)), (1, xv E x1)] ha (by simp [lg_sl, xv_cat, vc_i, vc_j, vc_f]) (by simp [lv_args, xv_cat, vc_i, vc_j, vc_f]) (fun ls hl => ?_)
  have hS : va_S (xA E) s.heap s.heap [] := va_S.rf
  have hcb : 0 + 0 ≤ 0 := Nat.le_of_eq (Nat.zero_add _)
  have hsb : 0 + 0 ≤ 0 := Nat.le_of_eq (Nat.zero_add _)
  unfold wJ1_getNodeL at hw
  obtain ⟨hx, hb, hml, hown, hts, hrt, hlk, hMK, hZ⟩ := id cx
  refine x_aload_n cx dJ1_getNode_0 rfl (lv_at hl 0 rfl) ?_
  obtain ⟨hk6, hw⟩ := hw
  refine xg_J1_105_18 cx hR rfl hk6 dJ1_getNode_1 ?_
  refine lv_dup hx hb dJ1_getNode_4 (xv_cat _ _) ?_
  refine x_astore_n (i := 2) (r := (fr σ th 2)) (lv' := [(2, xv E (fr σ th 2)), (0, xv E (some th)), (1, xv E x1)]) cx dJ1_getNode_5 rfl hl (by decide) (by simp [xv_cat]) (fun ls hl => ?_)
  refine x_ifnull (tgt := 148) cx dJ1_getNode_6 (by decide) (fun hc => ?_) (fun hc => ?_)
  · have hw := mm_ip hc hw
    refine lv_null hx hb dJ1_getNode_148 ?_
    exact x_aret cx (by first | exact Or.inl ⟨_, rfl⟩ | exact Or.inr ⟨_, rfl⟩) hR hS (xle hcb) (xle hsb) hw dJ1_getNode_149
  · have hw := mm_in hc hw
    refine x_aload_n cx dJ1_getNode_9 rfl (lv_at hl 0 rfl) ?_
    obtain ⟨a7, hr7, hk7, hw⟩ := hw
    refine x_alen cx hR hr7 6 hk7 (by decide) dJ1_getNode_10 ?_
    refine lv_dup hx hb dJ1_getNode_11 rfl ?_
    refine lv_topi (fun v8 hv8 => ?_)
    have hw := hw v8 hv8
    refine lv_istore (i := 5) (lv' := [(5, .int v8), (2, xv E (fr σ th 2)), (0, xv E (some th)), (1, xv E x1)]) hx hb dJ1_getNode_12 hl (by decide) rfl (fun ls hl => ?_)
    refine lv_if_le (tgt := 148) hx hb dJ1_getNode_14 (by decide) (fun hc => ?_) (fun hc => ?_)
    · have hw := mm_ip hc hw
      refine lv_null hx hb dJ1_getNode_148 ?_
      exact x_aret cx (by first | exact Or.inl ⟨_, rfl⟩ | exact Or.inr ⟨_, rfl⟩) hR hS (xle hcb) (xle hsb) hw dJ1_getNode_149
    · have hw := mm_in hc hw
      refine x_aload_n cx dJ1_getNode_17 rfl (lv_at hl 1 rfl) ?_
      refine lv_iload hx hb dJ1_getNode_18 (lv_at hl 0 rfl) ?_
      refine lv_iconst (v := (1 : Int32)) hx hb dJ1_getNode_20 (by decide) ?_
      refine lv_isub hx hb dJ1_getNode_21 ?_
      refine x_aload_n cx dJ1_getNode_22 rfl (lv_at hl 3 rfl) ?_
      refine CJ1_hash_J1_149 cx hR hS  hw ⟨Nat.le_of_ble_eq_true rfl, Nat.le_of_ble_eq_true rfl⟩ (Nat.le_of_ble_eq_true rfl) hl.1 ⟨by dsimp only; omega, by dsimp only; omega⟩ dJ1_getNode_23 (fun r9 s9 H locs hw hR hS => ?_)
      refine lv_dup hx hb dJ1_getNode_26 rfl ?_
      refine lv_istore (i := 6) (lv' := [(6, .int r9), (5, .int v8), (2, xv E (fr σ th 2)), (0, xv E (some th)), (1, xv E x1)]) hx hb dJ1_getNode_27 hl (by decide) rfl (fun ls hl => ?_)
      refine lv_iand hx hb dJ1_getNode_29 ?_
      obtain ⟨a10, hr10, hk10, hw⟩ := hw
      obtain ⟨hi, hw⟩ := hw
      refine x_aald cx hR hr10 6 hk10 (by decide) (by decide) (j := ((v8 - (1 : Int32)) &&& r9).toNatClampNeg) rfl hi dJ1_getNode_30 ?_
      refine lv_dup hx hb dJ1_getNode_31 (xv_cat _ _) ?_
      refine x_astore_n (i := 3) (r := (ar s9 a10 (((v8 - (1 : Int32)) &&& r9).toNatClampNeg))) (lv' := [(3, xv E (ar s9 a10 (((v8 - (1 : Int32)) &&& r9).toNatClampNeg))), (6, .int r9), (5, .int v8), (2, xv E (fr σ th 2)), (0, xv E (some th)), (1, xv E x1)]) cx dJ1_getNode_32 rfl hl (by decide) (by simp [xv_cat]) (fun ls hl => ?_)
      refine x_ifnull (tgt := 148) cx dJ1_getNode_33 (by decide) (fun hc => ?_) (fun hc => ?_)
      · have hw := mm_ip hc hw
        refine lv_null hx hb dJ1_getNode_148 ?_
        exact x_aret cx (by first | exact Or.inl ⟨_, rfl⟩ | exact Or.inr ⟨_, rfl⟩) hR hS (xle hcb) (xle hsb) hw dJ1_getNode_149
      · have hw := mm_in hc hw
        refine x_aload_n cx dJ1_getNode_36 rfl (lv_at hl 0 rfl) ?_
        obtain ⟨a11, hr11, hk11, hw⟩ := hw
        refine xg_J1_168_21 cx hR hr11 hk11 dJ1_getNode_37 ?_
        refine lv_iload hx hb dJ1_getNode_40 (lv_at hl 1 rfl) ?_
        refine lv_icmp_ne (tgt := 71) hx hb dJ1_getNode_42 (by decide) (fun hc => ?_) (fun hc => ?_)
        · have hw := mm_in hc hw
          exact BJ1_getNodeL_71 cx _ _ _ _ _ hw _ _ _ _ _ hR hS (lv_sub hl [4, 5, 0, 1] rfl) hcb hsb
        · have hw := mm_ip hc hw
          refine x_aload_n cx dJ1_getNode_45 rfl (lv_at hl 0 rfl) ?_
          refine xg_J1_170_21 cx hR hr11 hk11 dJ1_getNode_46 ?_
          refine lv_dup hx hb dJ1_getNode_49 (xv_cat _ _) ?_
          refine x_astore (i := 7) (r := (fr s9 a11 1)) (lv' := [(7, xv E (fr s9 a11 1)), (3, xv E (ar s9 a10 (((v8 - (1 : Int32)) &&& r9).toNatClampNeg))), (6, .int r9), (5, .int v8), (2, xv E (fr σ th 2)), (0, xv E (some th)), (1, xv E x1)]) cx dJ1_getNode_50 hl (by decide) rfl (fun ls hl => ?_)
          refine x_aload_n cx dJ1_getNode_52 rfl (lv_at hl 6 rfl) ?_
          obtain ⟨hok, hw⟩ := hw
          refine x_acmp_eq (tgt := 69) cx hok dJ1_getNode_53 (by decide) (fun hc => ?_) (fun hc => ?_)
          · have hw := mm_ip hc hw
            refine x_aload_n cx dJ1_getNode_69 rfl (lv_at hl 1 rfl) ?_
            exact x_aret cx (by first | exact Or.inl ⟨_, rfl⟩ | exact Or.inr ⟨_, rfl⟩) hR hS (xle hcb) (xle hsb) hw dJ1_getNode_70
          · have hw := mm_in hc hw
            refine x_aload_n cx dJ1_getNode_56 rfl (lv_at hl 6 rfl) ?_
            refine x_ifnull (tgt := 71) cx dJ1_getNode_57 (by decide) (fun hc => ?_) (fun hc => ?_)
            · have hw := mm_ip hc hw
              exact BJ1_getNodeL_71 cx _ _ _ _ _ hw _ _ _ _ _ hR hS (lv_sub hl [5, 6, 1, 2] rfl) hcb hsb
            · have hw := mm_in hc hw
              refine x_aload_n cx dJ1_getNode_60 rfl (lv_at hl 6 rfl) ?_
              refine x_aload cx dJ1_getNode_61 (lv_at hl 0 rfl) ?_
              obtain ⟨a13, hr13, hw⟩ := hw
              refine CO_equals_J1_173 cx hR hS hr13 hw ⟨Nat.le_of_ble_eq_true rfl, Nat.le_of_ble_eq_true rfl⟩ (Nat.le_of_ble_eq_true rfl) hl.1 ⟨by dsimp only; omega, by dsimp only; omega⟩ dJ1_getNode_63 (fun r12 s12 H locs hw hR hS => ?_)
              refine lv_if_eq (tgt := 71) hx hb dJ1_getNode_66 (by decide) (fun hc => ?_) (fun hc => ?_)
              · have hw := mm_ip hc hw
                exact BJ1_getNodeL_71 cx _ _ _ _ _ hw _ _ _ _ _ hR hS (lv_sub hl [5, 6, 1, 2] rfl) hcb hsb
              · have hw := mm_in hc hw
                refine x_aload_n cx dJ1_getNode_69 rfl (lv_at hl 1 rfl) ?_
                exact x_aret cx (by first | exact Or.inl ⟨_, rfl⟩ | exact Or.inr ⟨_, rfl⟩) hR hS (xle hcb) (xle hsb) hw dJ1_getNode_70
