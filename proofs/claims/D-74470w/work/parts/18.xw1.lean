set_option maxRecDepth 100000
-- J0_initL
def wJ0_initL (th : Nat) (σ : XS) (Q : XS → Prop) : Prop :=
  Q σ
set_option maxHeartbeats 4000000 in
theorem MJ0_initL (l : Launch) (E : xx_E) (th : Nat) (σ : XS) (Q : XS → Prop) (hw : wJ0_initL th σ Q) : xx_Mv l yJ0_init (ws_ yJ0_init cJ0_init 1 none) ({ frames := 1, cells := 0, slots := 0, locals := 40 } : Room) E [xv E (some th)] σ Q 0 0 := by
  refine x_of (own := "java/util/AbstractMap") (by decide +kernel) rfl ?_
  intro p e s m args below meth c cx hR ha hnm
  refine x_entry [xv E (some th)] 1 [(0, xv E (some th))] ha (by simp [lg_sl, xv_cat, vc_i, vc_j, vc_f]) (by simp [lv_args, xv_cat, vc_i, vc_j, vc_f]) (fun ls hl => ?_)
  have hS : va_S (xA E) s.heap s.heap [] := va_S.rf
  have hcb : 0 + 0 ≤ 0 := Nat.le_of_eq (Nat.zero_add _)
  have hsb : 0 + 0 ≤ 0 := Nat.le_of_eq (Nat.zero_add _)
  have hini : meth.name = "<init>" := hnm
  unfold wJ0_initL at hw
  obtain ⟨hx, hb, hml, hown, hts, hrt, hlk, hMK, hZ⟩ := id cx
  refine x_aload_n cx dJ0_init_0 rfl (lv_at hl 0 rfl) ?_
  refine x_objinit cx hl.1 rfl q231 (xroom12 (Nat.le_of_ble_eq_true rfl) (by dsimp only; omega)) (by dsimp only; omega) dJ0_init_1 ?_
  exact x_vret cx hR hS (xle hcb) (xle hsb) hw dJ0_init_4
-- J1_initL
theorem xp_J1_81_18 {l : Launch} {p : Program} {e : Env} {R : Room} {s : State} {m : MethodId} {args : Array Value} {below : List Frame} {meth : Method} {c : Code} {H : Heap} {locs : List Loc} {cells slots : Nat} {Qz : State → Prop} {cc : ByteArray} {nL : Nat} {ret : Option FieldType} {E : xx_E} {σ : XS} {pc : Nat} {ls : Array Slot} {rest : List Value} (cx : xx_X "java/util/HashMap" cc nL ret E p s m args meth c) (hR : xR E σ H) (hS0 : va_S (xA E) s.heap H locs) {a : Nat} {r : Option Nat} {v : UInt32} (hr : r = some a) (ha : xK ≤ a) (hk : kd σ a = 18) (hini : meth.name = "<init>") (hdg : decode cc pc = .ok (.putfield 81, 3)) (kk : ∀ (H1 : Heap) (locs1 : List Loc), xR E (pff σ a 7 v) H1 → va_S (xA E) s.heap H1 locs1 → W p l e R s m args below meth c H1 locs1 cells slots Qz (F0 m (pc + 3) ls rest)) : W p l e R s m args below meth c H locs cells slots Qz (F0 m pc ls (.float v :: xv E r :: rest)) :=
  x_put (ci := 17) cx hR hS0 hr ha hk (by decide) rfl in_J2 tyJ2 tyJ2_ok nmJ2 7 (by decide) (Or.inr (Or.inl ⟨q243, rfl, hini, rfl⟩)) (fun _ h => h) rfl rfl (xput_f rfl) hdg kk
theorem CJ0_initL_J1_43 {l : Launch} {p : Program} {e : Env} {R : Room} {s : State} {m : MethodId} {args : Array Value} {below : List Frame} {meth : Method} {c : Code} {H : Heap} {locs : List Loc} {cells slots : Nat} {Qz : State → Prop} {cc : ByteArray} {nL : Nat} {ret : Option FieldType} {E : xx_E} {σ : XS} {pc : Nat} {ls : Array Slot} {rest : List Value} {th : Nat} (cx : xx_X "java/util/HashMap" cc nL ret E p s m args meth c) (hR0 : xR E σ H) (hS0 : va_S (xA E) s.heap H locs) {r0 : Option Nat} (hr : r0 = some th) (hk : kd σ th = 18) {Qf : XS → Prop} (hw : wJ0_initL th σ Qf) (hR : (({ frames := 1, cells := 0, slots := 0, locals := 40 } : Room)).frames + 1 ≤ R.frames ∧ 8 + (1 + 11) + (({ frames := 1, cells := 0, slots := 0, locals := 40 } : Room)).locals ≤ R.locals) (hrest : rest.length ≤ 4) (hsize : ls.size = nL) (hf : cells + 0 ≤ R.cells ∧ slots + 0 ≤ R.slots) (hdg : decode cc pc = .ok (.invokespecial 43, 3))
    (kk : ∀ (σ1 : XS) (H1 : Heap) (locs1 : List Loc), Qf σ1 → xR E σ1 H1 → va_S (xA E) s.heap H1 locs1 → W p l e R s m args below meth c H1 locs1 (cells + 0) (slots + 0) Qz (F0 m (pc + 3) ls rest)) : W p l e R s m args below meth c H locs cells slots Qz (F0 m pc ls (xv E r0 :: rest)) := by
  subst hr
  obtain ⟨hx, hb, hml, hown, hts, hrt, hlk, hK, hZ⟩ := id cx
  exact x_gov (va_runI (As := []) (rest := rest) (x_fix cx) (MJ0_initL l E th σ Qf hw) (cwI 0 hts (lw_meth q230) rfl rfl rfl (hts _ q158) (hts _ q228) (hts _ q229) rfl (by decide +kernel) hR) ⟨xblind, x_pre cx hR0 hS0 (.ref (xr E th) :: [])⟩ rfl rfl hsize rfl (lv_room (xroom hrest)) hdg hf) hS0 kk
def wJ1_initL (th : Nat) (σ : XS) (Q : XS → Prop) : Prop :=
  kd σ th = 18 ∧ (wJ0_initL th σ (fun s1 => kd s1 th = 18 ∧ (xK ≤ th ∧ (Q (pff s1 th 7 (1061158912 : UInt32))))))
set_option maxHeartbeats 4000000 in
theorem MJ1_initL (l : Launch) (E : xx_E) (th : Nat) (σ : XS) (Q : XS → Prop) (hw : wJ1_initL th σ Q) : xx_Mv l yJ1_init (ws_ yJ1_init cJ1_init 1 none) ({ frames := 2, cells := 0, slots := 0, locals := 80 } : Room) E [xv E (some th)] σ Q 0 0 := by
  refine x_of (own := "java/util/HashMap") (by decide +kernel) rfl ?_
  intro p e s m args below meth c cx hR ha hnm
  refine x_entry [xv E (some th)] 1 [(0, xv E (some th))] ha (by simp [lg_sl, xv_cat, vc_i, vc_j, vc_f]) (by simp [lv_args, xv_cat, vc_i, vc_j, vc_f]) (fun ls hl => ?_)
  have hS : va_S (xA E) s.heap s.heap [] := va_S.rf
  have hcb : 0 + 0 ≤ 0 := Nat.le_of_eq (Nat.zero_add _)
  have hsb : 0 + 0 ≤ 0 := Nat.le_of_eq (Nat.zero_add _)
  have hini : meth.name = "<init>" := hnm
  unfold wJ1_initL at hw
  obtain ⟨hx, hb, hml, hown, hts, hrt, hlk, hMK, hZ⟩ := id cx
  refine x_aload_n cx dJ1_init_0 rfl (lv_at hl 0 rfl) ?_
  obtain ⟨hk2, hw⟩ := hw
  refine CJ0_initL_J1_43 cx hR hS rfl hk2 hw ⟨Nat.le_of_ble_eq_true rfl, Nat.le_of_ble_eq_true rfl⟩ (Nat.le_of_ble_eq_true rfl) hl.1 ⟨by dsimp only; omega, by dsimp only; omega⟩ dJ1_init_1 (fun s1 H locs hw hR hS => ?_)
  refine x_aload_n cx dJ1_init_4 rfl (lv_at hl 0 rfl) ?_
  refine lv_ldcf (v := 1061158912) hx hb hown (hts _ q232) dJ1_init_5 ?_
  obtain ⟨hk3, hw⟩ := hw
  obtain ⟨hge_th, hw⟩ := hw
  refine xp_J1_81_18 (v := (1061158912 : UInt32)) cx hR hS rfl hge_th hk3 hini dJ1_init_7 (fun H locs hR hS => ?_)
  exact x_vret cx hR hS (xle hcb) (xle hsb) hw dJ1_init_10
-- J2_initL
theorem xp_J2_1_18 {l : Launch} {p : Program} {e : Env} {R : Room} {s : State} {m : MethodId} {args : Array Value} {below : List Frame} {meth : Method} {c : Code} {H : Heap} {locs : List Loc} {cells slots : Nat} {Qz : State → Prop} {cc : ByteArray} {nL : Nat} {ret : Option FieldType} {E : xx_E} {σ : XS} {pc : Nat} {ls : Array Slot} {rest : List Value} (cx : xx_X "java/util/LinkedHashMap" cc nL ret E p s m args meth c) (hR : xR E σ H) (hS0 : va_S (xA E) s.heap H locs) {a : Nat} {r : Option Nat} {v : Int32} (hr : r = some a) (ha : xK ≤ a) (hk : kd σ a = 18) (hdg : decode cc pc = .ok (.putfield 1, 3)) (kk : ∀ (H1 : Heap) (locs1 : List Loc), xR E (pfi σ a 11 v) H1 → va_S (xA E) s.heap H1 locs1 → W p l e R s m args below meth c H1 locs1 cells slots Qz (F0 m (pc + 3) ls rest)) : W p l e R s m args below meth c H locs cells slots Qz (F0 m pc ls (.int v :: xv E r :: rest)) :=
  x_put (ci := 17) cx hR hS0 hr ha hk (by decide) rfl in_J2 tyJ2 tyJ2_ok nmJ2 11 (by decide) (Or.inl ⟨q236, rfl⟩) (fun _ h => h) rfl rfl (xput_i rfl) hdg kk
theorem xp_J2_64_18 {l : Launch} {p : Program} {e : Env} {R : Room} {s : State} {m : MethodId} {args : Array Value} {below : List Frame} {meth : Method} {c : Code} {H : Heap} {locs : List Loc} {cells slots : Nat} {Qz : State → Prop} {cc : ByteArray} {nL : Nat} {ret : Option FieldType} {E : xx_E} {σ : XS} {pc : Nat} {ls : Array Slot} {rest : List Value} (cx : xx_X "java/util/LinkedHashMap" cc nL ret E p s m args meth c) (hR : xR E σ H) (hS0 : va_S (xA E) s.heap H locs) {a : Nat} {r : Option Nat} {v : Int32} (hr : r = some a) (ha : xK ≤ a) (hk : kd σ a = 18) (hini : meth.name = "<init>") (hz : zb v) (hdg : decode cc pc = .ok (.putfield 64, 3)) (kk : ∀ (H1 : Heap) (locs1 : List Loc), xR E (pfi σ a 10 v) H1 → va_S (xA E) s.heap H1 locs1 → W p l e R s m args below meth c H1 locs1 cells slots Qz (F0 m (pc + 3) ls rest)) : W p l e R s m args below meth c H locs cells slots Qz (F0 m pc ls (.int v :: xv E r :: rest)) :=
  x_put (ci := 17) cx hR hS0 hr ha hk (by decide) rfl in_J2 tyJ2 tyJ2_ok nmJ2 10 (by decide) (Or.inr (Or.inl ⟨q235, rfl, hini, rfl⟩)) (fun _ h => h) (zb_nar hz) (by rcases hz with rfl | rfl <;> rfl) (xput_i rfl) hdg kk
theorem CJ1_initL_J2_87 {l : Launch} {p : Program} {e : Env} {R : Room} {s : State} {m : MethodId} {args : Array Value} {below : List Frame} {meth : Method} {c : Code} {H : Heap} {locs : List Loc} {cells slots : Nat} {Qz : State → Prop} {cc : ByteArray} {nL : Nat} {ret : Option FieldType} {E : xx_E} {σ : XS} {pc : Nat} {ls : Array Slot} {rest : List Value} {th : Nat} (cx : xx_X "java/util/LinkedHashMap" cc nL ret E p s m args meth c) (hR0 : xR E σ H) (hS0 : va_S (xA E) s.heap H locs) {r0 : Option Nat} (hr : r0 = some th) (hk : kd σ th = 18) {Qf : XS → Prop} (hw : wJ1_initL th σ Qf) (hR : (({ frames := 2, cells := 0, slots := 0, locals := 80 } : Room)).frames + 1 ≤ R.frames ∧ 8 + (1 + 11) + (({ frames := 2, cells := 0, slots := 0, locals := 80 } : Room)).locals ≤ R.locals) (hrest : rest.length ≤ 4) (hsize : ls.size = nL) (hf : cells + 0 ≤ R.cells ∧ slots + 0 ≤ R.slots) (hdg : decode cc pc = .ok (.invokespecial 87, 3))
    (kk : ∀ (σ1 : XS) (H1 : Heap) (locs1 : List Loc), Qf σ1 → xR E σ1 H1 → va_S (xA E) s.heap H1 locs1 → W p l e R s m args below meth c H1 locs1 (cells + 0) (slots + 0) Qz (F0 m (pc + 3) ls rest)) : W p l e R s m args below meth c H locs cells slots Qz (F0 m pc ls (xv E r0 :: rest)) := by
  subst hr
  obtain ⟨hx, hb, hml, hown, hts, hrt, hlk, hK, hZ⟩ := id cx
  exact x_gov (va_runI (As := []) (rest := rest) (x_fix cx) (MJ1_initL l E th σ Qf hw) (cwI 0 hts (lw_meth q227) rfl rfl rfl (hts _ q159) (hts _ q225) (hts _ q226) rfl (by decide +kernel) hR) ⟨xblind, x_pre cx hR0 hS0 (.ref (xr E th) :: [])⟩ rfl rfl hsize rfl (lv_room (xroom hrest)) hdg hf) hS0 kk
def wJ2_initL (th : Nat) (σ : XS) (Q : XS → Prop) : Prop :=
  kd σ th = 18 ∧ (wJ1_initL th σ (fun s1 => kd s1 th = 18 ∧ (xK ≤ th ∧ (Q (pfi (pfi s1 th 11 (0 : Int32)) th 10 (0 : Int32))))))
set_option maxHeartbeats 4000000 in
theorem MJ2_initL (l : Launch) (E : xx_E) (th : Nat) (σ : XS) (Q : XS → Prop) (hw : wJ2_initL th σ Q) : xx_Mv l yJ2_init (ws_ yJ2_init cJ2_init 1 none) ({ frames := 3, cells := 0, slots := 0, locals := 120 } : Room) E [xv E (some th)] σ Q 0 0 := by
  refine x_of (own := "java/util/LinkedHashMap") (by decide +kernel) rfl ?_
  intro p e s m args below meth c cx hR ha hnm
  refine x_entry [xv E (some th)] 1 [(0, xv E (some th))] ha (by simp [lg_sl, xv_cat, vc_i, vc_j, vc_f]) (by simp [lv_args, xv_cat, vc_i, vc_j, vc_f]) (fun ls hl => ?_)
  have hS : va_S (xA E) s.heap s.heap [] := va_S.rf
  have hcb : 0 + 0 ≤ 0 := Nat.le_of_eq (Nat.zero_add _)
  have hsb : 0 + 0 ≤ 0 := Nat.le_of_eq (Nat.zero_add _)
  have hini : meth.name = "<init>" := hnm
  unfold wJ2_initL at hw
  obtain ⟨hx, hb, hml, hown, hts, hrt, hlk, hMK, hZ⟩ := id cx
  refine x_aload_n cx dJ2_init_0 rfl (lv_at hl 0 rfl) ?_
  obtain ⟨hk2, hw⟩ := hw
  refine CJ1_initL_J2_87 cx hR hS rfl hk2 hw ⟨Nat.le_of_ble_eq_true rfl, Nat.le_of_ble_eq_true rfl⟩ (Nat.le_of_ble_eq_true rfl) hl.1 ⟨by dsimp only; omega, by dsimp only; omega⟩ dJ2_init_1 (fun s1 H locs hw hR hS => ?_)
  refine x_aload_n cx dJ2_init_4 rfl (lv_at hl 0 rfl) ?_
  refine lv_iconst (v := (0 : Int32)) hx hb dJ2_init_5 (by decide) ?_
  obtain ⟨hk3, hw⟩ := hw
  obtain ⟨hge_th, hw⟩ := hw
  refine xp_J2_1_18 (v := (0 : Int32)) cx hR hS rfl hge_th hk3 dJ2_init_6 (fun H locs hR hS => ?_)
  refine x_aload_n cx dJ2_init_9 rfl (lv_at hl 0 rfl) ?_
  refine lv_iconst (v := (0 : Int32)) hx hb dJ2_init_10 (by decide) ?_
  refine xp_J2_64_18 (v := (0 : Int32)) cx hR hS rfl hge_th hk3 hini (Or.inl rfl) dJ2_init_11 (fun H locs hR hS => ?_)
  exact x_vret cx hR hS (xle hcb) (xle hsb) hw dJ2_init_14
-- J3_initS
def wJ3_initS (th : Nat) (σ : XS) (Q : XS → Prop) : Prop :=
  Q σ
set_option maxHeartbeats 4000000 in
theorem MJ3_initS (l : Launch) (E : xx_E) (th : Nat) (σ : XS) (Q : XS → Prop) (hw : wJ3_initS th σ Q) : xx_Mv l yJ3_init (ws_ yJ3_init cJ3_init 1 none) ({ frames := 1, cells := 0, slots := 0, locals := 40 } : Room) E [xv E (some th)] σ Q 0 0 := by
  refine x_of (own := "java/util/AbstractCollection") (by decide +kernel) rfl ?_
  intro p e s m args below meth c cx hR ha hnm
  refine x_entry [xv E (some th)] 1 [(0, xv E (some th))] ha (by simp [lg_sl, xv_cat, vc_i, vc_j, vc_f]) (by simp [lv_args, xv_cat, vc_i, vc_j, vc_f]) (fun ls hl => ?_)
  have hS : va_S (xA E) s.heap s.heap [] := va_S.rf
  have hcb : 0 + 0 ≤ 0 := Nat.le_of_eq (Nat.zero_add _)
  have hsb : 0 + 0 ≤ 0 := Nat.le_of_eq (Nat.zero_add _)
  have hini : meth.name = "<init>" := hnm
  unfold wJ3_initS at hw
  obtain ⟨hx, hb, hml, hown, hts, hrt, hlk, hMK, hZ⟩ := id cx
  refine x_aload_n cx dJ3_init_0 rfl (lv_at hl 0 rfl) ?_
  refine x_objinit cx hl.1 rfl q281 (xroom12 (Nat.le_of_ble_eq_true rfl) (by dsimp only; omega)) (by dsimp only; omega) dJ3_init_1 ?_
  exact x_vret cx hR hS (xle hcb) (xle hsb) hw dJ3_init_4
-- J4_initS
theorem CJ3_initS_J4_1 {l : Launch} {p : Program} {e : Env} {R : Room} {s : State} {m : MethodId} {args : Array Value} {below : List Frame} {meth : Method} {c : Code} {H : Heap} {locs : List Loc} {cells slots : Nat} {Qz : State → Prop} {cc : ByteArray} {nL : Nat} {ret : Option FieldType} {E : xx_E} {σ : XS} {pc : Nat} {ls : Array Slot} {rest : List Value} {th : Nat} (cx : xx_X "java/util/AbstractSet" cc nL ret E p s m args meth c) (hR0 : xR E σ H) (hS0 : va_S (xA E) s.heap H locs) {r0 : Option Nat} (hr : r0 = some th) (hk : kd σ th = 19) {Qf : XS → Prop} (hw : wJ3_initS th σ Qf) (hR : (({ frames := 1, cells := 0, slots := 0, locals := 40 } : Room)).frames + 1 ≤ R.frames ∧ 8 + (1 + 11) + (({ frames := 1, cells := 0, slots := 0, locals := 40 } : Room)).locals ≤ R.locals) (hrest : rest.length ≤ 4) (hsize : ls.size = nL) (hf : cells + 0 ≤ R.cells ∧ slots + 0 ≤ R.slots) (hdg : decode cc pc = .ok (.invokespecial 1, 3))
    (kk : ∀ (σ1 : XS) (H1 : Heap) (locs1 : List Loc), Qf σ1 → xR E σ1 H1 → va_S (xA E) s.heap H1 locs1 → W p l e R s m args below meth c H1 locs1 (cells + 0) (slots + 0) Qz (F0 m (pc + 3) ls rest)) : W p l e R s m args below meth c H locs cells slots Qz (F0 m pc ls (xv E r0 :: rest)) := by
  subst hr
  obtain ⟨hx, hb, hml, hown, hts, hrt, hlk, hK, hZ⟩ := id cx
  exact x_gov (va_runI (As := []) (rest := rest) (x_fix cx) (MJ3_initS l E th σ Qf hw) (cwI 0 hts (lw_meth q280) rfl rfl rfl (hts _ q161) (hts _ q278) (hts _ q279) rfl (by decide +kernel) hR) ⟨xblind, x_pre cx hR0 hS0 (.ref (xr E th) :: [])⟩ rfl rfl hsize rfl (lv_room (xroom hrest)) hdg hf) hS0 kk
def wJ4_initS (th : Nat) (σ : XS) (Q : XS → Prop) : Prop :=
  kd σ th = 19 ∧ (wJ3_initS th σ (fun s1 => Q s1))
set_option maxHeartbeats 4000000 in
theorem MJ4_initS (l : Launch) (E : xx_E) (th : Nat) (σ : XS) (Q : XS → Prop) (hw : wJ4_initS th σ Q) : xx_Mv l yJ4_init (ws_ yJ4_init cJ4_init 1 none) ({ frames := 2, cells := 0, slots := 0, locals := 80 } : Room) E [xv E (some th)] σ Q 0 0 := by
  refine x_of (own := "java/util/AbstractSet") (by decide +kernel) rfl ?_
  intro p e s m args below meth c cx hR ha hnm
  refine x_entry [xv E (some th)] 1 [(0, xv E (some th))] ha (by simp [lg_sl, xv_cat, vc_i, vc_j, vc_f]) (by simp [lv_args, xv_cat, vc_i, vc_j, vc_f]) (fun ls hl => ?_)
  have hS : va_S (xA E) s.heap s.heap [] := va_S.rf
  have hcb : 0 + 0 ≤ 0 := Nat.le_of_eq (Nat.zero_add _)
  have hsb : 0 + 0 ≤ 0 := Nat.le_of_eq (Nat.zero_add _)
  have hini : meth.name = "<init>" := hnm
  unfold wJ4_initS at hw
  obtain ⟨hx, hb, hml, hown, hts, hrt, hlk, hMK, hZ⟩ := id cx
  refine x_aload_n cx dJ4_init_0 rfl (lv_at hl 0 rfl) ?_
  obtain ⟨hk2, hw⟩ := hw
  refine CJ3_initS_J4_1 cx hR hS rfl hk2 hw ⟨Nat.le_of_ble_eq_true rfl, Nat.le_of_ble_eq_true rfl⟩ (Nat.le_of_ble_eq_true rfl) hl.1 ⟨by dsimp only; omega, by dsimp only; omega⟩ dJ4_init_1 (fun s1 H locs hw hR hS => ?_)
  exact x_vret cx hR hS (xle hcb) (xle hsb) hw dJ4_init_4
-- J0_initH
def wJ0_initH (th : Nat) (σ : XS) (Q : XS → Prop) : Prop :=
  Q σ
set_option maxHeartbeats 4000000 in
theorem MJ0_initH (l : Launch) (E : xx_E) (th : Nat) (σ : XS) (Q : XS → Prop) (hw : wJ0_initH th σ Q) : xx_Mv l yJ0_init (ws_ yJ0_init cJ0_init 1 none) ({ frames := 1, cells := 0, slots := 0, locals := 40 } : Room) E [xv E (some th)] σ Q 0 0 := by
  refine x_of (own := "java/util/AbstractMap") (by decide +kernel) rfl ?_
  intro p e s m args below meth c cx hR ha hnm
  refine x_entry [xv E (some th)] 1 [(0, xv E (some th))] ha (by simp [lg_sl, xv_cat, vc_i, vc_j, vc_f]) (by simp [lv_args, xv_cat, vc_i, vc_j, vc_f]) (fun ls hl => ?_)
  have hS : va_S (xA E) s.heap s.heap [] := va_S.rf
  have hcb : 0 + 0 ≤ 0 := Nat.le_of_eq (Nat.zero_add _)
  have hsb : 0 + 0 ≤ 0 := Nat.le_of_eq (Nat.zero_add _)
  have hini : meth.name = "<init>" := hnm
  unfold wJ0_initH at hw
  obtain ⟨hx, hb, hml, hown, hts, hrt, hlk, hMK, hZ⟩ := id cx
  refine x_aload_n cx dJ0_init_0 rfl (lv_at hl 0 rfl) ?_
  refine x_objinit cx hl.1 rfl q231 (xroom12 (Nat.le_of_ble_eq_true rfl) (by dsimp only; omega)) (by dsimp only; omega) dJ0_init_1 ?_
  exact x_vret cx hR hS (xle hcb) (xle hsb) hw dJ0_init_4
-- J1_initH
theorem xp_J1_81_17 {l : Launch} {p : Program} {e : Env} {R : Room} {s : State} {m : MethodId} {args : Array Value} {below : List Frame} {meth : Method} {c : Code} {H : Heap} {locs : List Loc} {cells slots : Nat} {Qz : State → Prop} {cc : ByteArray} {nL : Nat} {ret : Option FieldType} {E : xx_E} {σ : XS} {pc : Nat} {ls : Array Slot} {rest : List Value} (cx : xx_X "java/util/HashMap" cc nL ret E p s m args meth c) (hR : xR E σ H) (hS0 : va_S (xA E) s.heap H locs) {a : Nat} {r : Option Nat} {v : UInt32} (hr : r = some a) (ha : xK ≤ a) (hk : kd σ a = 17) (hini : meth.name = "<init>") (hdg : decode cc pc = .ok (.putfield 81, 3)) (kk : ∀ (H1 : Heap) (locs1 : List Loc), xR E (pff σ a 7 v) H1 → va_S (xA E) s.heap H1 locs1 → W p l e R s m args below meth c H1 locs1 cells slots Qz (F0 m (pc + 3) ls rest)) : W p l e R s m args below meth c H locs cells slots Qz (F0 m pc ls (.float v :: xv E r :: rest)) :=
  x_put (ci := 16) cx hR hS0 hr ha hk (by decide) rfl in_J1 tyJ1 tyJ1_ok nmJ1 7 (by decide) (Or.inr (Or.inl ⟨q243, rfl, hini, rfl⟩)) (fun _ h => h) rfl rfl (xput_f rfl) hdg kk
theorem CJ0_initH_J1_43 {l : Launch} {p : Program} {e : Env} {R : Room} {s : State} {m : MethodId} {args : Array Value} {below : List Frame} {meth : Method} {c : Code} {H : Heap} {locs : List Loc} {cells slots : Nat} {Qz : State → Prop} {cc : ByteArray} {nL : Nat} {ret : Option FieldType} {E : xx_E} {σ : XS} {pc : Nat} {ls : Array Slot} {rest : List Value} {th : Nat} (cx : xx_X "java/util/HashMap" cc nL ret E p s m args meth c) (hR0 : xR E σ H) (hS0 : va_S (xA E) s.heap H locs) {r0 : Option Nat} (hr : r0 = some th) (hk : kd σ th = 17) {Qf : XS → Prop} (hw : wJ0_initH th σ Qf) (hR : (({ frames := 1, cells := 0, slots := 0, locals := 40 } : Room)).frames + 1 ≤ R.frames ∧ 8 + (1 + 11) + (({ frames := 1, cells := 0, slots := 0, locals := 40 } : Room)).locals ≤ R.locals) (hrest : rest.length ≤ 4) (hsize : ls.size = nL) (hf : cells + 0 ≤ R.cells ∧ slots + 0 ≤ R.slots) (hdg : decode cc pc = .ok (.invokespecial 43, 3))
    (kk : ∀ (σ1 : XS) (H1 : Heap) (locs1 : List Loc), Qf σ1 → xR E σ1 H1 → va_S (xA E) s.heap H1 locs1 → W p l e R s m args below meth c H1 locs1 (cells + 0) (slots + 0) Qz (F0 m (pc + 3) ls rest)) : W p l e R s m args below meth c H locs cells slots Qz (F0 m pc ls (xv E r0 :: rest)) := by
  subst hr
  obtain ⟨hx, hb, hml, hown, hts, hrt, hlk, hK, hZ⟩ := id cx
  exact x_gov (va_runI (As := []) (rest := rest) (x_fix cx) (MJ0_initH l E th σ Qf hw) (cwI 0 hts (lw_meth q230) rfl rfl rfl (hts _ q158) (hts _ q228) (hts _ q229) rfl (by decide +kernel) hR) ⟨xblind, x_pre cx hR0 hS0 (.ref (xr E th) :: [])⟩ rfl rfl hsize rfl (lv_room (xroom hrest)) hdg hf) hS0 kk
def wJ1_initH (th : Nat) (σ : XS) (Q : XS → Prop) : Prop :=
  kd σ th = 17 ∧ (wJ0_initH th σ (fun s1 => kd s1 th = 17 ∧ (xK ≤ th ∧ (Q (pff s1 th 7 (1061158912 : UInt32))))))
set_option maxHeartbeats 4000000 in
theorem MJ1_initH (l : Launch) (E : xx_E) (th : Nat) (σ : XS) (Q : XS → Prop) (hw : wJ1_initH th σ Q) : xx_Mv l yJ1_init (ws_ yJ1_init cJ1_init 1 none) ({ frames := 2, cells := 0, slots := 0, locals := 80 } : Room) E [xv E (some th)] σ Q 0 0 := by
  refine x_of (own := "java/util/HashMap") (by decide +kernel) rfl ?_
  intro p e s m args below meth c cx hR ha hnm
  refine x_entry [xv E (some th)] 1 [(0, xv E (some th))] ha (by simp [lg_sl, xv_cat, vc_i, vc_j, vc_f]) (by simp [lv_args, xv_cat, vc_i, vc_j, vc_f]) (fun ls hl => ?_)
  have hS : va_S (xA E) s.heap s.heap [] := va_S.rf
  have hcb : 0 + 0 ≤ 0 := Nat.le_of_eq (Nat.zero_add _)
  have hsb : 0 + 0 ≤ 0 := Nat.le_of_eq (Nat.zero_add _)
  have hini : meth.name = "<init>" := hnm
  unfold wJ1_initH at hw
  obtain ⟨hx, hb, hml, hown, hts, hrt, hlk, hMK, hZ⟩ := id cx
  refine x_aload_n cx dJ1_init_0 rfl (lv_at hl 0 rfl) ?_
  obtain ⟨hk2, hw⟩ := hw
  refine CJ0_initH_J1_43 cx hR hS rfl hk2 hw ⟨Nat.le_of_ble_eq_true rfl, Nat.le_of_ble_eq_true rfl⟩ (Nat.le_of_ble_eq_true rfl) hl.1 ⟨by dsimp only; omega, by dsimp only; omega⟩ dJ1_init_1 (fun s1 H locs hw hR hS => ?_)
  refine x_aload_n cx dJ1_init_4 rfl (lv_at hl 0 rfl) ?_
  refine lv_ldcf (v := 1061158912) hx hb hown (hts _ q232) dJ1_init_5 ?_
  obtain ⟨hk3, hw⟩ := hw
  obtain ⟨hge_th, hw⟩ := hw
  refine xp_J1_81_17 (v := (1061158912 : UInt32)) cx hR hS rfl hge_th hk3 hini dJ1_init_7 (fun H locs hR hS => ?_)
  exact x_vret cx hR hS (xle hcb) (xle hsb) hw dJ1_init_10
-- J5_init
theorem xp_J5_10_19 {l : Launch} {p : Program} {e : Env} {R : Room} {s : State} {m : MethodId} {args : Array Value} {below : List Frame} {meth : Method} {c : Code} {H : Heap} {locs : List Loc} {cells slots : Nat} {Qz : State → Prop} {cc : ByteArray} {nL : Nat} {ret : Option FieldType} {E : xx_E} {σ : XS} {pc : Nat} {ls : Array Slot} {rest : List Value} (cx : xx_X "java/util/HashSet" cc nL ret E p s m args meth c) (hR : xR E σ H) (hS0 : va_S (xA E) s.heap H locs) {a : Nat} {r : Option Nat} {v : Option Nat} (hr : r = some a) (ha : xK ≤ a) (hk : kd σ a = 19) (hdg : decode cc pc = .ok (.putfield 10, 3)) (kk : ∀ (H1 : Heap) (locs1 : List Loc), xR E (pfr σ a 0 v) H1 → va_S (xA E) s.heap H1 locs1 → W p l e R s m args below meth c H1 locs1 cells slots Qz (F0 m (pc + 3) ls rest)) : W p l e R s m args below meth c H locs cells slots Qz (F0 m pc ls (xv E v :: xv E r :: rest)) :=
  x_put (ci := 18) cx hR hS0 hr ha hk (by decide) rfl in_J5 tyJ5 tyJ5_ok nmJ5 0 (by decide) (Or.inl ⟨q294, rfl⟩) (fun _ h => h) (by cases v <;> rfl) (by cases v <;> rfl) (xput_r rfl) hdg kk
theorem xn_J5_7 {l : Launch} {p : Program} {e : Env} {R : Room} {s : State} {m : MethodId} {args : Array Value} {below : List Frame} {meth : Method} {c : Code} {H : Heap} {locs : List Loc} {cells slots : Nat} {Qz : State → Prop} {cc : ByteArray} {nL : Nat} {ret : Option FieldType} {E : xx_E} {σ : XS} {pc : Nat} {ls : Array Slot} {rest : List Value} (cx : xx_X "java/util/HashSet" cc nL ret E p s m args meth c) (hR : xR E σ H) (hS0 : va_S (xA E) s.heap H locs) (hcells : cells + 1 ≤ R.cells) (hslots : slots + 8 ≤ R.slots) (hdg : decode cc pc = .ok (.new 7, 3)) (kk : ∀ (H1 : Heap), xR E (xal σ 17 0) H1 → va_S (xA E) s.heap H1 locs → W p l e R s m args below meth c H1 locs (cells + 1) (slots + 8) Qz (F0 m (pc + 3) ls (xv E (some (xn σ)) :: rest))) : W p l e R s m args below meth c H locs cells slots Qz (F0 m pc ls rest) :=
  x_new cx hR hS0 16 (by decide) rfl in_J1 tyJ1 tyJ1_ok q282 q283 q159 (fun j hj => by
    match j, hj with
    | 0, _ => exact xnew_r rfl
    | 1, _ => exact xnew_r rfl
    | 2, _ => exact xnew_r rfl
    | 3, _ => exact xnew_r rfl
    | 4, _ => exact xnew_i rfl
    | 5, _ => exact xnew_i rfl
    | 6, _ => exact xnew_i rfl
    | 7, _ => exact xnew_f rfl) hcells hslots hdg kk
theorem CJ4_initS_J5_1 {l : Launch} {p : Program} {e : Env} {R : Room} {s : State} {m : MethodId} {args : Array Value} {below : List Frame} {meth : Method} {c : Code} {H : Heap} {locs : List Loc} {cells slots : Nat} {Qz : State → Prop} {cc : ByteArray} {nL : Nat} {ret : Option FieldType} {E : xx_E} {σ : XS} {pc : Nat} {ls : Array Slot} {rest : List Value} {th : Nat} (cx : xx_X "java/util/HashSet" cc nL ret E p s m args meth c) (hR0 : xR E σ H) (hS0 : va_S (xA E) s.heap H locs) {r0 : Option Nat} (hr : r0 = some th) (hk : kd σ th = 19) {Qf : XS → Prop} (hw : wJ4_initS th σ Qf) (hR : (({ frames := 2, cells := 0, slots := 0, locals := 80 } : Room)).frames + 1 ≤ R.frames ∧ 8 + (1 + 11) + (({ frames := 2, cells := 0, slots := 0, locals := 80 } : Room)).locals ≤ R.locals) (hrest : rest.length ≤ 4) (hsize : ls.size = nL) (hf : cells + 0 ≤ R.cells ∧ slots + 0 ≤ R.slots) (hdg : decode cc pc = .ok (.invokespecial 1, 3))
    (kk : ∀ (σ1 : XS) (H1 : Heap) (locs1 : List Loc), Qf σ1 → xR E σ1 H1 → va_S (xA E) s.heap H1 locs1 → W p l e R s m args below meth c H1 locs1 (cells + 0) (slots + 0) Qz (F0 m (pc + 3) ls rest)) : W p l e R s m args below meth c H locs cells slots Qz (F0 m pc ls (xv E r0 :: rest)) := by
  subst hr
  obtain ⟨hx, hb, hml, hown, hts, hrt, hlk, hK, hZ⟩ := id cx
  exact x_gov (va_runI (As := []) (rest := rest) (x_fix cx) (MJ4_initS l E th σ Qf hw) (cwI 0 hts (lw_meth q277) rfl rfl rfl (hts _ q162) (hts _ q275) (hts _ q276) rfl (by decide +kernel) hR) ⟨xblind, x_pre cx hR0 hS0 (.ref (xr E th) :: [])⟩ rfl rfl hsize rfl (lv_room (xroom hrest)) hdg hf) hS0 kk
theorem CJ1_initH_J5_9 {l : Launch} {p : Program} {e : Env} {R : Room} {s : State} {m : MethodId} {args : Array Value} {below : List Frame} {meth : Method} {c : Code} {H : Heap} {locs : List Loc} {cells slots : Nat} {Qz : State → Prop} {cc : ByteArray} {nL : Nat} {ret : Option FieldType} {E : xx_E} {σ : XS} {pc : Nat} {ls : Array Slot} {rest : List Value} {th : Nat} (cx : xx_X "java/util/HashSet" cc nL ret E p s m args meth c) (hR0 : xR E σ H) (hS0 : va_S (xA E) s.heap H locs) {r0 : Option Nat} (hr : r0 = some th) (hk : kd σ th = 17) {Qf : XS → Prop} (hw : wJ1_initH th σ Qf) (hR : (({ frames := 2, cells := 0, slots := 0, locals := 80 } : Room)).frames + 1 ≤ R.frames ∧ 8 + (1 + 11) + (({ frames := 2, cells := 0, slots := 0, locals := 80 } : Room)).locals ≤ R.locals) (hrest : rest.length ≤ 4) (hsize : ls.size = nL) (hf : cells + 0 ≤ R.cells ∧ slots + 0 ≤ R.slots) (hdg : decode cc pc = .ok (.invokespecial 9, 3))
    (kk : ∀ (σ1 : XS) (H1 : Heap) (locs1 : List Loc), Qf σ1 → xR E σ1 H1 → va_S (xA E) s.heap H1 locs1 → W p l e R s m args below meth c H1 locs1 (cells + 0) (slots + 0) Qz (F0 m (pc + 3) ls rest)) : W p l e R s m args below meth c H locs cells slots Qz (F0 m pc ls (xv E r0 :: rest)) := by
  subst hr
  obtain ⟨hx, hb, hml, hown, hts, hrt, hlk, hK, hZ⟩ := id cx
  exact x_gov (va_runI (As := []) (rest := rest) (x_fix cx) (MJ1_initH l E th σ Qf hw) (cwI 0 hts (lw_meth q227) rfl rfl rfl (hts _ q159) (hts _ q284) (hts _ q226) rfl (by decide +kernel) hR) ⟨xblind, x_pre cx hR0 hS0 (.ref (xr E th) :: [])⟩ rfl rfl hsize rfl (lv_room (xroom hrest)) hdg hf) hS0 kk
def wJ5_init (th : Nat) (bc : Nat) (bs : Nat) (σ : XS) (Q : XS → Prop) : Prop :=
  kd σ th = 19 ∧ (wJ4_initS th σ (fun s1 => 1 ≤ bc ∧ 8 ≤ bs ∧ (kd (xal s1 17 0) (xn s1) = 17 ∧ (wJ1_initH (xn s1) (xal s1 17 0) (fun s3 => kd s3 th = 19 ∧ (xK ≤ th ∧ (Q (pfr s3 th 0 (some (xn s1))))))))))
set_option maxHeartbeats 4000000 in
theorem MJ5_init (l : Launch) (E : xx_E) (th : Nat) (bc : Nat) (bs : Nat) (σ : XS) (Q : XS → Prop) (hw : wJ5_init th bc bs σ Q) : xx_Mv l yJ5_init (ws_ yJ5_init cJ5_init 1 none) ({ frames := 3, cells := bc, slots := bs, locals := 120 } : Room) E [xv E (some th)] σ Q bc bs := by
  refine x_of (own := "java/util/HashSet") (by decide +kernel) rfl ?_
  intro p e s m args below meth c cx hR ha hnm
  refine x_entry [xv E (some th)] 1 [(0, xv E (some th))] ha (by simp [lg_sl, xv_cat, vc_i, vc_j, vc_f]) (by simp [lv_args, xv_cat, vc_i, vc_j, vc_f]) (fun ls hl => ?_)
  have hS : va_S (xA E) s.heap s.heap [] := va_S.rf
  have hcb : 0 + bc ≤ bc := Nat.le_of_eq (Nat.zero_add _)
  have hsb : 0 + bs ≤ bs := Nat.le_of_eq (Nat.zero_add _)
  have hini : meth.name = "<init>" := hnm
  unfold wJ5_init at hw
  obtain ⟨hx, hb, hml, hown, hts, hrt, hlk, hMK, hZ⟩ := id cx
  refine x_aload_n cx dJ5_init_0 rfl (lv_at hl 0 rfl) ?_
  obtain ⟨hk2, hw⟩ := hw
  refine CJ4_initS_J5_1 cx hR hS rfl hk2 hw ⟨Nat.le_of_ble_eq_true rfl, Nat.le_of_ble_eq_true rfl⟩ (Nat.le_of_ble_eq_true rfl) hl.1 ⟨by dsimp only; omega, by dsimp only; omega⟩ dJ5_init_1 (fun s1 H locs hw hR hS => ?_)
  refine x_aload_n cx dJ5_init_4 rfl (lv_at hl 0 rfl) ?_
  obtain ⟨hb1, hb2, hw⟩ := hw
  refine xn_J5_7 cx hR hS (by dsimp only; omega) (by dsimp only; omega) dJ5_init_5 (fun H hR hS => ?_)
  have hcb := xadd hb1 hcb
  have hsb := xadd hb2 hsb
  refine lv_dup hx hb dJ5_init_8 (xv_cat _ _) ?_
  obtain ⟨hk4, hw⟩ := hw
  refine CJ1_initH_J5_9 cx hR hS rfl hk4 hw ⟨Nat.le_of_ble_eq_true rfl, Nat.le_of_ble_eq_true rfl⟩ (Nat.le_of_ble_eq_true rfl) hl.1 ⟨by dsimp only; omega, by dsimp only; omega⟩ dJ5_init_9 (fun s3 H locs hw hR hS => ?_)
  obtain ⟨hk5, hw⟩ := hw
  obtain ⟨hge_th, hw⟩ := hw
  refine xp_J5_10_19 (v := (some (xn s1))) cx hR hS rfl hge_th hk5 dJ5_init_12 (fun H locs hR hS => ?_)
  exact x_vret cx hR hS (xle hcb) (xle hsb) hw dJ5_init_15
-- J3_initA
def wJ3_initA (th : Nat) (σ : XS) (Q : XS → Prop) : Prop :=
  Q σ
set_option maxHeartbeats 4000000 in
theorem MJ3_initA (l : Launch) (E : xx_E) (th : Nat) (σ : XS) (Q : XS → Prop) (hw : wJ3_initA th σ Q) : xx_Mv l yJ3_init (ws_ yJ3_init cJ3_init 1 none) ({ frames := 1, cells := 0, slots := 0, locals := 40 } : Room) E [xv E (some th)] σ Q 0 0 := by
  refine x_of (own := "java/util/AbstractCollection") (by decide +kernel) rfl ?_
  intro p e s m args below meth c cx hR ha hnm
  refine x_entry [xv E (some th)] 1 [(0, xv E (some th))] ha (by simp [lg_sl, xv_cat, vc_i, vc_j, vc_f]) (by simp [lv_args, xv_cat, vc_i, vc_j, vc_f]) (fun ls hl => ?_)
  have hS : va_S (xA E) s.heap s.heap [] := va_S.rf
  have hcb : 0 + 0 ≤ 0 := Nat.le_of_eq (Nat.zero_add _)
  have hsb : 0 + 0 ≤ 0 := Nat.le_of_eq (Nat.zero_add _)
  have hini : meth.name = "<init>" := hnm
  unfold wJ3_initA at hw
  obtain ⟨hx, hb, hml, hown, hts, hrt, hlk, hMK, hZ⟩ := id cx
  refine x_aload_n cx dJ3_init_0 rfl (lv_at hl 0 rfl) ?_
  refine x_objinit cx hl.1 rfl q281 (xroom12 (Nat.le_of_ble_eq_true rfl) (by dsimp only; omega)) (by dsimp only; omega) dJ3_init_1 ?_
  exact x_vret cx hR hS (xle hcb) (xle hsb) hw dJ3_init_4
-- J6_initA
theorem xp_J6_7_16 {l : Launch} {p : Program} {e : Env} {R : Room} {s : State} {m : MethodId} {args : Array Value} {below : List Frame} {meth : Method} {c : Code} {H : Heap} {locs : List Loc} {cells slots : Nat} {Qz : State → Prop} {cc : ByteArray} {nL : Nat} {ret : Option FieldType} {E : xx_E} {σ : XS} {pc : Nat} {ls : Array Slot} {rest : List Value} (cx : xx_X "java/util/AbstractList" cc nL ret E p s m args meth c) (hR : xR E σ H) (hS0 : va_S (xA E) s.heap H locs) {a : Nat} {r : Option Nat} {v : Int32} (hr : r = some a) (ha : xK ≤ a) (hk : kd σ a = 16) (hdg : decode cc pc = .ok (.putfield 7, 3)) (kk : ∀ (H1 : Heap) (locs1 : List Loc), xR E (pfi σ a 0 v) H1 → va_S (xA E) s.heap H1 locs1 → W p l e R s m args below meth c H1 locs1 cells slots Qz (F0 m (pc + 3) ls rest)) : W p l e R s m args below meth c H locs cells slots Qz (F0 m pc ls (.int v :: xv E r :: rest)) :=
  x_put (ci := 15) cx hR hS0 hr ha hk (by decide) rfl in_J7 tyJ7 tyJ7_ok nmJ7 0 (by decide) (Or.inl ⟨q313, rfl⟩) (fun _ h => h) rfl rfl (xput_i rfl) hdg kk
theorem CJ3_initA_J6_1 {l : Launch} {p : Program} {e : Env} {R : Room} {s : State} {m : MethodId} {args : Array Value} {below : List Frame} {meth : Method} {c : Code} {H : Heap} {locs : List Loc} {cells slots : Nat} {Qz : State → Prop} {cc : ByteArray} {nL : Nat} {ret : Option FieldType} {E : xx_E} {σ : XS} {pc : Nat} {ls : Array Slot} {rest : List Value} {th : Nat} (cx : xx_X "java/util/AbstractList" cc nL ret E p s m args meth c) (hR0 : xR E σ H) (hS0 : va_S (xA E) s.heap H locs) {r0 : Option Nat} (hr : r0 = some th) (hk : kd σ th = 16) {Qf : XS → Prop} (hw : wJ3_initA th σ Qf) (hR : (({ frames := 1, cells := 0, slots := 0, locals := 40 } : Room)).frames + 1 ≤ R.frames ∧ 8 + (1 + 11) + (({ frames := 1, cells := 0, slots := 0, locals := 40 } : Room)).locals ≤ R.locals) (hrest : rest.length ≤ 4) (hsize : ls.size = nL) (hf : cells + 0 ≤ R.cells ∧ slots + 0 ≤ R.slots) (hdg : decode cc pc = .ok (.invokespecial 1, 3))
    (kk : ∀ (σ1 : XS) (H1 : Heap) (locs1 : List Loc), Qf σ1 → xR E σ1 H1 → va_S (xA E) s.heap H1 locs1 → W p l e R s m args below meth c H1 locs1 (cells + 0) (slots + 0) Qz (F0 m (pc + 3) ls rest)) : W p l e R s m args below meth c H locs cells slots Qz (F0 m pc ls (xv E r0 :: rest)) := by
  subst hr
  obtain ⟨hx, hb, hml, hown, hts, hrt, hlk, hK, hZ⟩ := id cx
  exact x_gov (va_runI (As := []) (rest := rest) (x_fix cx) (MJ3_initA l E th σ Qf hw) (cwI 0 hts (lw_meth q280) rfl rfl rfl (hts _ q161) (hts _ q306) (hts _ q279) rfl (by decide +kernel) hR) ⟨xblind, x_pre cx hR0 hS0 (.ref (xr E th) :: [])⟩ rfl rfl hsize rfl (lv_room (xroom hrest)) hdg hf) hS0 kk
def wJ6_initA (th : Nat) (σ : XS) (Q : XS → Prop) : Prop :=
  kd σ th = 16 ∧ (wJ3_initA th σ (fun s1 => kd s1 th = 16 ∧ (xK ≤ th ∧ (Q (pfi s1 th 0 (0 : Int32))))))
set_option maxHeartbeats 4000000 in
theorem MJ6_initA (l : Launch) (E : xx_E) (th : Nat) (σ : XS) (Q : XS → Prop) (hw : wJ6_initA th σ Q) : xx_Mv l yJ6_init (ws_ yJ6_init cJ6_init 1 none) ({ frames := 2, cells := 0, slots := 0, locals := 80 } : Room) E [xv E (some th)] σ Q 0 0 := by
  refine x_of (own := "java/util/AbstractList") (by decide +kernel) rfl ?_
  intro p e s m args below meth c cx hR ha hnm
  refine x_entry [xv E (some th)] 1 [(0, xv E (some th))] ha (by simp [lg_sl, xv_cat, vc_i, vc_j, vc_f]) (by simp [lv_args, xv_cat, vc_i, vc_j, vc_f]) (fun ls hl => ?_)
  have hS : va_S (xA E) s.heap s.heap [] := va_S.rf
  have hcb : 0 + 0 ≤ 0 := Nat.le_of_eq (Nat.zero_add _)
  have hsb : 0 + 0 ≤ 0 := Nat.le_of_eq (Nat.zero_add _)
  have hini : meth.name = "<init>" := hnm
  unfold wJ6_initA at hw
  obtain ⟨hx, hb, hml, hown, hts, hrt, hlk, hMK, hZ⟩ := id cx
  refine x_aload_n cx dJ6_init_0 rfl (lv_at hl 0 rfl) ?_
  obtain ⟨hk2, hw⟩ := hw
  refine CJ3_initA_J6_1 cx hR hS rfl hk2 hw ⟨Nat.le_of_ble_eq_true rfl, Nat.le_of_ble_eq_true rfl⟩ (Nat.le_of_ble_eq_true rfl) hl.1 ⟨by dsimp only; omega, by dsimp only; omega⟩ dJ6_init_1 (fun s1 H locs hw hR hS => ?_)
  refine x_aload_n cx dJ6_init_4 rfl (lv_at hl 0 rfl) ?_
  refine lv_iconst (v := (0 : Int32)) hx hb dJ6_init_5 (by decide) ?_
  obtain ⟨hk3, hw⟩ := hw
  obtain ⟨hge_th, hw⟩ := hw
  refine xp_J6_7_16 (v := (0 : Int32)) cx hR hS rfl hge_th hk3 dJ6_init_6 (fun H locs hR hS => ?_)
  exact x_vret cx hR hS (xle hcb) (xle hsb) hw dJ6_init_9
-- J7_init
theorem xp_J7_9_16 {l : Launch} {p : Program} {e : Env} {R : Room} {s : State} {m : MethodId} {args : Array Value} {below : List Frame} {meth : Method} {c : Code} {H : Heap} {locs : List Loc} {cells slots : Nat} {Qz : State → Prop} {cc : ByteArray} {nL : Nat} {ret : Option FieldType} {E : xx_E} {σ : XS} {pc : Nat} {ls : Array Slot} {rest : List Value} (cx : xx_X "java/util/ArrayList" cc nL ret E p s m args meth c) (hR : xR E σ H) (hS0 : va_S (xA E) s.heap H locs) {a : Nat} {r : Option Nat} {v : Option Nat} (hr : r = some a) (ha : xK ≤ a) (hk : kd σ a = 16) (hdg : decode cc pc = .ok (.putfield 9, 3)) (kk : ∀ (H1 : Heap) (locs1 : List Loc), xR E (pfr σ a 1 v) H1 → va_S (xA E) s.heap H1 locs1 → W p l e R s m args below meth c H1 locs1 cells slots Qz (F0 m (pc + 3) ls rest)) : W p l e R s m args below meth c H locs cells slots Qz (F0 m pc ls (xv E v :: xv E r :: rest)) :=
  x_put (ci := 15) cx hR hS0 hr ha hk (by decide) rfl in_J7 tyJ7 tyJ7_ok nmJ7 1 (by decide) (Or.inl ⟨q311, rfl⟩) (fun _ h => h) (by cases v <;> rfl) (by cases v <;> rfl) (xput_r rfl) hdg kk
theorem CJ6_initA_J7_1 {l : Launch} {p : Program} {e : Env} {R : Room} {s : State} {m : MethodId} {args : Array Value} {below : List Frame} {meth : Method} {c : Code} {H : Heap} {locs : List Loc} {cells slots : Nat} {Qz : State → Prop} {cc : ByteArray} {nL : Nat} {ret : Option FieldType} {E : xx_E} {σ : XS} {pc : Nat} {ls : Array Slot} {rest : List Value} {th : Nat} (cx : xx_X "java/util/ArrayList" cc nL ret E p s m args meth c) (hR0 : xR E σ H) (hS0 : va_S (xA E) s.heap H locs) {r0 : Option Nat} (hr : r0 = some th) (hk : kd σ th = 16) {Qf : XS → Prop} (hw : wJ6_initA th σ Qf) (hR : (({ frames := 2, cells := 0, slots := 0, locals := 80 } : Room)).frames + 1 ≤ R.frames ∧ 8 + (1 + 11) + (({ frames := 2, cells := 0, slots := 0, locals := 80 } : Room)).locals ≤ R.locals) (hrest : rest.length ≤ 4) (hsize : ls.size = nL) (hf : cells + 0 ≤ R.cells ∧ slots + 0 ≤ R.slots) (hdg : decode cc pc = .ok (.invokespecial 1, 3))
    (kk : ∀ (σ1 : XS) (H1 : Heap) (locs1 : List Loc), Qf σ1 → xR E σ1 H1 → va_S (xA E) s.heap H1 locs1 → W p l e R s m args below meth c H1 locs1 (cells + 0) (slots + 0) Qz (F0 m (pc + 3) ls rest)) : W p l e R s m args below meth c H locs cells slots Qz (F0 m pc ls (xv E r0 :: rest)) := by
  subst hr
  obtain ⟨hx, hb, hml, hown, hts, hrt, hlk, hK, hZ⟩ := id cx
  exact x_gov (va_runI (As := []) (rest := rest) (x_fix cx) (MJ6_initA l E th σ Qf hw) (cwI 0 hts (lw_meth q305) rfl rfl rfl (hts _ q164) (hts _ q303) (hts _ q304) rfl (by decide +kernel) hR) ⟨xblind, x_pre cx hR0 hS0 (.ref (xr E th) :: [])⟩ rfl rfl hsize rfl (lv_room (xroom hrest)) hdg hf) hS0 kk
def wJ7_init (th : Nat) (x1 : Int32) (bc : Nat) (bs : Nat) (σ : XS) (Q : XS → Prop) : Prop :=
  kd σ th = 16 ∧ (wJ6_initA th σ (fun s1 => if x1 ≤ 0 then (if x1 = 0 then False else False) else (¬ x1 < 0 ∧ x1.toNatClampNeg ≤ 67108864 ∧ (1 ≤ bc ∧ x1.toNatClampNeg ≤ bs ∧ (kd (xal s1 103 x1.toNatClampNeg) th = 16 ∧ (xK ≤ th ∧ (Q (pfr (xal s1 103 x1.toNatClampNeg) th 1 (some (xn s1))))))))))
set_option maxHeartbeats 4000000 in
theorem MJ7_init (l : Launch) (E : xx_E) (th : Nat) (x1 : Int32) (bc : Nat) (bs : Nat) (σ : XS) (Q : XS → Prop) (hw : wJ7_init th x1 bc bs σ Q) : xx_Mv l yJ7_init (ws_ yJ7_init cJ7_init 2 none) ({ frames := 3, cells := bc, slots := bs, locals := 120 } : Room) E [xv E (some th), .int x1] σ Q bc bs := by
  refine x_of (own := "java/util/ArrayList") (by decide +kernel) rfl ?_
  intro p e s m args below meth c cx hR ha hnm
  refine x_entry [xv E (some th), .int x1] 2 [(0, xv E (some th)), (1, .int x1)] ha (by simp [lg_sl, xv_cat, vc_i, vc_j, vc_f]) (by simp [lv_args, xv_cat, vc_i, vc_j, vc_f]) (fun ls hl => ?_)
  have hS : va_S (xA E) s.heap s.heap [] := va_S.rf
  have hcb : 0 + bc ≤ bc := Nat.le_of_eq (Nat.zero_add _)
  have hsb : 0 + bs ≤ bs := Nat.le_of_eq (Nat.zero_add _)
  have hini : meth.name = "<init>" := hnm
  unfold wJ7_init at hw
  obtain ⟨hx, hb, hml, hown, hts, hrt, hlk, hMK, hZ⟩ := id cx
  refine x_aload_n cx dJ7_init_0 rfl (lv_at hl 0 rfl) ?_
  obtain ⟨hk2, hw⟩ := hw
  refine CJ6_initA_J7_1 cx hR hS rfl hk2 hw ⟨Nat.le_of_ble_eq_true rfl, Nat.le_of_ble_eq_true rfl⟩ (Nat.le_of_ble_eq_true rfl) hl.1 ⟨by dsimp only; omega, by dsimp only; omega⟩ dJ7_init_1 (fun s1 H locs hw hR hS => ?_)
  refine lv_iload_n hx hb dJ7_init_4 rfl (lv_at hl 1 rfl) ?_
  refine lv_if_le (tgt := 19) hx hb dJ7_init_5 (by decide) (fun hc => ?_) (fun hc => ?_)
  · have hw := mm_ip hc hw
    refine lv_iload_n hx hb dJ7_init_19 rfl (lv_at hl 1 rfl) ?_
    refine lv_if_ne (tgt := 33) hx hb dJ7_init_20 (by decide) (fun hc => ?_) (fun hc => ?_)
    · have hw := mm_in hc hw
      exact hw.elim
    · have hw := mm_ip hc hw
      refine x_aload_n cx dJ7_init_23 rfl (lv_at hl 0 rfl) ?_
      exact hw.elim
  · have hw := mm_in hc hw
    refine x_aload_n cx dJ7_init_8 rfl (lv_at hl 0 rfl) ?_
    refine lv_iload_n hx hb dJ7_init_9 rfl (lv_at hl 1 rfl) ?_
    obtain ⟨hn0, hn8, hw⟩ := hw
    obtain ⟨hb1, hb2, hw⟩ := hw
    refine x_anew cx hR hS 3 (by decide) (by decide) rfl (q307) (by decide) (N := x1.toNatClampNeg) hn0 rfl (xbytes4 hn8) (by dsimp only; omega) (by dsimp only; omega) dJ7_init_10 (fun H hR hS => ?_)
    have hcb := xadd hb1 hcb
    have hsb := xadd hb2 hsb
    obtain ⟨hk3, hw⟩ := hw
    obtain ⟨hge_th, hw⟩ := hw
    refine xp_J7_9_16 (v := (some (xn s1))) cx hR hS rfl hge_th hk3 dJ7_init_13 (fun H locs hR hS => ?_)
    refine lv_goto (tgt := 60) hx hb dJ7_init_16 (by decide) ?_
    exact x_vret cx hR hS (xle hcb) (xle hsb) hw dJ7_init_60
-- X1_init
theorem xp_X1_12_2 {l : Launch} {p : Program} {e : Env} {R : Room} {s : State} {m : MethodId} {args : Array Value} {below : List Frame} {meth : Method} {c : Code} {H : Heap} {locs : List Loc} {cells slots : Nat} {Qz : State → Prop} {cc : ByteArray} {nL : Nat} {ret : Option FieldType} {E : xx_E} {σ : XS} {pc : Nat} {ls : Array Slot} {rest : List Value} (cx : xx_X "StruckCounts$Suit" cc nL ret E p s m args meth c) (hR : xR E σ H) (hS0 : va_S (xA E) s.heap H locs) {a : Nat} {r : Option Nat} {v : Option Nat} (hr : r = some a) (ha : xK ≤ a) (hk : kd σ a = 2) (hini : meth.name = "<init>") (hdg : decode cc pc = .ok (.putfield 12, 3)) (kk : ∀ (H1 : Heap) (locs1 : List Loc), xR E (pfr σ a 0 v) H1 → va_S (xA E) s.heap H1 locs1 → W p l e R s m args below meth c H1 locs1 cells slots Qz (F0 m (pc + 3) ls rest)) : W p l e R s m args below meth c H locs cells slots Qz (F0 m pc ls (xv E v :: xv E r :: rest)) :=
  x_put (ci := 1) cx hR hS0 hr ha hk (by decide) rfl in_X1 tyX1 tyX1_ok nmX1 0 (by decide) (Or.inr (Or.inl ⟨q323, rfl, hini, rfl⟩)) (fun _ h => h) (by cases v <;> rfl) (by cases v <;> rfl) (xput_r rfl) hdg kk
theorem xp_X1_21_2 {l : Launch} {p : Program} {e : Env} {R : Room} {s : State} {m : MethodId} {args : Array Value} {below : List Frame} {meth : Method} {c : Code} {H : Heap} {locs : List Loc} {cells slots : Nat} {Qz : State → Prop} {cc : ByteArray} {nL : Nat} {ret : Option FieldType} {E : xx_E} {σ : XS} {pc : Nat} {ls : Array Slot} {rest : List Value} (cx : xx_X "StruckCounts$Suit" cc nL ret E p s m args meth c) (hR : xR E σ H) (hS0 : va_S (xA E) s.heap H locs) {a : Nat} {r : Option Nat} {v : Option Nat} (hr : r = some a) (ha : xK ≤ a) (hk : kd σ a = 2) (hini : meth.name = "<init>") (hdg : decode cc pc = .ok (.putfield 21, 3)) (kk : ∀ (H1 : Heap) (locs1 : List Loc), xR E (pfr σ a 1 v) H1 → va_S (xA E) s.heap H1 locs1 → W p l e R s m args below meth c H1 locs1 cells slots Qz (F0 m (pc + 3) ls rest)) : W p l e R s m args below meth c H locs cells slots Qz (F0 m pc ls (xv E v :: xv E r :: rest)) :=
  x_put (ci := 1) cx hR hS0 hr ha hk (by decide) rfl in_X1 tyX1 tyX1_ok nmX1 1 (by decide) (Or.inr (Or.inl ⟨q325, rfl, hini, rfl⟩)) (fun _ h => h) (by cases v <;> rfl) (by cases v <;> rfl) (xput_r rfl) hdg kk
theorem xp_X1_30_2 {l : Launch} {p : Program} {e : Env} {R : Room} {s : State} {m : MethodId} {args : Array Value} {below : List Frame} {meth : Method} {c : Code} {H : Heap} {locs : List Loc} {cells slots : Nat} {Qz : State → Prop} {cc : ByteArray} {nL : Nat} {ret : Option FieldType} {E : xx_E} {σ : XS} {pc : Nat} {ls : Array Slot} {rest : List Value} (cx : xx_X "StruckCounts$Suit" cc nL ret E p s m args meth c) (hR : xR E σ H) (hS0 : va_S (xA E) s.heap H locs) {a : Nat} {r : Option Nat} {v : Option Nat} (hr : r = some a) (ha : xK ≤ a) (hk : kd σ a = 2) (hini : meth.name = "<init>") (hdg : decode cc pc = .ok (.putfield 30, 3)) (kk : ∀ (H1 : Heap) (locs1 : List Loc), xR E (pfr σ a 2 v) H1 → va_S (xA E) s.heap H1 locs1 → W p l e R s m args below meth c H1 locs1 cells slots Qz (F0 m (pc + 3) ls rest)) : W p l e R s m args below meth c H locs cells slots Qz (F0 m pc ls (xv E v :: xv E r :: rest)) :=
  x_put (ci := 1) cx hR hS0 hr ha hk (by decide) rfl in_X1 tyX1 tyX1_ok nmX1 2 (by decide) (Or.inr (Or.inl ⟨q328, rfl, hini, rfl⟩)) (fun _ h => h) (by cases v <;> rfl) (by cases v <;> rfl) (xput_r rfl) hdg kk
theorem xp_X1_34_2 {l : Launch} {p : Program} {e : Env} {R : Room} {s : State} {m : MethodId} {args : Array Value} {below : List Frame} {meth : Method} {c : Code} {H : Heap} {locs : List Loc} {cells slots : Nat} {Qz : State → Prop} {cc : ByteArray} {nL : Nat} {ret : Option FieldType} {E : xx_E} {σ : XS} {pc : Nat} {ls : Array Slot} {rest : List Value} (cx : xx_X "StruckCounts$Suit" cc nL ret E p s m args meth c) (hR : xR E σ H) (hS0 : va_S (xA E) s.heap H locs) {a : Nat} {r : Option Nat} {v : Option Nat} (hr : r = some a) (ha : xK ≤ a) (hk : kd σ a = 2) (hini : meth.name = "<init>") (hdg : decode cc pc = .ok (.putfield 34, 3)) (kk : ∀ (H1 : Heap) (locs1 : List Loc), xR E (pfr σ a 3 v) H1 → va_S (xA E) s.heap H1 locs1 → W p l e R s m args below meth c H1 locs1 cells slots Qz (F0 m (pc + 3) ls rest)) : W p l e R s m args below meth c H locs cells slots Qz (F0 m pc ls (xv E v :: xv E r :: rest)) :=
  x_put (ci := 1) cx hR hS0 hr ha hk (by decide) rfl in_X1 tyX1 tyX1_ok nmX1 3 (by decide) (Or.inr (Or.inl ⟨q332, rfl, hini, rfl⟩)) (fun _ h => h) (by cases v <;> rfl) (by cases v <;> rfl) (xput_r rfl) hdg kk
theorem xp_X1_37_2 {l : Launch} {p : Program} {e : Env} {R : Room} {s : State} {m : MethodId} {args : Array Value} {below : List Frame} {meth : Method} {c : Code} {H : Heap} {locs : List Loc} {cells slots : Nat} {Qz : State → Prop} {cc : ByteArray} {nL : Nat} {ret : Option FieldType} {E : xx_E} {σ : XS} {pc : Nat} {ls : Array Slot} {rest : List Value} (cx : xx_X "StruckCounts$Suit" cc nL ret E p s m args meth c) (hR : xR E σ H) (hS0 : va_S (xA E) s.heap H locs) {a : Nat} {r : Option Nat} {v : Option Nat} (hr : r = some a) (ha : xK ≤ a) (hk : kd σ a = 2) (hini : meth.name = "<init>") (hdg : decode cc pc = .ok (.putfield 37, 3)) (kk : ∀ (H1 : Heap) (locs1 : List Loc), xR E (pfr σ a 4 v) H1 → va_S (xA E) s.heap H1 locs1 → W p l e R s m args below meth c H1 locs1 cells slots Qz (F0 m (pc + 3) ls rest)) : W p l e R s m args below meth c H locs cells slots Qz (F0 m pc ls (xv E v :: xv E r :: rest)) :=
  x_put (ci := 1) cx hR hS0 hr ha hk (by decide) rfl in_X1 tyX1 tyX1_ok nmX1 4 (by decide) (Or.inr (Or.inl ⟨q334, rfl, hini, rfl⟩)) (fun _ h => h) (by cases v <;> rfl) (by cases v <;> rfl) (xput_r rfl) hdg kk
theorem xp_X1_41_2 {l : Launch} {p : Program} {e : Env} {R : Room} {s : State} {m : MethodId} {args : Array Value} {below : List Frame} {meth : Method} {c : Code} {H : Heap} {locs : List Loc} {cells slots : Nat} {Qz : State → Prop} {cc : ByteArray} {nL : Nat} {ret : Option FieldType} {E : xx_E} {σ : XS} {pc : Nat} {ls : Array Slot} {rest : List Value} (cx : xx_X "StruckCounts$Suit" cc nL ret E p s m args meth c) (hR : xR E σ H) (hS0 : va_S (xA E) s.heap H locs) {a : Nat} {r : Option Nat} {v : Int32} (hr : r = some a) (ha : xK ≤ a) (hk : kd σ a = 2) (hdg : decode cc pc = .ok (.putfield 41, 3)) (kk : ∀ (H1 : Heap) (locs1 : List Loc), xR E (pfi σ a 8 v) H1 → va_S (xA E) s.heap H1 locs1 → W p l e R s m args below meth c H1 locs1 cells slots Qz (F0 m (pc + 3) ls rest)) : W p l e R s m args below meth c H locs cells slots Qz (F0 m pc ls (.int v :: xv E r :: rest)) :=
  x_put (ci := 1) cx hR hS0 hr ha hk (by decide) rfl in_X1 tyX1 tyX1_ok nmX1 8 (by decide) (Or.inl ⟨q343, rfl⟩) (fun _ h => h) rfl rfl (xput_i rfl) hdg kk
theorem xp_X1_45_2 {l : Launch} {p : Program} {e : Env} {R : Room} {s : State} {m : MethodId} {args : Array Value} {below : List Frame} {meth : Method} {c : Code} {H : Heap} {locs : List Loc} {cells slots : Nat} {Qz : State → Prop} {cc : ByteArray} {nL : Nat} {ret : Option FieldType} {E : xx_E} {σ : XS} {pc : Nat} {ls : Array Slot} {rest : List Value} (cx : xx_X "StruckCounts$Suit" cc nL ret E p s m args meth c) (hR : xR E σ H) (hS0 : va_S (xA E) s.heap H locs) {a : Nat} {r : Option Nat} {v : Option Nat} (hr : r = some a) (ha : xK ≤ a) (hk : kd σ a = 2) (hdg : decode cc pc = .ok (.putfield 45, 3)) (kk : ∀ (H1 : Heap) (locs1 : List Loc), xR E (pfr σ a 10 v) H1 → va_S (xA E) s.heap H1 locs1 → W p l e R s m args below meth c H1 locs1 cells slots Qz (F0 m (pc + 3) ls rest)) : W p l e R s m args below meth c H locs cells slots Qz (F0 m pc ls (xv E v :: xv E r :: rest)) :=
  x_put (ci := 1) cx hR hS0 hr ha hk (by decide) rfl in_X1 tyX1 tyX1_ok nmX1 10 (by decide) (Or.inl ⟨q347, rfl⟩) (fun _ h => h) (by cases v <;> rfl) (by cases v <;> rfl) (xput_r rfl) hdg kk
theorem xp_X1_49_2 {l : Launch} {p : Program} {e : Env} {R : Room} {s : State} {m : MethodId} {args : Array Value} {below : List Frame} {meth : Method} {c : Code} {H : Heap} {locs : List Loc} {cells slots : Nat} {Qz : State → Prop} {cc : ByteArray} {nL : Nat} {ret : Option FieldType} {E : xx_E} {σ : XS} {pc : Nat} {ls : Array Slot} {rest : List Value} (cx : xx_X "StruckCounts$Suit" cc nL ret E p s m args meth c) (hR : xR E σ H) (hS0 : va_S (xA E) s.heap H locs) {a : Nat} {r : Option Nat} {v : Option Nat} (hr : r = some a) (ha : xK ≤ a) (hk : kd σ a = 2) (hdg : decode cc pc = .ok (.putfield 49, 3)) (kk : ∀ (H1 : Heap) (locs1 : List Loc), xR E (pfr σ a 11 v) H1 → va_S (xA E) s.heap H1 locs1 → W p l e R s m args below meth c H1 locs1 cells slots Qz (F0 m (pc + 3) ls rest)) : W p l e R s m args below meth c H locs cells slots Qz (F0 m pc ls (xv E v :: xv E r :: rest)) :=
  x_put (ci := 1) cx hR hS0 hr ha hk (by decide) rfl in_X1 tyX1 tyX1_ok nmX1 11 (by decide) (Or.inl ⟨q349, rfl⟩) (fun _ h => h) (by cases v <;> rfl) (by cases v <;> rfl) (xput_r rfl) hdg kk
theorem xn_X1_9 {l : Launch} {p : Program} {e : Env} {R : Room} {s : State} {m : MethodId} {args : Array Value} {below : List Frame} {meth : Method} {c : Code} {H : Heap} {locs : List Loc} {cells slots : Nat} {Qz : State → Prop} {cc : ByteArray} {nL : Nat} {ret : Option FieldType} {E : xx_E} {σ : XS} {pc : Nat} {ls : Array Slot} {rest : List Value} (cx : xx_X "StruckCounts$Suit" cc nL ret E p s m args meth c) (hR : xR E σ H) (hS0 : va_S (xA E) s.heap H locs) (hcells : cells + 1 ≤ R.cells) (hslots : slots + 12 ≤ R.slots) (hdg : decode cc pc = .ok (.new 9, 3)) (kk : ∀ (H1 : Heap), xR E (xal σ 18 0) H1 → va_S (xA E) s.heap H1 locs → W p l e R s m args below meth c H1 locs (cells + 1) (slots + 12) Qz (F0 m (pc + 3) ls (xv E (some (xn σ)) :: rest))) : W p l e R s m args below meth c H locs cells slots Qz (F0 m pc ls rest) :=
  x_new cx hR hS0 17 (by decide) rfl in_J2 tyJ2 tyJ2_ok q220 q221 q160 (fun j hj => by
    match j, hj with
    | 0, _ => exact xnew_r rfl
    | 1, _ => exact xnew_r rfl
    | 2, _ => exact xnew_r rfl
    | 3, _ => exact xnew_r rfl
    | 4, _ => exact xnew_i rfl
    | 5, _ => exact xnew_i rfl
    | 6, _ => exact xnew_i rfl
    | 7, _ => exact xnew_f rfl
    | 8, _ => exact xnew_r rfl
    | 9, _ => exact xnew_r rfl
    | 10, _ => exact xnew_i rfl
    | 11, _ => exact xnew_i rfl) hcells hslots hdg kk
theorem xn_X1_18 {l : Launch} {p : Program} {e : Env} {R : Room} {s : State} {m : MethodId} {args : Array Value} {below : List Frame} {meth : Method} {c : Code} {H : Heap} {locs : List Loc} {cells slots : Nat} {Qz : State → Prop} {cc : ByteArray} {nL : Nat} {ret : Option FieldType} {E : xx_E} {σ : XS} {pc : Nat} {ls : Array Slot} {rest : List Value} (cx : xx_X "StruckCounts$Suit" cc nL ret E p s m args meth c) (hR : xR E σ H) (hS0 : va_S (xA E) s.heap H locs) (hcells : cells + 1 ≤ R.cells) (hslots : slots + 1 ≤ R.slots) (hdg : decode cc pc = .ok (.new 18, 3)) (kk : ∀ (H1 : Heap), xR E (xal σ 19 0) H1 → va_S (xA E) s.heap H1 locs → W p l e R s m args below meth c H1 locs (cells + 1) (slots + 1) Qz (F0 m (pc + 3) ls (xv E (some (xn σ)) :: rest))) : W p l e R s m args below meth c H locs cells slots Qz (F0 m pc ls rest) :=
  x_new cx hR hS0 18 (by decide) rfl in_J5 tyJ5 tyJ5_ok q270 q271 q163 (fun j hj => by
    match j, hj with
    | 0, _ => exact xnew_r rfl) hcells hslots hdg kk
theorem xn_X1_25 {l : Launch} {p : Program} {e : Env} {R : Room} {s : State} {m : MethodId} {args : Array Value} {below : List Frame} {meth : Method} {c : Code} {H : Heap} {locs : List Loc} {cells slots : Nat} {Qz : State → Prop} {cc : ByteArray} {nL : Nat} {ret : Option FieldType} {E : xx_E} {σ : XS} {pc : Nat} {ls : Array Slot} {rest : List Value} (cx : xx_X "StruckCounts$Suit" cc nL ret E p s m args meth c) (hR : xR E σ H) (hS0 : va_S (xA E) s.heap H locs) (hcells : cells + 1 ≤ R.cells) (hslots : slots + 3 ≤ R.slots) (hdg : decode cc pc = .ok (.new 25, 3)) (kk : ∀ (H1 : Heap), xR E (xal σ 16 0) H1 → va_S (xA E) s.heap H1 locs → W p l e R s m args below meth c H1 locs (cells + 1) (slots + 3) Qz (F0 m (pc + 3) ls (xv E (some (xn σ)) :: rest))) : W p l e R s m args below meth c H locs cells slots Qz (F0 m pc ls rest) :=
  x_new cx hR hS0 15 (by decide) rfl in_J7 tyJ7 tyJ7_ok q298 q299 q165 (fun j hj => by
    match j, hj with
    | 0, _ => exact xnew_i rfl
    | 1, _ => exact xnew_r rfl
    | 2, _ => exact xnew_i rfl) hcells hslots hdg kk
theorem CJ2_initL_X1_11 {l : Launch} {p : Program} {e : Env} {R : Room} {s : State} {m : MethodId} {args : Array Value} {below : List Frame} {meth : Method} {c : Code} {H : Heap} {locs : List Loc} {cells slots : Nat} {Qz : State → Prop} {cc : ByteArray} {nL : Nat} {ret : Option FieldType} {E : xx_E} {σ : XS} {pc : Nat} {ls : Array Slot} {rest : List Value} {th : Nat} (cx : xx_X "StruckCounts$Suit" cc nL ret E p s m args meth c) (hR0 : xR E σ H) (hS0 : va_S (xA E) s.heap H locs) {r0 : Option Nat} (hr : r0 = some th) (hk : kd σ th = 18) {Qf : XS → Prop} (hw : wJ2_initL th σ Qf) (hR : (({ frames := 3, cells := 0, slots := 0, locals := 120 } : Room)).frames + 1 ≤ R.frames ∧ 8 + (1 + 11) + (({ frames := 3, cells := 0, slots := 0, locals := 120 } : Room)).locals ≤ R.locals) (hrest : rest.length ≤ 4) (hsize : ls.size = nL) (hf : cells + 0 ≤ R.cells ∧ slots + 0 ≤ R.slots) (hdg : decode cc pc = .ok (.invokespecial 11, 3))
    (kk : ∀ (σ1 : XS) (H1 : Heap) (locs1 : List Loc), Qf σ1 → xR E σ1 H1 → va_S (xA E) s.heap H1 locs1 → W p l e R s m args below meth c H1 locs1 (cells + 0) (slots + 0) Qz (F0 m (pc + 3) ls rest)) : W p l e R s m args below meth c H locs cells slots Qz (F0 m pc ls (xv E r0 :: rest)) := by
  subst hr
  obtain ⟨hx, hb, hml, hown, hts, hrt, hlk, hK, hZ⟩ := id cx
  exact x_gov (va_runI (As := []) (rest := rest) (x_fix cx) (MJ2_initL l E th σ Qf hw) (cwI 0 hts (lw_meth q224) rfl rfl rfl (hts _ q160) (hts _ q222) (hts _ q223) rfl (by decide +kernel) hR) ⟨xblind, x_pre cx hR0 hS0 (.ref (xr E th) :: [])⟩ rfl rfl hsize rfl (lv_room (xroom hrest)) hdg hf) hS0 kk
theorem CJ5_init_X1_20 {l : Launch} {p : Program} {e : Env} {R : Room} {s : State} {m : MethodId} {args : Array Value} {below : List Frame} {meth : Method} {c : Code} {H : Heap} {locs : List Loc} {cells slots : Nat} {Qz : State → Prop} {cc : ByteArray} {nL : Nat} {ret : Option FieldType} {E : xx_E} {σ : XS} {pc : Nat} {ls : Array Slot} {rest : List Value} {th : Nat} {k n : Nat} (cx : xx_X "StruckCounts$Suit" cc nL ret E p s m args meth c) (hR0 : xR E σ H) (hS0 : va_S (xA E) s.heap H locs) {r0 : Option Nat} (hr : r0 = some th) (hk : kd σ th = 19) {Qf : XS → Prop} (hw : wJ5_init th k n σ Qf) (hR : (({ frames := 3, cells := k, slots := n, locals := 120 } : Room)).frames + 1 ≤ R.frames ∧ 8 + (1 + 11) + (({ frames := 3, cells := k, slots := n, locals := 120 } : Room)).locals ≤ R.locals) (hrest : rest.length ≤ 4) (hsize : ls.size = nL) (hf : cells + k ≤ R.cells ∧ slots + n ≤ R.slots) (hdg : decode cc pc = .ok (.invokespecial 20, 3))
    (kk : ∀ (σ1 : XS) (H1 : Heap) (locs1 : List Loc), Qf σ1 → xR E σ1 H1 → va_S (xA E) s.heap H1 locs1 → W p l e R s m args below meth c H1 locs1 (cells + k) (slots + n) Qz (F0 m (pc + 3) ls rest)) : W p l e R s m args below meth c H locs cells slots Qz (F0 m pc ls (xv E r0 :: rest)) := by
  subst hr
  obtain ⟨hx, hb, hml, hown, hts, hrt, hlk, hK, hZ⟩ := id cx
  exact x_gov (va_runI (As := []) (rest := rest) (x_fix cx) (MJ5_init l E th k n σ Qf hw) (cwI 0 hts (lw_meth q274) rfl rfl rfl (hts _ q163) (hts _ q272) (hts _ q273) rfl (by decide +kernel) hR) ⟨xblind, x_pre cx hR0 hS0 (.ref (xr E th) :: [])⟩ rfl rfl hsize rfl (lv_room (xroom hrest)) hdg hf) hS0 kk
theorem CJ7_init_X1_27 {l : Launch} {p : Program} {e : Env} {R : Room} {s : State} {m : MethodId} {args : Array Value} {below : List Frame} {meth : Method} {c : Code} {H : Heap} {locs : List Loc} {cells slots : Nat} {Qz : State → Prop} {cc : ByteArray} {nL : Nat} {ret : Option FieldType} {E : xx_E} {σ : XS} {pc : Nat} {ls : Array Slot} {rest : List Value} {th : Nat} {x1 : Int32} {k n : Nat} (cx : xx_X "StruckCounts$Suit" cc nL ret E p s m args meth c) (hR0 : xR E σ H) (hS0 : va_S (xA E) s.heap H locs) {r0 : Option Nat} (hr : r0 = some th) (hk : kd σ th = 16) {Qf : XS → Prop} (hw : wJ7_init th x1 k n σ Qf) (hR : (({ frames := 3, cells := k, slots := n, locals := 120 } : Room)).frames + 1 ≤ R.frames ∧ 8 + (2 + 11) + (({ frames := 3, cells := k, slots := n, locals := 120 } : Room)).locals ≤ R.locals) (hrest : rest.length ≤ 4) (hsize : ls.size = nL) (hf : cells + k ≤ R.cells ∧ slots + n ≤ R.slots) (hdg : decode cc pc = .ok (.invokespecial 27, 3))
    (kk : ∀ (σ1 : XS) (H1 : Heap) (locs1 : List Loc), Qf σ1 → xR E σ1 H1 → va_S (xA E) s.heap H1 locs1 → W p l e R s m args below meth c H1 locs1 (cells + k) (slots + n) Qz (F0 m (pc + 3) ls rest)) : W p l e R s m args below meth c H locs cells slots Qz (F0 m pc ls (.int x1 :: xv E r0 :: rest)) := by
  subst hr
  obtain ⟨hx, hb, hml, hown, hts, hrt, hlk, hK, hZ⟩ := id cx
  exact x_gov (va_runI (As := [.int x1]) (rest := rest) (x_fix cx) (MJ7_init l E th x1 k n σ Qf hw) (cwI 1 hts (lw_meth q302) rfl rfl rfl (hts _ q165) (hts _ q300) (hts _ q301) rfl (by decide +kernel) hR) ⟨xblind, x_pre cx hR0 hS0 (.ref (xr E th) :: [.int x1])⟩ rfl rfl hsize rfl (lv_room (xroom hrest)) hdg hf) hS0 kk
def wX1_init (th : Nat) (bc : Nat) (bs : Nat) (σ : XS) (Q : XS → Prop) : Prop :=
  1 ≤ bc ∧ 12 ≤ bs ∧ (kd (xal σ 18 0) (xn σ) = 18 ∧ (wJ2_initL (xn σ) (xal σ 18 0) (fun s1 => kd s1 th = 2 ∧ (xK ≤ th ∧ (1 ≤ (bc - 1) ∧ 1 ≤ (bs - 12) ∧ (kd (xal (pfr s1 th 0 (some (xn σ))) 19 0) (xn (pfr s1 th 0 (some (xn σ)))) = 19 ∧ (∃ k6 n6 : Nat, k6 ≤ ((bc - 1) - 1) ∧ n6 ≤ ((bs - 12) - 1) ∧ (wJ5_init (xn (pfr s1 th 0 (some (xn σ)))) k6 n6 (xal (pfr s1 th 0 (some (xn σ))) 19 0) (fun s4 => kd s4 th = 2 ∧ (1 ≤ (((bc - 1) - 1) - k6) ∧ 3 ≤ (((bs - 12) - 1) - n6) ∧ (kd (xal (pfr s4 th 1 (some (xn (pfr s1 th 0 (some (xn σ)))))) 16 0) (xn (pfr s4 th 1 (some (xn (pfr s1 th 0 (some (xn σ))))))) = 16 ∧ (∃ k10 n10 : Nat, k10 ≤ ((((bc - 1) - 1) - k6) - 1) ∧ n10 ≤ ((((bs - 12) - 1) - n6) - 3) ∧ (wJ7_init (xn (pfr s4 th 1 (some (xn (pfr s1 th 0 (some (xn σ))))))) (4 : Int32) k10 n10 (xal (pfr s4 th 1 (some (xn (pfr s1 th 0 (some (xn σ)))))) 16 0) (fun s8 => kd s8 th = 2 ∧ (1 ≤ (((((bc - 1) - 1) - k6) - 1) - k10) ∧ 3 ≤ (((((bs - 12) - 1) - n6) - 3) - n10) ∧ (kd (xal (pfr s8 th 2 (some (xn (pfr s4 th 1 (some (xn (pfr s1 th 0 (some (xn σ))))))))) 16 0) (xn (pfr s8 th 2 (some (xn (pfr s4 th 1 (some (xn (pfr s1 th 0 (some (xn σ)))))))))) = 16 ∧ (∃ k14 n14 : Nat, k14 ≤ ((((((bc - 1) - 1) - k6) - 1) - k10) - 1) ∧ n14 ≤ ((((((bs - 12) - 1) - n6) - 3) - n10) - 3) ∧ (wJ7_init (xn (pfr s8 th 2 (some (xn (pfr s4 th 1 (some (xn (pfr s1 th 0 (some (xn σ)))))))))) (4 : Int32) k14 n14 (xal (pfr s8 th 2 (some (xn (pfr s4 th 1 (some (xn (pfr s1 th 0 (some (xn σ))))))))) 16 0) (fun s12 => kd s12 th = 2 ∧ (1 ≤ (((((((bc - 1) - 1) - k6) - 1) - k10) - 1) - k14) ∧ 8 ≤ (((((((bs - 12) - 1) - n6) - 3) - n10) - 3) - n14) ∧ (kd (xal (pfr s12 th 3 (some (xn (pfr s8 th 2 (some (xn (pfr s4 th 1 (some (xn (pfr s1 th 0 (some (xn σ)))))))))))) 100 8) th = 2 ∧ (1 ≤ ((((((((bc - 1) - 1) - k6) - 1) - k10) - 1) - k14) - 1) ∧ 0 ≤ ((((((((bs - 12) - 1) - n6) - 3) - n10) - 3) - n14) - 8) ∧ (kd (xal (pfi (pfr (xal (pfr s12 th 3 (some (xn (pfr s8 th 2 (some (xn (pfr s4 th 1 (some (xn (pfr s1 th 0 (some (xn σ)))))))))))) 100 8) th 4 (some (xn (pfr s12 th 3 (some (xn (pfr s8 th 2 (some (xn (pfr s4 th 1 (some (xn (pfr s1 th 0 (some (xn σ))))))))))))))) th 8 (300 : Int32)) 101 0) th = 2 ∧ (1 ≤ (((((((((bc - 1) - 1) - k6) - 1) - k10) - 1) - k14) - 1) - 1) ∧ 0 ≤ (((((((((bs - 12) - 1) - n6) - 3) - n10) - 3) - n14) - 8) - 0) ∧ (kd (xal (pfr (xal (pfi (pfr (xal (pfr s12 th 3 (some (xn (pfr s8 th 2 (some (xn (pfr s4 th 1 (some (xn (pfr s1 th 0 (some (xn σ)))))))))))) 100 8) th 4 (some (xn (pfr s12 th 3 (some (xn (pfr s8 th 2 (some (xn (pfr s4 th 1 (some (xn (pfr s1 th 0 (some (xn σ))))))))))))))) th 8 (300 : Int32)) 101 0) th 10 (some (xn (pfi (pfr (xal (pfr s12 th 3 (some (xn (pfr s8 th 2 (some (xn (pfr s4 th 1 (some (xn (pfr s1 th 0 (some (xn σ)))))))))))) 100 8) th 4 (some (xn (pfr s12 th 3 (some (xn (pfr s8 th 2 (some (xn (pfr s4 th 1 (some (xn (pfr s1 th 0 (some (xn σ))))))))))))))) th 8 (300 : Int32))))) 100 0) th = 2 ∧ (Q (pfr (xal (pfr (xal (pfi (pfr (xal (pfr s12 th 3 (some (xn (pfr s8 th 2 (some (xn (pfr s4 th 1 (some (xn (pfr s1 th 0 (some (xn σ)))))))))))) 100 8) th 4 (some (xn (pfr s12 th 3 (some (xn (pfr s8 th 2 (some (xn (pfr s4 th 1 (some (xn (pfr s1 th 0 (some (xn σ))))))))))))))) th 8 (300 : Int32)) 101 0) th 10 (some (xn (pfi (pfr (xal (pfr s12 th 3 (some (xn (pfr s8 th 2 (some (xn (pfr s4 th 1 (some (xn (pfr s1 th 0 (some (xn σ)))))))))))) 100 8) th 4 (some (xn (pfr s12 th 3 (some (xn (pfr s8 th 2 (some (xn (pfr s4 th 1 (some (xn (pfr s1 th 0 (some (xn σ))))))))))))))) th 8 (300 : Int32))))) 100 0) th 11 (some (xn (pfr (xal (pfi (pfr (xal (pfr s12 th 3 (some (xn (pfr s8 th 2 (some (xn (pfr s4 th 1 (some (xn (pfr s1 th 0 (some (xn σ)))))))))))) 100 8) th 4 (some (xn (pfr s12 th 3 (some (xn (pfr s8 th 2 (some (xn (pfr s4 th 1 (some (xn (pfr s1 th 0 (some (xn σ))))))))))))))) th 8 (300 : Int32)) 101 0) th 10 (some (xn (pfi (pfr (xal (pfr s12 th 3 (some (xn (pfr s8 th 2 (some (xn (pfr s4 th 1 (some (xn (pfr s1 th 0 (some (xn σ)))))))))))) 100 8) th 4 (some (xn (pfr s12 th 3 (some (xn (pfr s8 th 2 (some (xn (pfr s4 th 1 (some (xn (pfr s1 th 0 (some (xn σ))))))))))))))) th 8 (300 : Int32))))))))))))))))))))))))))))))))))
set_option maxHeartbeats 4000000 in
theorem MX1_init (l : Launch) (E : xx_E) (th : Nat) (bc : Nat) (bs : Nat) (σ : XS) (Q : XS → Prop) (hw : wX1_init th bc bs σ Q) : xx_Mv l yX1_init (ws_ yX1_init cX1_init 1 none) ({ frames := 4, cells := bc, slots := bs, locals := 160 } : Room) E [xv E (some th)] σ Q bc bs := by
  refine x_of (own := "StruckCounts$Suit") (by decide +kernel) rfl ?_
  intro p e s m args below meth c cx hR ha hnm
  refine x_entry [xv E (some th)] 1 [(0, xv E (some th))] ha (by simp [lg_sl, xv_cat, vc_i, vc_j, vc_f]) (by simp [lv_args, xv_cat, vc_i, vc_j, vc_f]) (fun ls hl => ?_)
  have hS : va_S (xA E) s.heap s.heap [] := va_S.rf
  have hcb : 0 + bc ≤ bc := Nat.le_of_eq (Nat.zero_add _)
  have hsb : 0 + bs ≤ bs := Nat.le_of_eq (Nat.zero_add _)
  have hini : meth.name = "<init>" := hnm
  unfold wX1_init at hw
  obtain ⟨hx, hb, hml, hown, hts, hrt, hlk, hMK, hZ⟩ := id cx
  refine x_aload_n cx dX1_init_0 rfl (lv_at hl 0 rfl) ?_
  refine x_objinit cx hl.1 rfl q219 (xroom12 (Nat.le_of_ble_eq_true rfl) (by dsimp only; omega)) (by dsimp only; omega) dX1_init_1 ?_
  refine x_aload_n cx dX1_init_4 rfl (lv_at hl 0 rfl) ?_
  obtain ⟨hb1, hb2, hw⟩ := hw
  refine xn_X1_9 cx hR hS (by dsimp only; omega) (by dsimp only; omega) dX1_init_5 (fun H hR hS => ?_)
  have hcb := xadd hb1 hcb
  have hsb := xadd hb2 hsb
  refine lv_dup hx hb dX1_init_8 (xv_cat _ _) ?_
  obtain ⟨hk2, hw⟩ := hw
  refine CJ2_initL_X1_11 cx hR hS rfl hk2 hw ⟨Nat.le_of_ble_eq_true rfl, Nat.le_of_ble_eq_true rfl⟩ (Nat.le_of_ble_eq_true rfl) hl.1 ⟨by dsimp only; omega, by dsimp only; omega⟩ dX1_init_9 (fun s1 H locs hw hR hS => ?_)
  obtain ⟨hk3, hw⟩ := hw
  obtain ⟨hge_th, hw⟩ := hw
  refine xp_X1_12_2 (v := (some (xn σ))) cx hR hS rfl hge_th hk3 hini dX1_init_12 (fun H locs hR hS => ?_)
  refine x_aload_n cx dX1_init_15 rfl (lv_at hl 0 rfl) ?_
  obtain ⟨hb1, hb2, hw⟩ := hw
  refine xn_X1_18 cx hR hS (by dsimp only; omega) (by dsimp only; omega) dX1_init_16 (fun H hR hS => ?_)
  have hcb := xadd hb1 hcb
  have hsb := xadd hb2 hsb
  refine lv_dup hx hb dX1_init_19 (xv_cat _ _) ?_
  obtain ⟨hk5, hw⟩ := hw
  obtain ⟨k6, n6, hb1, hb2, hw⟩ := hw
  refine CJ5_init_X1_20 cx hR hS rfl hk5 hw ⟨Nat.le_of_ble_eq_true rfl, Nat.le_of_ble_eq_true rfl⟩ (Nat.le_of_ble_eq_true rfl) hl.1 ⟨by dsimp only; omega, by dsimp only; omega⟩ dX1_init_20 (fun s4 H locs hw hR hS => ?_)
  have hcb := xadd hb1 hcb
  have hsb := xadd hb2 hsb
  obtain ⟨hk7, hw⟩ := hw
  refine xp_X1_21_2 (v := (some (xn (pfr s1 th 0 (some (xn σ)))))) cx hR hS rfl hge_th hk7 hini dX1_init_23 (fun H locs hR hS => ?_)
  refine x_aload_n cx dX1_init_26 rfl (lv_at hl 0 rfl) ?_
  obtain ⟨hb1, hb2, hw⟩ := hw
  refine xn_X1_25 cx hR hS (by dsimp only; omega) (by dsimp only; omega) dX1_init_27 (fun H hR hS => ?_)
  have hcb := xadd hb1 hcb
  have hsb := xadd hb2 hsb
  refine lv_dup hx hb dX1_init_30 (xv_cat _ _) ?_
  refine lv_iconst (v := (4 : Int32)) hx hb dX1_init_31 (by decide) ?_
  obtain ⟨hk9, hw⟩ := hw
  obtain ⟨k10, n10, hb1, hb2, hw⟩ := hw
  refine CJ7_init_X1_27 cx hR hS rfl hk9 hw ⟨Nat.le_of_ble_eq_true rfl, Nat.le_of_ble_eq_true rfl⟩ (Nat.le_of_ble_eq_true rfl) hl.1 ⟨by dsimp only; omega, by dsimp only; omega⟩ dX1_init_32 (fun s8 H locs hw hR hS => ?_)
  have hcb := xadd hb1 hcb
  have hsb := xadd hb2 hsb
  obtain ⟨hk11, hw⟩ := hw
  refine xp_X1_30_2 (v := (some (xn (pfr s4 th 1 (some (xn (pfr s1 th 0 (some (xn σ))))))))) cx hR hS rfl hge_th hk11 hini dX1_init_35 (fun H locs hR hS => ?_)
  refine x_aload_n cx dX1_init_38 rfl (lv_at hl 0 rfl) ?_
  obtain ⟨hb1, hb2, hw⟩ := hw
  refine xn_X1_25 cx hR hS (by dsimp only; omega) (by dsimp only; omega) dX1_init_39 (fun H hR hS => ?_)
  have hcb := xadd hb1 hcb
  have hsb := xadd hb2 hsb
  refine lv_dup hx hb dX1_init_42 (xv_cat _ _) ?_
  refine lv_iconst (v := (4 : Int32)) hx hb dX1_init_43 (by decide) ?_
  obtain ⟨hk13, hw⟩ := hw
  obtain ⟨k14, n14, hb1, hb2, hw⟩ := hw
  refine CJ7_init_X1_27 cx hR hS rfl hk13 hw ⟨Nat.le_of_ble_eq_true rfl, Nat.le_of_ble_eq_true rfl⟩ (Nat.le_of_ble_eq_true rfl) hl.1 ⟨by dsimp only; omega, by dsimp only; omega⟩ dX1_init_44 (fun s12 H locs hw hR hS => ?_)
  have hcb := xadd hb1 hcb
  have hsb := xadd hb2 hsb
  obtain ⟨hk15, hw⟩ := hw
  refine xp_X1_34_2 (v := (some (xn (pfr s8 th 2 (some (xn (pfr s4 th 1 (some (xn (pfr s1 th 0 (some (xn σ)))))))))))) cx hR hS rfl hge_th hk15 hini dX1_init_47 (fun H locs hR hS => ?_)
  refine x_aload_n cx dX1_init_50 rfl (lv_at hl 0 rfl) ?_
  refine lv_bipush (v := (8 : Int32)) hx hb dX1_init_51 (by decide) ?_
  obtain ⟨hb1, hb2, hw⟩ := hw
  refine x_newa (atype := .int) cx hR hS 0 (by decide) rfl q376 (fun _ => rfl) (fun h => absurd h (by decide)) (N := 8) (by decide) (by decide) (Nat.le_of_ble_eq_true rfl) (by dsimp only; omega) (by dsimp only; omega) dX1_init_53 (fun H hR hS => ?_)
  have hcb := xadd hb1 hcb
  have hsb := xadd hb2 hsb
  obtain ⟨hk16, hw⟩ := hw
  refine xp_X1_37_2 (v := (some (xn (pfr s12 th 3 (some (xn (pfr s8 th 2 (some (xn (pfr s4 th 1 (some (xn (pfr s1 th 0 (some (xn σ))))))))))))))) cx hR hS rfl hge_th hk16 hini dX1_init_55 (fun H locs hR hS => ?_)
  refine x_aload_n cx dX1_init_58 rfl (lv_at hl 0 rfl) ?_
  refine lv_sipush (v := (300 : Int32)) hx hb dX1_init_59 (by decide) ?_
  refine xp_X1_41_2 (v := (300 : Int32)) cx hR hS rfl hge_th hk16 dX1_init_62 (fun H locs hR hS => ?_)
  refine x_aload_n cx dX1_init_65 rfl (lv_at hl 0 rfl) ?_
  refine lv_iconst (v := (0 : Int32)) hx hb dX1_init_66 (by decide) ?_
  obtain ⟨hb1, hb2, hw⟩ := hw
  refine x_newa (atype := .boolean) cx hR hS 1 (by decide) rfl q377 (fun _ => rfl) (fun h => absurd h (by decide)) (N := 0) (by decide) (by decide) (Nat.le_of_ble_eq_true rfl) (by dsimp only; omega) (by dsimp only; omega) dX1_init_67 (fun H hR hS => ?_)
  have hcb := xadd hb1 hcb
  have hsb := xadd hb2 hsb
  obtain ⟨hk17, hw⟩ := hw
  refine xp_X1_45_2 (v := (some (xn (pfi (pfr (xal (pfr s12 th 3 (some (xn (pfr s8 th 2 (some (xn (pfr s4 th 1 (some (xn (pfr s1 th 0 (some (xn σ)))))))))))) 100 8) th 4 (some (xn (pfr s12 th 3 (some (xn (pfr s8 th 2 (some (xn (pfr s4 th 1 (some (xn (pfr s1 th 0 (some (xn σ))))))))))))))) th 8 (300 : Int32))))) cx hR hS rfl hge_th hk17 dX1_init_69 (fun H locs hR hS => ?_)
  refine x_aload_n cx dX1_init_72 rfl (lv_at hl 0 rfl) ?_
  refine lv_iconst (v := (0 : Int32)) hx hb dX1_init_73 (by decide) ?_
  obtain ⟨hb1, hb2, hw⟩ := hw
  refine x_newa (atype := .int) cx hR hS 0 (by decide) rfl q376 (fun _ => rfl) (fun h => absurd h (by decide)) (N := 0) (by decide) (by decide) (Nat.le_of_ble_eq_true rfl) (by dsimp only; omega) (by dsimp only; omega) dX1_init_74 (fun H hR hS => ?_)
  have hcb := xadd hb1 hcb
  have hsb := xadd hb2 hsb
  obtain ⟨hk18, hw⟩ := hw
  refine xp_X1_49_2 (v := (some (xn (pfr (xal (pfi (pfr (xal (pfr s12 th 3 (some (xn (pfr s8 th 2 (some (xn (pfr s4 th 1 (some (xn (pfr s1 th 0 (some (xn σ)))))))))))) 100 8) th 4 (some (xn (pfr s12 th 3 (some (xn (pfr s8 th 2 (some (xn (pfr s4 th 1 (some (xn (pfr s1 th 0 (some (xn σ))))))))))))))) th 8 (300 : Int32)) 101 0) th 10 (some (xn (pfi (pfr (xal (pfr s12 th 3 (some (xn (pfr s8 th 2 (some (xn (pfr s4 th 1 (some (xn (pfr s1 th 0 (some (xn σ)))))))))))) 100 8) th 4 (some (xn (pfr s12 th 3 (some (xn (pfr s8 th 2 (some (xn (pfr s4 th 1 (some (xn (pfr s1 th 0 (some (xn σ))))))))))))))) th 8 (300 : Int32)))))))) cx hR hS rfl hge_th hk18 dX1_init_76 (fun H locs hR hS => ?_)
  exact x_vret cx hR hS (xle hcb) (xle hsb) hw dX1_init_79
-- X1_sets
theorem xg_X1_52_2 {l : Launch} {p : Program} {e : Env} {R : Room} {s : State} {m : MethodId} {args : Array Value} {below : List Frame} {meth : Method} {c : Code} {H : Heap} {locs : List Loc} {cells slots : Nat} {Qz : State → Prop} {cc : ByteArray} {nL : Nat} {ret : Option FieldType} {E : xx_E} {σ : XS} {pc : Nat} {ls : Array Slot} {rest : List Value} (cx : xx_X "StruckCounts$Suit" cc nL ret E p s m args meth c) (hR : xR E σ H) {a : Nat} {r : Option Nat} (hr : r = some a) (hk : kd σ a = 2) (hdg : decode cc pc = .ok (.getfield 52, 3)) (kk : W p l e R s m args below meth c H locs cells slots Qz (F0 m (pc + 3) ls (.int (fi σ a 5) :: rest))) : W p l e R s m args below meth c H locs cells slots Qz (F0 m pc ls (xv E r :: rest)) :=
  x_get (ci := 1) cx hR hr hk (by decide) rfl in_X1 5 (by decide) q337 (fun _ h => h) (v := .int (fi σ a 5)) rfl hdg kk
def wX1_sets (th : Nat) (σ : XS) (Q : Int32 → XS → Prop) : Prop :=
  kd σ th = 2 ∧ (Q ((1 : Int32) <<< ((fi σ th 5) &&& 31)) σ)
set_option maxHeartbeats 4000000 in
theorem MX1_sets (l : Launch) (E : xx_E) (th : Nat) (σ : XS) (Q : Int32 → XS → Prop) (hw : wX1_sets th σ Q) : xx_Mi l yX1_sets (ws_ yX1_sets cX1_sets 1 (some .int)) ({ frames := 0, cells := 0, slots := 0, locals := 0 } : Room) E [xv E (some th)] σ Q 0 0 := by
  refine x_of (own := "StruckCounts$Suit") (by decide +kernel) rfl ?_
  intro p e s m args below meth c cx hR ha hnm
  refine x_entry [xv E (some th)] 1 [(0, xv E (some th))] ha (by simp [lg_sl, xv_cat, vc_i, vc_j, vc_f]) (by simp [lv_args, xv_cat, vc_i, vc_j, vc_f]) (fun ls hl => ?_)
  have hS : va_S (xA E) s.heap s.heap [] := va_S.rf
  have hcb : 0 + 0 ≤ 0 := Nat.le_of_eq (Nat.zero_add _)
  have hsb : 0 + 0 ≤ 0 := Nat.le_of_eq (Nat.zero_add _)
  unfold wX1_sets at hw
  obtain ⟨hx, hb, hml, hown, hts, hrt, hlk, hMK, hZ⟩ := id cx
  refine lv_iconst (v := (1 : Int32)) hx hb dX1_sets_0 (by decide) ?_
  refine x_aload_n cx dX1_sets_1 rfl (lv_at hl 0 rfl) ?_
  obtain ⟨hk1, hw⟩ := hw
  refine xg_X1_52_2 cx hR rfl hk1 dX1_sets_2 ?_
  refine lv_ishl hx hb dX1_sets_5 ?_
  exact x_iret cx hR hS (xle hcb) (xle hsb) hw dX1_sets_6
-- J7_size
theorem xg_J7_48_16 {l : Launch} {p : Program} {e : Env} {R : Room} {s : State} {m : MethodId} {args : Array Value} {below : List Frame} {meth : Method} {c : Code} {H : Heap} {locs : List Loc} {cells slots : Nat} {Qz : State → Prop} {cc : ByteArray} {nL : Nat} {ret : Option FieldType} {E : xx_E} {σ : XS} {pc : Nat} {ls : Array Slot} {rest : List Value} (cx : xx_X "java/util/ArrayList" cc nL ret E p s m args meth c) (hR : xR E σ H) {a : Nat} {r : Option Nat} (hr : r = some a) (hk : kd σ a = 16) (hdg : decode cc pc = .ok (.getfield 48, 3)) (kk : W p l e R s m args below meth c H locs cells slots Qz (F0 m (pc + 3) ls (.int (fi σ a 2) :: rest))) : W p l e R s m args below meth c H locs cells slots Qz (F0 m pc ls (xv E r :: rest)) :=
  x_get (ci := 15) cx hR hr hk (by decide) rfl in_J7 2 (by decide) q312 (fun _ h => h) (v := .int (fi σ a 2)) rfl hdg kk
def wJ7_size (th : Nat) (σ : XS) (Q : Int32 → XS → Prop) : Prop :=
  kd σ th = 16 ∧ (Q (fi σ th 2) σ)
set_option maxHeartbeats 4000000 in
theorem MJ7_size (l : Launch) (E : xx_E) (th : Nat) (σ : XS) (Q : Int32 → XS → Prop) (hw : wJ7_size th σ Q) : xx_Mi l yJ7_size (ws_ yJ7_size cJ7_size 1 (some .int)) ({ frames := 0, cells := 0, slots := 0, locals := 0 } : Room) E [xv E (some th)] σ Q 0 0 := by
  refine x_of (own := "java/util/ArrayList") (by decide +kernel) rfl ?_
  intro p e s m args below meth c cx hR ha hnm
  refine x_entry [xv E (some th)] 1 [(0, xv E (some th))] ha (by simp [lg_sl, xv_cat, vc_i, vc_j, vc_f]) (by simp [lv_args, xv_cat, vc_i, vc_j, vc_f]) (fun ls hl => ?_)
  have hS : va_S (xA E) s.heap s.heap [] := va_S.rf
  have hcb : 0 + 0 ≤ 0 := Nat.le_of_eq (Nat.zero_add _)
  have hsb : 0 + 0 ≤ 0 := Nat.le_of_eq (Nat.zero_add _)
  unfold wJ7_size at hw
  obtain ⟨hx, hb, hml, hown, hts, hrt, hlk, hMK, hZ⟩ := id cx
  refine x_aload_n cx dJ7_size_0 rfl (lv_at hl 0 rfl) ?_
  obtain ⟨hk1, hw⟩ := hw
  refine xg_J7_48_16 cx hR rfl hk1 dJ7_size_1 ?_
  exact x_iret cx hR hS (xle hcb) (xle hsb) hw dJ7_size_4
-- J9_checkIndex
def wJ9_checkIndex_9 (Q : Int32 → XS → Prop) (x0 : Int32) (x1 : Int32) (x2 : Option Nat) (σ : XS) : Prop :=
  False
set_option maxHeartbeats 4000000 in
theorem BJ9_checkIndex_9 {l : Launch} {p : Program} {e : Env} {s : State} {m : MethodId} {args : Array Value} {below : List Frame} {meth : Method} {c : Code} {E : xx_E} {Q : Int32 → XS → Prop} (cx : xx_X "jdk/internal/util/Preconditions" cJ9_checkIndex 3 (some .int) E p s m args meth c) : ∀ (x0 : Int32) (x1 : Int32) (x2 : Option Nat) (σ : XS), wJ9_checkIndex_9 Q x0 x1 x2 σ → x_T p l e ({ frames := 0, cells := 0, slots := 0, locals := 0 } : Room) s m args below meth c E (va_Qi Q (fun σ' t => xW E σ' t) (xA E)) 0 0 3 9 0 0 σ [(0, .int x0), (1, .int x1), (2, xv E x2)] [] := by
  intro x0 x1 x2 σ hw H locs ls cells slots hR hS hl hcb hsb
  unfold wJ9_checkIndex_9 at hw
  obtain ⟨hx, hb, hml, hown, hts, hrt, hlk, hMK, hZ⟩ := id cx
  refine x_aload_n cx dJ9_checkIndex_9 rfl (lv_at hl 2 rfl) ?_
  refine lv_iload_n hx hb dJ9_checkIndex_10 rfl (lv_at hl 0 rfl) ?_
  refine lv_iload_n hx hb dJ9_checkIndex_11 rfl (lv_at hl 1 rfl) ?_
  exact hw.elim
def wJ9_checkIndex (x0 : Int32) (x1 : Int32) (x2 : Option Nat) (σ : XS) (Q : Int32 → XS → Prop) : Prop :=
  if x0 < 0 then (wJ9_checkIndex_9 Q x0 x1 x2 σ) else (if x0 < x1 then (Q x0 σ) else (wJ9_checkIndex_9 Q x0 x1 x2 σ))
set_option maxHeartbeats 4000000 in
theorem MJ9_checkIndex (l : Launch) (E : xx_E) (x0 : Int32) (x1 : Int32) (x2 : Option Nat) (σ : XS) (Q : Int32 → XS → Prop) (hw : wJ9_checkIndex x0 x1 x2 σ Q) : xx_Mi l yJ9_checkIndex (ws_ yJ9_checkIndex cJ9_checkIndex 3 (some .int)) ({ frames := 0, cells := 0, slots := 0, locals := 0 } : Room) E [.int x0, .int x1, xv E x2] σ Q 0 0 := by
  refine x_of (own := "jdk/internal/util/Preconditions") (by decide +kernel) rfl ?_
  intro p e s m args below meth c cx hR ha hnm
  refine x_entry [.int x0, .int x1, xv E x2] 3 [(0, .int x0), (1, .int x1), (2, xv E x2)] ha (by simp [lg_sl, xv_cat, vc_i, vc_j, vc_f]) (by simp [lv_args, xv_cat, vc_i, vc_j, vc_f]) (fun ls hl => ?_)
  have hS : va_S (xA E) s.heap s.heap [] := va_S.rf
  have hcb : 0 + 0 ≤ 0 := Nat.le_of_eq (Nat.zero_add _)
  have hsb : 0 + 0 ≤ 0 := Nat.le_of_eq (Nat.zero_add _)
  unfold wJ9_checkIndex at hw
  obtain ⟨hx, hb, hml, hown, hts, hrt, hlk, hMK, hZ⟩ := id cx
  refine lv_iload_n hx hb dJ9_checkIndex_0 rfl (lv_at hl 0 rfl) ?_
  refine lv_if_lt (tgt := 9) hx hb dJ9_checkIndex_1 (by decide) (fun hc => ?_) (fun hc => ?_)
  · have hw := mm_ip hc hw
    exact BJ9_checkIndex_9 cx _ _ _ _ hw _ _ _ _ _ hR hS (lv_sub hl [0, 1, 2] rfl) hcb hsb
  · have hw := mm_in hc hw
    refine lv_iload_n hx hb dJ9_checkIndex_4 rfl (lv_at hl 0 rfl) ?_
    refine lv_iload_n hx hb dJ9_checkIndex_5 rfl (lv_at hl 1 rfl) ?_
    refine lv_icmp_lt (tgt := 16) hx hb dJ9_checkIndex_6 (by decide) (fun hc => ?_) (fun hc => ?_)
    · have hw := mm_ip hc hw
      refine lv_iload_n hx hb dJ9_checkIndex_16 rfl (lv_at hl 0 rfl) ?_
      exact x_iret cx hR hS (xle hcb) (xle hsb) hw dJ9_checkIndex_17
    · have hw := mm_in hc hw
      exact BJ9_checkIndex_9 cx _ _ _ _ hw _ _ _ _ _ hR hS (lv_sub hl [0, 1, 2] rfl) hcb hsb
-- J8_checkIndex
theorem CJ9_checkIndex_J8_105 {l : Launch} {p : Program} {e : Env} {R : Room} {s : State} {m : MethodId} {args : Array Value} {below : List Frame} {meth : Method} {c : Code} {H : Heap} {locs : List Loc} {cells slots : Nat} {Qz : State → Prop} {cc : ByteArray} {nL : Nat} {ret : Option FieldType} {E : xx_E} {σ : XS} {pc : Nat} {ls : Array Slot} {rest : List Value} {x0 : Int32} {x1 : Int32} {x2 : Option Nat} (cx : xx_X "java/util/Objects" cc nL ret E p s m args meth c) (hR0 : xR E σ H) (hS0 : va_S (xA E) s.heap H locs) {Qf : Int32 → XS → Prop} (hw : wJ9_checkIndex x0 x1 x2 σ Qf) (hR : (({ frames := 0, cells := 0, slots := 0, locals := 0 } : Room)).frames + 1 ≤ R.frames ∧ 8 + (3 + 11) + (({ frames := 0, cells := 0, slots := 0, locals := 0 } : Room)).locals ≤ R.locals) (hrest : rest.length ≤ 4) (hsize : ls.size = nL) (hf : cells + 0 ≤ R.cells ∧ slots + 0 ≤ R.slots) (hdg : decode cc pc = .ok (.invokestatic 105, 3))
    (kk : ∀ (r : Int32) (σ1 : XS) (H1 : Heap) (locs1 : List Loc), Qf r σ1 → xR E σ1 H1 → va_S (xA E) s.heap H1 locs1 → W p l e R s m args below meth c H1 locs1 (cells + 0) (slots + 0) Qz (F0 m (pc + 3) ls (.int r :: rest))) : W p l e R s m args below meth c H locs cells slots Qz (F0 m pc ls (xv E x2 :: .int x1 :: .int x0 :: rest)) := by
  obtain ⟨hx, hb, hml, hown, hts, hrt, hlk, hK, hZ⟩ := id cx
  exact x_goi (va_runS (As := [.int x0, .int x1, xv E x2]) (rest := rest) (x_fix cx) (MJ9_checkIndex l E x0 x1 x2 σ Qf hw) (va_cwS 3 hts (lw_S q401 q402 q167 q403) rfl rfl rfl (by decide +kernel) hR) ⟨xblind, x_pre cx hR0 hS0 [.int x0, .int x1, xv E x2]⟩ rfl rfl hsize rfl (lv_room (xroom hrest)) hdg hf) hS0 kk
def wJ8_checkIndex (x0 : Int32) (x1 : Int32) (σ : XS) (Q : Int32 → XS → Prop) : Prop :=
  wJ9_checkIndex x0 x1 none σ (fun r1 s1 => Q r1 s1)
set_option maxHeartbeats 4000000 in
theorem MJ8_checkIndex (l : Launch) (E : xx_E) (x0 : Int32) (x1 : Int32) (σ : XS) (Q : Int32 → XS → Prop) (hw : wJ8_checkIndex x0 x1 σ Q) : xx_Mi l yJ8_checkIndex (ws_ yJ8_checkIndex cJ8_checkIndex 2 (some .int)) ({ frames := 1, cells := 0, slots := 0, locals := 40 } : Room) E [.int x0, .int x1] σ Q 0 0 := by
  refine x_of (own := "java/util/Objects") (by decide +kernel) rfl ?_
  intro p e s m args below meth c cx hR ha hnm
  refine x_entry [.int x0, .int x1] 2 [(0, .int x0), (1, .int x1)] ha (Nat.le_of_ble_eq_true rfl) rfl (fun ls hl => ?_)
  have hS : va_S (xA E) s.heap s.heap [] := va_S.rf
  have hcb : 0 + 0 ≤ 0 := Nat.le_of_eq (Nat.zero_add _)
  have hsb : 0 + 0 ≤ 0 := Nat.le_of_eq (Nat.zero_add _)
  unfold wJ8_checkIndex at hw
  obtain ⟨hx, hb, hml, hown, hts, hrt, hlk, hMK, hZ⟩ := id cx
  refine lv_iload_n hx hb dJ8_checkIndex_0 rfl (lv_at hl 0 rfl) ?_
  refine lv_iload_n hx hb dJ8_checkIndex_1 rfl (lv_at hl 1 rfl) ?_
  refine lv_null hx hb dJ8_checkIndex_2 ?_
  refine CJ9_checkIndex_J8_105 cx hR hS  hw ⟨Nat.le_of_ble_eq_true rfl, Nat.le_of_ble_eq_true rfl⟩ (Nat.le_of_ble_eq_true rfl) hl.1 ⟨by dsimp only; omega, by dsimp only; omega⟩ dJ8_checkIndex_3 (fun r1 s1 H locs hw hR hS => ?_)
  exact x_iret cx hR hS (xle hcb) (xle hsb) hw dJ8_checkIndex_6
-- J7_elementData
theorem xg_J7_9_16 {l : Launch} {p : Program} {e : Env} {R : Room} {s : State} {m : MethodId} {args : Array Value} {below : List Frame} {meth : Method} {c : Code} {H : Heap} {locs : List Loc} {cells slots : Nat} {Qz : State → Prop} {cc : ByteArray} {nL : Nat} {ret : Option FieldType} {E : xx_E} {σ : XS} {pc : Nat} {ls : Array Slot} {rest : List Value} (cx : xx_X "java/util/ArrayList" cc nL ret E p s m args meth c) (hR : xR E σ H) {a : Nat} {r : Option Nat} (hr : r = some a) (hk : kd σ a = 16) (hdg : decode cc pc = .ok (.getfield 9, 3)) (kk : W p l e R s m args below meth c H locs cells slots Qz (F0 m (pc + 3) ls (xv E (fr σ a 1) :: rest))) : W p l e R s m args below meth c H locs cells slots Qz (F0 m pc ls (xv E r :: rest)) :=
  x_get (ci := 15) cx hR hr hk (by decide) rfl in_J7 1 (by decide) q311 (fun _ h => h) (v := xv E (fr σ a 1)) rfl hdg kk
def wJ7_elementData (th : Nat) (x1 : Int32) (σ : XS) (Q : Option Nat → XS → Prop) : Prop :=
  kd σ th = 16 ∧ (oc σ (fr σ th 1) 103 (fun a2 => vp_in x1 (ln σ a2) ∧ (Q (ar σ a2 x1.toNatClampNeg) σ)))
set_option maxHeartbeats 4000000 in
theorem MJ7_elementData (l : Launch) (E : xx_E) (th : Nat) (x1 : Int32) (σ : XS) (Q : Option Nat → XS → Prop) (hw : wJ7_elementData th x1 σ Q) : xx_Mr l yJ7_elementData (ws_ yJ7_elementData cJ7_elementData 2 (some (.object "java/lang/Object"))) ({ frames := 0, cells := 0, slots := 0, locals := 0 } : Room) E [xv E (some th), .int x1] σ Q 0 0 := by
  refine x_of (own := "java/util/ArrayList") (by decide +kernel) rfl ?_
  intro p e s m args below meth c cx hR ha hnm
  refine x_entry [xv E (some th), .int x1] 2 [(0, xv E (some th)), (1, .int x1)] ha (by simp [lg_sl, xv_cat, vc_i, vc_j, vc_f]) (by simp [lv_args, xv_cat, vc_i, vc_j, vc_f]) (fun ls hl => ?_)
  have hS : va_S (xA E) s.heap s.heap [] := va_S.rf
  have hcb : 0 + 0 ≤ 0 := Nat.le_of_eq (Nat.zero_add _)
  have hsb : 0 + 0 ≤ 0 := Nat.le_of_eq (Nat.zero_add _)
  unfold wJ7_elementData at hw
  obtain ⟨hx, hb, hml, hown, hts, hrt, hlk, hMK, hZ⟩ := id cx
  refine x_aload_n cx dJ7_elementData_0 rfl (lv_at hl 0 rfl) ?_
  obtain ⟨hk1, hw⟩ := hw
  refine xg_J7_9_16 cx hR rfl hk1 dJ7_elementData_1 ?_
  refine lv_iload_n hx hb dJ7_elementData_4 rfl (lv_at hl 1 rfl) ?_
  obtain ⟨a2, hr2, hk2, hw⟩ := hw
  obtain ⟨hi, hw⟩ := hw
  refine x_aald cx hR hr2 3 hk2 (by decide) (by decide) (j := x1.toNatClampNeg) rfl hi dJ7_elementData_5 ?_
  exact x_aret cx (by first | exact Or.inl ⟨_, rfl⟩ | exact Or.inr ⟨_, rfl⟩) hR hS (xle hcb) (xle hsb) hw dJ7_elementData_6
-- J7_get
theorem CJ8_checkIndex_J7_118 {l : Launch} {p : Program} {e : Env} {R : Room} {s : State} {m : MethodId} {args : Array Value} {below : List Frame} {meth : Method} {c : Code} {H : Heap} {locs : List Loc} {cells slots : Nat} {Qz : State → Prop} {cc : ByteArray} {nL : Nat} {ret : Option FieldType} {E : xx_E} {σ : XS} {pc : Nat} {ls : Array Slot} {rest : List Value} {x0 : Int32} {x1 : Int32} (cx : xx_X "java/util/ArrayList" cc nL ret E p s m args meth c) (hR0 : xR E σ H) (hS0 : va_S (xA E) s.heap H locs) {Qf : Int32 → XS → Prop} (hw : wJ8_checkIndex x0 x1 σ Qf) (hR : (({ frames := 1, cells := 0, slots := 0, locals := 40 } : Room)).frames + 1 ≤ R.frames ∧ 8 + (2 + 11) + (({ frames := 1, cells := 0, slots := 0, locals := 40 } : Room)).locals ≤ R.locals) (hrest : rest.length ≤ 4) (hsize : ls.size = nL) (hf : cells + 0 ≤ R.cells ∧ slots + 0 ≤ R.slots) (hdg : decode cc pc = .ok (.invokestatic 118, 3))
    (kk : ∀ (r : Int32) (σ1 : XS) (H1 : Heap) (locs1 : List Loc), Qf r σ1 → xR E σ1 H1 → va_S (xA E) s.heap H1 locs1 → W p l e R s m args below meth c H1 locs1 (cells + 0) (slots + 0) Qz (F0 m (pc + 3) ls (.int r :: rest))) : W p l e R s m args below meth c H locs cells slots Qz (F0 m pc ls (.int x1 :: .int x0 :: rest)) := by
  obtain ⟨hx, hb, hml, hown, hts, hrt, hlk, hK, hZ⟩ := id cx
  exact x_goi (va_runS (As := [.int x0, .int x1]) (rest := rest) (x_fix cx) (MJ8_checkIndex l E x0 x1 σ Qf hw) (va_cwS 2 hts (lw_S q398 q399 q166 q400) rfl rfl rfl (by decide +kernel) hR) ⟨xblind, x_pre cx hR0 hS0 [.int x0, .int x1]⟩ rfl rfl hsize rfl (lv_room (xroom hrest)) hdg hf) hS0 kk
theorem CJ7_elementData_J7_123 {l : Launch} {p : Program} {e : Env} {R : Room} {s : State} {m : MethodId} {args : Array Value} {below : List Frame} {meth : Method} {c : Code} {H : Heap} {locs : List Loc} {cells slots : Nat} {Qz : State → Prop} {cc : ByteArray} {nL : Nat} {ret : Option FieldType} {E : xx_E} {σ : XS} {pc : Nat} {ls : Array Slot} {rest : List Value} {th : Nat} {x1 : Int32} (cx : xx_X "java/util/ArrayList" cc nL ret E p s m args meth c) (hR0 : xR E σ H) (hS0 : va_S (xA E) s.heap H locs) {r0 : Option Nat} (hr : r0 = some th) (hk : kd σ th = 16) {Qf : Option Nat → XS → Prop} (hw : wJ7_elementData th x1 σ Qf) (hR : (({ frames := 0, cells := 0, slots := 0, locals := 0 } : Room)).frames + 1 ≤ R.frames ∧ 8 + (2 + 11) + (({ frames := 0, cells := 0, slots := 0, locals := 0 } : Room)).locals ≤ R.locals) (hrest : rest.length ≤ 4) (hsize : ls.size = nL) (hf : cells + 0 ≤ R.cells ∧ slots + 0 ≤ R.slots) (hdg : decode cc pc = .ok (.invokevirtual 123, 3))
    (kk : ∀ (r : Option Nat) (σ1 : XS) (H1 : Heap) (locs1 : List Loc), Qf r σ1 → xR E σ1 H1 → va_S (xA E) s.heap H1 locs1 → W p l e R s m args below meth c H1 locs1 (cells + 0) (slots + 0) Qz (F0 m (pc + 3) ls (xv E r :: rest))) : W p l e R s m args below meth c H locs cells slots Qz (F0 m pc ls (.int x1 :: xv E r0 :: rest)) := by
  subst hr
  obtain ⟨hx, hb, hml, hown, hts, hrt, hlk, hK, hZ⟩ := id cx
  exact x_gor (va_runV (As := [.int x1]) (rest := rest) (x_fix cx) (MJ7_elementData l E th x1 σ Qf hw) (cwV 1 hts (lw_V q404 q405 q406 q165 q407) rfl rfl rfl (by decide +kernel) hR) (x_preV cx hR0 hS0 hk (by decide) (q := (RJ7, TJ7, 3)) rfl rfl [.int x1]) rfl rfl hsize rfl (lv_room (xroom hrest)) hdg hf) hS0 kk
def wJ7_get (th : Nat) (x1 : Int32) (σ : XS) (Q : Option Nat → XS → Prop) : Prop :=
  kd σ th = 16 ∧ (wJ8_checkIndex x1 (fi σ th 2) σ (fun r2 s2 => kd s2 th = 16 ∧ (wJ7_elementData th x1 s2 (fun r3 s3 => Q r3 s3))))
set_option maxHeartbeats 4000000 in
theorem MJ7_get (l : Launch) (E : xx_E) (th : Nat) (x1 : Int32) (σ : XS) (Q : Option Nat → XS → Prop) (hw : wJ7_get th x1 σ Q) : xx_Mr l yJ7_get (ws_ yJ7_get cJ7_get 2 (some (.object "java/lang/Object"))) ({ frames := 2, cells := 0, slots := 0, locals := 80 } : Room) E [xv E (some th), .int x1] σ Q 0 0 := by
  refine x_of (own := "java/util/ArrayList") (by decide +kernel) rfl ?_
  intro p e s m args below meth c cx hR ha hnm
  refine x_entry [xv E (some th), .int x1] 2 [(0, xv E (some th)), (1, .int x1)] ha (by simp [lg_sl, xv_cat, vc_i, vc_j, vc_f]) (by simp [lv_args, xv_cat, vc_i, vc_j, vc_f]) (fun ls hl => ?_)
  have hS : va_S (xA E) s.heap s.heap [] := va_S.rf
  have hcb : 0 + 0 ≤ 0 := Nat.le_of_eq (Nat.zero_add _)
  have hsb : 0 + 0 ≤ 0 := Nat.le_of_eq (Nat.zero_add _)
  unfold wJ7_get at hw
  obtain ⟨hx, hb, hml, hown, hts, hrt, hlk, hMK, hZ⟩ := id cx
  refine lv_iload_n hx hb dJ7_get_0 rfl (lv_at hl 1 rfl) ?_
  refine x_aload_n cx dJ7_get_1 rfl (lv_at hl 0 rfl) ?_
  obtain ⟨hk1, hw⟩ := hw
  refine xg_J7_48_16 cx hR rfl hk1 dJ7_get_2 ?_
  refine CJ8_checkIndex_J7_118 cx hR hS  hw ⟨Nat.le_of_ble_eq_true rfl, Nat.le_of_ble_eq_true rfl⟩ (Nat.le_of_ble_eq_true rfl) hl.1 ⟨by dsimp only; omega, by dsimp only; omega⟩ dJ7_get_5 (fun r2 s2 H locs hw hR hS => ?_)
  refine lv_pop hx hb dJ7_get_8 rfl ?_
  refine x_aload_n cx dJ7_get_9 rfl (lv_at hl 0 rfl) ?_
  refine lv_iload_n hx hb dJ7_get_10 rfl (lv_at hl 1 rfl) ?_
  obtain ⟨hk4, hw⟩ := hw
  refine CJ7_elementData_J7_123 cx hR hS rfl hk4 hw ⟨Nat.le_of_ble_eq_true rfl, Nat.le_of_ble_eq_true rfl⟩ (Nat.le_of_ble_eq_true rfl) hl.1 ⟨by dsimp only; omega, by dsimp only; omega⟩ dJ7_get_11 (fun r3 s3 H locs hw hR hS => ?_)
  exact x_aret cx (by first | exact Or.inl ⟨_, rfl⟩ | exact Or.inr ⟨_, rfl⟩) hR hS (xle hcb) (xle hsb) hw dJ7_get_14
-- E_holds_
def XM_holds (l : Launch) (E : xx_E) (f a : Nat) (w : Int32) (σ : XS) (Q : Int32 → XS → Prop) : Prop := (kd σ a = 10 ∧ ∃ rm : Room, rm.frames ≤ f ∧ rm.locals ≤ 40 * f ∧ rm.cells = 0 ∧ rm.slots = 0 ∧ xx_Mi l yX10_holds (ws_ yX10_holds cX10_holds 2 (some .boolean)) rm E [xv E (some a), .int w] σ Q 0 0) ∨ (kd σ a = 7 ∧ ∃ rm : Room, rm.frames ≤ f ∧ rm.locals ≤ 40 * f ∧ rm.cells = 0 ∧ rm.slots = 0 ∧ xx_Mi l yX7_holds (ws_ yX7_holds cX7_holds 2 (some .boolean)) rm E [xv E (some a), .int w] σ Q 0 0) ∨ ((kd σ a = 8 ∨ kd σ a = 9 ∨ kd σ a = 11) ∧ ∃ rm : Room, rm.frames ≤ f ∧ rm.locals ≤ 40 * f ∧ rm.cells = 0 ∧ rm.slots = 0 ∧ xx_Mi l yX8_holds (ws_ yX8_holds cX8_holds 4 (some .boolean)) rm E [xv E (some a), .int w] σ Q 0 0)
def XF_holds (l : Launch) (E : xx_E) (F : Nat → Int32 → XS → (Int32 → XS → Prop) → Prop) (d : Nat) : Prop := ∀ (a : Nat) (w : Int32) (σ : XS) (Q : Int32 → XS → Prop), F a w σ Q → XM_holds l E (4 + 3 * d) a w σ Q
-- X0_has
def wX0_has (x0 : Int32) (x1 : Int32) (σ : XS) (Q : Int32 → XS → Prop) : Prop :=
  if ((x0 >>> (x1 &&& 31)) &&& (1 : Int32)) = (1 : Int32) then (Q (1 : Int32) σ) else (Q (0 : Int32) σ)
set_option maxHeartbeats 4000000 in
theorem MX0_has (l : Launch) (E : xx_E) (x0 : Int32) (x1 : Int32) (σ : XS) (Q : Int32 → XS → Prop) (hw : wX0_has x0 x1 σ Q) : xx_Mi l yX0_has (ws_ yX0_has cX0_has 2 (some .boolean)) ({ frames := 0, cells := 0, slots := 0, locals := 0 } : Room) E [.int x0, .int x1] σ Q 0 0 := by
  refine x_of (own := "StruckCounts") (by decide +kernel) rfl ?_
  intro p e s m args below meth c cx hR ha hnm
  refine x_entry [.int x0, .int x1] 2 [(0, .int x0), (1, .int x1)] ha (Nat.le_of_ble_eq_true rfl) rfl (fun ls hl => ?_)
  have hS : va_S (xA E) s.heap s.heap [] := va_S.rf
  have hcb : 0 + 0 ≤ 0 := Nat.le_of_eq (Nat.zero_add _)
  have hsb : 0 + 0 ≤ 0 := Nat.le_of_eq (Nat.zero_add _)
  unfold wX0_has at hw
  obtain ⟨hx, hb, hml, hown, hts, hrt, hlk, hMK, hZ⟩ := id cx
  refine lv_iload_n hx hb dX0_has_0 rfl (lv_at hl 0 rfl) ?_
  refine lv_iload_n hx hb dX0_has_1 rfl (lv_at hl 1 rfl) ?_
  refine lv_ishr hx hb dX0_has_2 ?_
  refine lv_iconst (v := (1 : Int32)) hx hb dX0_has_3 (by decide) ?_
  refine lv_iand hx hb dX0_has_4 ?_
  refine lv_iconst (v := (1 : Int32)) hx hb dX0_has_5 (by decide) ?_
  refine lv_icmp_ne (tgt := 13) hx hb dX0_has_6 (by decide) (fun hc => ?_) (fun hc => ?_)
  · have hw := mm_in hc hw
    refine lv_iconst (v := (0 : Int32)) hx hb dX0_has_13 (by decide) ?_
    exact x_nret cx hR hS (xle hcb) (xle hsb) (zb_nar (Or.inl rfl)) hw dX0_has_14
  · have hw := mm_ip hc hw
    refine lv_iconst (v := (1 : Int32)) hx hb dX0_has_9 (by decide) ?_
    refine lv_goto (tgt := 14) hx hb dX0_has_10 (by decide) ?_
    exact x_nret cx hR hS (xle hcb) (xle hsb) (zb_nar (Or.inr rfl)) hw dX0_has_14
-- X10_holds
theorem xg_X10_9_10 {l : Launch} {p : Program} {e : Env} {R : Room} {s : State} {m : MethodId} {args : Array Value} {below : List Frame} {meth : Method} {c : Code} {H : Heap} {locs : List Loc} {cells slots : Nat} {Qz : State → Prop} {cc : ByteArray} {nL : Nat} {ret : Option FieldType} {E : xx_E} {σ : XS} {pc : Nat} {ls : Array Slot} {rest : List Value} (cx : xx_X "StruckCounts$Fact" cc nL ret E p s m args meth c) (hR : xR E σ H) {a : Nat} {r : Option Nat} (hr : r = some a) (hk : kd σ a = 10) (hdg : decode cc pc = .ok (.getfield 9, 3)) (kk : W p l e R s m args below meth c H locs cells slots Qz (F0 m (pc + 3) ls (.int (fi σ a 0) :: rest))) : W p l e R s m args below meth c H locs cells slots Qz (F0 m pc ls (xv E r :: rest)) :=
  x_get (ci := 9) cx hR hr hk (by decide) rfl in_X10 0 (by decide) q1775 (fun _ h => h) (v := .int (fi σ a 0)) rfl hdg kk
theorem CX0_has_X10_15 {l : Launch} {p : Program} {e : Env} {R : Room} {s : State} {m : MethodId} {args : Array Value} {below : List Frame} {meth : Method} {c : Code} {H : Heap} {locs : List Loc} {cells slots : Nat} {Qz : State → Prop} {cc : ByteArray} {nL : Nat} {ret : Option FieldType} {E : xx_E} {σ : XS} {pc : Nat} {ls : Array Slot} {rest : List Value} {x0 : Int32} {x1 : Int32} (cx : xx_X "StruckCounts$Fact" cc nL ret E p s m args meth c) (hR0 : xR E σ H) (hS0 : va_S (xA E) s.heap H locs) {Qf : Int32 → XS → Prop} (hw : wX0_has x0 x1 σ Qf) (hR : (({ frames := 0, cells := 0, slots := 0, locals := 0 } : Room)).frames + 1 ≤ R.frames ∧ 8 + (2 + 11) + (({ frames := 0, cells := 0, slots := 0, locals := 0 } : Room)).locals ≤ R.locals) (hrest : rest.length ≤ 4) (hsize : ls.size = nL) (hf : cells + 0 ≤ R.cells ∧ slots + 0 ≤ R.slots) (hdg : decode cc pc = .ok (.invokestatic 15, 3))
    (kk : ∀ (r : Int32) (σ1 : XS) (H1 : Heap) (locs1 : List Loc), Qf r σ1 → xR E σ1 H1 → va_S (xA E) s.heap H1 locs1 → W p l e R s m args below meth c H1 locs1 (cells + 0) (slots + 0) Qz (F0 m (pc + 3) ls (.int r :: rest))) : W p l e R s m args below meth c H locs cells slots Qz (F0 m pc ls (.int x1 :: .int x0 :: rest)) := by
  obtain ⟨hx, hb, hml, hown, hts, hrt, hlk, hK, hZ⟩ := id cx
  exact x_goi (va_runSN (As := [.int x0, .int x1]) (rest := rest) (x_fix cx) (MX0_has l E x0 x1 σ Qf hw) ⟨va_cnB 2 hts (lw_meth q432) rfl rfl rfl (hK.2.2.2.1 _ (xx_nm_mem (i := 3) rfl)) (hts _ q156) (by decide +kernel) hR, hts _ q431, trivial⟩ ⟨xblind, x_pre cx hR0 hS0 [.int x0, .int x1]⟩ rfl rfl hsize rfl (lv_room (xroom hrest)) hdg hf) hS0 kk
def wX10_holds (th : Nat) (x1 : Int32) (σ : XS) (Q : Int32 → XS → Prop) : Prop :=
  kd σ th = 10 ∧ (wX0_has x1 (fi σ th 0) σ (fun r2 s2 => zb r2 ∧ Q r2 s2))
set_option maxHeartbeats 4000000 in
theorem MX10_holds (l : Launch) (E : xx_E) (th : Nat) (x1 : Int32) (σ : XS) (Q : Int32 → XS → Prop) (hw : wX10_holds th x1 σ Q) : xx_Mi l yX10_holds (ws_ yX10_holds cX10_holds 2 (some .boolean)) ({ frames := 1, cells := 0, slots := 0, locals := 40 } : Room) E [xv E (some th), .int x1] σ Q 0 0 := by
  refine x_of (own := "StruckCounts$Fact") (by decide +kernel) rfl ?_
  intro p e s m args below meth c cx hR ha hnm
  refine x_entry [xv E (some th), .int x1] 2 [(0, xv E (some th)), (1, .int x1)] ha (by simp [lg_sl, xv_cat, vc_i, vc_j, vc_f]) (by simp [lv_args, xv_cat, vc_i, vc_j, vc_f]) (fun ls hl => ?_)
  have hS : va_S (xA E) s.heap s.heap [] := va_S.rf
  have hcb : 0 + 0 ≤ 0 := Nat.le_of_eq (Nat.zero_add _)
  have hsb : 0 + 0 ≤ 0 := Nat.le_of_eq (Nat.zero_add _)
  unfold wX10_holds at hw
  obtain ⟨hx, hb, hml, hown, hts, hrt, hlk, hMK, hZ⟩ := id cx
  refine lv_iload_n hx hb dX10_holds_0 rfl (lv_at hl 1 rfl) ?_
  refine x_aload_n cx dX10_holds_1 rfl (lv_at hl 0 rfl) ?_
  obtain ⟨hk1, hw⟩ := hw
  refine xg_X10_9_10 cx hR rfl hk1 dX10_holds_2 ?_
  refine CX0_has_X10_15 cx hR hS  hw ⟨Nat.le_of_ble_eq_true rfl, Nat.le_of_ble_eq_true rfl⟩ (Nat.le_of_ble_eq_true rfl) hl.1 ⟨by dsimp only; omega, by dsimp only; omega⟩ dX10_holds_5 (fun r2 s2 H locs hw hR hS => ?_)
  obtain ⟨hz, hw⟩ := hw
  exact x_nret cx hR hS (xle hcb) (xle hsb) (zb_nar hz) hw dX10_holds_8
-- X7_holds
theorem xg_X7_7_7 {l : Launch} {p : Program} {e : Env} {R : Room} {s : State} {m : MethodId} {args : Array Value} {below : List Frame} {meth : Method} {c : Code} {H : Heap} {locs : List Loc} {cells slots : Nat} {Qz : State → Prop} {cc : ByteArray} {nL : Nat} {ret : Option FieldType} {E : xx_E} {σ : XS} {pc : Nat} {ls : Array Slot} {rest : List Value} (cx : xx_X "StruckCounts$Not" cc nL ret E p s m args meth c) (hR : xR E σ H) {a : Nat} {r : Option Nat} (hr : r = some a) (hk : kd σ a = 7) (hdg : decode cc pc = .ok (.getfield 7, 3)) (kk : W p l e R s m args below meth c H locs cells slots Qz (F0 m (pc + 3) ls (xv E (fr σ a 0) :: rest))) : W p l e R s m args below meth c H locs cells slots Qz (F0 m pc ls (xv E r :: rest)) :=
  x_get (ci := 6) cx hR hr hk (by decide) rfl in_X7 0 (by decide) q1691 (fun _ h => h) (v := xv E (fr σ a 0)) rfl hdg kk
theorem CE_holds_X7_13F {l : Launch} {p : Program} {e : Env} {R : Room} {s : State} {m : MethodId} {args : Array Value} {below : List Frame} {meth : Method} {c : Code} {H : Heap} {locs : List Loc} {cells slots : Nat} {Qz : State → Prop} {cc : ByteArray} {nL : Nat} {ret : Option FieldType} {E : xx_E} {σ : XS} {pc : Nat} {ls : Array Slot} {rest : List Value} {F : Nat → Int32 → XS → (Int32 → XS → Prop) → Prop} (d : Nat) (hF : XF_holds l E F d) {th : Nat} {x1 : Int32} (cx : xx_X "StruckCounts$Not" cc nL ret E p s m args meth c) (hR0 : xR E σ H) (hS0 : va_S (xA E) s.heap H locs) {r0 : Option Nat} (hr : r0 = some th) {Qf : Int32 → XS → Prop} (hw : F th x1 σ Qf) (hR : (4 + 3 * d) + 1 ≤ R.frames ∧ 40 * ((4 + 3 * d) + 1) ≤ R.locals) (hrest : rest.length ≤ 4) (hsize : ls.size = nL) (hf : cells + 0 ≤ R.cells ∧ slots + 0 ≤ R.slots) (hdg : decode cc pc = .ok (.invokeinterface 13 2, 5))
    (kk : ∀ (r : Int32) (σ1 : XS) (H1 : Heap) (locs1 : List Loc), Qf r σ1 → xR E σ1 H1 → va_S (xA E) s.heap H1 locs1 → W p l e R s m args below meth c H1 locs1 (cells + 0) (slots + 0) Qz (F0 m (pc + 5) ls (.int r :: rest))) : W p l e R s m args below meth c H locs cells slots Qz (F0 m pc ls (.int x1 :: xv E r0 :: rest)) := by
  subst hr
  obtain ⟨hx, hb, hml, hown, hts, hrt, hlk, hK, hZ⟩ := id cx
  rcases hF _ _ _ _ hw with ⟨hk, rm, h1, h2, hrc, hrs, met⟩ | ⟨hk, rm, h1, h2, hrc, hrs, met⟩ | ⟨hk, rm, h1, h2, hrc, hrs, met⟩
  · exact va_callFi (va_runF (C := "StruckCounts$Fact") (As := [.int x1]) (rest := rest) ((x_K cx).1.1 9 _ rfl).2 (x_fix cx) met (va_cwF (C := "StruckCounts$Fact") (x := ⟨"StruckCounts$Expr", "holds", "(I)Z"⟩) 1 hts (lw_app (xin4 q440 q425 q427 q197) (lw_meth q429)) rfl hrc hrs (hK.2.2.2.2.2.1 ("StruckCounts$Fact", ⟨"StruckCounts$Expr", "holds", "(I)Z"⟩, ⟨"StruckCounts$Fact", "holds", "(I)Z"⟩) (List.mem_of_getElem? (i := 0) rfl)) (by decide +kernel) ⟨by omega, by omega⟩) (x_preV cx hR0 hS0 hk (by decide) (q := (RX10, TX10, 1)) rfl rfl [.int x1]) rfl rfl hsize rfl (lv_room (xroom hrest)) hdg hf) hS0 (fun q _ h => h) (fun q h => h) (fun r u t H1 locs1 ht hvm hw hB hz1 hk1 hS => kk r u H1 locs1 hw (x_after ht hB) hS)
  · exact va_callFi (va_runF (C := "StruckCounts$Not") (As := [.int x1]) (rest := rest) ((x_K cx).1.1 6 _ rfl).2 (x_fix cx) met (va_cwF (C := "StruckCounts$Not") (x := ⟨"StruckCounts$Expr", "holds", "(I)Z"⟩) 1 hts (lw_app (xin4 q440 q434 q436 q194) (lw_meth q438)) rfl hrc hrs (hK.2.2.2.2.2.1 ("StruckCounts$Not", ⟨"StruckCounts$Expr", "holds", "(I)Z"⟩, ⟨"StruckCounts$Not", "holds", "(I)Z"⟩) (List.mem_of_getElem? (i := 4) rfl)) (by decide +kernel) ⟨by omega, by omega⟩) (x_preV cx hR0 hS0 hk (by decide) (q := (RX7, TX7, 1)) rfl rfl [.int x1]) rfl rfl hsize rfl (lv_room (xroom hrest)) hdg hf) hS0 (fun q _ h => h) (fun q h => h) (fun r u t H1 locs1 ht hvm hw hB hz1 hk1 hS => kk r u H1 locs1 hw (x_after ht hB) hS)
  · rcases hk with hk | hk | hk
    · exact va_callFi (va_runF (C := "StruckCounts$Some") (As := [.int x1]) (rest := rest) ((x_K cx).1.1 7 _ rfl).2 (x_fix cx) met (va_cwF (C := "StruckCounts$Some") (x := ⟨"StruckCounts$Expr", "holds", "(I)Z"⟩) 1 hts (lw_app (xin4 q440 q445 q416 q195) (lw_meth q418)) rfl hrc hrs (hK.2.2.2.2.2.1 ("StruckCounts$Some", ⟨"StruckCounts$Expr", "holds", "(I)Z"⟩, ⟨"StruckCounts$Some", "holds", "(I)Z"⟩) (List.mem_of_getElem? (i := 6) rfl)) (by decide +kernel) ⟨by omega, by omega⟩) (x_preV cx hR0 hS0 hk (by decide) (q := (RX8, TX8, 1)) rfl rfl [.int x1]) rfl rfl hsize rfl (lv_room (xroom hrest)) hdg hf) hS0 (fun q _ h => h) (fun q h => h) (fun r u t H1 locs1 ht hvm hw hB hz1 hk1 hS => kk r u H1 locs1 hw (x_after ht hB) hS)
    · exact va_callFi (va_runF (C := "StruckCounts$SoMany") (As := [.int x1]) (rest := rest) ((x_K cx).1.1 8 _ rfl).2 (x_fix cx) met (va_cwF (C := "StruckCounts$SoMany") (x := ⟨"StruckCounts$Expr", "holds", "(I)Z"⟩) 1 hts (lw_app (xin4 q440 q442 q416 q195) (lw_meth q418)) rfl hrc hrs (hK.2.2.2.2.2.1 ("StruckCounts$SoMany", ⟨"StruckCounts$Expr", "holds", "(I)Z"⟩, ⟨"StruckCounts$Some", "holds", "(I)Z"⟩) (List.mem_of_getElem? (i := 8) rfl)) (by decide +kernel) ⟨by omega, by omega⟩) (x_preV cx hR0 hS0 hk (by decide) (q := (RX9, TX9, 2)) rfl rfl [.int x1]) rfl rfl hsize rfl (lv_room (xroom hrest)) hdg hf) hS0 (fun q _ h => h) (fun q h => h) (fun r u t H1 locs1 ht hvm hw hB hz1 hk1 hS => kk r u H1 locs1 hw (x_after ht hB) hS)
    · exact va_callFi (va_runF (C := "StruckCounts$All") (As := [.int x1]) (rest := rest) ((x_K cx).1.1 10 _ rfl).2 (x_fix cx) met (va_cwF (C := "StruckCounts$All") (x := ⟨"StruckCounts$Expr", "holds", "(I)Z"⟩) 1 hts (lw_app (xin4 q440 q414 q416 q195) (lw_meth q418)) rfl hrc hrs (hK.2.2.2.2.2.1 ("StruckCounts$All", ⟨"StruckCounts$Expr", "holds", "(I)Z"⟩, ⟨"StruckCounts$Some", "holds", "(I)Z"⟩) (List.mem_of_getElem? (i := 2) rfl)) (by decide +kernel) ⟨by omega, by omega⟩) (x_preV cx hR0 hS0 hk (by decide) (q := (RX11, TX11, 1)) rfl rfl [.int x1]) rfl rfl hsize rfl (lv_room (xroom hrest)) hdg hf) hS0 (fun q _ h => h) (fun q h => h) (fun r u t H1 locs1 ht hvm hw hB hz1 hk1 hS => kk r u H1 locs1 hw (x_after ht hB) hS)
def wX7_holds (F : Nat → Int32 → XS → (Int32 → XS → Prop) → Prop) (th : Nat) (x1 : Int32) (σ : XS) (Q : Int32 → XS → Prop) : Prop :=
  kd σ th = 7 ∧ (oe (fr σ th 0) (fun a3 => F a3 x1 σ (fun r2 s2 => if r2 = 0 then (Q (1 : Int32) s2) else (Q (0 : Int32) s2))))
set_option maxHeartbeats 4000000 in
theorem MX7_holds (l : Launch) (E : xx_E) {F : Nat → Int32 → XS → (Int32 → XS → Prop) → Prop} (d : Nat) (hF : XF_holds l E F d) (th : Nat) (x1 : Int32) (σ : XS) (Q : Int32 → XS → Prop) (hw : wX7_holds F th x1 σ Q) : xx_Mi l yX7_holds (ws_ yX7_holds cX7_holds 2 (some .boolean)) ({ frames := (5 + 3 * d), cells := 0, slots := 0, locals := 40 * (5 + 3 * d) } : Room) E [xv E (some th), .int x1] σ Q 0 0 := by
  refine x_of (own := "StruckCounts$Not") (by decide +kernel) rfl ?_
  intro p e s m args below meth c cx hR ha hnm
  refine x_entry [xv E (some th), .int x1] 2 [(0, xv E (some th)), (1, .int x1)] ha (by simp [lg_sl, xv_cat, vc_i, vc_j, vc_f]) (by simp [lv_args, xv_cat, vc_i, vc_j, vc_f]) (fun ls hl => ?_)
  have hS : va_S (xA E) s.heap s.heap [] := va_S.rf
  have hcb : 0 + 0 ≤ 0 := Nat.le_of_eq (Nat.zero_add _)
  have hsb : 0 + 0 ≤ 0 := Nat.le_of_eq (Nat.zero_add _)
  unfold wX7_holds at hw
  obtain ⟨hx, hb, hml, hown, hts, hrt, hlk, hMK, hZ⟩ := id cx
  refine x_aload_n cx dX7_holds_0 rfl (lv_at hl 0 rfl) ?_
  obtain ⟨hk1, hw⟩ := hw
  refine xg_X7_7_7 cx hR rfl hk1 dX7_holds_1 ?_
  refine lv_iload_n hx hb dX7_holds_4 rfl (lv_at hl 1 rfl) ?_
  obtain ⟨a3, hr3, hw⟩ := hw
  refine CE_holds_X7_13F d hF cx hR hS hr3 hw (by constructor <;> dsimp only <;> omega) (Nat.le_of_ble_eq_true rfl) hl.1 ⟨by dsimp only; omega, by dsimp only; omega⟩ dX7_holds_5 (fun r2 s2 H locs hw hR hS => ?_)
  refine lv_if_ne (tgt := 17) hx hb dX7_holds_10 (by decide) (fun hc => ?_) (fun hc => ?_)
  · have hw := mm_in hc hw
    refine lv_iconst (v := (0 : Int32)) hx hb dX7_holds_17 (by decide) ?_
    exact x_nret cx hR hS (xle hcb) (xle hsb) (zb_nar (Or.inl rfl)) hw dX7_holds_18
  · have hw := mm_ip hc hw
    refine lv_iconst (v := (1 : Int32)) hx hb dX7_holds_13 (by decide) ?_
    refine lv_goto (tgt := 18) hx hb dX7_holds_14 (by decide) ?_
    exact x_nret cx hR hS (xle hcb) (xle hsb) (zb_nar (Or.inr rfl)) hw dX7_holds_18
-- X8_dueS
def wX8_dueS (th : Nat) (σ : XS) (Q : Int32 → XS → Prop) : Prop :=
  Q (1 : Int32) σ
set_option maxHeartbeats 4000000 in
theorem MX8_dueS (l : Launch) (E : xx_E) (th : Nat) (σ : XS) (Q : Int32 → XS → Prop) (hw : wX8_dueS th σ Q) : xx_Mi l yX8_due (ws_ yX8_due cX8_due 1 (some .int)) ({ frames := 0, cells := 0, slots := 0, locals := 0 } : Room) E [xv E (some th)] σ Q 0 0 := by
  refine x_of (own := "StruckCounts$Some") (by decide +kernel) rfl ?_
  intro p e s m args below meth c cx hR ha hnm
  refine x_entry [xv E (some th)] 1 [(0, xv E (some th))] ha (by simp [lg_sl, xv_cat, vc_i, vc_j, vc_f]) (by simp [lv_args, xv_cat, vc_i, vc_j, vc_f]) (fun ls hl => ?_)
  have hS : va_S (xA E) s.heap s.heap [] := va_S.rf
  have hcb : 0 + 0 ≤ 0 := Nat.le_of_eq (Nat.zero_add _)
  have hsb : 0 + 0 ≤ 0 := Nat.le_of_eq (Nat.zero_add _)
  unfold wX8_dueS at hw
  obtain ⟨hx, hb, hml, hown, hts, hrt, hlk, hMK, hZ⟩ := id cx
  refine lv_iconst (v := (1 : Int32)) hx hb dX8_due_0 (by decide) ?_
  exact x_iret cx hR hS (xle hcb) (xle hsb) hw dX8_due_1
-- X8_holdsS
theorem xg_X8_9_8 {l : Launch} {p : Program} {e : Env} {R : Room} {s : State} {m : MethodId} {args : Array Value} {below : List Frame} {meth : Method} {c : Code} {H : Heap} {locs : List Loc} {cells slots : Nat} {Qz : State → Prop} {cc : ByteArray} {nL : Nat} {ret : Option FieldType} {E : xx_E} {σ : XS} {pc : Nat} {ls : Array Slot} {rest : List Value} (cx : xx_X "StruckCounts$Some" cc nL ret E p s m args meth c) (hR : xR E σ H) {a : Nat} {r : Option Nat} (hr : r = some a) (hk : kd σ a = 8) (hdg : decode cc pc = .ok (.getfield 9, 3)) (kk : W p l e R s m args below meth c H locs cells slots Qz (F0 m (pc + 3) ls (xv E (fr σ a 0) :: rest))) : W p l e R s m args below meth c H locs cells slots Qz (F0 m pc ls (xv E r :: rest)) :=
  x_get (ci := 7) cx hR hr hk (by decide) rfl in_X8 0 (by decide) q1763 (fun _ h => h) (v := xv E (fr σ a 0)) rfl hdg kk
theorem xcc_0 {σ : XS} {r : Option Nat} (h : xck [10, 7, 8, 9, 11] σ r) : ∀ a, r = some a → xcl σ "StruckCounts$Expr" a := by
  intro a ha
  have h := h a ha
  have h : kd σ a = 10 ∨ kd σ a = 7 ∨ kd σ a = 8 ∨ kd σ a = 9 ∨ kd σ a = 11 := by simpa using h
  rcases h with h | h | h | h | h
  · exact ⟨9, _, h, by decide, rfl, by decide⟩
  · exact ⟨6, _, h, by decide, rfl, by decide⟩
  · exact ⟨7, _, h, by decide, rfl, by decide⟩
  · exact ⟨8, _, h, by decide, rfl, by decide⟩
  · exact ⟨10, _, h, by decide, rfl, by decide⟩
theorem CJ7_size_X8_15 {l : Launch} {p : Program} {e : Env} {R : Room} {s : State} {m : MethodId} {args : Array Value} {below : List Frame} {meth : Method} {c : Code} {H : Heap} {locs : List Loc} {cells slots : Nat} {Qz : State → Prop} {cc : ByteArray} {nL : Nat} {ret : Option FieldType} {E : xx_E} {σ : XS} {pc : Nat} {ls : Array Slot} {rest : List Value} {th : Nat} (cx : xx_X "StruckCounts$Some" cc nL ret E p s m args meth c) (hR0 : xR E σ H) (hS0 : va_S (xA E) s.heap H locs) {r0 : Option Nat} (hr : r0 = some th) (hk : kd σ th = 16) {Qf : Int32 → XS → Prop} (hw : wJ7_size th σ Qf) (hR : (({ frames := 0, cells := 0, slots := 0, locals := 0 } : Room)).frames + 1 ≤ R.frames ∧ 8 + (1 + 11) + (({ frames := 0, cells := 0, slots := 0, locals := 0 } : Room)).locals ≤ R.locals) (hrest : rest.length ≤ 4) (hsize : ls.size = nL) (hf : cells + 0 ≤ R.cells ∧ slots + 0 ≤ R.slots) (hdg : decode cc pc = .ok (.invokevirtual 15, 3))
    (kk : ∀ (r : Int32) (σ1 : XS) (H1 : Heap) (locs1 : List Loc), Qf r σ1 → xR E σ1 H1 → va_S (xA E) s.heap H1 locs1 → W p l e R s m args below meth c H1 locs1 (cells + 0) (slots + 0) Qz (F0 m (pc + 3) ls (.int r :: rest))) : W p l e R s m args below meth c H locs cells slots Qz (F0 m pc ls (xv E r0 :: rest)) := by
  subst hr
  obtain ⟨hx, hb, hml, hown, hts, hrt, hlk, hK, hZ⟩ := id cx
  exact x_goi (va_runV (As := []) (rest := rest) (x_fix cx) (MJ7_size l E th σ Qf hw) (cwV 0 hts (lw_V q419 q391 q392 q165 q393) rfl rfl rfl (by decide +kernel) hR) (x_preV cx hR0 hS0 hk (by decide) (q := (RJ7, TJ7, 3)) rfl rfl []) rfl rfl hsize rfl (lv_room (xroom hrest)) hdg hf) hS0 kk
theorem CJ7_get_X8_21 {l : Launch} {p : Program} {e : Env} {R : Room} {s : State} {m : MethodId} {args : Array Value} {below : List Frame} {meth : Method} {c : Code} {H : Heap} {locs : List Loc} {cells slots : Nat} {Qz : State → Prop} {cc : ByteArray} {nL : Nat} {ret : Option FieldType} {E : xx_E} {σ : XS} {pc : Nat} {ls : Array Slot} {rest : List Value} {th : Nat} {x1 : Int32} (cx : xx_X "StruckCounts$Some" cc nL ret E p s m args meth c) (hR0 : xR E σ H) (hS0 : va_S (xA E) s.heap H locs) {r0 : Option Nat} (hr : r0 = some th) (hk : kd σ th = 16) {Qf : Option Nat → XS → Prop} (hw : wJ7_get th x1 σ Qf) (hR : (({ frames := 2, cells := 0, slots := 0, locals := 80 } : Room)).frames + 1 ≤ R.frames ∧ 8 + (2 + 11) + (({ frames := 2, cells := 0, slots := 0, locals := 80 } : Room)).locals ≤ R.locals) (hrest : rest.length ≤ 4) (hsize : ls.size = nL) (hf : cells + 0 ≤ R.cells ∧ slots + 0 ≤ R.slots) (hdg : decode cc pc = .ok (.invokevirtual 21, 3))
    (kk : ∀ (r : Option Nat) (σ1 : XS) (H1 : Heap) (locs1 : List Loc), Qf r σ1 → xR E σ1 H1 → va_S (xA E) s.heap H1 locs1 → W p l e R s m args below meth c H1 locs1 (cells + 0) (slots + 0) Qz (F0 m (pc + 3) ls (xv E r :: rest))) : W p l e R s m args below meth c H locs cells slots Qz (F0 m pc ls (.int x1 :: xv E r0 :: rest)) := by
  subst hr
  obtain ⟨hx, hb, hml, hown, hts, hrt, hlk, hK, hZ⟩ := id cx
  exact x_gor (va_runV (As := [.int x1]) (rest := rest) (x_fix cx) (MJ7_get l E th x1 σ Qf hw) (cwV 1 hts (lw_V q420 q395 q396 q165 q397) rfl rfl rfl (by decide +kernel) hR) (x_preV cx hR0 hS0 hk (by decide) (q := (RJ7, TJ7, 3)) rfl rfl [.int x1]) rfl rfl hsize rfl (lv_room (xroom hrest)) hdg hf) hS0 kk
theorem CE_holds_X8_27F {l : Launch} {p : Program} {e : Env} {R : Room} {s : State} {m : MethodId} {args : Array Value} {below : List Frame} {meth : Method} {c : Code} {H : Heap} {locs : List Loc} {cells slots : Nat} {Qz : State → Prop} {cc : ByteArray} {nL : Nat} {ret : Option FieldType} {E : xx_E} {σ : XS} {pc : Nat} {ls : Array Slot} {rest : List Value} {F : Nat → Int32 → XS → (Int32 → XS → Prop) → Prop} (d : Nat) (hF : XF_holds l E F d) {th : Nat} {x1 : Int32} (cx : xx_X "StruckCounts$Some" cc nL ret E p s m args meth c) (hR0 : xR E σ H) (hS0 : va_S (xA E) s.heap H locs) {r0 : Option Nat} (hr : r0 = some th) {Qf : Int32 → XS → Prop} (hw : F th x1 σ Qf) (hR : (4 + 3 * d) + 1 ≤ R.frames ∧ 40 * ((4 + 3 * d) + 1) ≤ R.locals) (hrest : rest.length ≤ 4) (hsize : ls.size = nL) (hf : cells + 0 ≤ R.cells ∧ slots + 0 ≤ R.slots) (hdg : decode cc pc = .ok (.invokeinterface 27 2, 5))
    (kk : ∀ (r : Int32) (σ1 : XS) (H1 : Heap) (locs1 : List Loc), Qf r σ1 → xR E σ1 H1 → va_S (xA E) s.heap H1 locs1 → W p l e R s m args below meth c H1 locs1 (cells + 0) (slots + 0) Qz (F0 m (pc + 5) ls (.int r :: rest))) : W p l e R s m args below meth c H locs cells slots Qz (F0 m pc ls (.int x1 :: xv E r0 :: rest)) := by
  subst hr
  obtain ⟨hx, hb, hml, hown, hts, hrt, hlk, hK, hZ⟩ := id cx
  rcases hF _ _ _ _ hw with ⟨hk, rm, h1, h2, hrc, hrs, met⟩ | ⟨hk, rm, h1, h2, hrc, hrs, met⟩ | ⟨hk, rm, h1, h2, hrc, hrs, met⟩
  · exact va_callFi (va_runF (C := "StruckCounts$Fact") (As := [.int x1]) (rest := rest) ((x_K cx).1.1 9 _ rfl).2 (x_fix cx) met (va_cwF (C := "StruckCounts$Fact") (x := ⟨"StruckCounts$Expr", "holds", "(I)Z"⟩) 1 hts (lw_app (xin4 q423 q425 q427 q197) (lw_meth q429)) rfl hrc hrs (hK.2.2.2.2.2.1 ("StruckCounts$Fact", ⟨"StruckCounts$Expr", "holds", "(I)Z"⟩, ⟨"StruckCounts$Fact", "holds", "(I)Z"⟩) (List.mem_of_getElem? (i := 0) rfl)) (by decide +kernel) ⟨by omega, by omega⟩) (x_preV cx hR0 hS0 hk (by decide) (q := (RX10, TX10, 1)) rfl rfl [.int x1]) rfl rfl hsize rfl (lv_room (xroom hrest)) hdg hf) hS0 (fun q _ h => h) (fun q h => h) (fun r u t H1 locs1 ht hvm hw hB hz1 hk1 hS => kk r u H1 locs1 hw (x_after ht hB) hS)
  · exact va_callFi (va_runF (C := "StruckCounts$Not") (As := [.int x1]) (rest := rest) ((x_K cx).1.1 6 _ rfl).2 (x_fix cx) met (va_cwF (C := "StruckCounts$Not") (x := ⟨"StruckCounts$Expr", "holds", "(I)Z"⟩) 1 hts (lw_app (xin4 q423 q434 q436 q194) (lw_meth q438)) rfl hrc hrs (hK.2.2.2.2.2.1 ("StruckCounts$Not", ⟨"StruckCounts$Expr", "holds", "(I)Z"⟩, ⟨"StruckCounts$Not", "holds", "(I)Z"⟩) (List.mem_of_getElem? (i := 4) rfl)) (by decide +kernel) ⟨by omega, by omega⟩) (x_preV cx hR0 hS0 hk (by decide) (q := (RX7, TX7, 1)) rfl rfl [.int x1]) rfl rfl hsize rfl (lv_room (xroom hrest)) hdg hf) hS0 (fun q _ h => h) (fun q h => h) (fun r u t H1 locs1 ht hvm hw hB hz1 hk1 hS => kk r u H1 locs1 hw (x_after ht hB) hS)
  · rcases hk with hk | hk | hk
    · exact va_callFi (va_runF (C := "StruckCounts$Some") (As := [.int x1]) (rest := rest) ((x_K cx).1.1 7 _ rfl).2 (x_fix cx) met (va_cwF (C := "StruckCounts$Some") (x := ⟨"StruckCounts$Expr", "holds", "(I)Z"⟩) 1 hts (lw_app (xin4 q423 q445 q416 q195) (lw_meth q418)) rfl hrc hrs (hK.2.2.2.2.2.1 ("StruckCounts$Some", ⟨"StruckCounts$Expr", "holds", "(I)Z"⟩, ⟨"StruckCounts$Some", "holds", "(I)Z"⟩) (List.mem_of_getElem? (i := 6) rfl)) (by decide +kernel) ⟨by omega, by omega⟩) (x_preV cx hR0 hS0 hk (by decide) (q := (RX8, TX8, 1)) rfl rfl [.int x1]) rfl rfl hsize rfl (lv_room (xroom hrest)) hdg hf) hS0 (fun q _ h => h) (fun q h => h) (fun r u t H1 locs1 ht hvm hw hB hz1 hk1 hS => kk r u H1 locs1 hw (x_after ht hB) hS)
    · exact va_callFi (va_runF (C := "StruckCounts$SoMany") (As := [.int x1]) (rest := rest) ((x_K cx).1.1 8 _ rfl).2 (x_fix cx) met (va_cwF (C := "StruckCounts$SoMany") (x := ⟨"StruckCounts$Expr", "holds", "(I)Z"⟩) 1 hts (lw_app (xin4 q423 q442 q416 q195) (lw_meth q418)) rfl hrc hrs (hK.2.2.2.2.2.1 ("StruckCounts$SoMany", ⟨"StruckCounts$Expr", "holds", "(I)Z"⟩, ⟨"StruckCounts$Some", "holds", "(I)Z"⟩) (List.mem_of_getElem? (i := 8) rfl)) (by decide +kernel) ⟨by omega, by omega⟩) (x_preV cx hR0 hS0 hk (by decide) (q := (RX9, TX9, 2)) rfl rfl [.int x1]) rfl rfl hsize rfl (lv_room (xroom hrest)) hdg hf) hS0 (fun q _ h => h) (fun q h => h) (fun r u t H1 locs1 ht hvm hw hB hz1 hk1 hS => kk r u H1 locs1 hw (x_after ht hB) hS)
    · exact va_callFi (va_runF (C := "StruckCounts$All") (As := [.int x1]) (rest := rest) ((x_K cx).1.1 10 _ rfl).2 (x_fix cx) met (va_cwF (C := "StruckCounts$All") (x := ⟨"StruckCounts$Expr", "holds", "(I)Z"⟩) 1 hts (lw_app (xin4 q423 q414 q416 q195) (lw_meth q418)) rfl hrc hrs (hK.2.2.2.2.2.1 ("StruckCounts$All", ⟨"StruckCounts$Expr", "holds", "(I)Z"⟩, ⟨"StruckCounts$Some", "holds", "(I)Z"⟩) (List.mem_of_getElem? (i := 2) rfl)) (by decide +kernel) ⟨by omega, by omega⟩) (x_preV cx hR0 hS0 hk (by decide) (q := (RX11, TX11, 1)) rfl rfl [.int x1]) rfl rfl hsize rfl (lv_room (xroom hrest)) hdg hf) hS0 (fun q _ h => h) (fun q h => h) (fun r u t H1 locs1 ht hvm hw hB hz1 hk1 hS => kk r u H1 locs1 hw (x_after ht hB) hS)
theorem CX8_dueS_X8_31 {l : Launch} {p : Program} {e : Env} {R : Room} {s : State} {m : MethodId} {args : Array Value} {below : List Frame} {meth : Method} {c : Code} {H : Heap} {locs : List Loc} {cells slots : Nat} {Qz : State → Prop} {cc : ByteArray} {nL : Nat} {ret : Option FieldType} {E : xx_E} {σ : XS} {pc : Nat} {ls : Array Slot} {rest : List Value} {th : Nat} (cx : xx_X "StruckCounts$Some" cc nL ret E p s m args meth c) (hR0 : xR E σ H) (hS0 : va_S (xA E) s.heap H locs) {r0 : Option Nat} (hr : r0 = some th) (hk : kd σ th = 8) {Qf : Int32 → XS → Prop} (hw : wX8_dueS th σ Qf) (hR : (({ frames := 0, cells := 0, slots := 0, locals := 0 } : Room)).frames + 1 ≤ R.frames ∧ 8 + (1 + 11) + (({ frames := 0, cells := 0, slots := 0, locals := 0 } : Room)).locals ≤ R.locals) (hrest : rest.length ≤ 4) (hsize : ls.size = nL) (hf : cells + 0 ≤ R.cells ∧ slots + 0 ≤ R.slots) (hdg : decode cc pc = .ok (.invokevirtual 31, 3))
    (kk : ∀ (r : Int32) (σ1 : XS) (H1 : Heap) (locs1 : List Loc), Qf r σ1 → xR E σ1 H1 → va_S (xA E) s.heap H1 locs1 → W p l e R s m args below meth c H1 locs1 (cells + 0) (slots + 0) Qz (F0 m (pc + 3) ls (.int r :: rest))) : W p l e R s m args below meth c H locs cells slots Qz (F0 m pc ls (xv E r0 :: rest)) := by
  subst hr
  obtain ⟨hx, hb, hml, hown, hts, hrt, hlk, hK, hZ⟩ := id cx
  exact x_goi (va_runV (As := []) (rest := rest) (x_fix cx) (MX8_dueS l E th σ Qf hw) (cwV 0 hts (lw_V q447 q448 q449 q195 q463) rfl rfl rfl (by decide +kernel) hR) (x_preV cx hR0 hS0 hk (by decide) (q := (RX8, TX8, 1)) rfl rfl []) rfl rfl hsize rfl (lv_room (xroom hrest)) hdg hf) hS0 kk
def wX8_holdsS_38 (F : Nat → Int32 → XS → (Int32 → XS → Prop) → Prop) (Q : Int32 → XS → Prop) (K4 : Nat → Int32 → Int32 → Int32 → XS → Prop) (th : Nat) (x1 : Int32) (x2 : Int32) (x3 : Int32) (σ : XS) : Prop :=
  ∀ v1 : Int32, v1 = x3 + (1 : Int32) → K4 th x1 x2 v1 σ
set_option maxHeartbeats 4000000 in
theorem BX8_holdsS_38 {l : Launch} {p : Program} {e : Env} {s : State} {m : MethodId} {args : Array Value} {below : List Frame} {meth : Method} {c : Code} {E : xx_E} {F : Nat → Int32 → XS → (Int32 → XS → Prop) → Prop} {Q : Int32 → XS → Prop} {K4 : Nat → Int32 → Int32 → Int32 → XS → Prop} (d : Nat) (hF : XF_holds l E F d) (cx : xx_X "StruckCounts$Some" cX8_holds 4 (some .boolean) E p s m args meth c) (hK4 : ∀ (th : Nat) (x1 : Int32) (x2 : Int32) (x3 : Int32) (σ : XS), K4 th x1 x2 x3 σ → x_T p l e ({ frames := (5 + 3 * d), cells := 0, slots := 0, locals := 40 * (5 + 3 * d) } : Room) s m args below meth c E (va_Qi Q (fun σ' t => xW E σ' t) (xA E)) 0 0 4 4 0 0 σ [(0, xv E (some th)), (1, .int x1), (2, .int x2), (3, .int x3)] []) : ∀ (th : Nat) (x1 : Int32) (x2 : Int32) (x3 : Int32) (σ : XS), wX8_holdsS_38 F Q K4 th x1 x2 x3 σ → x_T p l e ({ frames := (5 + 3 * d), cells := 0, slots := 0, locals := 40 * (5 + 3 * d) } : Room) s m args below meth c E (va_Qi Q (fun σ' t => xW E σ' t) (xA E)) 0 0 4 38 0 0 σ [(0, xv E (some th)), (1, .int x1), (2, .int x2), (3, .int x3)] [] := by
  intro th x1 x2 x3 σ hw H locs ls cells slots hR hS hl hcb hsb
  unfold wX8_holdsS_38 at hw
  obtain ⟨hx, hb, hml, hown, hts, hrt, hlk, hMK, hZ⟩ := id cx
  obtain ⟨v1, hv1⟩ : ∃ v : Int32, v = x3 + (1 : Int32) := ⟨_, rfl⟩
  have hw := hw v1 hv1
  refine lv_iinc (v := v1) (lv' := [(3, .int v1), (0, xv E (some th)), (1, .int x1), (2, .int x2)]) hx hb dX8_holds_38 hl (k := 3) rfl (by rw [hv1]; rfl) (by decide) rfl (fun ls hl => ?_)
  refine lv_goto (tgt := 4) hx hb dX8_holds_41 (by decide) ?_
  exact hK4 _ _ _ _ _ hw _ _ _ _ _ hR hS (lv_sub hl [1, 2, 3, 0] rfl) hcb hsb
def wX8_holdsS_4 (F : Nat → Int32 → XS → (Int32 → XS → Prop) → Prop) (Q : Int32 → XS → Prop) (K4 : Nat → Int32 → Int32 → Int32 → XS → Prop) (th : Nat) (x1 : Int32) (x2 : Int32) (x3 : Int32) (σ : XS) : Prop :=
  kd σ th = 8 ∧ (oc σ (fr σ th 0) 16 (fun a4 => wJ7_size a4 σ (fun r3 s3 => if r3 ≤ x3 then (kd s3 th = 8 ∧ (wX8_dueS th s3 (fun r5 s5 => if x2 < r5 then (Q (0 : Int32) s5) else (Q (1 : Int32) s5)))) else (kd s3 th = 8 ∧ (oc s3 (fr s3 th 0) 16 (fun a9 => wJ7_get a9 x3 s3 (fun r8 s8 => xck [10, 7, 8, 9, 11] s8 r8 ∧ (oe r8 (fun a11 => F a11 x1 s8 (fun r10 s10 => if r10 = 0 then (wX8_holdsS_38 F Q K4 th x1 x2 x3 s10) else (∀ v12 : Int32, v12 = x2 + (1 : Int32) → wX8_holdsS_38 F Q K4 th x1 v12 x3 s10)))))))))))
set_option maxHeartbeats 4000000 in
theorem BX8_holdsS_4 {l : Launch} {p : Program} {e : Env} {s : State} {m : MethodId} {args : Array Value} {below : List Frame} {meth : Method} {c : Code} {E : xx_E} {F : Nat → Int32 → XS → (Int32 → XS → Prop) → Prop} {Q : Int32 → XS → Prop} {K4 : Nat → Int32 → Int32 → Int32 → XS → Prop} (d : Nat) (hF : XF_holds l E F d) (cx : xx_X "StruckCounts$Some" cX8_holds 4 (some .boolean) E p s m args meth c) (hK4 : ∀ (th : Nat) (x1 : Int32) (x2 : Int32) (x3 : Int32) (σ : XS), K4 th x1 x2 x3 σ → x_T p l e ({ frames := (5 + 3 * d), cells := 0, slots := 0, locals := 40 * (5 + 3 * d) } : Room) s m args below meth c E (va_Qi Q (fun σ' t => xW E σ' t) (xA E)) 0 0 4 4 0 0 σ [(0, xv E (some th)), (1, .int x1), (2, .int x2), (3, .int x3)] []) : ∀ (th : Nat) (x1 : Int32) (x2 : Int32) (x3 : Int32) (σ : XS), wX8_holdsS_4 F Q K4 th x1 x2 x3 σ → x_T p l e ({ frames := (5 + 3 * d), cells := 0, slots := 0, locals := 40 * (5 + 3 * d) } : Room) s m args below meth c E (va_Qi Q (fun σ' t => xW E σ' t) (xA E)) 0 0 4 4 0 0 σ [(0, xv E (some th)), (1, .int x1), (2, .int x2), (3, .int x3)] [] := by
  intro th x1 x2 x3 σ hw H locs ls cells slots hR hS hl hcb hsb
  unfold wX8_holdsS_4 at hw
  obtain ⟨hx, hb, hml, hown, hts, hrt, hlk, hMK, hZ⟩ := id cx
  refine lv_iload_n hx hb dX8_holds_4 rfl (lv_at hl 3 rfl) ?_
  refine x_aload_n cx dX8_holds_5 rfl (lv_at hl 0 rfl) ?_
  obtain ⟨hk2, hw⟩ := hw
  refine xg_X8_9_8 cx hR rfl hk2 dX8_holds_6 ?_
  obtain ⟨a4, hr4, hk4, hw⟩ := hw
  refine CJ7_size_X8_15 cx hR hS hr4 hk4 hw (by constructor <;> dsimp only <;> omega) (Nat.le_of_ble_eq_true rfl) hl.1 ⟨by dsimp only; omega, by dsimp only; omega⟩ dX8_holds_9 (fun r3 s3 H locs hw hR hS => ?_)
  refine lv_icmp_ge (tgt := 44) hx hb dX8_holds_12 (by decide) (fun hc => ?_) (fun hc => ?_)
  · have hw := mm_ip hc hw
    refine lv_iload_n hx hb dX8_holds_44 rfl (lv_at hl 2 rfl) ?_
    refine x_aload_n cx dX8_holds_45 rfl (lv_at hl 0 rfl) ?_
    obtain ⟨hk6, hw⟩ := hw
    refine CX8_dueS_X8_31 cx hR hS rfl hk6 hw (by constructor <;> dsimp only <;> omega) (Nat.le_of_ble_eq_true rfl) hl.1 ⟨by dsimp only; omega, by dsimp only; omega⟩ dX8_holds_46 (fun r5 s5 H locs hw hR hS => ?_)
    refine lv_icmp_lt (tgt := 56) hx hb dX8_holds_49 (by decide) (fun hc => ?_) (fun hc => ?_)
    · have hw := mm_ip hc hw
      refine lv_iconst (v := (0 : Int32)) hx hb dX8_holds_56 (by decide) ?_
      exact x_nret cx hR hS (xle hcb) (xle hsb) (zb_nar (Or.inl rfl)) hw dX8_holds_57
    · have hw := mm_in hc hw
      refine lv_iconst (v := (1 : Int32)) hx hb dX8_holds_52 (by decide) ?_
      refine lv_goto (tgt := 57) hx hb dX8_holds_53 (by decide) ?_
      exact x_nret cx hR hS (xle hcb) (xle hsb) (zb_nar (Or.inr rfl)) hw dX8_holds_57
  · have hw := mm_in hc hw
    refine x_aload_n cx dX8_holds_15 rfl (lv_at hl 0 rfl) ?_
    obtain ⟨hk7, hw⟩ := hw
    refine xg_X8_9_8 cx hR rfl hk7 dX8_holds_16 ?_
    refine lv_iload_n hx hb dX8_holds_19 rfl (lv_at hl 3 rfl) ?_
    obtain ⟨a9, hr9, hk9, hw⟩ := hw
    refine CJ7_get_X8_21 cx hR hS hr9 hk9 hw (by constructor <;> dsimp only <;> omega) (Nat.le_of_ble_eq_true rfl) hl.1 ⟨by dsimp only; omega, by dsimp only; omega⟩ dX8_holds_20 (fun r8 s8 H locs hw hR hS => ?_)
    obtain ⟨hv, hw⟩ := hw
    refine x_cast cx hR q421 (xcc_0 hv) dX8_holds_23 ?_
    refine lv_iload_n hx hb dX8_holds_26 rfl (lv_at hl 1 rfl) ?_
    obtain ⟨a11, hr11, hw⟩ := hw
    refine CE_holds_X8_27F d hF cx hR hS hr11 hw (by constructor <;> dsimp only <;> omega) (Nat.le_of_ble_eq_true rfl) hl.1 ⟨by dsimp only; omega, by dsimp only; omega⟩ dX8_holds_27 (fun r10 s10 H locs hw hR hS => ?_)
    refine lv_if_eq (tgt := 38) hx hb dX8_holds_32 (by decide) (fun hc => ?_) (fun hc => ?_)
    · have hw := mm_ip hc hw
      exact BX8_holdsS_38 d hF cx hK4 _ _ _ _ _ hw _ _ _ _ _ hR hS (lv_sub hl [0, 1, 2, 3] rfl) hcb hsb
    · have hw := mm_in hc hw
      obtain ⟨v12, hv12⟩ : ∃ v : Int32, v = x2 + (1 : Int32) := ⟨_, rfl⟩
      have hw := hw v12 hv12
      refine lv_iinc (v := v12) (lv' := [(2, .int v12), (0, xv E (some th)), (1, .int x1), (3, .int x3)]) hx hb dX8_holds_35 hl (k := 2) rfl (by rw [hv12]; rfl) (by decide) rfl (fun ls hl => ?_)
      exact BX8_holdsS_38 d hF cx hK4 _ _ _ _ _ hw _ _ _ _ _ hR hS (lv_sub hl [1, 2, 0, 3] rfl) hcb hsb
theorem LX8_holdsS_4 {l : Launch} {p : Program} {e : Env} {s : State} {m : MethodId} {args : Array Value} {below : List Frame} {meth : Method} {c : Code} {E : xx_E} {F : Nat → Int32 → XS → (Int32 → XS → Prop) → Prop} {Q : Int32 → XS → Prop} (d : Nat) (hF : XF_holds l E F d) (cx : xx_X "StruckCounts$Some" cX8_holds 4 (some .boolean) E p s m args meth c) : ∀ (th : Nat) (x1 : Int32) (x2 : Int32) (x3 : Int32) (σ : XS), lp5F (wX8_holdsS_4 F Q) th x1 x2 x3 σ → x_T p l e ({ frames := (5 + 3 * d), cells := 0, slots := 0, locals := 40 * (5 + 3 * d) } : Room) s m args below meth c E (va_Qi Q (fun σ' t => xW E σ' t) (xA E)) 0 0 4 4 0 0 σ [(0, xv E (some th)), (1, .int x1), (2, .int x2), (3, .int x3)] [] :=
  lp5F_of (fun K hK => BX8_holdsS_4 d hF cx hK)
def wX8_holdsS (F : Nat → Int32 → XS → (Int32 → XS → Prop) → Prop) (th : Nat) (x1 : Int32) (σ : XS) (Q : Int32 → XS → Prop) : Prop :=
  lp5F (wX8_holdsS_4 F Q) th x1 (0 : Int32) (0 : Int32) σ
set_option maxHeartbeats 4000000 in
theorem MX8_holdsS (l : Launch) (E : xx_E) {F : Nat → Int32 → XS → (Int32 → XS → Prop) → Prop} (d : Nat) (hF : XF_holds l E F d) (th : Nat) (x1 : Int32) (σ : XS) (Q : Int32 → XS → Prop) (hw : wX8_holdsS F th x1 σ Q) : xx_Mi l yX8_holds (ws_ yX8_holds cX8_holds 4 (some .boolean)) ({ frames := (5 + 3 * d), cells := 0, slots := 0, locals := 40 * (5 + 3 * d) } : Room) E [xv E (some th), .int x1] σ Q 0 0 := by
  refine x_of (own := "StruckCounts$Some") (by decide +kernel) rfl ?_
  intro p e s m args below meth c cx hR ha hnm
  refine x_entry [xv E (some th), .int x1] 4 [(0, xv E (some th)), (1, .int x1)] ha (by simp [lg_sl, xv_cat, vc_i, vc_j, vc_f]) (by simp [lv_args, xv_cat, vc_i, vc_j, vc_f]) (fun ls hl => ?_)
  have hS : va_S (xA E) s.heap s.heap [] := va_S.rf
  have hcb : 0 + 0 ≤ 0 := Nat.le_of_eq (Nat.zero_add _)
  have hsb : 0 + 0 ≤ 0 := Nat.le_of_eq (Nat.zero_add _)
  unfold wX8_holdsS at hw
  obtain ⟨hx, hb, hml, hown, hts, hrt, hlk, hMK, hZ⟩ := id cx
  refine lv_iconst (v := (0 : Int32)) hx hb dX8_holds_0 (by decide) ?_
  refine lv_istore_n (i := 2) (lv' := [(2, .int (0 : Int32)), (0, xv E (some th)), (1, .int x1)]) hx hb dX8_holds_1 rfl hl (by decide) rfl (fun ls hl => ?_)
  refine lv_iconst (v := (0 : Int32)) hx hb dX8_holds_2 (by decide) ?_
  refine lv_istore_n (i := 3) (lv' := [(3, .int (0 : Int32)), (2, .int (0 : Int32)), (0, xv E (some th)), (1, .int x1)]) hx hb dX8_holds_3 rfl hl (by decide) rfl (fun ls hl => ?_)
  exact LX8_holdsS_4 d hF cx _ _ _ _ _ hw _ _ _ _ _ hR hS (lv_sub hl [2, 3, 1, 0] rfl) hcb hsb
-- X9_due
theorem xg_X9_7_9 {l : Launch} {p : Program} {e : Env} {R : Room} {s : State} {m : MethodId} {args : Array Value} {below : List Frame} {meth : Method} {c : Code} {H : Heap} {locs : List Loc} {cells slots : Nat} {Qz : State → Prop} {cc : ByteArray} {nL : Nat} {ret : Option FieldType} {E : xx_E} {σ : XS} {pc : Nat} {ls : Array Slot} {rest : List Value} (cx : xx_X "StruckCounts$SoMany" cc nL ret E p s m args meth c) (hR : xR E σ H) {a : Nat} {r : Option Nat} (hr : r = some a) (hk : kd σ a = 9) (hdg : decode cc pc = .ok (.getfield 7, 3)) (kk : W p l e R s m args below meth c H locs cells slots Qz (F0 m (pc + 3) ls (.int (fi σ a 1) :: rest))) : W p l e R s m args below meth c H locs cells slots Qz (F0 m pc ls (xv E r :: rest)) :=
  x_get (ci := 8) cx hR hr hk (by decide) rfl in_X9 1 (by decide) q1762 (fun _ h => h) (v := .int (fi σ a 1)) rfl hdg kk
def wX9_due (th : Nat) (σ : XS) (Q : Int32 → XS → Prop) : Prop :=
  kd σ th = 9 ∧ (Q (fi σ th 1) σ)
set_option maxHeartbeats 4000000 in
theorem MX9_due (l : Launch) (E : xx_E) (th : Nat) (σ : XS) (Q : Int32 → XS → Prop) (hw : wX9_due th σ Q) : xx_Mi l yX9_due (ws_ yX9_due cX9_due 1 (some .int)) ({ frames := 0, cells := 0, slots := 0, locals := 0 } : Room) E [xv E (some th)] σ Q 0 0 := by
  refine x_of (own := "StruckCounts$SoMany") (by decide +kernel) rfl ?_
  intro p e s m args below meth c cx hR ha hnm
  refine x_entry [xv E (some th)] 1 [(0, xv E (some th))] ha (by simp [lg_sl, xv_cat, vc_i, vc_j, vc_f]) (by simp [lv_args, xv_cat, vc_i, vc_j, vc_f]) (fun ls hl => ?_)
  have hS : va_S (xA E) s.heap s.heap [] := va_S.rf
  have hcb : 0 + 0 ≤ 0 := Nat.le_of_eq (Nat.zero_add _)
  have hsb : 0 + 0 ≤ 0 := Nat.le_of_eq (Nat.zero_add _)
  unfold wX9_due at hw
  obtain ⟨hx, hb, hml, hown, hts, hrt, hlk, hMK, hZ⟩ := id cx
  refine x_aload_n cx dX9_due_0 rfl (lv_at hl 0 rfl) ?_
  obtain ⟨hk1, hw⟩ := hw
  refine xg_X9_7_9 cx hR rfl hk1 dX9_due_1 ?_
  exact x_iret cx hR hS (xle hcb) (xle hsb) hw dX9_due_4
-- X8_holdsM
theorem xg_X8_9_9 {l : Launch} {p : Program} {e : Env} {R : Room} {s : State} {m : MethodId} {args : Array Value} {below : List Frame} {meth : Method} {c : Code} {H : Heap} {locs : List Loc} {cells slots : Nat} {Qz : State → Prop} {cc : ByteArray} {nL : Nat} {ret : Option FieldType} {E : xx_E} {σ : XS} {pc : Nat} {ls : Array Slot} {rest : List Value} (cx : xx_X "StruckCounts$Some" cc nL ret E p s m args meth c) (hR : xR E σ H) {a : Nat} {r : Option Nat} (hr : r = some a) (hk : kd σ a = 9) (hdg : decode cc pc = .ok (.getfield 9, 3)) (kk : W p l e R s m args below meth c H locs cells slots Qz (F0 m (pc + 3) ls (xv E (fr σ a 0) :: rest))) : W p l e R s m args below meth c H locs cells slots Qz (F0 m pc ls (xv E r :: rest)) :=
  x_get (ci := 8) cx hR hr hk (by decide) rfl in_X9 0 (by decide) q1763 (fun _ h => h) (v := xv E (fr σ a 0)) rfl hdg kk
theorem CX9_due_X8_31 {l : Launch} {p : Program} {e : Env} {R : Room} {s : State} {m : MethodId} {args : Array Value} {below : List Frame} {meth : Method} {c : Code} {H : Heap} {locs : List Loc} {cells slots : Nat} {Qz : State → Prop} {cc : ByteArray} {nL : Nat} {ret : Option FieldType} {E : xx_E} {σ : XS} {pc : Nat} {ls : Array Slot} {rest : List Value} {th : Nat} (cx : xx_X "StruckCounts$Some" cc nL ret E p s m args meth c) (hR0 : xR E σ H) (hS0 : va_S (xA E) s.heap H locs) {r0 : Option Nat} (hr : r0 = some th) (hk : kd σ th = 9) {Qf : Int32 → XS → Prop} (hw : wX9_due th σ Qf) (hR : (({ frames := 0, cells := 0, slots := 0, locals := 0 } : Room)).frames + 1 ≤ R.frames ∧ 8 + (1 + 11) + (({ frames := 0, cells := 0, slots := 0, locals := 0 } : Room)).locals ≤ R.locals) (hrest : rest.length ≤ 4) (hsize : ls.size = nL) (hf : cells + 0 ≤ R.cells ∧ slots + 0 ≤ R.slots) (hdg : decode cc pc = .ok (.invokevirtual 31, 3))
    (kk : ∀ (r : Int32) (σ1 : XS) (H1 : Heap) (locs1 : List Loc), Qf r σ1 → xR E σ1 H1 → va_S (xA E) s.heap H1 locs1 → W p l e R s m args below meth c H1 locs1 (cells + 0) (slots + 0) Qz (F0 m (pc + 3) ls (.int r :: rest))) : W p l e R s m args below meth c H locs cells slots Qz (F0 m pc ls (xv E r0 :: rest)) := by
  subst hr
  obtain ⟨hx, hb, hml, hown, hts, hrt, hlk, hK, hZ⟩ := id cx
  exact x_goi (va_runU (C := "StruckCounts$SoMany") (owner := "StruckCounts$Some") (As := []) (rest := rest) (x_fix cx) (MX9_due l E th σ Qf hw) (va_cwO (C := "StruckCounts$SoMany") (owner := "StruckCounts$Some") (x := ⟨"StruckCounts$Some", "due", "()I"⟩) 0 hts (lw_app (xin6 q447 q450 q448 q460 q461 q196) (lw_meth q462)) rfl rfl rfl q463 (by decide +kernel) hR) (x_preV cx hR0 hS0 hk (by decide) (q := (RX9, TX9, 2)) rfl rfl []) rfl rfl hsize rfl (lv_room (xroom hrest)) hdg hf) hS0 kk
def wX8_holdsM_38 (F : Nat → Int32 → XS → (Int32 → XS → Prop) → Prop) (Q : Int32 → XS → Prop) (K4 : Nat → Int32 → Int32 → Int32 → XS → Prop) (th : Nat) (x1 : Int32) (x2 : Int32) (x3 : Int32) (σ : XS) : Prop :=
  ∀ v1 : Int32, v1 = x3 + (1 : Int32) → K4 th x1 x2 v1 σ
set_option maxHeartbeats 4000000 in
theorem BX8_holdsM_38 {l : Launch} {p : Program} {e : Env} {s : State} {m : MethodId} {args : Array Value} {below : List Frame} {meth : Method} {c : Code} {E : xx_E} {F : Nat → Int32 → XS → (Int32 → XS → Prop) → Prop} {Q : Int32 → XS → Prop} {K4 : Nat → Int32 → Int32 → Int32 → XS → Prop} (d : Nat) (hF : XF_holds l E F d) (cx : xx_X "StruckCounts$Some" cX8_holds 4 (some .boolean) E p s m args meth c) (hK4 : ∀ (th : Nat) (x1 : Int32) (x2 : Int32) (x3 : Int32) (σ : XS), K4 th x1 x2 x3 σ → x_T p l e ({ frames := (5 + 3 * d), cells := 0, slots := 0, locals := 40 * (5 + 3 * d) } : Room) s m args below meth c E (va_Qi Q (fun σ' t => xW E σ' t) (xA E)) 0 0 4 4 0 0 σ [(0, xv E (some th)), (1, .int x1), (2, .int x2), (3, .int x3)] []) : ∀ (th : Nat) (x1 : Int32) (x2 : Int32) (x3 : Int32) (σ : XS), wX8_holdsM_38 F Q K4 th x1 x2 x3 σ → x_T p l e ({ frames := (5 + 3 * d), cells := 0, slots := 0, locals := 40 * (5 + 3 * d) } : Room) s m args below meth c E (va_Qi Q (fun σ' t => xW E σ' t) (xA E)) 0 0 4 38 0 0 σ [(0, xv E (some th)), (1, .int x1), (2, .int x2), (3, .int x3)] [] := by
  intro th x1 x2 x3 σ hw H locs ls cells slots hR hS hl hcb hsb
  unfold wX8_holdsM_38 at hw
  obtain ⟨hx, hb, hml, hown, hts, hrt, hlk, hMK, hZ⟩ := id cx
  obtain ⟨v1, hv1⟩ : ∃ v : Int32, v = x3 + (1 : Int32) := ⟨_, rfl⟩
  have hw := hw v1 hv1
  refine lv_iinc (v := v1) (lv' := [(3, .int v1), (0, xv E (some th)), (1, .int x1), (2, .int x2)]) hx hb dX8_holds_38 hl (k := 3) rfl (by rw [hv1]; rfl) (by decide) rfl (fun ls hl => ?_)
  refine lv_goto (tgt := 4) hx hb dX8_holds_41 (by decide) ?_
  exact hK4 _ _ _ _ _ hw _ _ _ _ _ hR hS (lv_sub hl [1, 2, 3, 0] rfl) hcb hsb
def wX8_holdsM_4 (F : Nat → Int32 → XS → (Int32 → XS → Prop) → Prop) (Q : Int32 → XS → Prop) (K4 : Nat → Int32 → Int32 → Int32 → XS → Prop) (th : Nat) (x1 : Int32) (x2 : Int32) (x3 : Int32) (σ : XS) : Prop :=
  kd σ th = 9 ∧ (oc σ (fr σ th 0) 16 (fun a4 => wJ7_size a4 σ (fun r3 s3 => if r3 ≤ x3 then (kd s3 th = 9 ∧ (wX9_due th s3 (fun r5 s5 => if x2 < r5 then (Q (0 : Int32) s5) else (Q (1 : Int32) s5)))) else (kd s3 th = 9 ∧ (oc s3 (fr s3 th 0) 16 (fun a9 => wJ7_get a9 x3 s3 (fun r8 s8 => xck [10, 7, 8, 9, 11] s8 r8 ∧ (oe r8 (fun a11 => F a11 x1 s8 (fun r10 s10 => if r10 = 0 then (wX8_holdsM_38 F Q K4 th x1 x2 x3 s10) else (∀ v12 : Int32, v12 = x2 + (1 : Int32) → wX8_holdsM_38 F Q K4 th x1 v12 x3 s10)))))))))))
set_option maxHeartbeats 4000000 in
theorem BX8_holdsM_4 {l : Launch} {p : Program} {e : Env} {s : State} {m : MethodId} {args : Array Value} {below : List Frame} {meth : Method} {c : Code} {E : xx_E} {F : Nat → Int32 → XS → (Int32 → XS → Prop) → Prop} {Q : Int32 → XS → Prop} {K4 : Nat → Int32 → Int32 → Int32 → XS → Prop} (d : Nat) (hF : XF_holds l E F d) (cx : xx_X "StruckCounts$Some" cX8_holds 4 (some .boolean) E p s m args meth c) (hK4 : ∀ (th : Nat) (x1 : Int32) (x2 : Int32) (x3 : Int32) (σ : XS), K4 th x1 x2 x3 σ → x_T p l e ({ frames := (5 + 3 * d), cells := 0, slots := 0, locals := 40 * (5 + 3 * d) } : Room) s m args below meth c E (va_Qi Q (fun σ' t => xW E σ' t) (xA E)) 0 0 4 4 0 0 σ [(0, xv E (some th)), (1, .int x1), (2, .int x2), (3, .int x3)] []) : ∀ (th : Nat) (x1 : Int32) (x2 : Int32) (x3 : Int32) (σ : XS), wX8_holdsM_4 F Q K4 th x1 x2 x3 σ → x_T p l e ({ frames := (5 + 3 * d), cells := 0, slots := 0, locals := 40 * (5 + 3 * d) } : Room) s m args below meth c E (va_Qi Q (fun σ' t => xW E σ' t) (xA E)) 0 0 4 4 0 0 σ [(0, xv E (some th)), (1, .int x1), (2, .int x2), (3, .int x3)] [] := by
  intro th x1 x2 x3 σ hw H locs ls cells slots hR hS hl hcb hsb
  unfold wX8_holdsM_4 at hw
  obtain ⟨hx, hb, hml, hown, hts, hrt, hlk, hMK, hZ⟩ := id cx
  refine lv_iload_n hx hb dX8_holds_4 rfl (lv_at hl 3 rfl) ?_
  refine x_aload_n cx dX8_holds_5 rfl (lv_at hl 0 rfl) ?_
  obtain ⟨hk2, hw⟩ := hw
  refine xg_X8_9_9 cx hR rfl hk2 dX8_holds_6 ?_
  obtain ⟨a4, hr4, hk4, hw⟩ := hw
  refine CJ7_size_X8_15 cx hR hS hr4 hk4 hw (by constructor <;> dsimp only <;> omega) (Nat.le_of_ble_eq_true rfl) hl.1 ⟨by dsimp only; omega, by dsimp only; omega⟩ dX8_holds_9 (fun r3 s3 H locs hw hR hS => ?_)
  refine lv_icmp_ge (tgt := 44) hx hb dX8_holds_12 (by decide) (fun hc => ?_) (fun hc => ?_)
  · have hw := mm_ip hc hw
    refine lv_iload_n hx hb dX8_holds_44 rfl (lv_at hl 2 rfl) ?_
    refine x_aload_n cx dX8_holds_45 rfl (lv_at hl 0 rfl) ?_
    obtain ⟨hk6, hw⟩ := hw
    refine CX9_due_X8_31 cx hR hS rfl hk6 hw (by constructor <;> dsimp only <;> omega) (Nat.le_of_ble_eq_true rfl) hl.1 ⟨by dsimp only; omega, by dsimp only; omega⟩ dX8_holds_46 (fun r5 s5 H locs hw hR hS => ?_)
    refine lv_icmp_lt (tgt := 56) hx hb dX8_holds_49 (by decide) (fun hc => ?_) (fun hc => ?_)
    · have hw := mm_ip hc hw
      refine lv_iconst (v := (0 : Int32)) hx hb dX8_holds_56 (by decide) ?_
      exact x_nret cx hR hS (xle hcb) (xle hsb) (zb_nar (Or.inl rfl)) hw dX8_holds_57
    · have hw := mm_in hc hw
      refine lv_iconst (v := (1 : Int32)) hx hb dX8_holds_52 (by decide) ?_
      refine lv_goto (tgt := 57) hx hb dX8_holds_53 (by decide) ?_
      exact x_nret cx hR hS (xle hcb) (xle hsb) (zb_nar (Or.inr rfl)) hw dX8_holds_57
  · have hw := mm_in hc hw
    refine x_aload_n cx dX8_holds_15 rfl (lv_at hl 0 rfl) ?_
    obtain ⟨hk7, hw⟩ := hw
    refine xg_X8_9_9 cx hR rfl hk7 dX8_holds_16 ?_
    refine lv_iload_n hx hb dX8_holds_19 rfl (lv_at hl 3 rfl) ?_
    obtain ⟨a9, hr9, hk9, hw⟩ := hw
    refine CJ7_get_X8_21 cx hR hS hr9 hk9 hw (by constructor <;> dsimp only <;> omega) (Nat.le_of_ble_eq_true rfl) hl.1 ⟨by dsimp only; omega, by dsimp only; omega⟩ dX8_holds_20 (fun r8 s8 H locs hw hR hS => ?_)
    obtain ⟨hv, hw⟩ := hw
    refine x_cast cx hR q421 (xcc_0 hv) dX8_holds_23 ?_
    refine lv_iload_n hx hb dX8_holds_26 rfl (lv_at hl 1 rfl) ?_
    obtain ⟨a11, hr11, hw⟩ := hw
    refine CE_holds_X8_27F d hF cx hR hS hr11 hw (by constructor <;> dsimp only <;> omega) (Nat.le_of_ble_eq_true rfl) hl.1 ⟨by dsimp only; omega, by dsimp only; omega⟩ dX8_holds_27 (fun r10 s10 H locs hw hR hS => ?_)
    refine lv_if_eq (tgt := 38) hx hb dX8_holds_32 (by decide) (fun hc => ?_) (fun hc => ?_)
    · have hw := mm_ip hc hw
      exact BX8_holdsM_38 d hF cx hK4 _ _ _ _ _ hw _ _ _ _ _ hR hS (lv_sub hl [0, 1, 2, 3] rfl) hcb hsb
    · have hw := mm_in hc hw
      obtain ⟨v12, hv12⟩ : ∃ v : Int32, v = x2 + (1 : Int32) := ⟨_, rfl⟩
      have hw := hw v12 hv12
      refine lv_iinc (v := v12) (lv' := [(2, .int v12), (0, xv E (some th)), (1, .int x1), (3, .int x3)]) hx hb dX8_holds_35 hl (k := 2) rfl (by rw [hv12]; rfl) (by decide) rfl (fun ls hl => ?_)
      exact BX8_holdsM_38 d hF cx hK4 _ _ _ _ _ hw _ _ _ _ _ hR hS (lv_sub hl [1, 2, 0, 3] rfl) hcb hsb
theorem LX8_holdsM_4 {l : Launch} {p : Program} {e : Env} {s : State} {m : MethodId} {args : Array Value} {below : List Frame} {meth : Method} {c : Code} {E : xx_E} {F : Nat → Int32 → XS → (Int32 → XS → Prop) → Prop} {Q : Int32 → XS → Prop} (d : Nat) (hF : XF_holds l E F d) (cx : xx_X "StruckCounts$Some" cX8_holds 4 (some .boolean) E p s m args meth c) : ∀ (th : Nat) (x1 : Int32) (x2 : Int32) (x3 : Int32) (σ : XS), lp5F (wX8_holdsM_4 F Q) th x1 x2 x3 σ → x_T p l e ({ frames := (5 + 3 * d), cells := 0, slots := 0, locals := 40 * (5 + 3 * d) } : Room) s m args below meth c E (va_Qi Q (fun σ' t => xW E σ' t) (xA E)) 0 0 4 4 0 0 σ [(0, xv E (some th)), (1, .int x1), (2, .int x2), (3, .int x3)] [] :=
  lp5F_of (fun K hK => BX8_holdsM_4 d hF cx hK)
def wX8_holdsM (F : Nat → Int32 → XS → (Int32 → XS → Prop) → Prop) (th : Nat) (x1 : Int32) (σ : XS) (Q : Int32 → XS → Prop) : Prop :=
  lp5F (wX8_holdsM_4 F Q) th x1 (0 : Int32) (0 : Int32) σ
set_option maxHeartbeats 4000000 in
theorem MX8_holdsM (l : Launch) (E : xx_E) {F : Nat → Int32 → XS → (Int32 → XS → Prop) → Prop} (d : Nat) (hF : XF_holds l E F d) (th : Nat) (x1 : Int32) (σ : XS) (Q : Int32 → XS → Prop) (hw : wX8_holdsM F th x1 σ Q) : xx_Mi l yX8_holds (ws_ yX8_holds cX8_holds 4 (some .boolean)) ({ frames := (5 + 3 * d), cells := 0, slots := 0, locals := 40 * (5 + 3 * d) } : Room) E [xv E (some th), .int x1] σ Q 0 0 := by
  refine x_of (own := "StruckCounts$Some") (by decide +kernel) rfl ?_
  intro p e s m args below meth c cx hR ha hnm
  refine x_entry [xv E (some th), .int x1] 4 [(0, xv E (some th)), (1, .int x1)] ha (by simp [lg_sl, xv_cat, vc_i, vc_j, vc_f]) (by simp [lv_args, xv_cat, vc_i, vc_j, vc_f]) (fun ls hl => ?_)
  have hS : va_S (xA E) s.heap s.heap [] := va_S.rf
  have hcb : 0 + 0 ≤ 0 := Nat.le_of_eq (Nat.zero_add _)
  have hsb : 0 + 0 ≤ 0 := Nat.le_of_eq (Nat.zero_add _)
  unfold wX8_holdsM at hw
  obtain ⟨hx, hb, hml, hown, hts, hrt, hlk, hMK, hZ⟩ := id cx
  refine lv_iconst (v := (0 : Int32)) hx hb dX8_holds_0 (by decide) ?_
  refine lv_istore_n (i := 2) (lv' := [(2, .int (0 : Int32)), (0, xv E (some th)), (1, .int x1)]) hx hb dX8_holds_1 rfl hl (by decide) rfl (fun ls hl => ?_)
  refine lv_iconst (v := (0 : Int32)) hx hb dX8_holds_2 (by decide) ?_
  refine lv_istore_n (i := 3) (lv' := [(3, .int (0 : Int32)), (2, .int (0 : Int32)), (0, xv E (some th)), (1, .int x1)]) hx hb dX8_holds_3 rfl hl (by decide) rfl (fun ls hl => ?_)
  exact LX8_holdsM_4 d hF cx _ _ _ _ _ hw _ _ _ _ _ hR hS (lv_sub hl [2, 3, 1, 0] rfl) hcb hsb
-- X8_sizeA
theorem xg_X8_9_11 {l : Launch} {p : Program} {e : Env} {R : Room} {s : State} {m : MethodId} {args : Array Value} {below : List Frame} {meth : Method} {c : Code} {H : Heap} {locs : List Loc} {cells slots : Nat} {Qz : State → Prop} {cc : ByteArray} {nL : Nat} {ret : Option FieldType} {E : xx_E} {σ : XS} {pc : Nat} {ls : Array Slot} {rest : List Value} (cx : xx_X "StruckCounts$Some" cc nL ret E p s m args meth c) (hR : xR E σ H) {a : Nat} {r : Option Nat} (hr : r = some a) (hk : kd σ a = 11) (hdg : decode cc pc = .ok (.getfield 9, 3)) (kk : W p l e R s m args below meth c H locs cells slots Qz (F0 m (pc + 3) ls (xv E (fr σ a 0) :: rest))) : W p l e R s m args below meth c H locs cells slots Qz (F0 m pc ls (xv E r :: rest)) :=
  x_get (ci := 10) cx hR hr hk (by decide) rfl in_X11 0 (by decide) q1763 (fun _ h => h) (v := xv E (fr σ a 0)) rfl hdg kk
def wX8_sizeA (th : Nat) (σ : XS) (Q : Int32 → XS → Prop) : Prop :=
  kd σ th = 11 ∧ (oc σ (fr σ th 0) 16 (fun a3 => wJ7_size a3 σ (fun r2 s2 => Q r2 s2)))
set_option maxHeartbeats 4000000 in
theorem MX8_sizeA (l : Launch) (E : xx_E) (th : Nat) (σ : XS) (Q : Int32 → XS → Prop) (hw : wX8_sizeA th σ Q) : xx_Mi l yX8_size (ws_ yX8_size cX8_size 1 (some .int)) ({ frames := 1, cells := 0, slots := 0, locals := 40 } : Room) E [xv E (some th)] σ Q 0 0 := by
  refine x_of (own := "StruckCounts$Some") (by decide +kernel) rfl ?_
  intro p e s m args below meth c cx hR ha hnm
  refine x_entry [xv E (some th)] 1 [(0, xv E (some th))] ha (by simp [lg_sl, xv_cat, vc_i, vc_j, vc_f]) (by simp [lv_args, xv_cat, vc_i, vc_j, vc_f]) (fun ls hl => ?_)
  have hS : va_S (xA E) s.heap s.heap [] := va_S.rf
  have hcb : 0 + 0 ≤ 0 := Nat.le_of_eq (Nat.zero_add _)
  have hsb : 0 + 0 ≤ 0 := Nat.le_of_eq (Nat.zero_add _)
  unfold wX8_sizeA at hw
  obtain ⟨hx, hb, hml, hown, hts, hrt, hlk, hMK, hZ⟩ := id cx
  refine x_aload_n cx dX8_size_0 rfl (lv_at hl 0 rfl) ?_
  obtain ⟨hk1, hw⟩ := hw
  refine xg_X8_9_11 cx hR rfl hk1 dX8_size_1 ?_
  obtain ⟨a3, hr3, hk3, hw⟩ := hw
  refine CJ7_size_X8_15 cx hR hS hr3 hk3 hw ⟨Nat.le_of_ble_eq_true rfl, Nat.le_of_ble_eq_true rfl⟩ (Nat.le_of_ble_eq_true rfl) hl.1 ⟨by dsimp only; omega, by dsimp only; omega⟩ dX8_size_4 (fun r2 s2 H locs hw hR hS => ?_)
  exact x_iret cx hR hS (xle hcb) (xle hsb) hw dX8_size_7
-- X11_due
theorem CX8_sizeA_X11_7 {l : Launch} {p : Program} {e : Env} {R : Room} {s : State} {m : MethodId} {args : Array Value} {below : List Frame} {meth : Method} {c : Code} {H : Heap} {locs : List Loc} {cells slots : Nat} {Qz : State → Prop} {cc : ByteArray} {nL : Nat} {ret : Option FieldType} {E : xx_E} {σ : XS} {pc : Nat} {ls : Array Slot} {rest : List Value} {th : Nat} (cx : xx_X "StruckCounts$All" cc nL ret E p s m args meth c) (hR0 : xR E σ H) (hS0 : va_S (xA E) s.heap H locs) {r0 : Option Nat} (hr : r0 = some th) (hk : kd σ th = 11) {Qf : Int32 → XS → Prop} (hw : wX8_sizeA th σ Qf) (hR : (({ frames := 1, cells := 0, slots := 0, locals := 40 } : Room)).frames + 1 ≤ R.frames ∧ 8 + (1 + 11) + (({ frames := 1, cells := 0, slots := 0, locals := 40 } : Room)).locals ≤ R.locals) (hrest : rest.length ≤ 4) (hsize : ls.size = nL) (hf : cells + 0 ≤ R.cells ∧ slots + 0 ≤ R.slots) (hdg : decode cc pc = .ok (.invokevirtual 7, 3))
    (kk : ∀ (r : Int32) (σ1 : XS) (H1 : Heap) (locs1 : List Loc), Qf r σ1 → xR E σ1 H1 → va_S (xA E) s.heap H1 locs1 → W p l e R s m args below meth c H1 locs1 (cells + 0) (slots + 0) Qz (F0 m (pc + 3) ls (.int r :: rest))) : W p l e R s m args below meth c H locs cells slots Qz (F0 m pc ls (xv E r0 :: rest)) := by
  subst hr
  obtain ⟨hx, hb, hml, hown, hts, hrt, hlk, hK, hZ⟩ := id cx
  exact x_goi (va_runU (C := "StruckCounts$All") (owner := "StruckCounts$Some") (As := []) (rest := rest) (x_fix cx) (MX8_sizeA l E th σ Qf hw) (va_cwU (C := "StruckCounts$All") (owner := "StruckCounts$Some") (x := ⟨"StruckCounts$All", "size", "()I"⟩) 0 hts (lw_app (xin5 q454 q455 q457 q458 q195) (lw_meth q459)) rfl rfl rfl rfl (by decide +kernel) hR) (x_preV cx hR0 hS0 hk (by decide) (q := (RX11, TX11, 1)) rfl rfl []) rfl rfl hsize rfl (lv_room (xroom hrest)) hdg hf) hS0 kk
def wX11_due (th : Nat) (σ : XS) (Q : Int32 → XS → Prop) : Prop :=
  kd σ th = 11 ∧ (wX8_sizeA th σ (fun r1 s1 => Q r1 s1))
set_option maxHeartbeats 4000000 in
theorem MX11_due (l : Launch) (E : xx_E) (th : Nat) (σ : XS) (Q : Int32 → XS → Prop) (hw : wX11_due th σ Q) : xx_Mi l yX11_due (ws_ yX11_due cX11_due 1 (some .int)) ({ frames := 2, cells := 0, slots := 0, locals := 80 } : Room) E [xv E (some th)] σ Q 0 0 := by
  refine x_of (own := "StruckCounts$All") (by decide +kernel) rfl ?_
  intro p e s m args below meth c cx hR ha hnm
  refine x_entry [xv E (some th)] 1 [(0, xv E (some th))] ha (by simp [lg_sl, xv_cat, vc_i, vc_j, vc_f]) (by simp [lv_args, xv_cat, vc_i, vc_j, vc_f]) (fun ls hl => ?_)
  have hS : va_S (xA E) s.heap s.heap [] := va_S.rf
  have hcb : 0 + 0 ≤ 0 := Nat.le_of_eq (Nat.zero_add _)
  have hsb : 0 + 0 ≤ 0 := Nat.le_of_eq (Nat.zero_add _)
  unfold wX11_due at hw
  obtain ⟨hx, hb, hml, hown, hts, hrt, hlk, hMK, hZ⟩ := id cx
  refine x_aload_n cx dX11_due_0 rfl (lv_at hl 0 rfl) ?_
  obtain ⟨hk2, hw⟩ := hw
  refine CX8_sizeA_X11_7 cx hR hS rfl hk2 hw ⟨Nat.le_of_ble_eq_true rfl, Nat.le_of_ble_eq_true rfl⟩ (Nat.le_of_ble_eq_true rfl) hl.1 ⟨by dsimp only; omega, by dsimp only; omega⟩ dX11_due_1 (fun r1 s1 H locs hw hR hS => ?_)
  exact x_iret cx hR hS (xle hcb) (xle hsb) hw dX11_due_4
-- X8_holdsA
theorem CX11_due_X8_31 {l : Launch} {p : Program} {e : Env} {R : Room} {s : State} {m : MethodId} {args : Array Value} {below : List Frame} {meth : Method} {c : Code} {H : Heap} {locs : List Loc} {cells slots : Nat} {Qz : State → Prop} {cc : ByteArray} {nL : Nat} {ret : Option FieldType} {E : xx_E} {σ : XS} {pc : Nat} {ls : Array Slot} {rest : List Value} {th : Nat} (cx : xx_X "StruckCounts$Some" cc nL ret E p s m args meth c) (hR0 : xR E σ H) (hS0 : va_S (xA E) s.heap H locs) {r0 : Option Nat} (hr : r0 = some th) (hk : kd σ th = 11) {Qf : Int32 → XS → Prop} (hw : wX11_due th σ Qf) (hR : (({ frames := 2, cells := 0, slots := 0, locals := 80 } : Room)).frames + 1 ≤ R.frames ∧ 8 + (1 + 11) + (({ frames := 2, cells := 0, slots := 0, locals := 80 } : Room)).locals ≤ R.locals) (hrest : rest.length ≤ 4) (hsize : ls.size = nL) (hf : cells + 0 ≤ R.cells ∧ slots + 0 ≤ R.slots) (hdg : decode cc pc = .ok (.invokevirtual 31, 3))
    (kk : ∀ (r : Int32) (σ1 : XS) (H1 : Heap) (locs1 : List Loc), Qf r σ1 → xR E σ1 H1 → va_S (xA E) s.heap H1 locs1 → W p l e R s m args below meth c H1 locs1 (cells + 0) (slots + 0) Qz (F0 m (pc + 3) ls (.int r :: rest))) : W p l e R s m args below meth c H locs cells slots Qz (F0 m pc ls (xv E r0 :: rest)) := by
  subst hr
  obtain ⟨hx, hb, hml, hown, hts, hrt, hlk, hK, hZ⟩ := id cx
  exact x_goi (va_runU (C := "StruckCounts$All") (owner := "StruckCounts$Some") (As := []) (rest := rest) (x_fix cx) (MX11_due l E th σ Qf hw) (va_cwO (C := "StruckCounts$All") (owner := "StruckCounts$Some") (x := ⟨"StruckCounts$Some", "due", "()I"⟩) 0 hts (lw_app (xin6 q447 q450 q448 q451 q452 q198) (lw_meth q453)) rfl rfl rfl q463 (by decide +kernel) hR) (x_preV cx hR0 hS0 hk (by decide) (q := (RX11, TX11, 1)) rfl rfl []) rfl rfl hsize rfl (lv_room (xroom hrest)) hdg hf) hS0 kk
def wX8_holdsA_38 (F : Nat → Int32 → XS → (Int32 → XS → Prop) → Prop) (Q : Int32 → XS → Prop) (K4 : Nat → Int32 → Int32 → Int32 → XS → Prop) (th : Nat) (x1 : Int32) (x2 : Int32) (x3 : Int32) (σ : XS) : Prop :=
  ∀ v1 : Int32, v1 = x3 + (1 : Int32) → K4 th x1 x2 v1 σ
set_option maxHeartbeats 4000000 in
theorem BX8_holdsA_38 {l : Launch} {p : Program} {e : Env} {s : State} {m : MethodId} {args : Array Value} {below : List Frame} {meth : Method} {c : Code} {E : xx_E} {F : Nat → Int32 → XS → (Int32 → XS → Prop) → Prop} {Q : Int32 → XS → Prop} {K4 : Nat → Int32 → Int32 → Int32 → XS → Prop} (d : Nat) (hF : XF_holds l E F d) (cx : xx_X "StruckCounts$Some" cX8_holds 4 (some .boolean) E p s m args meth c) (hK4 : ∀ (th : Nat) (x1 : Int32) (x2 : Int32) (x3 : Int32) (σ : XS), K4 th x1 x2 x3 σ → x_T p l e ({ frames := (5 + 3 * d), cells := 0, slots := 0, locals := 40 * (5 + 3 * d) } : Room) s m args below meth c E (va_Qi Q (fun σ' t => xW E σ' t) (xA E)) 0 0 4 4 0 0 σ [(0, xv E (some th)), (1, .int x1), (2, .int x2), (3, .int x3)] []) : ∀ (th : Nat) (x1 : Int32) (x2 : Int32) (x3 : Int32) (σ : XS), wX8_holdsA_38 F Q K4 th x1 x2 x3 σ → x_T p l e ({ frames := (5 + 3 * d), cells := 0, slots := 0, locals := 40 * (5 + 3 * d) } : Room) s m args below meth c E (va_Qi Q (fun σ' t => xW E σ' t) (xA E)) 0 0 4 38 0 0 σ [(0, xv E (some th)), (1, .int x1), (2, .int x2), (3, .int x3)] [] := by
  intro th x1 x2 x3 σ hw H locs ls cells slots hR hS hl hcb hsb
  unfold wX8_holdsA_38 at hw
  obtain ⟨hx, hb, hml, hown, hts, hrt, hlk, hMK, hZ⟩ := id cx
  obtain ⟨v1, hv1⟩ : ∃ v : Int32, v = x3 + (1 : Int32) := ⟨_, rfl⟩
  have hw := hw v1 hv1
  refine lv_iinc (v := v1) (lv' := [(3, .int v1), (0, xv E (some th)), (1, .int x1), (2, .int x2)]) hx hb dX8_holds_38 hl (k := 3) rfl (by rw [hv1]; rfl) (by decide) rfl (fun ls hl => ?_)
  refine lv_goto (tgt := 4) hx hb dX8_holds_41 (by decide) ?_
  exact hK4 _ _ _ _ _ hw _ _ _ _ _ hR hS (lv_sub hl [1, 2, 3, 0] rfl) hcb hsb
def wX8_holdsA_4 (F : Nat → Int32 → XS → (Int32 → XS → Prop) → Prop) (Q : Int32 → XS → Prop) (K4 : Nat → Int32 → Int32 → Int32 → XS → Prop) (th : Nat) (x1 : Int32) (x2 : Int32) (x3 : Int32) (σ : XS) : Prop :=
  kd σ th = 11 ∧ (oc σ (fr σ th 0) 16 (fun a4 => wJ7_size a4 σ (fun r3 s3 => if r3 ≤ x3 then (kd s3 th = 11 ∧ (wX11_due th s3 (fun r5 s5 => if x2 < r5 then (Q (0 : Int32) s5) else (Q (1 : Int32) s5)))) else (kd s3 th = 11 ∧ (oc s3 (fr s3 th 0) 16 (fun a9 => wJ7_get a9 x3 s3 (fun r8 s8 => xck [10, 7, 8, 9, 11] s8 r8 ∧ (oe r8 (fun a11 => F a11 x1 s8 (fun r10 s10 => if r10 = 0 then (wX8_holdsA_38 F Q K4 th x1 x2 x3 s10) else (∀ v12 : Int32, v12 = x2 + (1 : Int32) → wX8_holdsA_38 F Q K4 th x1 v12 x3 s10)))))))))))
set_option maxHeartbeats 4000000 in
theorem BX8_holdsA_4 {l : Launch} {p : Program} {e : Env} {s : State} {m : MethodId} {args : Array Value} {below : List Frame} {meth : Method} {c : Code} {E : xx_E} {F : Nat → Int32 → XS → (Int32 → XS → Prop) → Prop} {Q : Int32 → XS → Prop} {K4 : Nat → Int32 → Int32 → Int32 → XS → Prop} (d : Nat) (hF : XF_holds l E F d) (cx : xx_X "StruckCounts$Some" cX8_holds 4 (some .boolean) E p s m args meth c) (hK4 : ∀ (th : Nat) (x1 : Int32) (x2 : Int32) (x3 : Int32) (σ : XS), K4 th x1 x2 x3 σ → x_T p l e ({ frames := (5 + 3 * d), cells := 0, slots := 0, locals := 40 * (5 + 3 * d) } : Room) s m args below meth c E (va_Qi Q (fun σ' t => xW E σ' t) (xA E)) 0 0 4 4 0 0 σ [(0, xv E (some th)), (1, .int x1), (2, .int x2), (3, .int x3)] []) : ∀ (th : Nat) (x1 : Int32) (x2 : Int32) (x3 : Int32) (σ : XS), wX8_holdsA_4 F Q K4 th x1 x2 x3 σ → x_T p l e ({ frames := (5 + 3 * d), cells := 0, slots := 0, locals := 40 * (5 + 3 * d) } : Room) s m args below meth c E (va_Qi Q (fun σ' t => xW E σ' t) (xA E)) 0 0 4 4 0 0 σ [(0, xv E (some th)), (1, .int x1), (2, .int x2), (3, .int x3)] [] := by
  intro th x1 x2 x3 σ hw H locs ls cells slots hR hS hl hcb hsb
  unfold wX8_holdsA_4 at hw
  obtain ⟨hx, hb, hml, hown, hts, hrt, hlk, hMK, hZ⟩ := id cx
  refine lv_iload_n hx hb dX8_holds_4 rfl (lv_at hl 3 rfl) ?_
  refine x_aload_n cx dX8_holds_5 rfl (lv_at hl 0 rfl) ?_
  obtain ⟨hk2, hw⟩ := hw
  refine xg_X8_9_11 cx hR rfl hk2 dX8_holds_6 ?_
  obtain ⟨a4, hr4, hk4, hw⟩ := hw
  refine CJ7_size_X8_15 cx hR hS hr4 hk4 hw (by constructor <;> dsimp only <;> omega) (Nat.le_of_ble_eq_true rfl) hl.1 ⟨by dsimp only; omega, by dsimp only; omega⟩ dX8_holds_9 (fun r3 s3 H locs hw hR hS => ?_)
  refine lv_icmp_ge (tgt := 44) hx hb dX8_holds_12 (by decide) (fun hc => ?_) (fun hc => ?_)
  · have hw := mm_ip hc hw
    refine lv_iload_n hx hb dX8_holds_44 rfl (lv_at hl 2 rfl) ?_
    refine x_aload_n cx dX8_holds_45 rfl (lv_at hl 0 rfl) ?_
    obtain ⟨hk6, hw⟩ := hw
    refine CX11_due_X8_31 cx hR hS rfl hk6 hw (by constructor <;> dsimp only <;> omega) (Nat.le_of_ble_eq_true rfl) hl.1 ⟨by dsimp only; omega, by dsimp only; omega⟩ dX8_holds_46 (fun r5 s5 H locs hw hR hS => ?_)
    refine lv_icmp_lt (tgt := 56) hx hb dX8_holds_49 (by decide) (fun hc => ?_) (fun hc => ?_)
    · have hw := mm_ip hc hw
      refine lv_iconst (v := (0 : Int32)) hx hb dX8_holds_56 (by decide) ?_
      exact x_nret cx hR hS (xle hcb) (xle hsb) (zb_nar (Or.inl rfl)) hw dX8_holds_57
    · have hw := mm_in hc hw
      refine lv_iconst (v := (1 : Int32)) hx hb dX8_holds_52 (by decide) ?_
      refine lv_goto (tgt := 57) hx hb dX8_holds_53 (by decide) ?_
      exact x_nret cx hR hS (xle hcb) (xle hsb) (zb_nar (Or.inr rfl)) hw dX8_holds_57
  · have hw := mm_in hc hw
    refine x_aload_n cx dX8_holds_15 rfl (lv_at hl 0 rfl) ?_
    obtain ⟨hk7, hw⟩ := hw
    refine xg_X8_9_11 cx hR rfl hk7 dX8_holds_16 ?_
    refine lv_iload_n hx hb dX8_holds_19 rfl (lv_at hl 3 rfl) ?_
    obtain ⟨a9, hr9, hk9, hw⟩ := hw
    refine CJ7_get_X8_21 cx hR hS hr9 hk9 hw (by constructor <;> dsimp only <;> omega) (Nat.le_of_ble_eq_true rfl) hl.1 ⟨by dsimp only; omega, by dsimp only; omega⟩ dX8_holds_20 (fun r8 s8 H locs hw hR hS => ?_)
    obtain ⟨hv, hw⟩ := hw
    refine x_cast cx hR q421 (xcc_0 hv) dX8_holds_23 ?_
    refine lv_iload_n hx hb dX8_holds_26 rfl (lv_at hl 1 rfl) ?_
    obtain ⟨a11, hr11, hw⟩ := hw
    refine CE_holds_X8_27F d hF cx hR hS hr11 hw (by constructor <;> dsimp only <;> omega) (Nat.le_of_ble_eq_true rfl) hl.1 ⟨by dsimp only; omega, by dsimp only; omega⟩ dX8_holds_27 (fun r10 s10 H locs hw hR hS => ?_)
    refine lv_if_eq (tgt := 38) hx hb dX8_holds_32 (by decide) (fun hc => ?_) (fun hc => ?_)
    · have hw := mm_ip hc hw
      exact BX8_holdsA_38 d hF cx hK4 _ _ _ _ _ hw _ _ _ _ _ hR hS (lv_sub hl [0, 1, 2, 3] rfl) hcb hsb
    · have hw := mm_in hc hw
      obtain ⟨v12, hv12⟩ : ∃ v : Int32, v = x2 + (1 : Int32) := ⟨_, rfl⟩
      have hw := hw v12 hv12
      refine lv_iinc (v := v12) (lv' := [(2, .int v12), (0, xv E (some th)), (1, .int x1), (3, .int x3)]) hx hb dX8_holds_35 hl (k := 2) rfl (by rw [hv12]; rfl) (by decide) rfl (fun ls hl => ?_)
      exact BX8_holdsA_38 d hF cx hK4 _ _ _ _ _ hw _ _ _ _ _ hR hS (lv_sub hl [1, 2, 0, 3] rfl) hcb hsb
theorem LX8_holdsA_4 {l : Launch} {p : Program} {e : Env} {s : State} {m : MethodId} {args : Array Value} {below : List Frame} {meth : Method} {c : Code} {E : xx_E} {F : Nat → Int32 → XS → (Int32 → XS → Prop) → Prop} {Q : Int32 → XS → Prop} (d : Nat) (hF : XF_holds l E F d) (cx : xx_X "StruckCounts$Some" cX8_holds 4 (some .boolean) E p s m args meth c) : ∀ (th : Nat) (x1 : Int32) (x2 : Int32) (x3 : Int32) (σ : XS), lp5F (wX8_holdsA_4 F Q) th x1 x2 x3 σ → x_T p l e ({ frames := (5 + 3 * d), cells := 0, slots := 0, locals := 40 * (5 + 3 * d) } : Room) s m args below meth c E (va_Qi Q (fun σ' t => xW E σ' t) (xA E)) 0 0 4 4 0 0 σ [(0, xv E (some th)), (1, .int x1), (2, .int x2), (3, .int x3)] [] :=
  lp5F_of (fun K hK => BX8_holdsA_4 d hF cx hK)
def wX8_holdsA (F : Nat → Int32 → XS → (Int32 → XS → Prop) → Prop) (th : Nat) (x1 : Int32) (σ : XS) (Q : Int32 → XS → Prop) : Prop :=
  lp5F (wX8_holdsA_4 F Q) th x1 (0 : Int32) (0 : Int32) σ
set_option maxHeartbeats 4000000 in
theorem MX8_holdsA (l : Launch) (E : xx_E) {F : Nat → Int32 → XS → (Int32 → XS → Prop) → Prop} (d : Nat) (hF : XF_holds l E F d) (th : Nat) (x1 : Int32) (σ : XS) (Q : Int32 → XS → Prop) (hw : wX8_holdsA F th x1 σ Q) : xx_Mi l yX8_holds (ws_ yX8_holds cX8_holds 4 (some .boolean)) ({ frames := (5 + 3 * d), cells := 0, slots := 0, locals := 40 * (5 + 3 * d) } : Room) E [xv E (some th), .int x1] σ Q 0 0 := by
  refine x_of (own := "StruckCounts$Some") (by decide +kernel) rfl ?_
  intro p e s m args below meth c cx hR ha hnm
  refine x_entry [xv E (some th), .int x1] 4 [(0, xv E (some th)), (1, .int x1)] ha (by simp [lg_sl, xv_cat, vc_i, vc_j, vc_f]) (by simp [lv_args, xv_cat, vc_i, vc_j, vc_f]) (fun ls hl => ?_)
  have hS : va_S (xA E) s.heap s.heap [] := va_S.rf
  have hcb : 0 + 0 ≤ 0 := Nat.le_of_eq (Nat.zero_add _)
  have hsb : 0 + 0 ≤ 0 := Nat.le_of_eq (Nat.zero_add _)
  unfold wX8_holdsA at hw
  obtain ⟨hx, hb, hml, hown, hts, hrt, hlk, hMK, hZ⟩ := id cx
  refine lv_iconst (v := (0 : Int32)) hx hb dX8_holds_0 (by decide) ?_
  refine lv_istore_n (i := 2) (lv' := [(2, .int (0 : Int32)), (0, xv E (some th)), (1, .int x1)]) hx hb dX8_holds_1 rfl hl (by decide) rfl (fun ls hl => ?_)
  refine lv_iconst (v := (0 : Int32)) hx hb dX8_holds_2 (by decide) ?_
  refine lv_istore_n (i := 3) (lv' := [(3, .int (0 : Int32)), (2, .int (0 : Int32)), (0, xv E (some th)), (1, .int x1)]) hx hb dX8_holds_3 rfl hl (by decide) rfl (fun ls hl => ?_)
  exact LX8_holdsA_4 d hF cx _ _ _ _ _ hw _ _ _ _ _ hR hS (lv_sub hl [2, 3, 1, 0] rfl) hcb hsb
-- E_holds
def wE_holds (d : Nat) : Nat → Int32 → XS → (Int32 → XS → Prop) → Prop := Nat.rec (motive := fun _ => Nat → Int32 → XS → (Int32 → XS → Prop) → Prop) (fun _ _ _ _ => False) (fun _ F a w σ Q => if kd σ a = 10 then wX10_holds a w σ Q else if kd σ a = 7 then wX7_holds F a w σ Q else if kd σ a = 8 then wX8_holdsS F a w σ Q else if kd σ a = 9 then wX8_holdsM F a w σ Q else if kd σ a = 11 then wX8_holdsA F a w σ Q else False) d
theorem ME_holds (l : Launch) (E : xx_E) : ∀ d : Nat, XF_holds l E (wE_holds d) d := by
  intro d
  induction d with
  | zero => exact fun _ _ _ _ h => h.elim
  | succ d ih =>
    intro a w σ Q h
    by_cases hk : kd σ a = 10
    · exact Or.inl ⟨hk, _, by dsimp only; omega, by dsimp only; omega, rfl, rfl, MX10_holds l E a w σ Q (mm_ip hk h)⟩
    replace h := mm_in hk h
    by_cases hk : kd σ a = 7
    · exact Or.inr (Or.inl ⟨hk, _, by dsimp only; omega, by dsimp only; omega, rfl, rfl, MX7_holds l E d ih a w σ Q (mm_ip hk h)⟩)
    replace h := mm_in hk h
    by_cases hk : kd σ a = 8
    · exact Or.inr (Or.inr ⟨Or.inl hk, _, by dsimp only; omega, by dsimp only; omega, rfl, rfl, MX8_holdsS l E d ih a w σ Q (mm_ip hk h)⟩)
    replace h := mm_in hk h
    by_cases hk : kd σ a = 9
    · exact Or.inr (Or.inr ⟨Or.inr (Or.inl hk), _, by dsimp only; omega, by dsimp only; omega, rfl, rfl, MX8_holdsM l E d ih a w σ Q (mm_ip hk h)⟩)
    replace h := mm_in hk h
    by_cases hk : kd σ a = 11
    · exact Or.inr (Or.inr ⟨Or.inr (Or.inr hk), _, by dsimp only; omega, by dsimp only; omega, rfl, rfl, MX8_holdsA l E d ih a w σ Q (mm_ip hk h)⟩)
    replace h := mm_in hk h
    exact h.elim
-- X1_mayBe
theorem xg_X1_34_2 {l : Launch} {p : Program} {e : Env} {R : Room} {s : State} {m : MethodId} {args : Array Value} {below : List Frame} {meth : Method} {c : Code} {H : Heap} {locs : List Loc} {cells slots : Nat} {Qz : State → Prop} {cc : ByteArray} {nL : Nat} {ret : Option FieldType} {E : xx_E} {σ : XS} {pc : Nat} {ls : Array Slot} {rest : List Value} (cx : xx_X "StruckCounts$Suit" cc nL ret E p s m args meth c) (hR : xR E σ H) {a : Nat} {r : Option Nat} (hr : r = some a) (hk : kd σ a = 2) (hdg : decode cc pc = .ok (.getfield 34, 3)) (kk : W p l e R s m args below meth c H locs cells slots Qz (F0 m (pc + 3) ls (xv E (fr σ a 3) :: rest))) : W p l e R s m args below meth c H locs cells slots Qz (F0 m pc ls (xv E r :: rest)) :=
  x_get (ci := 1) cx hR hr hk (by decide) rfl in_X1 3 (by decide) q332 (fun _ h => h) (v := xv E (fr σ a 3)) rfl hdg kk
theorem CJ7_size_X1_55 {l : Launch} {p : Program} {e : Env} {R : Room} {s : State} {m : MethodId} {args : Array Value} {below : List Frame} {meth : Method} {c : Code} {H : Heap} {locs : List Loc} {cells slots : Nat} {Qz : State → Prop} {cc : ByteArray} {nL : Nat} {ret : Option FieldType} {E : xx_E} {σ : XS} {pc : Nat} {ls : Array Slot} {rest : List Value} {th : Nat} (cx : xx_X "StruckCounts$Suit" cc nL ret E p s m args meth c) (hR0 : xR E σ H) (hS0 : va_S (xA E) s.heap H locs) {r0 : Option Nat} (hr : r0 = some th) (hk : kd σ th = 16) {Qf : Int32 → XS → Prop} (hw : wJ7_size th σ Qf) (hR : (({ frames := 0, cells := 0, slots := 0, locals := 0 } : Room)).frames + 1 ≤ R.frames ∧ 8 + (1 + 11) + (({ frames := 0, cells := 0, slots := 0, locals := 0 } : Room)).locals ≤ R.locals) (hrest : rest.length ≤ 4) (hsize : ls.size = nL) (hf : cells + 0 ≤ R.cells ∧ slots + 0 ≤ R.slots) (hdg : decode cc pc = .ok (.invokevirtual 55, 3))
    (kk : ∀ (r : Int32) (σ1 : XS) (H1 : Heap) (locs1 : List Loc), Qf r σ1 → xR E σ1 H1 → va_S (xA E) s.heap H1 locs1 → W p l e R s m args below meth c H1 locs1 (cells + 0) (slots + 0) Qz (F0 m (pc + 3) ls (.int r :: rest))) : W p l e R s m args below meth c H locs cells slots Qz (F0 m pc ls (xv E r0 :: rest)) := by
  subst hr
  obtain ⟨hx, hb, hml, hown, hts, hrt, hlk, hK, hZ⟩ := id cx
  exact x_goi (va_runV (As := []) (rest := rest) (x_fix cx) (MJ7_size l E th σ Qf hw) (cwV 0 hts (lw_V q390 q391 q392 q165 q393) rfl rfl rfl (by decide +kernel) hR) (x_preV cx hR0 hS0 hk (by decide) (q := (RJ7, TJ7, 3)) rfl rfl []) rfl rfl hsize rfl (lv_room (xroom hrest)) hdg hf) hS0 kk
theorem CJ7_get_X1_59 {l : Launch} {p : Program} {e : Env} {R : Room} {s : State} {m : MethodId} {args : Array Value} {below : List Frame} {meth : Method} {c : Code} {H : Heap} {locs : List Loc} {cells slots : Nat} {Qz : State → Prop} {cc : ByteArray} {nL : Nat} {ret : Option FieldType} {E : xx_E} {σ : XS} {pc : Nat} {ls : Array Slot} {rest : List Value} {th : Nat} {x1 : Int32} (cx : xx_X "StruckCounts$Suit" cc nL ret E p s m args meth c) (hR0 : xR E σ H) (hS0 : va_S (xA E) s.heap H locs) {r0 : Option Nat} (hr : r0 = some th) (hk : kd σ th = 16) {Qf : Option Nat → XS → Prop} (hw : wJ7_get th x1 σ Qf) (hR : (({ frames := 2, cells := 0, slots := 0, locals := 80 } : Room)).frames + 1 ≤ R.frames ∧ 8 + (2 + 11) + (({ frames := 2, cells := 0, slots := 0, locals := 80 } : Room)).locals ≤ R.locals) (hrest : rest.length ≤ 4) (hsize : ls.size = nL) (hf : cells + 0 ≤ R.cells ∧ slots + 0 ≤ R.slots) (hdg : decode cc pc = .ok (.invokevirtual 59, 3))
    (kk : ∀ (r : Option Nat) (σ1 : XS) (H1 : Heap) (locs1 : List Loc), Qf r σ1 → xR E σ1 H1 → va_S (xA E) s.heap H1 locs1 → W p l e R s m args below meth c H1 locs1 (cells + 0) (slots + 0) Qz (F0 m (pc + 3) ls (xv E r :: rest))) : W p l e R s m args below meth c H locs cells slots Qz (F0 m pc ls (.int x1 :: xv E r0 :: rest)) := by
  subst hr
  obtain ⟨hx, hb, hml, hown, hts, hrt, hlk, hK, hZ⟩ := id cx
  exact x_gor (va_runV (As := [.int x1]) (rest := rest) (x_fix cx) (MJ7_get l E th x1 σ Qf hw) (cwV 1 hts (lw_V q394 q395 q396 q165 q397) rfl rfl rfl (by decide +kernel) hR) (x_preV cx hR0 hS0 hk (by decide) (q := (RJ7, TJ7, 3)) rfl rfl [.int x1]) rfl rfl hsize rfl (lv_room (xroom hrest)) hdg hf) hS0 kk
theorem CE_holds_X1_65F {l : Launch} {p : Program} {e : Env} {R : Room} {s : State} {m : MethodId} {args : Array Value} {below : List Frame} {meth : Method} {c : Code} {H : Heap} {locs : List Loc} {cells slots : Nat} {Qz : State → Prop} {cc : ByteArray} {nL : Nat} {ret : Option FieldType} {E : xx_E} {σ : XS} {pc : Nat} {ls : Array Slot} {rest : List Value} {F : Nat → Int32 → XS → (Int32 → XS → Prop) → Prop} (d : Nat) (hF : XF_holds l E F d) {th : Nat} {x1 : Int32} (cx : xx_X "StruckCounts$Suit" cc nL ret E p s m args meth c) (hR0 : xR E σ H) (hS0 : va_S (xA E) s.heap H locs) {r0 : Option Nat} (hr : r0 = some th) {Qf : Int32 → XS → Prop} (hw : F th x1 σ Qf) (hR : (4 + 3 * d) + 1 ≤ R.frames ∧ 40 * ((4 + 3 * d) + 1) ≤ R.locals) (hrest : rest.length ≤ 4) (hsize : ls.size = nL) (hf : cells + 0 ≤ R.cells ∧ slots + 0 ≤ R.slots) (hdg : decode cc pc = .ok (.invokeinterface 65 2, 5))
    (kk : ∀ (r : Int32) (σ1 : XS) (H1 : Heap) (locs1 : List Loc), Qf r σ1 → xR E σ1 H1 → va_S (xA E) s.heap H1 locs1 → W p l e R s m args below meth c H1 locs1 (cells + 0) (slots + 0) Qz (F0 m (pc + 5) ls (.int r :: rest))) : W p l e R s m args below meth c H locs cells slots Qz (F0 m pc ls (.int x1 :: xv E r0 :: rest)) := by
  subst hr
  obtain ⟨hx, hb, hml, hown, hts, hrt, hlk, hK, hZ⟩ := id cx
  rcases hF _ _ _ _ hw with ⟨hk, rm, h1, h2, hrc, hrs, met⟩ | ⟨hk, rm, h1, h2, hrc, hrs, met⟩ | ⟨hk, rm, h1, h2, hrc, hrs, met⟩
  · exact va_callFi (va_runF (C := "StruckCounts$Fact") (As := [.int x1]) (rest := rest) ((x_K cx).1.1 9 _ rfl).2 (x_fix cx) met (va_cwF (C := "StruckCounts$Fact") (x := ⟨"StruckCounts$Expr", "holds", "(I)Z"⟩) 1 hts (lw_app (xin4 q410 q425 q427 q197) (lw_meth q429)) rfl hrc hrs (hK.2.2.2.2.2.1 ("StruckCounts$Fact", ⟨"StruckCounts$Expr", "holds", "(I)Z"⟩, ⟨"StruckCounts$Fact", "holds", "(I)Z"⟩) (List.mem_of_getElem? (i := 0) rfl)) (by decide +kernel) ⟨by omega, by omega⟩) (x_preV cx hR0 hS0 hk (by decide) (q := (RX10, TX10, 1)) rfl rfl [.int x1]) rfl rfl hsize rfl (lv_room (xroom hrest)) hdg hf) hS0 (fun q _ h => h) (fun q h => h) (fun r u t H1 locs1 ht hvm hw hB hz1 hk1 hS => kk r u H1 locs1 hw (x_after ht hB) hS)
  · exact va_callFi (va_runF (C := "StruckCounts$Not") (As := [.int x1]) (rest := rest) ((x_K cx).1.1 6 _ rfl).2 (x_fix cx) met (va_cwF (C := "StruckCounts$Not") (x := ⟨"StruckCounts$Expr", "holds", "(I)Z"⟩) 1 hts (lw_app (xin4 q410 q434 q436 q194) (lw_meth q438)) rfl hrc hrs (hK.2.2.2.2.2.1 ("StruckCounts$Not", ⟨"StruckCounts$Expr", "holds", "(I)Z"⟩, ⟨"StruckCounts$Not", "holds", "(I)Z"⟩) (List.mem_of_getElem? (i := 4) rfl)) (by decide +kernel) ⟨by omega, by omega⟩) (x_preV cx hR0 hS0 hk (by decide) (q := (RX7, TX7, 1)) rfl rfl [.int x1]) rfl rfl hsize rfl (lv_room (xroom hrest)) hdg hf) hS0 (fun q _ h => h) (fun q h => h) (fun r u t H1 locs1 ht hvm hw hB hz1 hk1 hS => kk r u H1 locs1 hw (x_after ht hB) hS)
  · rcases hk with hk | hk | hk
    · exact va_callFi (va_runF (C := "StruckCounts$Some") (As := [.int x1]) (rest := rest) ((x_K cx).1.1 7 _ rfl).2 (x_fix cx) met (va_cwF (C := "StruckCounts$Some") (x := ⟨"StruckCounts$Expr", "holds", "(I)Z"⟩) 1 hts (lw_app (xin4 q410 q445 q416 q195) (lw_meth q418)) rfl hrc hrs (hK.2.2.2.2.2.1 ("StruckCounts$Some", ⟨"StruckCounts$Expr", "holds", "(I)Z"⟩, ⟨"StruckCounts$Some", "holds", "(I)Z"⟩) (List.mem_of_getElem? (i := 6) rfl)) (by decide +kernel) ⟨by omega, by omega⟩) (x_preV cx hR0 hS0 hk (by decide) (q := (RX8, TX8, 1)) rfl rfl [.int x1]) rfl rfl hsize rfl (lv_room (xroom hrest)) hdg hf) hS0 (fun q _ h => h) (fun q h => h) (fun r u t H1 locs1 ht hvm hw hB hz1 hk1 hS => kk r u H1 locs1 hw (x_after ht hB) hS)
    · exact va_callFi (va_runF (C := "StruckCounts$SoMany") (As := [.int x1]) (rest := rest) ((x_K cx).1.1 8 _ rfl).2 (x_fix cx) met (va_cwF (C := "StruckCounts$SoMany") (x := ⟨"StruckCounts$Expr", "holds", "(I)Z"⟩) 1 hts (lw_app (xin4 q410 q442 q416 q195) (lw_meth q418)) rfl hrc hrs (hK.2.2.2.2.2.1 ("StruckCounts$SoMany", ⟨"StruckCounts$Expr", "holds", "(I)Z"⟩, ⟨"StruckCounts$Some", "holds", "(I)Z"⟩) (List.mem_of_getElem? (i := 8) rfl)) (by decide +kernel) ⟨by omega, by omega⟩) (x_preV cx hR0 hS0 hk (by decide) (q := (RX9, TX9, 2)) rfl rfl [.int x1]) rfl rfl hsize rfl (lv_room (xroom hrest)) hdg hf) hS0 (fun q _ h => h) (fun q h => h) (fun r u t H1 locs1 ht hvm hw hB hz1 hk1 hS => kk r u H1 locs1 hw (x_after ht hB) hS)
    · exact va_callFi (va_runF (C := "StruckCounts$All") (As := [.int x1]) (rest := rest) ((x_K cx).1.1 10 _ rfl).2 (x_fix cx) met (va_cwF (C := "StruckCounts$All") (x := ⟨"StruckCounts$Expr", "holds", "(I)Z"⟩) 1 hts (lw_app (xin4 q410 q414 q416 q195) (lw_meth q418)) rfl hrc hrs (hK.2.2.2.2.2.1 ("StruckCounts$All", ⟨"StruckCounts$Expr", "holds", "(I)Z"⟩, ⟨"StruckCounts$Some", "holds", "(I)Z"⟩) (List.mem_of_getElem? (i := 2) rfl)) (by decide +kernel) ⟨by omega, by omega⟩) (x_preV cx hR0 hS0 hk (by decide) (q := (RX11, TX11, 1)) rfl rfl [.int x1]) rfl rfl hsize rfl (lv_room (xroom hrest)) hdg hf) hS0 (fun q _ h => h) (fun q h => h) (fun r u t H1 locs1 ht hvm hw hB hz1 hk1 hS => kk r u H1 locs1 hw (x_after ht hB) hS)
theorem CE_holds_X1_65 {l : Launch} {p : Program} {e : Env} {R : Room} {s : State} {m : MethodId} {args : Array Value} {below : List Frame} {meth : Method} {c : Code} {H : Heap} {locs : List Loc} {cells slots : Nat} {Qz : State → Prop} {cc : ByteArray} {nL : Nat} {ret : Option FieldType} {E : xx_E} {σ : XS} {pc : Nat} {ls : Array Slot} {rest : List Value} (d : Nat) {th : Nat} {x1 : Int32} (cx : xx_X "StruckCounts$Suit" cc nL ret E p s m args meth c) (hR0 : xR E σ H) (hS0 : va_S (xA E) s.heap H locs) {r0 : Option Nat} (hr : r0 = some th) {Qf : Int32 → XS → Prop} (hw : wE_holds d th x1 σ Qf) (hR : (4 + 3 * d) + 1 ≤ R.frames ∧ 40 * ((4 + 3 * d) + 1) ≤ R.locals) (hrest : rest.length ≤ 4) (hsize : ls.size = nL) (hf : cells + 0 ≤ R.cells ∧ slots + 0 ≤ R.slots) (hdg : decode cc pc = .ok (.invokeinterface 65 2, 5))
    (kk : ∀ (r : Int32) (σ1 : XS) (H1 : Heap) (locs1 : List Loc), Qf r σ1 → xR E σ1 H1 → va_S (xA E) s.heap H1 locs1 → W p l e R s m args below meth c H1 locs1 (cells + 0) (slots + 0) Qz (F0 m (pc + 5) ls (.int r :: rest))) : W p l e R s m args below meth c H locs cells slots Qz (F0 m pc ls (.int x1 :: xv E r0 :: rest)) :=
  CE_holds_X1_65F d (ME_holds l E d) cx hR0 hS0 hr hw hR hrest hsize hf hdg kk
def wX1_mayBe_2 (d : Nat) (Q : Int32 → XS → Prop) (K2 : Nat → Int32 → Int32 → XS → Prop) (th : Nat) (x1 : Int32) (x2 : Int32) (σ : XS) : Prop :=
  kd σ th = 2 ∧ (oc σ (fr σ th 3) 16 (fun a3 => wJ7_size a3 σ (fun r2 s2 => if r2 ≤ x2 then (Q (1 : Int32) s2) else (kd s2 th = 2 ∧ (oc s2 (fr s2 th 3) 16 (fun a6 => wJ7_get a6 x2 s2 (fun r5 s5 => xck [10, 7, 8, 9, 11] s5 r5 ∧ (oe r5 (fun a8 => wE_holds d a8 x1 s5 (fun r7 s7 => if r7 = 0 then (∀ v9 : Int32, v9 = x2 + (1 : Int32) → K2 th x1 v9 s7) else (Q (0 : Int32) s7)))))))))))
set_option maxHeartbeats 4000000 in
theorem BX1_mayBe_2 {l : Launch} {p : Program} {e : Env} {s : State} {m : MethodId} {args : Array Value} {below : List Frame} {meth : Method} {c : Code} {E : xx_E} {Q : Int32 → XS → Prop} {K2 : Nat → Int32 → Int32 → XS → Prop} (d : Nat) (cx : xx_X "StruckCounts$Suit" cX1_mayBe 3 (some .boolean) E p s m args meth c) (hK2 : ∀ (th : Nat) (x1 : Int32) (x2 : Int32) (σ : XS), K2 th x1 x2 σ → x_T p l e ({ frames := (5 + 3 * d), cells := 0, slots := 0, locals := 40 * (5 + 3 * d) } : Room) s m args below meth c E (va_Qi Q (fun σ' t => xW E σ' t) (xA E)) 0 0 3 2 0 0 σ [(0, xv E (some th)), (1, .int x1), (2, .int x2)] []) : ∀ (th : Nat) (x1 : Int32) (x2 : Int32) (σ : XS), wX1_mayBe_2 d Q K2 th x1 x2 σ → x_T p l e ({ frames := (5 + 3 * d), cells := 0, slots := 0, locals := 40 * (5 + 3 * d) } : Room) s m args below meth c E (va_Qi Q (fun σ' t => xW E σ' t) (xA E)) 0 0 3 2 0 0 σ [(0, xv E (some th)), (1, .int x1), (2, .int x2)] [] := by
  intro th x1 x2 σ hw H locs ls cells slots hR hS hl hcb hsb
  unfold wX1_mayBe_2 at hw
  obtain ⟨hx, hb, hml, hown, hts, hrt, hlk, hMK, hZ⟩ := id cx
  refine lv_iload_n hx hb dX1_mayBe_2 rfl (lv_at hl 2 rfl) ?_
  refine x_aload_n cx dX1_mayBe_3 rfl (lv_at hl 0 rfl) ?_
  obtain ⟨hk1, hw⟩ := hw
  refine xg_X1_34_2 cx hR rfl hk1 dX1_mayBe_4 ?_
  obtain ⟨a3, hr3, hk3, hw⟩ := hw
  refine CJ7_size_X1_55 cx hR hS hr3 hk3 hw (by constructor <;> dsimp only <;> omega) (Nat.le_of_ble_eq_true rfl) hl.1 ⟨by dsimp only; omega, by dsimp only; omega⟩ dX1_mayBe_7 (fun r2 s2 H locs hw hR hS => ?_)
  refine lv_icmp_ge (tgt := 41) hx hb dX1_mayBe_10 (by decide) (fun hc => ?_) (fun hc => ?_)
  · have hw := mm_ip hc hw
    refine lv_iconst (v := (1 : Int32)) hx hb dX1_mayBe_41 (by decide) ?_
    exact x_nret cx hR hS (xle hcb) (xle hsb) (zb_nar (Or.inr rfl)) hw dX1_mayBe_42
  · have hw := mm_in hc hw
    refine x_aload_n cx dX1_mayBe_13 rfl (lv_at hl 0 rfl) ?_
    obtain ⟨hk4, hw⟩ := hw
    refine xg_X1_34_2 cx hR rfl hk4 dX1_mayBe_14 ?_
    refine lv_iload_n hx hb dX1_mayBe_17 rfl (lv_at hl 2 rfl) ?_
    obtain ⟨a6, hr6, hk6, hw⟩ := hw
    refine CJ7_get_X1_59 cx hR hS hr6 hk6 hw (by constructor <;> dsimp only <;> omega) (Nat.le_of_ble_eq_true rfl) hl.1 ⟨by dsimp only; omega, by dsimp only; omega⟩ dX1_mayBe_18 (fun r5 s5 H locs hw hR hS => ?_)
    obtain ⟨hv, hw⟩ := hw
    refine x_cast cx hR q408 (xcc_0 hv) dX1_mayBe_21 ?_
    refine lv_iload_n hx hb dX1_mayBe_24 rfl (lv_at hl 1 rfl) ?_
    obtain ⟨a8, hr8, hw⟩ := hw
    refine CE_holds_X1_65 d cx hR hS hr8 hw (by constructor <;> dsimp only <;> omega) (Nat.le_of_ble_eq_true rfl) hl.1 ⟨by dsimp only; omega, by dsimp only; omega⟩ dX1_mayBe_25 (fun r7 s7 H locs hw hR hS => ?_)
    refine lv_if_eq (tgt := 35) hx hb dX1_mayBe_30 (by decide) (fun hc => ?_) (fun hc => ?_)
    · have hw := mm_ip hc hw
      obtain ⟨v9, hv9⟩ : ∃ v : Int32, v = x2 + (1 : Int32) := ⟨_, rfl⟩
      have hw := hw v9 hv9
      refine lv_iinc (v := v9) (lv' := [(2, .int v9), (0, xv E (some th)), (1, .int x1)]) hx hb dX1_mayBe_35 hl (k := 2) rfl (by rw [hv9]; rfl) (by decide) rfl (fun ls hl => ?_)
      refine lv_goto (tgt := 2) hx hb dX1_mayBe_38 (by decide) ?_
      exact hK2 _ _ _ _ hw _ _ _ _ _ hR hS (lv_sub hl [1, 2, 0] rfl) hcb hsb
    · have hw := mm_in hc hw
      refine lv_iconst (v := (0 : Int32)) hx hb dX1_mayBe_33 (by decide) ?_
      exact x_nret cx hR hS (xle hcb) (xle hsb) (zb_nar (Or.inl rfl)) hw dX1_mayBe_34
theorem LX1_mayBe_2 {l : Launch} {p : Program} {e : Env} {s : State} {m : MethodId} {args : Array Value} {below : List Frame} {meth : Method} {c : Code} {E : xx_E} {Q : Int32 → XS → Prop} (d : Nat) (cx : xx_X "StruckCounts$Suit" cX1_mayBe 3 (some .boolean) E p s m args meth c) : ∀ (th : Nat) (x1 : Int32) (x2 : Int32) (σ : XS), lp4F (wX1_mayBe_2 d Q) th x1 x2 σ → x_T p l e ({ frames := (5 + 3 * d), cells := 0, slots := 0, locals := 40 * (5 + 3 * d) } : Room) s m args below meth c E (va_Qi Q (fun σ' t => xW E σ' t) (xA E)) 0 0 3 2 0 0 σ [(0, xv E (some th)), (1, .int x1), (2, .int x2)] [] :=
  lp4F_of (fun K hK => BX1_mayBe_2 d cx hK)
def wX1_mayBe (d : Nat) (th : Nat) (x1 : Int32) (σ : XS) (Q : Int32 → XS → Prop) : Prop :=
  lp4F (wX1_mayBe_2 d Q) th x1 (0 : Int32) σ
set_option maxHeartbeats 4000000 in
theorem MX1_mayBe (l : Launch) (E : xx_E) (d : Nat) (th : Nat) (x1 : Int32) (σ : XS) (Q : Int32 → XS → Prop) (hw : wX1_mayBe d th x1 σ Q) : xx_Mi l yX1_mayBe (ws_ yX1_mayBe cX1_mayBe 3 (some .boolean)) ({ frames := (5 + 3 * d), cells := 0, slots := 0, locals := 40 * (5 + 3 * d) } : Room) E [xv E (some th), .int x1] σ Q 0 0 := by
  refine x_of (own := "StruckCounts$Suit") (by decide +kernel) rfl ?_
  intro p e s m args below meth c cx hR ha hnm
  refine x_entry [xv E (some th), .int x1] 3 [(0, xv E (some th)), (1, .int x1)] ha (by simp [lg_sl, xv_cat, vc_i, vc_j, vc_f]) (by simp [lv_args, xv_cat, vc_i, vc_j, vc_f]) (fun ls hl => ?_)
  have hS : va_S (xA E) s.heap s.heap [] := va_S.rf
  have hcb : 0 + 0 ≤ 0 := Nat.le_of_eq (Nat.zero_add _)
  have hsb : 0 + 0 ≤ 0 := Nat.le_of_eq (Nat.zero_add _)
  unfold wX1_mayBe at hw
  obtain ⟨hx, hb, hml, hown, hts, hrt, hlk, hMK, hZ⟩ := id cx
  refine lv_iconst (v := (0 : Int32)) hx hb dX1_mayBe_0 (by decide) ?_
  refine lv_istore_n (i := 2) (lv' := [(2, .int (0 : Int32)), (0, xv E (some th)), (1, .int x1)]) hx hb dX1_mayBe_1 rfl hl (by decide) rfl (fun ls hl => ?_)
  exact LX1_mayBe_2 d cx _ _ _ _ hw _ _ _ _ _ hR hS (lv_sub hl [1, 2, 0] rfl) hcb hsb
