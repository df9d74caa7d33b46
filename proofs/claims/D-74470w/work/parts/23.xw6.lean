set_option maxRecDepth 100000
-- J1_putH
theorem CJ1_putValH_J1_152 {l : Launch} {p : Program} {e : Env} {R : Room} {s : State} {m : MethodId} {args : Array Value} {below : List Frame} {meth : Method} {c : Code} {H : Heap} {locs : List Loc} {cells slots : Nat} {Qz : State → Prop} {cc : ByteArray} {nL : Nat} {ret : Option FieldType} {E : xx_E} {σ : XS} {pc : Nat} {ls : Array Slot} {rest : List Value} {th : Nat} {x1 : Int32} {x2 : Option Nat} {x3 : Option Nat} {x4 : Int32} {x5 : Int32} {k n : Nat} (cx : xx_X "java/util/HashMap" cc nL ret E p s m args meth c) (hR0 : xR E σ H) (hS0 : va_S (xA E) s.heap H locs) {r0 : Option Nat} (hr : r0 = some th) (hk : kd σ th = 17) {Qf : Option Nat → XS → Prop} (hw : wJ1_putValH th x1 x2 x3 x4 x5 k n σ Qf) (hR : (({ frames := 5, cells := k, slots := n, locals := 200 } : Room)).frames + 1 ≤ R.frames ∧ 8 + (13 + 11) + (({ frames := 5, cells := k, slots := n, locals := 200 } : Room)).locals ≤ R.locals) (hrest : rest.length ≤ 4) (hsize : ls.size = nL) (hf : cells + k ≤ R.cells ∧ slots + n ≤ R.slots) (hdg : decode cc pc = .ok (.invokevirtual 152, 3))
    (kk : ∀ (r : Option Nat) (σ1 : XS) (H1 : Heap) (locs1 : List Loc), Qf r σ1 → xR E σ1 H1 → va_S (xA E) s.heap H1 locs1 → W p l e R s m args below meth c H1 locs1 (cells + k) (slots + n) Qz (F0 m (pc + 3) ls (xv E r :: rest))) : W p l e R s m args below meth c H locs cells slots Qz (F0 m pc ls (.int x5 :: .int x4 :: xv E x3 :: xv E x2 :: .int x1 :: xv E r0 :: rest)) := by
  subst hr
  obtain ⟨hx, hb, hml, hown, hts, hrt, hlk, hK, hZ⟩ := id cx
  exact x_gor (va_runV (As := [.int x1, xv E x2, xv E x3, .int x4, .int x5]) (rest := rest) (x_fix cx) (MJ1_putValH l E th x1 x2 x3 x4 x5 k n σ Qf hw) (cwV 5 hts (lw_V q1456 q1457 q1458 q159 q1461) rfl rfl rfl (by decide +kernel) hR) (x_preV cx hR0 hS0 hk (by decide) (q := (RJ1, TJ1, 8)) rfl rfl [.int x1, xv E x2, xv E x3, .int x4, .int x5]) rfl rfl hsize rfl (lv_room (xroom hrest)) hdg hf) hS0 kk
def wJ1_putH (th : Nat) (x1 : Option Nat) (x2 : Option Nat) (bc : Nat) (bs : Nat) (σ : XS) (Q : Option Nat → XS → Prop) : Prop :=
  wJ1_hash x1 σ (fun r1 s1 => kd s1 th = 17 ∧ (∃ k4 n4 : Nat, k4 ≤ bc ∧ n4 ≤ bs ∧ (wJ1_putValH th r1 x1 x2 (0 : Int32) (1 : Int32) k4 n4 s1 (fun r2 s2 => Q r2 s2))))
set_option maxHeartbeats 4000000 in
theorem MJ1_putH (l : Launch) (E : xx_E) (th : Nat) (x1 : Option Nat) (x2 : Option Nat) (bc : Nat) (bs : Nat) (σ : XS) (Q : Option Nat → XS → Prop) (hw : wJ1_putH th x1 x2 bc bs σ Q) : xx_Mr l yJ1_put (ws_ yJ1_put cJ1_put 3 (some (.object "java/lang/Object"))) ({ frames := 9, cells := bc, slots := bs, locals := 360 } : Room) E [xv E (some th), xv E x1, xv E x2] σ Q bc bs := by
  refine x_of (own := "java/util/HashMap") (by decide +kernel) rfl ?_
  intro p e s m args below meth c cx hR ha hnm
  refine x_entry [xv E (some th), xv E x1, xv E x2] 3 [(0, xv E (some th)), (1, xv E x1), (2, xv E x2)] ha (by simp [lg_sl, xv_cat, vc_i, vc_j, vc_f]) (by simp [lv_args, xv_cat, vc_i, vc_j, vc_f]) (fun ls hl => ?_)
  have hS : va_S (xA E) s.heap s.heap [] := va_S.rf
  have hcb : 0 + bc ≤ bc := Nat.le_of_eq (Nat.zero_add _)
  have hsb : 0 + bs ≤ bs := Nat.le_of_eq (Nat.zero_add _)
  unfold wJ1_putH at hw
  obtain ⟨hx, hb, hml, hown, hts, hrt, hlk, hMK, hZ⟩ := id cx
  refine x_aload_n cx dJ1_put_0 rfl (lv_at hl 0 rfl) ?_
  refine x_aload_n cx dJ1_put_1 rfl (lv_at hl 1 rfl) ?_
  refine CJ1_hash_J1_149 cx hR hS  hw ⟨Nat.le_of_ble_eq_true rfl, Nat.le_of_ble_eq_true rfl⟩ (Nat.le_of_ble_eq_true rfl) hl.1 ⟨by dsimp only; omega, by dsimp only; omega⟩ dJ1_put_2 (fun r1 s1 H locs hw hR hS => ?_)
  refine x_aload_n cx dJ1_put_5 rfl (lv_at hl 1 rfl) ?_
  refine x_aload_n cx dJ1_put_6 rfl (lv_at hl 2 rfl) ?_
  refine lv_iconst (v := (0 : Int32)) hx hb dJ1_put_7 (by decide) ?_
  refine lv_iconst (v := (1 : Int32)) hx hb dJ1_put_8 (by decide) ?_
  obtain ⟨hk3, hw⟩ := hw
  obtain ⟨k4, n4, hb1, hb2, hw⟩ := hw
  refine CJ1_putValH_J1_152 cx hR hS rfl hk3 hw ⟨Nat.le_of_ble_eq_true rfl, Nat.le_of_ble_eq_true rfl⟩ (Nat.le_of_ble_eq_true rfl) hl.1 ⟨by dsimp only; omega, by dsimp only; omega⟩ dJ1_put_9 (fun r2 s2 H locs hw hR hS => ?_)
  have hcb := xadd hb1 hcb
  have hsb := xadd hb2 hsb
  exact x_aret cx (by first | exact Or.inl ⟨_, rfl⟩ | exact Or.inr ⟨_, rfl⟩) hR hS (xle hcb) (xle hsb) hw dJ1_put_12
-- J5_add
theorem CJ1_putH_J5_68 {l : Launch} {p : Program} {e : Env} {R : Room} {s : State} {m : MethodId} {args : Array Value} {below : List Frame} {meth : Method} {c : Code} {H : Heap} {locs : List Loc} {cells slots : Nat} {Qz : State → Prop} {cc : ByteArray} {nL : Nat} {ret : Option FieldType} {E : xx_E} {σ : XS} {pc : Nat} {ls : Array Slot} {rest : List Value} {th : Nat} {x1 : Option Nat} {x2 : Option Nat} {k n : Nat} (cx : xx_X "java/util/HashSet" cc nL ret E p s m args meth c) (hR0 : xR E σ H) (hS0 : va_S (xA E) s.heap H locs) {r0 : Option Nat} (hr : r0 = some th) (hk : kd σ th = 17) {Qf : Option Nat → XS → Prop} (hw : wJ1_putH th x1 x2 k n σ Qf) (hR : (({ frames := 9, cells := k, slots := n, locals := 360 } : Room)).frames + 1 ≤ R.frames ∧ 8 + (3 + 11) + (({ frames := 9, cells := k, slots := n, locals := 360 } : Room)).locals ≤ R.locals) (hrest : rest.length ≤ 4) (hsize : ls.size = nL) (hf : cells + k ≤ R.cells ∧ slots + n ≤ R.slots) (hdg : decode cc pc = .ok (.invokevirtual 68, 3))
    (kk : ∀ (r : Option Nat) (σ1 : XS) (H1 : Heap) (locs1 : List Loc), Qf r σ1 → xR E σ1 H1 → va_S (xA E) s.heap H1 locs1 → W p l e R s m args below meth c H1 locs1 (cells + k) (slots + n) Qz (F0 m (pc + 3) ls (xv E r :: rest))) : W p l e R s m args below meth c H locs cells slots Qz (F0 m pc ls (xv E x2 :: xv E x1 :: xv E r0 :: rest)) := by
  subst hr
  obtain ⟨hx, hb, hml, hown, hts, hrt, hlk, hK, hZ⟩ := id cx
  exact x_gor (va_runV (As := [xv E x1, xv E x2]) (rest := rest) (x_fix cx) (MJ1_putH l E th x1 x2 k n σ Qf hw) (cwV 2 hts (lw_V q1887 q1454 q3073 q159 q1455) rfl rfl rfl (by decide +kernel) hR) (x_preV cx hR0 hS0 hk (by decide) (q := (RJ1, TJ1, 8)) rfl rfl [xv E x1, xv E x2]) rfl rfl hsize rfl (lv_room (xroom hrest)) hdg hf) hS0 kk
def wJ5_add (th : Nat) (x1 : Option Nat) (bc : Nat) (bs : Nat) (σ : XS) (Q : Int32 → XS → Prop) : Prop :=
  kd σ th = 19 ∧ (oc σ (fr σ th 0) 17 (fun a3 => ∃ k4 n4 : Nat, k4 ≤ bc ∧ n4 ≤ bs ∧ (wJ1_putH a3 x1 (some 28) k4 n4 σ (fun r2 s2 => if r2 = none then (Q (1 : Int32) s2) else (Q (0 : Int32) s2)))))
set_option maxHeartbeats 4000000 in
theorem MJ5_add (l : Launch) (E : xx_E) (th : Nat) (x1 : Option Nat) (bc : Nat) (bs : Nat) (σ : XS) (Q : Int32 → XS → Prop) (hw : wJ5_add th x1 bc bs σ Q) : xx_Mi l yJ5_add (ws_ yJ5_add cJ5_add 2 (some .boolean)) ({ frames := 10, cells := bc, slots := bs, locals := 400 } : Room) E [xv E (some th), xv E x1] σ Q bc bs := by
  refine x_of (own := "java/util/HashSet") (by decide +kernel) rfl ?_
  intro p e s m args below meth c cx hR ha hnm
  refine x_entry [xv E (some th), xv E x1] 2 [(0, xv E (some th)), (1, xv E x1)] ha (by simp [lg_sl, xv_cat, vc_i, vc_j, vc_f]) (by simp [lv_args, xv_cat, vc_i, vc_j, vc_f]) (fun ls hl => ?_)
  have hS : va_S (xA E) s.heap s.heap [] := va_S.rf
  have hcb : 0 + bc ≤ bc := Nat.le_of_eq (Nat.zero_add _)
  have hsb : 0 + bs ≤ bs := Nat.le_of_eq (Nat.zero_add _)
  unfold wJ5_add at hw
  obtain ⟨hx, hb, hml, hown, hts, hrt, hlk, hMK, hZ⟩ := id cx
  refine x_aload_n cx dJ5_add_0 rfl (lv_at hl 0 rfl) ?_
  obtain ⟨hk1, hw⟩ := hw
  refine xg_J5_10_19 cx hR rfl hk1 dJ5_add_1 ?_
  refine x_aload_n cx dJ5_add_4 rfl (lv_at hl 1 rfl) ?_
  refine va_gets (v := xv E (some 28)) (C := "java/util/HashSet") (n := "PRESENT") (d := "Ljava/lang/Object;") hx hb hZ.2.1 hS hown (hts _ q1885) (fun _ h => h) dJ5_add_5 ?_
  obtain ⟨a3, hr3, hk3, hw⟩ := hw
  obtain ⟨k4, n4, hb1, hb2, hw⟩ := hw
  refine CJ1_putH_J5_68 cx hR hS hr3 hk3 hw ⟨Nat.le_of_ble_eq_true rfl, Nat.le_of_ble_eq_true rfl⟩ (Nat.le_of_ble_eq_true rfl) hl.1 ⟨by dsimp only; omega, by dsimp only; omega⟩ dJ5_add_8 (fun r2 s2 H locs hw hR hS => ?_)
  have hcb := xadd hb1 hcb
  have hsb := xadd hb2 hsb
  refine x_ifnonnull (tgt := 18) cx dJ5_add_11 (by decide) (fun hc => ?_) (fun hc => ?_)
  · have hw := mm_in hc hw
    refine lv_iconst (v := (0 : Int32)) hx hb dJ5_add_18 (by decide) ?_
    exact x_nret cx hR hS (xle hcb) (xle hsb) (zb_nar (Or.inl rfl)) hw dJ5_add_19
  · have hw := mm_ip hc hw
    refine lv_iconst (v := (1 : Int32)) hx hb dJ5_add_14 (by decide) ?_
    refine lv_goto (tgt := 19) hx hb dJ5_add_15 (by decide) ?_
    exact x_nret cx hR hS (xle hcb) (xle hsb) (zb_nar (Or.inr rfl)) hw dJ5_add_19
-- X4_isSign
def wX4_isSign (th : Nat) (x1 : Int32) (σ : XS) (Q : Int32 → XS → Prop) : Prop :=
  kd σ th = 4 ∧ (if (fi σ th 5) = (3 : Int32) then (oc σ (fr σ th 0) 102 (fun a2 => vp_in (fi σ th 4) (ln σ a2) ∧ (if ((ai σ a2 ((fi σ th 4).toNatClampNeg)) &&& (255 : Int32)) = x1 then (Q (1 : Int32) σ) else (Q (0 : Int32) σ)))) else (Q (0 : Int32) σ))
set_option maxHeartbeats 4000000 in
theorem MX4_isSign (l : Launch) (E : xx_E) (th : Nat) (x1 : Int32) (σ : XS) (Q : Int32 → XS → Prop) (hw : wX4_isSign th x1 σ Q) : xx_Mi l yX4_isSign (ws_ yX4_isSign cX4_isSign 2 (some .boolean)) ({ frames := 0, cells := 0, slots := 0, locals := 0 } : Room) E [xv E (some th), .int x1] σ Q 0 0 := by
  refine x_of (own := "StruckCounts$Reader") (by decide +kernel) rfl ?_
  intro p e s m args below meth c cx hR ha hnm
  refine x_entry [xv E (some th), .int x1] 2 [(0, xv E (some th)), (1, .int x1)] ha (by simp [lg_sl, xv_cat, vc_i, vc_j, vc_f]) (by simp [lv_args, xv_cat, vc_i, vc_j, vc_f]) (fun ls hl => ?_)
  have hS : va_S (xA E) s.heap s.heap [] := va_S.rf
  have hcb : 0 + 0 ≤ 0 := Nat.le_of_eq (Nat.zero_add _)
  have hsb : 0 + 0 ≤ 0 := Nat.le_of_eq (Nat.zero_add _)
  unfold wX4_isSign at hw
  obtain ⟨hx, hb, hml, hown, hts, hrt, hlk, hMK, hZ⟩ := id cx
  refine x_aload_n cx dX4_isSign_0 rfl (lv_at hl 0 rfl) ?_
  obtain ⟨hk1, hw⟩ := hw
  refine xg_X4_45_4 cx hR rfl hk1 dX4_isSign_1 ?_
  refine lv_iconst (v := (3 : Int32)) hx hb dX4_isSign_4 (by decide) ?_
  refine lv_icmp_ne (tgt := 29) hx hb dX4_isSign_5 (by decide) (fun hc => ?_) (fun hc => ?_)
  · have hw := mm_in hc hw
    refine lv_iconst (v := (0 : Int32)) hx hb dX4_isSign_29 (by decide) ?_
    exact x_nret cx hR hS (xle hcb) (xle hsb) (zb_nar (Or.inl rfl)) hw dX4_isSign_30
  · have hw := mm_ip hc hw
    refine x_aload_n cx dX4_isSign_8 rfl (lv_at hl 0 rfl) ?_
    refine xg_X4_17_4 cx hR rfl hk1 dX4_isSign_9 ?_
    refine x_aload_n cx dX4_isSign_12 rfl (lv_at hl 0 rfl) ?_
    refine xg_X4_39_4 cx hR rfl hk1 dX4_isSign_13 ?_
    obtain ⟨a2, hr2, hk2, hw⟩ := hw
    obtain ⟨hi, hw⟩ := hw
    refine x_bald cx hR hr2 hk2 (j := (fi σ th 4).toNatClampNeg) rfl hi dX4_isSign_16 ?_
    refine lv_sipush (v := (255 : Int32)) hx hb dX4_isSign_17 (by decide) ?_
    refine lv_iand hx hb dX4_isSign_20 ?_
    refine lv_iload_n hx hb dX4_isSign_21 rfl (lv_at hl 1 rfl) ?_
    refine lv_icmp_ne (tgt := 29) hx hb dX4_isSign_22 (by decide) (fun hc => ?_) (fun hc => ?_)
    · have hw := mm_in hc hw
      refine lv_iconst (v := (0 : Int32)) hx hb dX4_isSign_29 (by decide) ?_
      exact x_nret cx hR hS (xle hcb) (xle hsb) (zb_nar (Or.inl rfl)) hw dX4_isSign_30
    · have hw := mm_ip hc hw
      refine lv_iconst (v := (1 : Int32)) hx hb dX4_isSign_25 (by decide) ?_
      refine lv_goto (tgt := 30) hx hb dX4_isSign_26 (by decide) ?_
      exact x_nret cx hR hS (xle hcb) (xle hsb) (zb_nar (Or.inr rfl)) hw dX4_isSign_30
-- X4_begins
theorem CX4_isSign_X4_108 {l : Launch} {p : Program} {e : Env} {R : Room} {s : State} {m : MethodId} {args : Array Value} {below : List Frame} {meth : Method} {c : Code} {H : Heap} {locs : List Loc} {cells slots : Nat} {Qz : State → Prop} {cc : ByteArray} {nL : Nat} {ret : Option FieldType} {E : xx_E} {σ : XS} {pc : Nat} {ls : Array Slot} {rest : List Value} {th : Nat} {x1 : Int32} (cx : xx_X "StruckCounts$Reader" cc nL ret E p s m args meth c) (hR0 : xR E σ H) (hS0 : va_S (xA E) s.heap H locs) {r0 : Option Nat} (hr : r0 = some th) (hk : kd σ th = 4) {Qf : Int32 → XS → Prop} (hw : wX4_isSign th x1 σ Qf) (hR : (({ frames := 0, cells := 0, slots := 0, locals := 0 } : Room)).frames + 1 ≤ R.frames ∧ 8 + (2 + 11) + (({ frames := 0, cells := 0, slots := 0, locals := 0 } : Room)).locals ≤ R.locals) (hrest : rest.length ≤ 4) (hsize : ls.size = nL) (hf : cells + 0 ≤ R.cells ∧ slots + 0 ≤ R.slots) (hdg : decode cc pc = .ok (.invokevirtual 108, 3))
    (kk : ∀ (r : Int32) (σ1 : XS) (H1 : Heap) (locs1 : List Loc), Qf r σ1 → xR E σ1 H1 → va_S (xA E) s.heap H1 locs1 → W p l e R s m args below meth c H1 locs1 (cells + 0) (slots + 0) Qz (F0 m (pc + 3) ls (.int r :: rest))) : W p l e R s m args below meth c H locs cells slots Qz (F0 m pc ls (.int x1 :: xv E r0 :: rest)) := by
  subst hr
  obtain ⟨hx, hb, hml, hown, hts, hrt, hlk, hK, hZ⟩ := id cx
  exact x_goi (va_runV (As := [.int x1]) (rest := rest) (x_fix cx) (MX4_isSign l E th x1 σ Qf hw) (cwV 1 hts (lw_V q1677 q1679 qs18 q173 q1680) rfl rfl rfl (by decide +kernel) hR) (x_preV cx hR0 hS0 hk (by decide) (q := (RX4, TX4, 9)) rfl rfl [.int x1]) rfl rfl hsize rfl (lv_room (xroom hrest)) hdg hf) hS0 kk
theorem CX4_isName_X4_120 {l : Launch} {p : Program} {e : Env} {R : Room} {s : State} {m : MethodId} {args : Array Value} {below : List Frame} {meth : Method} {c : Code} {H : Heap} {locs : List Loc} {cells slots : Nat} {Qz : State → Prop} {cc : ByteArray} {nL : Nat} {ret : Option FieldType} {E : xx_E} {σ : XS} {pc : Nat} {ls : Array Slot} {rest : List Value} {th : Nat} (cx : xx_X "StruckCounts$Reader" cc nL ret E p s m args meth c) (hR0 : xR E σ H) (hS0 : va_S (xA E) s.heap H locs) {r0 : Option Nat} (hr : r0 = some th) (hk : kd σ th = 4) {Qf : Int32 → XS → Prop} (hw : wX4_isName th σ Qf) (hR : (({ frames := 4, cells := 0, slots := 0, locals := 160 } : Room)).frames + 1 ≤ R.frames ∧ 8 + (3 + 11) + (({ frames := 4, cells := 0, slots := 0, locals := 160 } : Room)).locals ≤ R.locals) (hrest : rest.length ≤ 4) (hsize : ls.size = nL) (hf : cells + 0 ≤ R.cells ∧ slots + 0 ≤ R.slots) (hdg : decode cc pc = .ok (.invokevirtual 120, 3))
    (kk : ∀ (r : Int32) (σ1 : XS) (H1 : Heap) (locs1 : List Loc), Qf r σ1 → xR E σ1 H1 → va_S (xA E) s.heap H1 locs1 → W p l e R s m args below meth c H1 locs1 (cells + 0) (slots + 0) Qz (F0 m (pc + 3) ls (.int r :: rest))) : W p l e R s m args below meth c H locs cells slots Qz (F0 m pc ls (xv E r0 :: rest)) := by
  subst hr
  obtain ⟨hx, hb, hml, hown, hts, hrt, hlk, hK, hZ⟩ := id cx
  exact x_goi (va_runV (As := []) (rest := rest) (x_fix cx) (MX4_isName l E th σ Qf hw) (cwV 0 hts (lw_V q1119 q1121 qs10 q173 q1122) rfl rfl rfl (by decide +kernel) hR) (x_preV cx hR0 hS0 hk (by decide) (q := (RX4, TX4, 9)) rfl rfl []) rfl rfl hsize rfl (lv_room (xroom hrest)) hdg hf) hS0 kk
def wX4_begins_33 (Q : Int32 → XS → Prop) (th : Nat) (σ : XS) : Prop :=
  Q (1 : Int32) σ
set_option maxHeartbeats 4000000 in
theorem BX4_begins_33 {l : Launch} {p : Program} {e : Env} {s : State} {m : MethodId} {args : Array Value} {below : List Frame} {meth : Method} {c : Code} {E : xx_E} {Q : Int32 → XS → Prop} (cx : xx_X "StruckCounts$Reader" cX4_begins 1 (some .boolean) E p s m args meth c) : ∀ (th : Nat) (σ : XS), wX4_begins_33 Q th σ → x_T p l e ({ frames := 5, cells := 0, slots := 0, locals := 200 } : Room) s m args below meth c E (va_Qi Q (fun σ' t => xW E σ' t) (xA E)) 0 0 1 33 0 0 σ [(0, xv E (some th))] [] := by
  intro th σ hw H locs ls cells slots hR hS hl hcb hsb
  unfold wX4_begins_33 at hw
  obtain ⟨hx, hb, hml, hown, hts, hrt, hlk, hMK, hZ⟩ := id cx
  refine lv_iconst (v := (1 : Int32)) hx hb dX4_begins_33 (by decide) ?_
  refine lv_goto (tgt := 38) hx hb dX4_begins_34 (by decide) ?_
  exact x_nret cx hR hS (xle hcb) (xle hsb) (zb_nar (Or.inr rfl)) hw dX4_begins_38
def wX4_begins (th : Nat) (σ : XS) (Q : Int32 → XS → Prop) : Prop :=
  kd σ th = 4 ∧ (wX4_isSign th (33 : Int32) σ (fun r1 s1 => if r1 = 0 then (kd s1 th = 4 ∧ (wX4_isSign th (40 : Int32) s1 (fun r3 s3 => if r3 = 0 then (kd s3 th = 4 ∧ (if (fi s3 th 5) = (2 : Int32) then (wX4_begins_33 Q th s3) else (wX4_isName th s3 (fun r6 s6 => if r6 = 0 then (Q (0 : Int32) s6) else (wX4_begins_33 Q th s6))))) else (wX4_begins_33 Q th s3)))) else (wX4_begins_33 Q th s1)))
set_option maxHeartbeats 4000000 in
theorem MX4_begins (l : Launch) (E : xx_E) (th : Nat) (σ : XS) (Q : Int32 → XS → Prop) (hw : wX4_begins th σ Q) : xx_Mi l yX4_begins (ws_ yX4_begins cX4_begins 1 (some .boolean)) ({ frames := 5, cells := 0, slots := 0, locals := 200 } : Room) E [xv E (some th)] σ Q 0 0 := by
  refine x_of (own := "StruckCounts$Reader") (by decide +kernel) rfl ?_
  intro p e s m args below meth c cx hR ha hnm
  refine x_entry [xv E (some th)] 1 [(0, xv E (some th))] ha (by simp [lg_sl, xv_cat, vc_i, vc_j, vc_f]) (by simp [lv_args, xv_cat, vc_i, vc_j, vc_f]) (fun ls hl => ?_)
  have hS : va_S (xA E) s.heap s.heap [] := va_S.rf
  have hcb : 0 + 0 ≤ 0 := Nat.le_of_eq (Nat.zero_add _)
  have hsb : 0 + 0 ≤ 0 := Nat.le_of_eq (Nat.zero_add _)
  unfold wX4_begins at hw
  obtain ⟨hx, hb, hml, hown, hts, hrt, hlk, hMK, hZ⟩ := id cx
  refine x_aload_n cx dX4_begins_0 rfl (lv_at hl 0 rfl) ?_
  refine lv_bipush (v := (33 : Int32)) hx hb dX4_begins_1 (by decide) ?_
  obtain ⟨hk2, hw⟩ := hw
  refine CX4_isSign_X4_108 cx hR hS rfl hk2 hw ⟨Nat.le_of_ble_eq_true rfl, Nat.le_of_ble_eq_true rfl⟩ (Nat.le_of_ble_eq_true rfl) hl.1 ⟨by dsimp only; omega, by dsimp only; omega⟩ dX4_begins_3 (fun r1 s1 H locs hw hR hS => ?_)
  refine lv_if_ne (tgt := 33) hx hb dX4_begins_6 (by decide) (fun hc => ?_) (fun hc => ?_)
  · have hw := mm_in hc hw
    exact BX4_begins_33 cx _ _ hw _ _ _ _ _ hR hS (lv_sub hl [0] rfl) hcb hsb
  · have hw := mm_ip hc hw
    refine x_aload_n cx dX4_begins_9 rfl (lv_at hl 0 rfl) ?_
    refine lv_bipush (v := (40 : Int32)) hx hb dX4_begins_10 (by decide) ?_
    obtain ⟨hk4, hw⟩ := hw
    refine CX4_isSign_X4_108 cx hR hS rfl hk4 hw ⟨Nat.le_of_ble_eq_true rfl, Nat.le_of_ble_eq_true rfl⟩ (Nat.le_of_ble_eq_true rfl) hl.1 ⟨by dsimp only; omega, by dsimp only; omega⟩ dX4_begins_12 (fun r3 s3 H locs hw hR hS => ?_)
    refine lv_if_ne (tgt := 33) hx hb dX4_begins_15 (by decide) (fun hc => ?_) (fun hc => ?_)
    · have hw := mm_in hc hw
      exact BX4_begins_33 cx _ _ hw _ _ _ _ _ hR hS (lv_sub hl [0] rfl) hcb hsb
    · have hw := mm_ip hc hw
      refine x_aload_n cx dX4_begins_18 rfl (lv_at hl 0 rfl) ?_
      obtain ⟨hk5, hw⟩ := hw
      refine xg_X4_45_4 cx hR rfl hk5 dX4_begins_19 ?_
      refine lv_iconst (v := (2 : Int32)) hx hb dX4_begins_22 (by decide) ?_
      refine lv_icmp_eq (tgt := 33) hx hb dX4_begins_23 (by decide) (fun hc => ?_) (fun hc => ?_)
      · have hw := mm_ip hc hw
        exact BX4_begins_33 cx _ _ hw _ _ _ _ _ hR hS (lv_sub hl [0] rfl) hcb hsb
      · have hw := mm_in hc hw
        refine x_aload_n cx dX4_begins_26 rfl (lv_at hl 0 rfl) ?_
        refine CX4_isName_X4_120 cx hR hS rfl hk5 hw ⟨Nat.le_of_ble_eq_true rfl, Nat.le_of_ble_eq_true rfl⟩ (Nat.le_of_ble_eq_true rfl) hl.1 ⟨by dsimp only; omega, by dsimp only; omega⟩ dX4_begins_27 (fun r6 s6 H locs hw hR hS => ?_)
        refine lv_if_eq (tgt := 37) hx hb dX4_begins_30 (by decide) (fun hc => ?_) (fun hc => ?_)
        · have hw := mm_ip hc hw
          refine lv_iconst (v := (0 : Int32)) hx hb dX4_begins_37 (by decide) ?_
          exact x_nret cx hR hS (xle hcb) (xle hsb) (zb_nar (Or.inl rfl)) hw dX4_begins_38
        · have hw := mm_in hc hw
          exact BX4_begins_33 cx _ _ hw _ _ _ _ _ hR hS (lv_sub hl [0] rfl) hcb hsb
-- X7_init
theorem xp_X7_7_7 {l : Launch} {p : Program} {e : Env} {R : Room} {s : State} {m : MethodId} {args : Array Value} {below : List Frame} {meth : Method} {c : Code} {H : Heap} {locs : List Loc} {cells slots : Nat} {Qz : State → Prop} {cc : ByteArray} {nL : Nat} {ret : Option FieldType} {E : xx_E} {σ : XS} {pc : Nat} {ls : Array Slot} {rest : List Value} (cx : xx_X "StruckCounts$Not" cc nL ret E p s m args meth c) (hR : xR E σ H) (hS0 : va_S (xA E) s.heap H locs) {a : Nat} {r : Option Nat} {v : Option Nat} (hr : r = some a) (ha : xK ≤ a) (hk : kd σ a = 7) (hini : meth.name = "<init>") (hdg : decode cc pc = .ok (.putfield 7, 3)) (kk : ∀ (H1 : Heap) (locs1 : List Loc), xR E (pfr σ a 0 v) H1 → va_S (xA E) s.heap H1 locs1 → W p l e R s m args below meth c H1 locs1 cells slots Qz (F0 m (pc + 3) ls rest)) : W p l e R s m args below meth c H locs cells slots Qz (F0 m pc ls (xv E v :: xv E r :: rest)) :=
  x_put (ci := 6) cx hR hS0 hr ha hk (by decide) rfl in_X7 tyX7 tyX7_ok nmX7 0 (by decide) (Or.inr (Or.inl ⟨q1691, rfl, hini, rfl⟩)) (fun _ h => h) (by cases v <;> rfl) (by cases v <;> rfl) (xput_r rfl) hdg kk
def wX7_init (th : Nat) (x1 : Option Nat) (σ : XS) (Q : XS → Prop) : Prop :=
  kd σ th = 7 ∧ (xK ≤ th ∧ (Q (pfr σ th 0 x1)))
set_option maxHeartbeats 4000000 in
theorem MX7_init (l : Launch) (E : xx_E) (th : Nat) (x1 : Option Nat) (σ : XS) (Q : XS → Prop) (hw : wX7_init th x1 σ Q) : xx_Mv l yX7_init (ws_ yX7_init cX7_init 2 none) ({ frames := 1, cells := 0, slots := 0, locals := 40 } : Room) E [xv E (some th), xv E x1] σ Q 0 0 := by
  refine x_of (own := "StruckCounts$Not") (by decide +kernel) rfl ?_
  intro p e s m args below meth c cx hR ha hnm
  refine x_entry [xv E (some th), xv E x1] 2 [(0, xv E (some th)), (1, xv E x1)] ha (by simp [lg_sl, xv_cat, vc_i, vc_j, vc_f]) (by simp [lv_args, xv_cat, vc_i, vc_j, vc_f]) (fun ls hl => ?_)
  have hS : va_S (xA E) s.heap s.heap [] := va_S.rf
  have hcb : 0 + 0 ≤ 0 := Nat.le_of_eq (Nat.zero_add _)
  have hsb : 0 + 0 ≤ 0 := Nat.le_of_eq (Nat.zero_add _)
  have hini : meth.name = "<init>" := hnm
  unfold wX7_init at hw
  obtain ⟨hx, hb, hml, hown, hts, hrt, hlk, hMK, hZ⟩ := id cx
  refine x_aload_n cx dX7_init_0 rfl (lv_at hl 0 rfl) ?_
  refine x_objinit cx hl.1 rfl q1690 (xroom12 (Nat.le_of_ble_eq_true rfl) (by dsimp only; omega)) (by dsimp only; omega) dX7_init_1 ?_
  refine x_aload_n cx dX7_init_4 rfl (lv_at hl 0 rfl) ?_
  refine x_aload_n cx dX7_init_5 rfl (lv_at hl 1 rfl) ?_
  obtain ⟨hk1, hw⟩ := hw
  obtain ⟨hge_th, hw⟩ := hw
  refine xp_X7_7_7 (v := x1) cx hR hS rfl hge_th hk1 hini dX7_init_6 (fun H locs hR hS => ?_)
  exact x_vret cx hR hS (xle hcb) (xle hsb) hw dX7_init_9
-- X10_init
theorem xp_X10_9_10 {l : Launch} {p : Program} {e : Env} {R : Room} {s : State} {m : MethodId} {args : Array Value} {below : List Frame} {meth : Method} {c : Code} {H : Heap} {locs : List Loc} {cells slots : Nat} {Qz : State → Prop} {cc : ByteArray} {nL : Nat} {ret : Option FieldType} {E : xx_E} {σ : XS} {pc : Nat} {ls : Array Slot} {rest : List Value} (cx : xx_X "StruckCounts$Fact" cc nL ret E p s m args meth c) (hR : xR E σ H) (hS0 : va_S (xA E) s.heap H locs) {a : Nat} {r : Option Nat} {v : Int32} (hr : r = some a) (ha : xK ≤ a) (hk : kd σ a = 10) (hini : meth.name = "<init>") (hdg : decode cc pc = .ok (.putfield 9, 3)) (kk : ∀ (H1 : Heap) (locs1 : List Loc), xR E (pfi σ a 0 v) H1 → va_S (xA E) s.heap H1 locs1 → W p l e R s m args below meth c H1 locs1 cells slots Qz (F0 m (pc + 3) ls rest)) : W p l e R s m args below meth c H locs cells slots Qz (F0 m pc ls (.int v :: xv E r :: rest)) :=
  x_put (ci := 9) cx hR hS0 hr ha hk (by decide) rfl in_X10 tyX10 tyX10_ok nmX10 0 (by decide) (Or.inr (Or.inl ⟨q1775, rfl, hini, rfl⟩)) (fun _ h => h) rfl rfl (xput_i rfl) hdg kk
def wX10_init (th : Nat) (x1 : Int32) (σ : XS) (Q : XS → Prop) : Prop :=
  kd σ th = 10 ∧ (xK ≤ th ∧ (Q (pfi σ th 0 x1)))
set_option maxHeartbeats 4000000 in
theorem MX10_init (l : Launch) (E : xx_E) (th : Nat) (x1 : Int32) (σ : XS) (Q : XS → Prop) (hw : wX10_init th x1 σ Q) : xx_Mv l yX10_init (ws_ yX10_init cX10_init 2 none) ({ frames := 1, cells := 0, slots := 0, locals := 40 } : Room) E [xv E (some th), .int x1] σ Q 0 0 := by
  refine x_of (own := "StruckCounts$Fact") (by decide +kernel) rfl ?_
  intro p e s m args below meth c cx hR ha hnm
  refine x_entry [xv E (some th), .int x1] 2 [(0, xv E (some th)), (1, .int x1)] ha (by simp [lg_sl, xv_cat, vc_i, vc_j, vc_f]) (by simp [lv_args, xv_cat, vc_i, vc_j, vc_f]) (fun ls hl => ?_)
  have hS : va_S (xA E) s.heap s.heap [] := va_S.rf
  have hcb : 0 + 0 ≤ 0 := Nat.le_of_eq (Nat.zero_add _)
  have hsb : 0 + 0 ≤ 0 := Nat.le_of_eq (Nat.zero_add _)
  have hini : meth.name = "<init>" := hnm
  unfold wX10_init at hw
  obtain ⟨hx, hb, hml, hown, hts, hrt, hlk, hMK, hZ⟩ := id cx
  refine x_aload_n cx dX10_init_0 rfl (lv_at hl 0 rfl) ?_
  refine x_objinit cx hl.1 rfl q1774 (xroom12 (Nat.le_of_ble_eq_true rfl) (by dsimp only; omega)) (by dsimp only; omega) dX10_init_1 ?_
  refine x_aload_n cx dX10_init_4 rfl (lv_at hl 0 rfl) ?_
  refine lv_iload_n hx hb dX10_init_5 rfl (lv_at hl 1 rfl) ?_
  obtain ⟨hk1, hw⟩ := hw
  obtain ⟨hge_th, hw⟩ := hw
  refine xp_X10_9_10 (v := x1) cx hR hS rfl hge_th hk1 hini dX10_init_6 (fun H locs hR hS => ?_)
  exact x_vret cx hR hS (xle hcb) (xle hsb) hw dX10_init_9
-- J18_copyOf_2
-- by hand
-- J7_grow_2
theorem CJ16_newLength_J7_73 {l : Launch} {p : Program} {e : Env} {R : Room} {s : State} {m : MethodId} {args : Array Value} {below : List Frame} {meth : Method} {c : Code} {H : Heap} {locs : List Loc} {cells slots : Nat} {Qz : State → Prop} {cc : ByteArray} {nL : Nat} {ret : Option FieldType} {E : xx_E} {σ : XS} {pc : Nat} {ls : Array Slot} {rest : List Value} {x0 : Int32} {x1 : Int32} {x2 : Int32} (cx : xx_X "java/util/ArrayList" cc nL ret E p s m args meth c) (hR0 : xR E σ H) (hS0 : va_S (xA E) s.heap H locs) {Qf : Int32 → XS → Prop} (hw : wJ16_newLength x0 x1 x2 σ Qf) (hR : (({ frames := 1, cells := 0, slots := 0, locals := 40 } : Room)).frames + 1 ≤ R.frames ∧ 8 + (4 + 11) + (({ frames := 1, cells := 0, slots := 0, locals := 40 } : Room)).locals ≤ R.locals) (hrest : rest.length ≤ 4) (hsize : ls.size = nL) (hf : cells + 0 ≤ R.cells ∧ slots + 0 ≤ R.slots) (hdg : decode cc pc = .ok (.invokestatic 73, 3))
    (kk : ∀ (r : Int32) (σ1 : XS) (H1 : Heap) (locs1 : List Loc), Qf r σ1 → xR E σ1 H1 → va_S (xA E) s.heap H1 locs1 → W p l e R s m args below meth c H1 locs1 (cells + 0) (slots + 0) Qz (F0 m (pc + 3) ls (.int r :: rest))) : W p l e R s m args below meth c H locs cells slots Qz (F0 m pc ls (.int x2 :: .int x1 :: .int x0 :: rest)) := by
  obtain ⟨hx, hb, hml, hown, hts, hrt, hlk, hK, hZ⟩ := id cx
  exact x_goi (va_runS (As := [.int x0, .int x1, .int x2]) (rest := rest) (x_fix cx) (MJ16_newLength l E x0 x1 x2 σ Qf hw) (va_cwS 3 hts (lw_S q1725 q727 q178 q728) rfl rfl rfl (by decide +kernel) hR) ⟨xblind, x_pre cx hR0 hS0 [.int x0, .int x1, .int x2]⟩ rfl rfl hsize rfl (lv_room (xroom hrest)) hdg hf) hS0 kk
theorem CJ18_copyOf_2_J7_66 {l : Launch} {p : Program} {e : Env} {R : Room} {s : State} {m : MethodId} {args : Array Value} {below : List Frame} {meth : Method} {c : Code} {H : Heap} {locs : List Loc} {cells slots : Nat} {Qz : State → Prop} {cc : ByteArray} {nL : Nat} {ret : Option FieldType} {E : xx_E} {σ : XS} {pc : Nat} {ls : Array Slot} {rest : List Value} {x0 : Option Nat} {x1 : Int32} {k n : Nat} (cx : xx_X "java/util/ArrayList" cc nL ret E p s m args meth c) (hR0 : xR E σ H) (hS0 : va_S (xA E) s.heap H locs) {Qf : Option Nat → XS → Prop} (hw : wJ18_copyOf_2 x0 x1 k n σ Qf) (hR : (({ frames := 3, cells := k, slots := n, locals := 120 } : Room)).frames + 1 ≤ R.frames ∧ 8 + (2 + 11) + (({ frames := 3, cells := k, slots := n, locals := 120 } : Room)).locals ≤ R.locals) (hrest : rest.length ≤ 4) (hsize : ls.size = nL) (hf : cells + k ≤ R.cells ∧ slots + n ≤ R.slots) (hdg : decode cc pc = .ok (.invokestatic 66, 3))
    (kk : ∀ (r : Option Nat) (σ1 : XS) (H1 : Heap) (locs1 : List Loc), Qf r σ1 → xR E σ1 H1 → va_S (xA E) s.heap H1 locs1 → W p l e R s m args below meth c H1 locs1 (cells + k) (slots + n) Qz (F0 m (pc + 3) ls (xv E r :: rest))) : W p l e R s m args below meth c H locs cells slots Qz (F0 m pc ls (.int x1 :: xv E x0 :: rest)) := by
  obtain ⟨hx, hb, hml, hown, hts, hrt, hlk, hK, hZ⟩ := id cx
  exact x_gor (va_runS (As := [xv E x0, .int x1]) (rest := rest) (x_fix cx) (MJ18_copyOf_2 l E x0 x1 k n σ Qf hw) (va_cwS 2 hts (lw_S q1726 q1727 q180 q1728) rfl rfl rfl (by decide +kernel) hR) ⟨xblind, x_pre cx hR0 hS0 [xv E x0, .int x1]⟩ rfl rfl hsize rfl (lv_room (xroom hrest)) hdg hf) hS0 kk
def wJ7_grow_2 (th : Nat) (x1 : Int32) (bc : Nat) (bs : Nat) (σ : XS) (Q : Option Nat → XS → Prop) : Prop :=
  kd σ th = 16 ∧ (oc σ (fr σ th 1) 103 (fun a2 => ∀ v3 : Int32, v3 = (nI (ln σ a2)) → if 0 < v3 then (wJ16_newLength v3 (x1 - v3) (v3 >>> ((1 : Int32) &&& 31)) σ (fun r4 s4 => kd s4 th = 16 ∧ (∃ k7 n7 : Nat, k7 ≤ bc ∧ n7 ≤ bs ∧ (wJ18_copyOf_2 (fr s4 th 1) r4 k7 n7 s4 (fun r6 s6 => kd s6 th = 16 ∧ (xK ≤ th ∧ (Q r6 (pfr s6 th 1 r6)))))))) else False))
set_option maxHeartbeats 4000000 in
theorem MJ7_grow_2 (l : Launch) (E : xx_E) (th : Nat) (x1 : Int32) (bc : Nat) (bs : Nat) (σ : XS) (Q : Option Nat → XS → Prop) (hw : wJ7_grow_2 th x1 bc bs σ Q) : xx_Mr l yJ7_grow_2 (ws_ yJ7_grow_2 cJ7_grow_2 4 (some (.array (.object "java/lang/Object")))) ({ frames := 4, cells := bc, slots := bs, locals := 160 } : Room) E [xv E (some th), .int x1] σ Q bc bs := by
  refine x_of (own := "java/util/ArrayList") (by decide +kernel) rfl ?_
  intro p e s m args below meth c cx hR ha hnm
  refine x_entry [xv E (some th), .int x1] 4 [(0, xv E (some th)), (1, .int x1)] ha (by simp [lg_sl, xv_cat, vc_i, vc_j, vc_f]) (by simp [lv_args, xv_cat, vc_i, vc_j, vc_f]) (fun ls hl => ?_)
  have hS : va_S (xA E) s.heap s.heap [] := va_S.rf
  have hcb : 0 + bc ≤ bc := Nat.le_of_eq (Nat.zero_add _)
  have hsb : 0 + bs ≤ bs := Nat.le_of_eq (Nat.zero_add _)
  unfold wJ7_grow_2 at hw
  obtain ⟨hx, hb, hml, hown, hts, hrt, hlk, hMK, hZ⟩ := id cx
  refine x_aload_n cx dJ7_grow_2_0 rfl (lv_at hl 0 rfl) ?_
  obtain ⟨hk1, hw⟩ := hw
  refine xg_J7_9_16 cx hR rfl hk1 dJ7_grow_2_1 ?_
  obtain ⟨a2, hr2, hk2, hw⟩ := hw
  refine x_alen cx hR hr2 3 hk2 (by decide) dJ7_grow_2_4 ?_
  refine lv_topi (fun v3 hv3 => ?_)
  have hw := hw v3 hv3
  refine lv_istore_n (i := 2) (lv' := [(2, .int v3), (0, xv E (some th)), (1, .int x1)]) hx hb dJ7_grow_2_5 rfl hl (by decide) rfl (fun ls hl => ?_)
  refine lv_iload_n hx hb dJ7_grow_2_6 rfl (lv_at hl 0 rfl) ?_
  refine lv_if_gt (tgt := 20) hx hb dJ7_grow_2_7 (by decide) (fun hc => ?_) (fun hc => ?_)
  · have hw := mm_ip hc hw
    refine lv_iload_n hx hb dJ7_grow_2_20 rfl (lv_at hl 0 rfl) ?_
    refine lv_iload_n hx hb dJ7_grow_2_21 rfl (lv_at hl 2 rfl) ?_
    refine lv_iload_n hx hb dJ7_grow_2_22 rfl (lv_at hl 0 rfl) ?_
    refine lv_isub hx hb dJ7_grow_2_23 ?_
    refine lv_iload_n hx hb dJ7_grow_2_24 rfl (lv_at hl 0 rfl) ?_
    refine lv_iconst (v := (1 : Int32)) hx hb dJ7_grow_2_25 (by decide) ?_
    refine lv_ishr hx hb dJ7_grow_2_26 ?_
    refine CJ16_newLength_J7_73 cx hR hS  hw ⟨Nat.le_of_ble_eq_true rfl, Nat.le_of_ble_eq_true rfl⟩ (Nat.le_of_ble_eq_true rfl) hl.1 ⟨by dsimp only; omega, by dsimp only; omega⟩ dJ7_grow_2_27 (fun r4 s4 H locs hw hR hS => ?_)
    refine lv_istore_n (i := 3) (lv' := [(3, .int r4), (2, .int v3), (0, xv E (some th)), (1, .int x1)]) hx hb dJ7_grow_2_30 rfl hl (by decide) rfl (fun ls hl => ?_)
    refine x_aload_n cx dJ7_grow_2_31 rfl (lv_at hl 2 rfl) ?_
    refine x_aload_n cx dJ7_grow_2_32 rfl (lv_at hl 2 rfl) ?_
    obtain ⟨hk5, hw⟩ := hw
    refine xg_J7_9_16 cx hR rfl hk5 dJ7_grow_2_33 ?_
    refine lv_iload_n hx hb dJ7_grow_2_36 rfl (lv_at hl 0 rfl) ?_
    obtain ⟨k7, n7, hb1, hb2, hw⟩ := hw
    refine CJ18_copyOf_2_J7_66 cx hR hS  hw ⟨Nat.le_of_ble_eq_true rfl, Nat.le_of_ble_eq_true rfl⟩ (Nat.le_of_ble_eq_true rfl) hl.1 ⟨by dsimp only; omega, by dsimp only; omega⟩ dJ7_grow_2_37 (fun r6 s6 H locs hw hR hS => ?_)
    have hcb := xadd hb1 hcb
    have hsb := xadd hb2 hsb
    refine lv_dup_x1 hx hb dJ7_grow_2_40 (xv_cat _ _) (xv_cat _ _) ?_
    obtain ⟨hk8, hw⟩ := hw
    obtain ⟨hge_th, hw⟩ := hw
    refine xp_J7_9_16 (v := r6) cx hR hS rfl hge_th hk8 dJ7_grow_2_41 (fun H locs hR hS => ?_)
    exact x_aret cx (by first | exact Or.inl ⟨_, rfl⟩ | exact Or.inr ⟨_, rfl⟩) hR hS (xle hcb) (xle hsb) hw dJ7_grow_2_44
  · have hw := mm_in hc hw
    refine x_aload_n cx dJ7_grow_2_10 rfl (lv_at hl 1 rfl) ?_
    refine xg_J7_9_16 cx hR rfl hk1 dJ7_grow_2_11 ?_
    exact hw.elim
-- J7_grow
theorem CJ7_grow_2_J7_69 {l : Launch} {p : Program} {e : Env} {R : Room} {s : State} {m : MethodId} {args : Array Value} {below : List Frame} {meth : Method} {c : Code} {H : Heap} {locs : List Loc} {cells slots : Nat} {Qz : State → Prop} {cc : ByteArray} {nL : Nat} {ret : Option FieldType} {E : xx_E} {σ : XS} {pc : Nat} {ls : Array Slot} {rest : List Value} {th : Nat} {x1 : Int32} {k n : Nat} (cx : xx_X "java/util/ArrayList" cc nL ret E p s m args meth c) (hR0 : xR E σ H) (hS0 : va_S (xA E) s.heap H locs) {r0 : Option Nat} (hr : r0 = some th) (hk : kd σ th = 16) {Qf : Option Nat → XS → Prop} (hw : wJ7_grow_2 th x1 k n σ Qf) (hR : (({ frames := 4, cells := k, slots := n, locals := 160 } : Room)).frames + 1 ≤ R.frames ∧ 8 + (4 + 11) + (({ frames := 4, cells := k, slots := n, locals := 160 } : Room)).locals ≤ R.locals) (hrest : rest.length ≤ 4) (hsize : ls.size = nL) (hf : cells + k ≤ R.cells ∧ slots + n ≤ R.slots) (hdg : decode cc pc = .ok (.invokevirtual 69, 3))
    (kk : ∀ (r : Option Nat) (σ1 : XS) (H1 : Heap) (locs1 : List Loc), Qf r σ1 → xR E σ1 H1 → va_S (xA E) s.heap H1 locs1 → W p l e R s m args below meth c H1 locs1 (cells + k) (slots + n) Qz (F0 m (pc + 3) ls (xv E r :: rest))) : W p l e R s m args below meth c H locs cells slots Qz (F0 m pc ls (.int x1 :: xv E r0 :: rest)) := by
  subst hr
  obtain ⟨hx, hb, hml, hown, hts, hrt, hlk, hK, hZ⟩ := id cx
  exact x_gor (va_runV (As := [.int x1]) (rest := rest) (x_fix cx) (MJ7_grow_2 l E th x1 k n σ Qf hw) (cwV 1 hts (lw_V q1719 q1721 qs25 q165 q1722) rfl rfl rfl (by decide +kernel) hR) (x_preV cx hR0 hS0 hk (by decide) (q := (RJ7, TJ7, 3)) rfl rfl [.int x1]) rfl rfl hsize rfl (lv_room (xroom hrest)) hdg hf) hS0 kk
def wJ7_grow (th : Nat) (bc : Nat) (bs : Nat) (σ : XS) (Q : Option Nat → XS → Prop) : Prop :=
  kd σ th = 16 ∧ (∃ k3 n3 : Nat, k3 ≤ bc ∧ n3 ≤ bs ∧ (wJ7_grow_2 th ((fi σ th 2) + (1 : Int32)) k3 n3 σ (fun r2 s2 => Q r2 s2)))
set_option maxHeartbeats 4000000 in
theorem MJ7_grow (l : Launch) (E : xx_E) (th : Nat) (bc : Nat) (bs : Nat) (σ : XS) (Q : Option Nat → XS → Prop) (hw : wJ7_grow th bc bs σ Q) : xx_Mr l yJ7_grow (ws_ yJ7_grow cJ7_grow 1 (some (.array (.object "java/lang/Object")))) ({ frames := 5, cells := bc, slots := bs, locals := 200 } : Room) E [xv E (some th)] σ Q bc bs := by
  refine x_of (own := "java/util/ArrayList") (by decide +kernel) rfl ?_
  intro p e s m args below meth c cx hR ha hnm
  refine x_entry [xv E (some th)] 1 [(0, xv E (some th))] ha (by simp [lg_sl, xv_cat, vc_i, vc_j, vc_f]) (by simp [lv_args, xv_cat, vc_i, vc_j, vc_f]) (fun ls hl => ?_)
  have hS : va_S (xA E) s.heap s.heap [] := va_S.rf
  have hcb : 0 + bc ≤ bc := Nat.le_of_eq (Nat.zero_add _)
  have hsb : 0 + bs ≤ bs := Nat.le_of_eq (Nat.zero_add _)
  unfold wJ7_grow at hw
  obtain ⟨hx, hb, hml, hown, hts, hrt, hlk, hMK, hZ⟩ := id cx
  refine x_aload_n cx dJ7_grow_0 rfl (lv_at hl 0 rfl) ?_
  refine x_aload_n cx dJ7_grow_1 rfl (lv_at hl 0 rfl) ?_
  obtain ⟨hk1, hw⟩ := hw
  refine xg_J7_48_16 cx hR rfl hk1 dJ7_grow_2 ?_
  refine lv_iconst (v := (1 : Int32)) hx hb dJ7_grow_5 (by decide) ?_
  refine lv_iadd hx hb dJ7_grow_6 ?_
  obtain ⟨k3, n3, hb1, hb2, hw⟩ := hw
  refine CJ7_grow_2_J7_69 cx hR hS rfl hk1 hw ⟨Nat.le_of_ble_eq_true rfl, Nat.le_of_ble_eq_true rfl⟩ (Nat.le_of_ble_eq_true rfl) hl.1 ⟨by dsimp only; omega, by dsimp only; omega⟩ dJ7_grow_7 (fun r2 s2 H locs hw hR hS => ?_)
  have hcb := xadd hb1 hcb
  have hsb := xadd hb2 hsb
  exact x_aret cx (by first | exact Or.inl ⟨_, rfl⟩ | exact Or.inr ⟨_, rfl⟩) hR hS (xle hcb) (xle hsb) hw dJ7_grow_10
-- J7_add_2
theorem xp_J7_48_16 {l : Launch} {p : Program} {e : Env} {R : Room} {s : State} {m : MethodId} {args : Array Value} {below : List Frame} {meth : Method} {c : Code} {H : Heap} {locs : List Loc} {cells slots : Nat} {Qz : State → Prop} {cc : ByteArray} {nL : Nat} {ret : Option FieldType} {E : xx_E} {σ : XS} {pc : Nat} {ls : Array Slot} {rest : List Value} (cx : xx_X "java/util/ArrayList" cc nL ret E p s m args meth c) (hR : xR E σ H) (hS0 : va_S (xA E) s.heap H locs) {a : Nat} {r : Option Nat} {v : Int32} (hr : r = some a) (ha : xK ≤ a) (hk : kd σ a = 16) (hdg : decode cc pc = .ok (.putfield 48, 3)) (kk : ∀ (H1 : Heap) (locs1 : List Loc), xR E (pfi σ a 2 v) H1 → va_S (xA E) s.heap H1 locs1 → W p l e R s m args below meth c H1 locs1 cells slots Qz (F0 m (pc + 3) ls rest)) : W p l e R s m args below meth c H locs cells slots Qz (F0 m pc ls (.int v :: xv E r :: rest)) :=
  x_put (ci := 15) cx hR hS0 hr ha hk (by decide) rfl in_J7 tyJ7 tyJ7_ok nmJ7 2 (by decide) (Or.inl ⟨q312, rfl⟩) (fun _ h => h) rfl rfl (xput_i rfl) hdg kk
theorem CJ7_grow_J7_129 {l : Launch} {p : Program} {e : Env} {R : Room} {s : State} {m : MethodId} {args : Array Value} {below : List Frame} {meth : Method} {c : Code} {H : Heap} {locs : List Loc} {cells slots : Nat} {Qz : State → Prop} {cc : ByteArray} {nL : Nat} {ret : Option FieldType} {E : xx_E} {σ : XS} {pc : Nat} {ls : Array Slot} {rest : List Value} {th : Nat} {k n : Nat} (cx : xx_X "java/util/ArrayList" cc nL ret E p s m args meth c) (hR0 : xR E σ H) (hS0 : va_S (xA E) s.heap H locs) {r0 : Option Nat} (hr : r0 = some th) (hk : kd σ th = 16) {Qf : Option Nat → XS → Prop} (hw : wJ7_grow th k n σ Qf) (hR : (({ frames := 5, cells := k, slots := n, locals := 200 } : Room)).frames + 1 ≤ R.frames ∧ 8 + (1 + 11) + (({ frames := 5, cells := k, slots := n, locals := 200 } : Room)).locals ≤ R.locals) (hrest : rest.length ≤ 4) (hsize : ls.size = nL) (hf : cells + k ≤ R.cells ∧ slots + n ≤ R.slots) (hdg : decode cc pc = .ok (.invokevirtual 129, 3))
    (kk : ∀ (r : Option Nat) (σ1 : XS) (H1 : Heap) (locs1 : List Loc), Qf r σ1 → xR E σ1 H1 → va_S (xA E) s.heap H1 locs1 → W p l e R s m args below meth c H1 locs1 (cells + k) (slots + n) Qz (F0 m (pc + 3) ls (xv E r :: rest))) : W p l e R s m args below meth c H locs cells slots Qz (F0 m pc ls (xv E r0 :: rest)) := by
  subst hr
  obtain ⟨hx, hb, hml, hown, hts, hrt, hlk, hK, hZ⟩ := id cx
  exact x_gor (va_runV (As := []) (rest := rest) (x_fix cx) (MJ7_grow l E th k n σ Qf hw) (cwV 0 hts (lw_V q1715 q1717 qs24 q165 q1718) rfl rfl rfl (by decide +kernel) hR) (x_preV cx hR0 hS0 hk (by decide) (q := (RJ7, TJ7, 3)) rfl rfl []) rfl rfl hsize rfl (lv_room (xroom hrest)) hdg hf) hS0 kk
def wJ7_add_2_11 (Q : XS → Prop) (th : Nat) (x1 : Option Nat) (x2 : Option Nat) (x3 : Int32) (bc : Nat) (bs : Nat) (σ : XS) : Prop :=
  oc σ x2 103 (fun a1 => xK ≤ a1 ∧ (vp_in x3 (ln σ a1) ∧ (xck [10, 7, 8, 9, 11, 12, 13] σ x1 ∧ (kd (par σ a1 x3.toNatClampNeg x1) th = 16 ∧ (xK ≤ th ∧ (Q (pfi (par σ a1 x3.toNatClampNeg x1) th 2 (x3 + (1 : Int32)))))))))
set_option maxHeartbeats 4000000 in
theorem BJ7_add_2_11 {l : Launch} {p : Program} {e : Env} {s : State} {m : MethodId} {args : Array Value} {below : List Frame} {meth : Method} {c : Code} {E : xx_E} {mc ms : Nat} {Q : XS → Prop} (cx : xx_X "java/util/ArrayList" cJ7_add_2 4 none E p s m args meth c) : ∀ (th : Nat) (x1 : Option Nat) (x2 : Option Nat) (x3 : Int32) (bc : Nat) (bs : Nat) (σ : XS), wJ7_add_2_11 Q th x1 x2 x3 bc bs σ → x_T p l e ({ frames := 6, cells := mc, slots := ms, locals := 240 } : Room) s m args below meth c E (va_Qv Q (fun σ' t => xW E σ' t) (xA E)) mc ms 4 11 bc bs σ [(0, xv E (some th)), (1, xv E x1), (2, xv E x2), (3, .int x3)] [] := by
  intro th x1 x2 x3 bc bs σ hw H locs ls cells slots hR hS hl hcb hsb
  unfold wJ7_add_2_11 at hw
  obtain ⟨hx, hb, hml, hown, hts, hrt, hlk, hMK, hZ⟩ := id cx
  refine x_aload_n cx dJ7_add_2_11 rfl (lv_at hl 2 rfl) ?_
  refine lv_iload_n hx hb dJ7_add_2_12 rfl (lv_at hl 3 rfl) ?_
  refine x_aload_n cx dJ7_add_2_13 rfl (lv_at hl 1 rfl) ?_
  obtain ⟨a1, hr1, hk1, hw⟩ := hw
  obtain ⟨hge_a1, hw⟩ := hw
  obtain ⟨hi, hw⟩ := hw
  obtain ⟨hv, hw⟩ := hw
  refine x_ast cx hR hS hr1 hge_a1 3 (C := "java/lang/Object") rfl hk1 (by decide) (by decide) (j := x3.toNatClampNeg) rfl hi (xcs_103 cx hv) dJ7_add_2_14 (fun H locs hR hS => ?_)
  refine x_aload_n cx dJ7_add_2_15 rfl (lv_at hl 0 rfl) ?_
  refine lv_iload_n hx hb dJ7_add_2_16 rfl (lv_at hl 3 rfl) ?_
  refine lv_iconst (v := (1 : Int32)) hx hb dJ7_add_2_17 (by decide) ?_
  refine lv_iadd hx hb dJ7_add_2_18 ?_
  obtain ⟨hk2, hw⟩ := hw
  obtain ⟨hge_th, hw⟩ := hw
  refine xp_J7_48_16 (v := (x3 + (1 : Int32))) cx hR hS rfl hge_th hk2 dJ7_add_2_19 (fun H locs hR hS => ?_)
  exact x_vret cx hR hS (xle hcb) (xle hsb) hw dJ7_add_2_22
def wJ7_add_2 (th : Nat) (x1 : Option Nat) (x2 : Option Nat) (x3 : Int32) (bc : Nat) (bs : Nat) (σ : XS) (Q : XS → Prop) : Prop :=
  oc σ x2 103 (fun a3 => if x3 = (nI (ln σ a3)) then (kd σ th = 16 ∧ (∃ k6 n6 : Nat, k6 ≤ bc ∧ n6 ≤ bs ∧ (wJ7_grow th k6 n6 σ (fun r4 s4 => wJ7_add_2_11 Q th x1 r4 x3 (bc - k6) (bs - n6) s4)))) else (wJ7_add_2_11 Q th x1 x2 x3 bc bs σ))
set_option maxHeartbeats 4000000 in
theorem MJ7_add_2 (l : Launch) (E : xx_E) (th : Nat) (x1 : Option Nat) (x2 : Option Nat) (x3 : Int32) (bc : Nat) (bs : Nat) (σ : XS) (Q : XS → Prop) (hw : wJ7_add_2 th x1 x2 x3 bc bs σ Q) : xx_Mv l yJ7_add_2 (ws_ yJ7_add_2 cJ7_add_2 4 none) ({ frames := 6, cells := bc, slots := bs, locals := 240 } : Room) E [xv E (some th), xv E x1, xv E x2, .int x3] σ Q bc bs := by
  refine x_of (own := "java/util/ArrayList") (by decide +kernel) rfl ?_
  intro p e s m args below meth c cx hR ha hnm
  refine x_entry [xv E (some th), xv E x1, xv E x2, .int x3] 4 [(0, xv E (some th)), (1, xv E x1), (2, xv E x2), (3, .int x3)] ha (by simp [lg_sl, xv_cat, vc_i, vc_j, vc_f]) (by simp [lv_args, xv_cat, vc_i, vc_j, vc_f]) (fun ls hl => ?_)
  have hS : va_S (xA E) s.heap s.heap [] := va_S.rf
  have hcb : 0 + bc ≤ bc := Nat.le_of_eq (Nat.zero_add _)
  have hsb : 0 + bs ≤ bs := Nat.le_of_eq (Nat.zero_add _)
  unfold wJ7_add_2 at hw
  obtain ⟨hx, hb, hml, hown, hts, hrt, hlk, hMK, hZ⟩ := id cx
  refine lv_iload_n hx hb dJ7_add_2_0 rfl (lv_at hl 3 rfl) ?_
  refine x_aload_n cx dJ7_add_2_1 rfl (lv_at hl 2 rfl) ?_
  obtain ⟨a3, hr3, hk3, hw⟩ := hw
  refine x_alen cx hR hr3 3 hk3 (by decide) dJ7_add_2_2 ?_
  refine lv_icmp_ne (tgt := 11) hx hb dJ7_add_2_3 (by decide) (fun hc => ?_) (fun hc => ?_)
  · have hw := mm_in hc hw
    exact BJ7_add_2_11 cx _ _ _ _ _ _ _ hw _ _ _ _ _ hR hS (lv_sub hl [0, 1, 2, 3] rfl) hcb hsb
  · have hw := mm_ip hc hw
    refine x_aload_n cx dJ7_add_2_6 rfl (lv_at hl 0 rfl) ?_
    obtain ⟨hk5, hw⟩ := hw
    obtain ⟨k6, n6, hb1, hb2, hw⟩ := hw
    refine CJ7_grow_J7_129 cx hR hS rfl hk5 hw ⟨Nat.le_of_ble_eq_true rfl, Nat.le_of_ble_eq_true rfl⟩ (Nat.le_of_ble_eq_true rfl) hl.1 ⟨by dsimp only; omega, by dsimp only; omega⟩ dJ7_add_2_7 (fun r4 s4 H locs hw hR hS => ?_)
    have hcb := xadd hb1 hcb
    have hsb := xadd hb2 hsb
    refine x_astore_n (i := 2) (r := r4) (lv' := [(2, xv E r4), (0, xv E (some th)), (1, xv E x1), (3, .int x3)]) cx dJ7_add_2_10 rfl hl (by decide) (by simp [xv_cat]) (fun ls hl => ?_)
    exact BJ7_add_2_11 cx _ _ _ _ _ _ _ hw _ _ _ _ _ hR hS (lv_sub hl [1, 2, 0, 3] rfl) hcb hsb
-- J7_add
theorem xg_J7_63_16 {l : Launch} {p : Program} {e : Env} {R : Room} {s : State} {m : MethodId} {args : Array Value} {below : List Frame} {meth : Method} {c : Code} {H : Heap} {locs : List Loc} {cells slots : Nat} {Qz : State → Prop} {cc : ByteArray} {nL : Nat} {ret : Option FieldType} {E : xx_E} {σ : XS} {pc : Nat} {ls : Array Slot} {rest : List Value} (cx : xx_X "java/util/ArrayList" cc nL ret E p s m args meth c) (hR : xR E σ H) {a : Nat} {r : Option Nat} (hr : r = some a) (hk : kd σ a = 16) (hdg : decode cc pc = .ok (.getfield 63, 3)) (kk : W p l e R s m args below meth c H locs cells slots Qz (F0 m (pc + 3) ls (.int (fi σ a 0) :: rest))) : W p l e R s m args below meth c H locs cells slots Qz (F0 m pc ls (xv E r :: rest)) :=
  x_get (ci := 15) cx hR hr hk (by decide) rfl in_J7 0 (by decide) q314 (u_same (cx.2.2.2.2.1 _ q315)) (v := .int (fi σ a 0)) rfl hdg kk
theorem xp_J7_63_16 {l : Launch} {p : Program} {e : Env} {R : Room} {s : State} {m : MethodId} {args : Array Value} {below : List Frame} {meth : Method} {c : Code} {H : Heap} {locs : List Loc} {cells slots : Nat} {Qz : State → Prop} {cc : ByteArray} {nL : Nat} {ret : Option FieldType} {E : xx_E} {σ : XS} {pc : Nat} {ls : Array Slot} {rest : List Value} (cx : xx_X "java/util/ArrayList" cc nL ret E p s m args meth c) (hR : xR E σ H) (hS0 : va_S (xA E) s.heap H locs) {a : Nat} {r : Option Nat} {v : Int32} (hr : r = some a) (ha : xK ≤ a) (hk : kd σ a = 16) (hdg : decode cc pc = .ok (.putfield 63, 3)) (kk : ∀ (H1 : Heap) (locs1 : List Loc), xR E (pfi σ a 0 v) H1 → va_S (xA E) s.heap H1 locs1 → W p l e R s m args below meth c H1 locs1 cells slots Qz (F0 m (pc + 3) ls rest)) : W p l e R s m args below meth c H locs cells slots Qz (F0 m pc ls (.int v :: xv E r :: rest)) :=
  x_put (ci := 15) cx hR hS0 hr ha hk (by decide) rfl in_J7 tyJ7 tyJ7_ok nmJ7 0 (by decide) (Or.inl ⟨q314, rfl⟩) (u_same (cx.2.2.2.2.1 _ q315)) rfl rfl (xput_i rfl) hdg kk
theorem CJ7_add_2_J7_131 {l : Launch} {p : Program} {e : Env} {R : Room} {s : State} {m : MethodId} {args : Array Value} {below : List Frame} {meth : Method} {c : Code} {H : Heap} {locs : List Loc} {cells slots : Nat} {Qz : State → Prop} {cc : ByteArray} {nL : Nat} {ret : Option FieldType} {E : xx_E} {σ : XS} {pc : Nat} {ls : Array Slot} {rest : List Value} {th : Nat} {x1 : Option Nat} {x2 : Option Nat} {x3 : Int32} {k n : Nat} (cx : xx_X "java/util/ArrayList" cc nL ret E p s m args meth c) (hR0 : xR E σ H) (hS0 : va_S (xA E) s.heap H locs) {r0 : Option Nat} (hr : r0 = some th) (hk : kd σ th = 16) {Qf : XS → Prop} (hw : wJ7_add_2 th x1 x2 x3 k n σ Qf) (hR : (({ frames := 6, cells := k, slots := n, locals := 240 } : Room)).frames + 1 ≤ R.frames ∧ 8 + (4 + 11) + (({ frames := 6, cells := k, slots := n, locals := 240 } : Room)).locals ≤ R.locals) (hrest : rest.length ≤ 4) (hsize : ls.size = nL) (hf : cells + k ≤ R.cells ∧ slots + n ≤ R.slots) (hdg : decode cc pc = .ok (.invokevirtual 131, 3))
    (kk : ∀ (σ1 : XS) (H1 : Heap) (locs1 : List Loc), Qf σ1 → xR E σ1 H1 → va_S (xA E) s.heap H1 locs1 → W p l e R s m args below meth c H1 locs1 (cells + k) (slots + n) Qz (F0 m (pc + 3) ls rest)) : W p l e R s m args below meth c H locs cells slots Qz (F0 m pc ls (.int x3 :: xv E x2 :: xv E x1 :: xv E r0 :: rest)) := by
  subst hr
  obtain ⟨hx, hb, hml, hown, hts, hrt, hlk, hK, hZ⟩ := id cx
  exact x_gov (va_runV (As := [xv E x1, xv E x2, .int x3]) (rest := rest) (x_fix cx) (MJ7_add_2 l E th x1 x2 x3 k n σ Qf hw) (cwV 3 hts (lw_V q1711 q1713 qs23 q165 q1714) rfl rfl rfl (by decide +kernel) hR) (x_preV cx hR0 hS0 hk (by decide) (q := (RJ7, TJ7, 3)) rfl rfl [xv E x1, xv E x2, .int x3]) rfl rfl hsize rfl (lv_room (xroom hrest)) hdg hf) hS0 kk
def wJ7_add (th : Nat) (x1 : Option Nat) (bc : Nat) (bs : Nat) (σ : XS) (Q : Int32 → XS → Prop) : Prop :=
  kd σ th = 16 ∧ (xK ≤ th ∧ (∃ k3 n3 : Nat, k3 ≤ bc ∧ n3 ≤ bs ∧ (wJ7_add_2 th x1 (fr (pfi σ th 0 ((fi σ th 0) + (1 : Int32))) th 1) (fi (pfi σ th 0 ((fi σ th 0) + (1 : Int32))) th 2) k3 n3 (pfi σ th 0 ((fi σ th 0) + (1 : Int32))) (fun s2 => Q (1 : Int32) s2))))
set_option maxHeartbeats 4000000 in
theorem MJ7_add (l : Launch) (E : xx_E) (th : Nat) (x1 : Option Nat) (bc : Nat) (bs : Nat) (σ : XS) (Q : Int32 → XS → Prop) (hw : wJ7_add th x1 bc bs σ Q) : xx_Mi l yJ7_add (ws_ yJ7_add cJ7_add 2 (some .boolean)) ({ frames := 7, cells := bc, slots := bs, locals := 280 } : Room) E [xv E (some th), xv E x1] σ Q bc bs := by
  refine x_of (own := "java/util/ArrayList") (by decide +kernel) rfl ?_
  intro p e s m args below meth c cx hR ha hnm
  refine x_entry [xv E (some th), xv E x1] 2 [(0, xv E (some th)), (1, xv E x1)] ha (by simp [lg_sl, xv_cat, vc_i, vc_j, vc_f]) (by simp [lv_args, xv_cat, vc_i, vc_j, vc_f]) (fun ls hl => ?_)
  have hS : va_S (xA E) s.heap s.heap [] := va_S.rf
  have hcb : 0 + bc ≤ bc := Nat.le_of_eq (Nat.zero_add _)
  have hsb : 0 + bs ≤ bs := Nat.le_of_eq (Nat.zero_add _)
  unfold wJ7_add at hw
  obtain ⟨hx, hb, hml, hown, hts, hrt, hlk, hMK, hZ⟩ := id cx
  refine x_aload_n cx dJ7_add_0 rfl (lv_at hl 0 rfl) ?_
  refine lv_dup hx hb dJ7_add_1 (xv_cat _ _) ?_
  obtain ⟨hk1, hw⟩ := hw
  refine xg_J7_63_16 cx hR rfl hk1 dJ7_add_2 ?_
  refine lv_iconst (v := (1 : Int32)) hx hb dJ7_add_5 (by decide) ?_
  refine lv_iadd hx hb dJ7_add_6 ?_
  obtain ⟨hge_th, hw⟩ := hw
  refine xp_J7_63_16 (v := ((fi σ th 0) + (1 : Int32))) cx hR hS rfl hge_th hk1 dJ7_add_7 (fun H locs hR hS => ?_)
  refine x_aload_n cx dJ7_add_10 rfl (lv_at hl 0 rfl) ?_
  refine x_aload_n cx dJ7_add_11 rfl (lv_at hl 1 rfl) ?_
  refine x_aload_n cx dJ7_add_12 rfl (lv_at hl 0 rfl) ?_
  refine xg_J7_9_16 cx hR rfl hk1 dJ7_add_13 ?_
  refine x_aload_n cx dJ7_add_16 rfl (lv_at hl 0 rfl) ?_
  refine xg_J7_48_16 cx hR rfl hk1 dJ7_add_17 ?_
  obtain ⟨k3, n3, hb1, hb2, hw⟩ := hw
  refine CJ7_add_2_J7_131 cx hR hS rfl hk1 hw ⟨Nat.le_of_ble_eq_true rfl, Nat.le_of_ble_eq_true rfl⟩ (Nat.le_of_ble_eq_true rfl) hl.1 ⟨by dsimp only; omega, by dsimp only; omega⟩ dJ7_add_20 (fun s2 H locs hw hR hS => ?_)
  have hcb := xadd hb1 hcb
  have hsb := xadd hb2 hsb
  refine lv_iconst (v := (1 : Int32)) hx hb dJ7_add_23 (by decide) ?_
  exact x_nret cx hR hS (xle hcb) (xle hsb) (zb_nar (Or.inr rfl)) hw dJ7_add_24
-- X8_initA
theorem xp_X8_9_11 {l : Launch} {p : Program} {e : Env} {R : Room} {s : State} {m : MethodId} {args : Array Value} {below : List Frame} {meth : Method} {c : Code} {H : Heap} {locs : List Loc} {cells slots : Nat} {Qz : State → Prop} {cc : ByteArray} {nL : Nat} {ret : Option FieldType} {E : xx_E} {σ : XS} {pc : Nat} {ls : Array Slot} {rest : List Value} (cx : xx_X "StruckCounts$Some" cc nL ret E p s m args meth c) (hR : xR E σ H) (hS0 : va_S (xA E) s.heap H locs) {a : Nat} {r : Option Nat} {v : Option Nat} (hr : r = some a) (ha : xK ≤ a) (hk : kd σ a = 11) (hini : meth.name = "<init>") (hdg : decode cc pc = .ok (.putfield 9, 3)) (kk : ∀ (H1 : Heap) (locs1 : List Loc), xR E (pfr σ a 0 v) H1 → va_S (xA E) s.heap H1 locs1 → W p l e R s m args below meth c H1 locs1 cells slots Qz (F0 m (pc + 3) ls rest)) : W p l e R s m args below meth c H locs cells slots Qz (F0 m pc ls (xv E v :: xv E r :: rest)) :=
  x_put (ci := 10) cx hR hS0 hr ha hk (by decide) rfl in_X11 tyX11 tyX11_ok nmX11 0 (by decide) (Or.inr (Or.inl ⟨q1763, rfl, hini, rfl⟩)) (fun _ h => h) (by cases v <;> rfl) (by cases v <;> rfl) (xput_r rfl) hdg kk
def wX8_initA (th : Nat) (x1 : Option Nat) (σ : XS) (Q : XS → Prop) : Prop :=
  kd σ th = 11 ∧ (xK ≤ th ∧ (Q (pfr σ th 0 x1)))
set_option maxHeartbeats 4000000 in
theorem MX8_initA (l : Launch) (E : xx_E) (th : Nat) (x1 : Option Nat) (σ : XS) (Q : XS → Prop) (hw : wX8_initA th x1 σ Q) : xx_Mv l yX8_init (ws_ yX8_init cX8_init 2 none) ({ frames := 1, cells := 0, slots := 0, locals := 40 } : Room) E [xv E (some th), xv E x1] σ Q 0 0 := by
  refine x_of (own := "StruckCounts$Some") (by decide +kernel) rfl ?_
  intro p e s m args below meth c cx hR ha hnm
  refine x_entry [xv E (some th), xv E x1] 2 [(0, xv E (some th)), (1, xv E x1)] ha (by simp [lg_sl, xv_cat, vc_i, vc_j, vc_f]) (by simp [lv_args, xv_cat, vc_i, vc_j, vc_f]) (fun ls hl => ?_)
  have hS : va_S (xA E) s.heap s.heap [] := va_S.rf
  have hcb : 0 + 0 ≤ 0 := Nat.le_of_eq (Nat.zero_add _)
  have hsb : 0 + 0 ≤ 0 := Nat.le_of_eq (Nat.zero_add _)
  have hini : meth.name = "<init>" := hnm
  unfold wX8_initA at hw
  obtain ⟨hx, hb, hml, hown, hts, hrt, hlk, hMK, hZ⟩ := id cx
  refine x_aload_n cx dX8_init_0 rfl (lv_at hl 0 rfl) ?_
  refine x_objinit cx hl.1 rfl q1761 (xroom12 (Nat.le_of_ble_eq_true rfl) (by dsimp only; omega)) (by dsimp only; omega) dX8_init_1 ?_
  refine x_aload_n cx dX8_init_4 rfl (lv_at hl 0 rfl) ?_
  refine x_aload_n cx dX8_init_5 rfl (lv_at hl 1 rfl) ?_
  obtain ⟨hk1, hw⟩ := hw
  obtain ⟨hge_th, hw⟩ := hw
  refine xp_X8_9_11 (v := x1) cx hR hS rfl hge_th hk1 hini dX8_init_6 (fun H locs hR hS => ?_)
  exact x_vret cx hR hS (xle hcb) (xle hsb) hw dX8_init_9
-- X11_init
theorem CX8_initA_X11_1 {l : Launch} {p : Program} {e : Env} {R : Room} {s : State} {m : MethodId} {args : Array Value} {below : List Frame} {meth : Method} {c : Code} {H : Heap} {locs : List Loc} {cells slots : Nat} {Qz : State → Prop} {cc : ByteArray} {nL : Nat} {ret : Option FieldType} {E : xx_E} {σ : XS} {pc : Nat} {ls : Array Slot} {rest : List Value} {th : Nat} {x1 : Option Nat} (cx : xx_X "StruckCounts$All" cc nL ret E p s m args meth c) (hR0 : xR E σ H) (hS0 : va_S (xA E) s.heap H locs) {r0 : Option Nat} (hr : r0 = some th) (hk : kd σ th = 11) {Qf : XS → Prop} (hw : wX8_initA th x1 σ Qf) (hR : (({ frames := 1, cells := 0, slots := 0, locals := 40 } : Room)).frames + 1 ≤ R.frames ∧ 8 + (2 + 11) + (({ frames := 1, cells := 0, slots := 0, locals := 40 } : Room)).locals ≤ R.locals) (hrest : rest.length ≤ 4) (hsize : ls.size = nL) (hf : cells + 0 ≤ R.cells ∧ slots + 0 ≤ R.slots) (hdg : decode cc pc = .ok (.invokespecial 1, 3))
    (kk : ∀ (σ1 : XS) (H1 : Heap) (locs1 : List Loc), Qf σ1 → xR E σ1 H1 → va_S (xA E) s.heap H1 locs1 → W p l e R s m args below meth c H1 locs1 (cells + 0) (slots + 0) Qz (F0 m (pc + 3) ls rest)) : W p l e R s m args below meth c H locs cells slots Qz (F0 m pc ls (xv E x1 :: xv E r0 :: rest)) := by
  subst hr
  obtain ⟨hx, hb, hml, hown, hts, hrt, hlk, hK, hZ⟩ := id cx
  exact x_gov (va_runI (As := [xv E x1]) (rest := rest) (x_fix cx) (MX8_initA l E th x1 σ Qf hw) (cwI 1 hts (lw_meth q1760) rfl rfl rfl (hts _ q195) (hts _ q1786) (hts _ q1759) rfl (by decide +kernel) hR) ⟨xblind, x_pre cx hR0 hS0 (.ref (xr E th) :: [xv E x1])⟩ rfl rfl hsize rfl (lv_room (xroom hrest)) hdg hf) hS0 kk
def wX11_init (th : Nat) (x1 : Option Nat) (σ : XS) (Q : XS → Prop) : Prop :=
  kd σ th = 11 ∧ (wX8_initA th x1 σ (fun s1 => Q s1))
set_option maxHeartbeats 4000000 in
theorem MX11_init (l : Launch) (E : xx_E) (th : Nat) (x1 : Option Nat) (σ : XS) (Q : XS → Prop) (hw : wX11_init th x1 σ Q) : xx_Mv l yX11_init (ws_ yX11_init cX11_init 2 none) ({ frames := 2, cells := 0, slots := 0, locals := 80 } : Room) E [xv E (some th), xv E x1] σ Q 0 0 := by
  refine x_of (own := "StruckCounts$All") (by decide +kernel) rfl ?_
  intro p e s m args below meth c cx hR ha hnm
  refine x_entry [xv E (some th), xv E x1] 2 [(0, xv E (some th)), (1, xv E x1)] ha (by simp [lg_sl, xv_cat, vc_i, vc_j, vc_f]) (by simp [lv_args, xv_cat, vc_i, vc_j, vc_f]) (fun ls hl => ?_)
  have hS : va_S (xA E) s.heap s.heap [] := va_S.rf
  have hcb : 0 + 0 ≤ 0 := Nat.le_of_eq (Nat.zero_add _)
  have hsb : 0 + 0 ≤ 0 := Nat.le_of_eq (Nat.zero_add _)
  have hini : meth.name = "<init>" := hnm
  unfold wX11_init at hw
  obtain ⟨hx, hb, hml, hown, hts, hrt, hlk, hMK, hZ⟩ := id cx
  refine x_aload_n cx dX11_init_0 rfl (lv_at hl 0 rfl) ?_
  refine x_aload_n cx dX11_init_1 rfl (lv_at hl 1 rfl) ?_
  obtain ⟨hk2, hw⟩ := hw
  refine CX8_initA_X11_1 cx hR hS rfl hk2 hw ⟨Nat.le_of_ble_eq_true rfl, Nat.le_of_ble_eq_true rfl⟩ (Nat.le_of_ble_eq_true rfl) hl.1 ⟨by dsimp only; omega, by dsimp only; omega⟩ dX11_init_2 (fun s1 H locs hw hR hS => ?_)
  exact x_vret cx hR hS (xle hcb) (xle hsb) hw dX11_init_5
-- X8_initS
theorem xp_X8_9_8 {l : Launch} {p : Program} {e : Env} {R : Room} {s : State} {m : MethodId} {args : Array Value} {below : List Frame} {meth : Method} {c : Code} {H : Heap} {locs : List Loc} {cells slots : Nat} {Qz : State → Prop} {cc : ByteArray} {nL : Nat} {ret : Option FieldType} {E : xx_E} {σ : XS} {pc : Nat} {ls : Array Slot} {rest : List Value} (cx : xx_X "StruckCounts$Some" cc nL ret E p s m args meth c) (hR : xR E σ H) (hS0 : va_S (xA E) s.heap H locs) {a : Nat} {r : Option Nat} {v : Option Nat} (hr : r = some a) (ha : xK ≤ a) (hk : kd σ a = 8) (hini : meth.name = "<init>") (hdg : decode cc pc = .ok (.putfield 9, 3)) (kk : ∀ (H1 : Heap) (locs1 : List Loc), xR E (pfr σ a 0 v) H1 → va_S (xA E) s.heap H1 locs1 → W p l e R s m args below meth c H1 locs1 cells slots Qz (F0 m (pc + 3) ls rest)) : W p l e R s m args below meth c H locs cells slots Qz (F0 m pc ls (xv E v :: xv E r :: rest)) :=
  x_put (ci := 7) cx hR hS0 hr ha hk (by decide) rfl in_X8 tyX8 tyX8_ok nmX8 0 (by decide) (Or.inr (Or.inl ⟨q1763, rfl, hini, rfl⟩)) (fun _ h => h) (by cases v <;> rfl) (by cases v <;> rfl) (xput_r rfl) hdg kk
def wX8_initS (th : Nat) (x1 : Option Nat) (σ : XS) (Q : XS → Prop) : Prop :=
  kd σ th = 8 ∧ (xK ≤ th ∧ (Q (pfr σ th 0 x1)))
set_option maxHeartbeats 4000000 in
theorem MX8_initS (l : Launch) (E : xx_E) (th : Nat) (x1 : Option Nat) (σ : XS) (Q : XS → Prop) (hw : wX8_initS th x1 σ Q) : xx_Mv l yX8_init (ws_ yX8_init cX8_init 2 none) ({ frames := 1, cells := 0, slots := 0, locals := 40 } : Room) E [xv E (some th), xv E x1] σ Q 0 0 := by
  refine x_of (own := "StruckCounts$Some") (by decide +kernel) rfl ?_
  intro p e s m args below meth c cx hR ha hnm
  refine x_entry [xv E (some th), xv E x1] 2 [(0, xv E (some th)), (1, xv E x1)] ha (by simp [lg_sl, xv_cat, vc_i, vc_j, vc_f]) (by simp [lv_args, xv_cat, vc_i, vc_j, vc_f]) (fun ls hl => ?_)
  have hS : va_S (xA E) s.heap s.heap [] := va_S.rf
  have hcb : 0 + 0 ≤ 0 := Nat.le_of_eq (Nat.zero_add _)
  have hsb : 0 + 0 ≤ 0 := Nat.le_of_eq (Nat.zero_add _)
  have hini : meth.name = "<init>" := hnm
  unfold wX8_initS at hw
  obtain ⟨hx, hb, hml, hown, hts, hrt, hlk, hMK, hZ⟩ := id cx
  refine x_aload_n cx dX8_init_0 rfl (lv_at hl 0 rfl) ?_
  refine x_objinit cx hl.1 rfl q1761 (xroom12 (Nat.le_of_ble_eq_true rfl) (by dsimp only; omega)) (by dsimp only; omega) dX8_init_1 ?_
  refine x_aload_n cx dX8_init_4 rfl (lv_at hl 0 rfl) ?_
  refine x_aload_n cx dX8_init_5 rfl (lv_at hl 1 rfl) ?_
  obtain ⟨hk1, hw⟩ := hw
  obtain ⟨hge_th, hw⟩ := hw
  refine xp_X8_9_8 (v := x1) cx hR hS rfl hge_th hk1 hini dX8_init_6 (fun H locs hR hS => ?_)
  exact x_vret cx hR hS (xle hcb) (xle hsb) hw dX8_init_9
-- X8_initM
theorem xp_X8_9_9 {l : Launch} {p : Program} {e : Env} {R : Room} {s : State} {m : MethodId} {args : Array Value} {below : List Frame} {meth : Method} {c : Code} {H : Heap} {locs : List Loc} {cells slots : Nat} {Qz : State → Prop} {cc : ByteArray} {nL : Nat} {ret : Option FieldType} {E : xx_E} {σ : XS} {pc : Nat} {ls : Array Slot} {rest : List Value} (cx : xx_X "StruckCounts$Some" cc nL ret E p s m args meth c) (hR : xR E σ H) (hS0 : va_S (xA E) s.heap H locs) {a : Nat} {r : Option Nat} {v : Option Nat} (hr : r = some a) (ha : xK ≤ a) (hk : kd σ a = 9) (hini : meth.name = "<init>") (hdg : decode cc pc = .ok (.putfield 9, 3)) (kk : ∀ (H1 : Heap) (locs1 : List Loc), xR E (pfr σ a 0 v) H1 → va_S (xA E) s.heap H1 locs1 → W p l e R s m args below meth c H1 locs1 cells slots Qz (F0 m (pc + 3) ls rest)) : W p l e R s m args below meth c H locs cells slots Qz (F0 m pc ls (xv E v :: xv E r :: rest)) :=
  x_put (ci := 8) cx hR hS0 hr ha hk (by decide) rfl in_X9 tyX9 tyX9_ok nmX9 0 (by decide) (Or.inr (Or.inl ⟨q1763, rfl, hini, rfl⟩)) (fun _ h => h) (by cases v <;> rfl) (by cases v <;> rfl) (xput_r rfl) hdg kk
def wX8_initM (th : Nat) (x1 : Option Nat) (σ : XS) (Q : XS → Prop) : Prop :=
  kd σ th = 9 ∧ (xK ≤ th ∧ (Q (pfr σ th 0 x1)))
set_option maxHeartbeats 4000000 in
theorem MX8_initM (l : Launch) (E : xx_E) (th : Nat) (x1 : Option Nat) (σ : XS) (Q : XS → Prop) (hw : wX8_initM th x1 σ Q) : xx_Mv l yX8_init (ws_ yX8_init cX8_init 2 none) ({ frames := 1, cells := 0, slots := 0, locals := 40 } : Room) E [xv E (some th), xv E x1] σ Q 0 0 := by
  refine x_of (own := "StruckCounts$Some") (by decide +kernel) rfl ?_
  intro p e s m args below meth c cx hR ha hnm
  refine x_entry [xv E (some th), xv E x1] 2 [(0, xv E (some th)), (1, xv E x1)] ha (by simp [lg_sl, xv_cat, vc_i, vc_j, vc_f]) (by simp [lv_args, xv_cat, vc_i, vc_j, vc_f]) (fun ls hl => ?_)
  have hS : va_S (xA E) s.heap s.heap [] := va_S.rf
  have hcb : 0 + 0 ≤ 0 := Nat.le_of_eq (Nat.zero_add _)
  have hsb : 0 + 0 ≤ 0 := Nat.le_of_eq (Nat.zero_add _)
  have hini : meth.name = "<init>" := hnm
  unfold wX8_initM at hw
  obtain ⟨hx, hb, hml, hown, hts, hrt, hlk, hMK, hZ⟩ := id cx
  refine x_aload_n cx dX8_init_0 rfl (lv_at hl 0 rfl) ?_
  refine x_objinit cx hl.1 rfl q1761 (xroom12 (Nat.le_of_ble_eq_true rfl) (by dsimp only; omega)) (by dsimp only; omega) dX8_init_1 ?_
  refine x_aload_n cx dX8_init_4 rfl (lv_at hl 0 rfl) ?_
  refine x_aload_n cx dX8_init_5 rfl (lv_at hl 1 rfl) ?_
  obtain ⟨hk1, hw⟩ := hw
  obtain ⟨hge_th, hw⟩ := hw
  refine xp_X8_9_9 (v := x1) cx hR hS rfl hge_th hk1 hini dX8_init_6 (fun H locs hR hS => ?_)
  exact x_vret cx hR hS (xle hcb) (xle hsb) hw dX8_init_9
-- X9_init
theorem xp_X9_7_9 {l : Launch} {p : Program} {e : Env} {R : Room} {s : State} {m : MethodId} {args : Array Value} {below : List Frame} {meth : Method} {c : Code} {H : Heap} {locs : List Loc} {cells slots : Nat} {Qz : State → Prop} {cc : ByteArray} {nL : Nat} {ret : Option FieldType} {E : xx_E} {σ : XS} {pc : Nat} {ls : Array Slot} {rest : List Value} (cx : xx_X "StruckCounts$SoMany" cc nL ret E p s m args meth c) (hR : xR E σ H) (hS0 : va_S (xA E) s.heap H locs) {a : Nat} {r : Option Nat} {v : Int32} (hr : r = some a) (ha : xK ≤ a) (hk : kd σ a = 9) (hini : meth.name = "<init>") (hdg : decode cc pc = .ok (.putfield 7, 3)) (kk : ∀ (H1 : Heap) (locs1 : List Loc), xR E (pfi σ a 1 v) H1 → va_S (xA E) s.heap H1 locs1 → W p l e R s m args below meth c H1 locs1 cells slots Qz (F0 m (pc + 3) ls rest)) : W p l e R s m args below meth c H locs cells slots Qz (F0 m pc ls (.int v :: xv E r :: rest)) :=
  x_put (ci := 8) cx hR hS0 hr ha hk (by decide) rfl in_X9 tyX9 tyX9_ok nmX9 1 (by decide) (Or.inr (Or.inl ⟨q1762, rfl, hini, rfl⟩)) (fun _ h => h) rfl rfl (xput_i rfl) hdg kk
theorem CX8_initM_X9_1 {l : Launch} {p : Program} {e : Env} {R : Room} {s : State} {m : MethodId} {args : Array Value} {below : List Frame} {meth : Method} {c : Code} {H : Heap} {locs : List Loc} {cells slots : Nat} {Qz : State → Prop} {cc : ByteArray} {nL : Nat} {ret : Option FieldType} {E : xx_E} {σ : XS} {pc : Nat} {ls : Array Slot} {rest : List Value} {th : Nat} {x1 : Option Nat} (cx : xx_X "StruckCounts$SoMany" cc nL ret E p s m args meth c) (hR0 : xR E σ H) (hS0 : va_S (xA E) s.heap H locs) {r0 : Option Nat} (hr : r0 = some th) (hk : kd σ th = 9) {Qf : XS → Prop} (hw : wX8_initM th x1 σ Qf) (hR : (({ frames := 1, cells := 0, slots := 0, locals := 40 } : Room)).frames + 1 ≤ R.frames ∧ 8 + (2 + 11) + (({ frames := 1, cells := 0, slots := 0, locals := 40 } : Room)).locals ≤ R.locals) (hrest : rest.length ≤ 4) (hsize : ls.size = nL) (hf : cells + 0 ≤ R.cells ∧ slots + 0 ≤ R.slots) (hdg : decode cc pc = .ok (.invokespecial 1, 3))
    (kk : ∀ (σ1 : XS) (H1 : Heap) (locs1 : List Loc), Qf σ1 → xR E σ1 H1 → va_S (xA E) s.heap H1 locs1 → W p l e R s m args below meth c H1 locs1 (cells + 0) (slots + 0) Qz (F0 m (pc + 3) ls rest)) : W p l e R s m args below meth c H locs cells slots Qz (F0 m pc ls (xv E x1 :: xv E r0 :: rest)) := by
  subst hr
  obtain ⟨hx, hb, hml, hown, hts, hrt, hlk, hK, hZ⟩ := id cx
  exact x_gov (va_runI (As := [xv E x1]) (rest := rest) (x_fix cx) (MX8_initM l E th x1 σ Qf hw) (cwI 1 hts (lw_meth q1760) rfl rfl rfl (hts _ q195) (hts _ q1758) (hts _ q1759) rfl (by decide +kernel) hR) ⟨xblind, x_pre cx hR0 hS0 (.ref (xr E th) :: [xv E x1])⟩ rfl rfl hsize rfl (lv_room (xroom hrest)) hdg hf) hS0 kk
def wX9_init (th : Nat) (x1 : Int32) (x2 : Option Nat) (σ : XS) (Q : XS → Prop) : Prop :=
  kd σ th = 9 ∧ (wX8_initM th x2 σ (fun s1 => kd s1 th = 9 ∧ (xK ≤ th ∧ (Q (pfi s1 th 1 x1)))))
set_option maxHeartbeats 4000000 in
theorem MX9_init (l : Launch) (E : xx_E) (th : Nat) (x1 : Int32) (x2 : Option Nat) (σ : XS) (Q : XS → Prop) (hw : wX9_init th x1 x2 σ Q) : xx_Mv l yX9_init (ws_ yX9_init cX9_init 3 none) ({ frames := 2, cells := 0, slots := 0, locals := 80 } : Room) E [xv E (some th), .int x1, xv E x2] σ Q 0 0 := by
  refine x_of (own := "StruckCounts$SoMany") (by decide +kernel) rfl ?_
  intro p e s m args below meth c cx hR ha hnm
  refine x_entry [xv E (some th), .int x1, xv E x2] 3 [(0, xv E (some th)), (1, .int x1), (2, xv E x2)] ha (by simp [lg_sl, xv_cat, vc_i, vc_j, vc_f]) (by simp [lv_args, xv_cat, vc_i, vc_j, vc_f]) (fun ls hl => ?_)
  have hS : va_S (xA E) s.heap s.heap [] := va_S.rf
  have hcb : 0 + 0 ≤ 0 := Nat.le_of_eq (Nat.zero_add _)
  have hsb : 0 + 0 ≤ 0 := Nat.le_of_eq (Nat.zero_add _)
  have hini : meth.name = "<init>" := hnm
  unfold wX9_init at hw
  obtain ⟨hx, hb, hml, hown, hts, hrt, hlk, hMK, hZ⟩ := id cx
  refine x_aload_n cx dX9_init_0 rfl (lv_at hl 0 rfl) ?_
  refine x_aload_n cx dX9_init_1 rfl (lv_at hl 2 rfl) ?_
  obtain ⟨hk2, hw⟩ := hw
  refine CX8_initM_X9_1 cx hR hS rfl hk2 hw ⟨Nat.le_of_ble_eq_true rfl, Nat.le_of_ble_eq_true rfl⟩ (Nat.le_of_ble_eq_true rfl) hl.1 ⟨by dsimp only; omega, by dsimp only; omega⟩ dX9_init_2 (fun s1 H locs hw hR hS => ?_)
  refine x_aload_n cx dX9_init_5 rfl (lv_at hl 0 rfl) ?_
  refine lv_iload_n hx hb dX9_init_6 rfl (lv_at hl 1 rfl) ?_
  obtain ⟨hk3, hw⟩ := hw
  obtain ⟨hge_th, hw⟩ := hw
  refine xp_X9_7_9 (v := x1) cx hR hS rfl hge_th hk3 hini dX9_init_7 (fun H locs hR hS => ?_)
  exact x_vret cx hR hS (xle hcb) (xle hsb) hw dX9_init_10
-- X13_init
theorem xp_X13_13_13 {l : Launch} {p : Program} {e : Env} {R : Room} {s : State} {m : MethodId} {args : Array Value} {below : List Frame} {meth : Method} {c : Code} {H : Heap} {locs : List Loc} {cells slots : Nat} {Qz : State → Prop} {cc : ByteArray} {nL : Nat} {ret : Option FieldType} {E : xx_E} {σ : XS} {pc : Nat} {ls : Array Slot} {rest : List Value} (cx : xx_X "StruckCounts$Rule" cc nL ret E p s m args meth c) (hR : xR E σ H) (hS0 : va_S (xA E) s.heap H locs) {a : Nat} {r : Option Nat} {v : Option Nat} (hr : r = some a) (ha : xK ≤ a) (hk : kd σ a = 13) (hini : meth.name = "<init>") (hdg : decode cc pc = .ok (.putfield 13, 3)) (kk : ∀ (H1 : Heap) (locs1 : List Loc), xR E (pfr σ a 0 v) H1 → va_S (xA E) s.heap H1 locs1 → W p l e R s m args below meth c H1 locs1 cells slots Qz (F0 m (pc + 3) ls rest)) : W p l e R s m args below meth c H locs cells slots Qz (F0 m pc ls (xv E v :: xv E r :: rest)) :=
  x_put (ci := 12) cx hR hS0 hr ha hk (by decide) rfl in_X13 tyX13 tyX13_ok nmX13 0 (by decide) (Or.inr (Or.inl ⟨q1841, rfl, hini, rfl⟩)) (fun _ h => h) (by cases v <;> rfl) (by cases v <;> rfl) (xput_r rfl) hdg kk
def wX13_init (th : Nat) (x1 : Option Nat) (bc : Nat) (bs : Nat) (σ : XS) (Q : XS → Prop) : Prop :=
  1 ≤ bc ∧ 0 ≤ bs ∧ (kd (xal σ 101 0) th = 13 ∧ (xK ≤ th ∧ (Q (pfr (pfr (xal σ 101 0) th 1 (some (xn σ))) th 0 x1))))
set_option maxHeartbeats 4000000 in
theorem MX13_init (l : Launch) (E : xx_E) (th : Nat) (x1 : Option Nat) (bc : Nat) (bs : Nat) (σ : XS) (Q : XS → Prop) (hw : wX13_init th x1 bc bs σ Q) : xx_Mv l yX13_init (ws_ yX13_init cX13_init 2 none) ({ frames := 1, cells := bc, slots := bs, locals := 40 } : Room) E [xv E (some th), xv E x1] σ Q bc bs := by
  refine x_of (own := "StruckCounts$Rule") (by decide +kernel) rfl ?_
  intro p e s m args below meth c cx hR ha hnm
  refine x_entry [xv E (some th), xv E x1] 2 [(0, xv E (some th)), (1, xv E x1)] ha (by simp [lg_sl, xv_cat, vc_i, vc_j, vc_f]) (by simp [lv_args, xv_cat, vc_i, vc_j, vc_f]) (fun ls hl => ?_)
  have hS : va_S (xA E) s.heap s.heap [] := va_S.rf
  have hcb : 0 + bc ≤ bc := Nat.le_of_eq (Nat.zero_add _)
  have hsb : 0 + bs ≤ bs := Nat.le_of_eq (Nat.zero_add _)
  have hini : meth.name = "<init>" := hnm
  unfold wX13_init at hw
  obtain ⟨hx, hb, hml, hown, hts, hrt, hlk, hMK, hZ⟩ := id cx
  refine x_aload_n cx dX13_init_0 rfl (lv_at hl 0 rfl) ?_
  refine x_objinit cx hl.1 rfl q1840 (xroom12 (Nat.le_of_ble_eq_true rfl) (by dsimp only; omega)) (by dsimp only; omega) dX13_init_1 ?_
  refine x_aload_n cx dX13_init_4 rfl (lv_at hl 0 rfl) ?_
  refine lv_iconst (v := (0 : Int32)) hx hb dX13_init_5 (by decide) ?_
  obtain ⟨hb1, hb2, hw⟩ := hw
  refine x_newa (atype := .boolean) cx hR hS 1 (by decide) rfl q377 (fun _ => rfl) (fun h => absurd h (by decide)) (N := 0) (by decide) (by decide) (Nat.le_of_ble_eq_true rfl) (by dsimp only; omega) (by dsimp only; omega) dX13_init_6 (fun H hR hS => ?_)
  have hcb := xadd hb1 hcb
  have hsb := xadd hb2 hsb
  obtain ⟨hk1, hw⟩ := hw
  obtain ⟨hge_th, hw⟩ := hw
  refine xp_X13_7_13 (v := (some (xn σ))) cx hR hS rfl hge_th hk1 dX13_init_8 (fun H locs hR hS => ?_)
  refine x_aload_n cx dX13_init_11 rfl (lv_at hl 0 rfl) ?_
  refine x_aload_n cx dX13_init_12 rfl (lv_at hl 1 rfl) ?_
  refine xp_X13_13_13 (v := x1) cx hR hS rfl hge_th hk1 hini dX13_init_13 (fun H locs hR hS => ?_)
  exact x_vret cx hR hS (xle hcb) (xle hsb) hw dX13_init_16
-- J1_containsKeyL
theorem CJ1_getNodeL_J1_158 {l : Launch} {p : Program} {e : Env} {R : Room} {s : State} {m : MethodId} {args : Array Value} {below : List Frame} {meth : Method} {c : Code} {H : Heap} {locs : List Loc} {cells slots : Nat} {Qz : State → Prop} {cc : ByteArray} {nL : Nat} {ret : Option FieldType} {E : xx_E} {σ : XS} {pc : Nat} {ls : Array Slot} {rest : List Value} {th : Nat} {x1 : Option Nat} (cx : xx_X "java/util/HashMap" cc nL ret E p s m args meth c) (hR0 : xR E σ H) (hS0 : va_S (xA E) s.heap H locs) {r0 : Option Nat} (hr : r0 = some th) (hk : kd σ th = 18) {Qf : Option Nat → XS → Prop} (hw : wJ1_getNodeL th x1 σ Qf) (hR : (({ frames := 9, cells := 0, slots := 0, locals := 360 } : Room)).frames + 1 ≤ R.frames ∧ 8 + (8 + 11) + (({ frames := 9, cells := 0, slots := 0, locals := 360 } : Room)).locals ≤ R.locals) (hrest : rest.length ≤ 4) (hsize : ls.size = nL) (hf : cells + 0 ≤ R.cells ∧ slots + 0 ≤ R.slots) (hdg : decode cc pc = .ok (.invokevirtual 158, 3))
    (kk : ∀ (r : Option Nat) (σ1 : XS) (H1 : Heap) (locs1 : List Loc), Qf r σ1 → xR E σ1 H1 → va_S (xA E) s.heap H1 locs1 → W p l e R s m args below meth c H1 locs1 (cells + 0) (slots + 0) Qz (F0 m (pc + 3) ls (xv E r :: rest))) : W p l e R s m args below meth c H locs cells slots Qz (F0 m pc ls (xv E x1 :: xv E r0 :: rest)) := by
  subst hr
  obtain ⟨hx, hb, hml, hown, hts, hrt, hlk, hK, hZ⟩ := id cx
  exact x_gor (va_runU (C := "java/util/LinkedHashMap") (owner := "java/util/HashMap") (As := [xv E x1]) (rest := rest) (x_fix cx) (MJ1_getNodeL l E th x1 σ Qf hw) (va_cwU (C := "java/util/LinkedHashMap") (owner := "java/util/HashMap") (x := ⟨"java/util/HashMap", "getNode", "(Ljava/lang/Object;)Ljava/util/HashMap$Node;"⟩) 1 hts (lw_app (xin5 q1133 q1136 q1137 q1134 q159) (lw_meth q1138)) rfl rfl rfl rfl (by decide +kernel) hR) (x_preV cx hR0 hS0 hk (by decide) (q := (RJ2, TJ2, 12)) rfl rfl [xv E x1]) rfl rfl hsize rfl (lv_room (xroom hrest)) hdg hf) hS0 kk
def wJ1_containsKeyL (th : Nat) (x1 : Option Nat) (σ : XS) (Q : Int32 → XS → Prop) : Prop :=
  kd σ th = 18 ∧ (wJ1_getNodeL th x1 σ (fun r1 s1 => if r1 = none then (Q (0 : Int32) s1) else (Q (1 : Int32) s1)))
set_option maxHeartbeats 4000000 in
theorem MJ1_containsKeyL (l : Launch) (E : xx_E) (th : Nat) (x1 : Option Nat) (σ : XS) (Q : Int32 → XS → Prop) (hw : wJ1_containsKeyL th x1 σ Q) : xx_Mi l yJ1_containsKey (ws_ yJ1_containsKey cJ1_containsKey 2 (some .boolean)) ({ frames := 10, cells := 0, slots := 0, locals := 400 } : Room) E [xv E (some th), xv E x1] σ Q 0 0 := by
  refine x_of (own := "java/util/HashMap") (by decide +kernel) rfl ?_
  intro p e s m args below meth c cx hR ha hnm
  refine x_entry [xv E (some th), xv E x1] 2 [(0, xv E (some th)), (1, xv E x1)] ha (by simp [lg_sl, xv_cat, vc_i, vc_j, vc_f]) (by simp [lv_args, xv_cat, vc_i, vc_j, vc_f]) (fun ls hl => ?_)
  have hS : va_S (xA E) s.heap s.heap [] := va_S.rf
  have hcb : 0 + 0 ≤ 0 := Nat.le_of_eq (Nat.zero_add _)
  have hsb : 0 + 0 ≤ 0 := Nat.le_of_eq (Nat.zero_add _)
  unfold wJ1_containsKeyL at hw
  obtain ⟨hx, hb, hml, hown, hts, hrt, hlk, hMK, hZ⟩ := id cx
  refine x_aload_n cx dJ1_containsKey_0 rfl (lv_at hl 0 rfl) ?_
  refine x_aload_n cx dJ1_containsKey_1 rfl (lv_at hl 1 rfl) ?_
  obtain ⟨hk2, hw⟩ := hw
  refine CJ1_getNodeL_J1_158 cx hR hS rfl hk2 hw ⟨Nat.le_of_ble_eq_true rfl, Nat.le_of_ble_eq_true rfl⟩ (Nat.le_of_ble_eq_true rfl) hl.1 ⟨by dsimp only; omega, by dsimp only; omega⟩ dJ1_containsKey_2 (fun r1 s1 H locs hw hR hS => ?_)
  refine x_ifnull (tgt := 12) cx dJ1_containsKey_5 (by decide) (fun hc => ?_) (fun hc => ?_)
  · have hw := mm_ip hc hw
    refine lv_iconst (v := (0 : Int32)) hx hb dJ1_containsKey_12 (by decide) ?_
    exact x_nret cx hR hS (xle hcb) (xle hsb) (zb_nar (Or.inl rfl)) hw dJ1_containsKey_13
  · have hw := mm_in hc hw
    refine lv_iconst (v := (1 : Int32)) hx hb dJ1_containsKey_8 (by decide) ?_
    refine lv_goto (tgt := 13) hx hb dJ1_containsKey_9 (by decide) ?_
    exact x_nret cx hR hS (xle hcb) (xle hsb) (zb_nar (Or.inr rfl)) hw dJ1_containsKey_13
-- X6_init
theorem xp_X6_7_6 {l : Launch} {p : Program} {e : Env} {R : Room} {s : State} {m : MethodId} {args : Array Value} {below : List Frame} {meth : Method} {c : Code} {H : Heap} {locs : List Loc} {cells slots : Nat} {Qz : State → Prop} {cc : ByteArray} {nL : Nat} {ret : Option FieldType} {E : xx_E} {σ : XS} {pc : Nat} {ls : Array Slot} {rest : List Value} (cx : xx_X "StruckCounts$Owner" cc nL ret E p s m args meth c) (hR : xR E σ H) (hS0 : va_S (xA E) s.heap H locs) {a : Nat} {r : Option Nat} {v : Int32} (hr : r = some a) (ha : xK ≤ a) (hk : kd σ a = 6) (hini : meth.name = "<init>") (hz : zb v) (hdg : decode cc pc = .ok (.putfield 7, 3)) (kk : ∀ (H1 : Heap) (locs1 : List Loc), xR E (pfi σ a 0 v) H1 → va_S (xA E) s.heap H1 locs1 → W p l e R s m args below meth c H1 locs1 cells slots Qz (F0 m (pc + 3) ls rest)) : W p l e R s m args below meth c H locs cells slots Qz (F0 m pc ls (.int v :: xv E r :: rest)) :=
  x_put (ci := 5) cx hR hS0 hr ha hk (by decide) rfl in_X6 tyX6 tyX6_ok nmX6 0 (by decide) (Or.inr (Or.inl ⟨q1441, rfl, hini, rfl⟩)) (fun _ h => h) (zb_nar hz) (by rcases hz with rfl | rfl <;> rfl) (xput_i rfl) hdg kk
theorem xp_X6_13_6 {l : Launch} {p : Program} {e : Env} {R : Room} {s : State} {m : MethodId} {args : Array Value} {below : List Frame} {meth : Method} {c : Code} {H : Heap} {locs : List Loc} {cells slots : Nat} {Qz : State → Prop} {cc : ByteArray} {nL : Nat} {ret : Option FieldType} {E : xx_E} {σ : XS} {pc : Nat} {ls : Array Slot} {rest : List Value} (cx : xx_X "StruckCounts$Owner" cc nL ret E p s m args meth c) (hR : xR E σ H) (hS0 : va_S (xA E) s.heap H locs) {a : Nat} {r : Option Nat} {v : Int32} (hr : r = some a) (ha : xK ≤ a) (hk : kd σ a = 6) (hini : meth.name = "<init>") (hdg : decode cc pc = .ok (.putfield 13, 3)) (kk : ∀ (H1 : Heap) (locs1 : List Loc), xR E (pfi σ a 1 v) H1 → va_S (xA E) s.heap H1 locs1 → W p l e R s m args below meth c H1 locs1 cells slots Qz (F0 m (pc + 3) ls rest)) : W p l e R s m args below meth c H locs cells slots Qz (F0 m pc ls (.int v :: xv E r :: rest)) :=
  x_put (ci := 5) cx hR hS0 hr ha hk (by decide) rfl in_X6 tyX6 tyX6_ok nmX6 1 (by decide) (Or.inr (Or.inl ⟨q1443, rfl, hini, rfl⟩)) (fun _ h => h) rfl rfl (xput_i rfl) hdg kk
def wX6_init (th : Nat) (x1 : Int32) (x2 : Int32) (σ : XS) (Q : XS → Prop) : Prop :=
  kd σ th = 6 ∧ (xK ≤ th ∧ (zb x1 ∧ (Q (pfi (pfi σ th 0 x1) th 1 x2))))
set_option maxHeartbeats 4000000 in
theorem MX6_init (l : Launch) (E : xx_E) (th : Nat) (x1 : Int32) (x2 : Int32) (σ : XS) (Q : XS → Prop) (hw : wX6_init th x1 x2 σ Q) : xx_Mv l yX6_init (ws_ yX6_init cX6_init 3 none) ({ frames := 1, cells := 0, slots := 0, locals := 40 } : Room) E [xv E (some th), .int x1, .int x2] σ Q 0 0 := by
  refine x_of (own := "StruckCounts$Owner") (by decide +kernel) rfl ?_
  intro p e s m args below meth c cx hR ha hnm
  refine x_entry [xv E (some th), .int x1, .int x2] 3 [(0, xv E (some th)), (1, .int x1), (2, .int x2)] ha (by simp [lg_sl, xv_cat, vc_i, vc_j, vc_f]) (by simp [lv_args, xv_cat, vc_i, vc_j, vc_f]) (fun ls hl => ?_)
  have hS : va_S (xA E) s.heap s.heap [] := va_S.rf
  have hcb : 0 + 0 ≤ 0 := Nat.le_of_eq (Nat.zero_add _)
  have hsb : 0 + 0 ≤ 0 := Nat.le_of_eq (Nat.zero_add _)
  have hini : meth.name = "<init>" := hnm
  unfold wX6_init at hw
  obtain ⟨hx, hb, hml, hown, hts, hrt, hlk, hMK, hZ⟩ := id cx
  refine x_aload_n cx dX6_init_0 rfl (lv_at hl 0 rfl) ?_
  refine x_objinit cx hl.1 rfl q1440 (xroom12 (Nat.le_of_ble_eq_true rfl) (by dsimp only; omega)) (by dsimp only; omega) dX6_init_1 ?_
  refine x_aload_n cx dX6_init_4 rfl (lv_at hl 0 rfl) ?_
  refine lv_iload_n hx hb dX6_init_5 rfl (lv_at hl 1 rfl) ?_
  obtain ⟨hk1, hw⟩ := hw
  obtain ⟨hge_th, hw⟩ := hw
  obtain ⟨hz, hw⟩ := hw
  refine xp_X6_7_6 (v := x1) cx hR hS rfl hge_th hk1 hini hz dX6_init_6 (fun H locs hR hS => ?_)
  refine x_aload_n cx dX6_init_9 rfl (lv_at hl 0 rfl) ?_
  refine lv_iload_n hx hb dX6_init_10 rfl (lv_at hl 2 rfl) ?_
  refine xp_X6_13_6 (v := x2) cx hR hS rfl hge_th hk1 hini dX6_init_11 (fun H locs hR hS => ?_)
  exact x_vret cx hR hS (xle hcb) (xle hsb) hw dX6_init_14
-- J1_resizeL
theorem xp_J1_177_21 {l : Launch} {p : Program} {e : Env} {R : Room} {s : State} {m : MethodId} {args : Array Value} {below : List Frame} {meth : Method} {c : Code} {H : Heap} {locs : List Loc} {cells slots : Nat} {Qz : State → Prop} {cc : ByteArray} {nL : Nat} {ret : Option FieldType} {E : xx_E} {σ : XS} {pc : Nat} {ls : Array Slot} {rest : List Value} (cx : xx_X "java/util/HashMap" cc nL ret E p s m args meth c) (hR : xR E σ H) (hS0 : va_S (xA E) s.heap H locs) {a : Nat} {r : Option Nat} {v : Option Nat} (hr : r = some a) (ha : xK ≤ a) (hk : kd σ a = 21) (hdg : decode cc pc = .ok (.putfield 177, 3)) (kk : ∀ (H1 : Heap) (locs1 : List Loc), xR E (pfr σ a 3 v) H1 → va_S (xA E) s.heap H1 locs1 → W p l e R s m args below meth c H1 locs1 cells slots Qz (F0 m (pc + 3) ls rest)) : W p l e R s m args below meth c H locs cells slots Qz (F0 m pc ls (xv E v :: xv E r :: rest)) :=
  x_put (ci := 20) cx hR hS0 hr ha hk (by decide) rfl in_J26 tyJ26 tyJ26_ok nmJ26 3 (by decide) (Or.inl ⟨q1520, rfl⟩) (fun _ h => h) (by cases v <;> rfl) (by cases v <;> rfl) (xput_r rfl) hdg kk
theorem xp_J1_105_18 {l : Launch} {p : Program} {e : Env} {R : Room} {s : State} {m : MethodId} {args : Array Value} {below : List Frame} {meth : Method} {c : Code} {H : Heap} {locs : List Loc} {cells slots : Nat} {Qz : State → Prop} {cc : ByteArray} {nL : Nat} {ret : Option FieldType} {E : xx_E} {σ : XS} {pc : Nat} {ls : Array Slot} {rest : List Value} (cx : xx_X "java/util/HashMap" cc nL ret E p s m args meth c) (hR : xR E σ H) (hS0 : va_S (xA E) s.heap H locs) {a : Nat} {r : Option Nat} {v : Option Nat} (hr : r = some a) (ha : xK ≤ a) (hk : kd σ a = 18) (hdg : decode cc pc = .ok (.putfield 105, 3)) (kk : ∀ (H1 : Heap) (locs1 : List Loc), xR E (pfr σ a 2 v) H1 → va_S (xA E) s.heap H1 locs1 → W p l e R s m args below meth c H1 locs1 cells slots Qz (F0 m (pc + 3) ls rest)) : W p l e R s m args below meth c H locs cells slots Qz (F0 m pc ls (xv E v :: xv E r :: rest)) :=
  x_put (ci := 17) cx hR hS0 hr ha hk (by decide) rfl in_J2 tyJ2 tyJ2_ok nmJ2 2 (by decide) (Or.inl ⟨q237, rfl⟩) (fun _ h => h) (by cases v <;> rfl) (by cases v <;> rfl) (xput_r rfl) hdg kk
theorem xg_J1_81_18 {l : Launch} {p : Program} {e : Env} {R : Room} {s : State} {m : MethodId} {args : Array Value} {below : List Frame} {meth : Method} {c : Code} {H : Heap} {locs : List Loc} {cells slots : Nat} {Qz : State → Prop} {cc : ByteArray} {nL : Nat} {ret : Option FieldType} {E : xx_E} {σ : XS} {pc : Nat} {ls : Array Slot} {rest : List Value} (cx : xx_X "java/util/HashMap" cc nL ret E p s m args meth c) (hR : xR E σ H) {a : Nat} {r : Option Nat} (hr : r = some a) (hk : kd σ a = 18) (hdg : decode cc pc = .ok (.getfield 81, 3)) (kk : W p l e R s m args below meth c H locs cells slots Qz (F0 m (pc + 3) ls (.float (ff σ a 7) :: rest))) : W p l e R s m args below meth c H locs cells slots Qz (F0 m pc ls (xv E r :: rest)) :=
  x_get (ci := 17) cx hR hr hk (by decide) rfl in_J2 7 (by decide) q243 (fun _ h => h) (v := .float (ff σ a 7)) rfl hdg kk
theorem xg_J1_88_18 {l : Launch} {p : Program} {e : Env} {R : Room} {s : State} {m : MethodId} {args : Array Value} {below : List Frame} {meth : Method} {c : Code} {H : Heap} {locs : List Loc} {cells slots : Nat} {Qz : State → Prop} {cc : ByteArray} {nL : Nat} {ret : Option FieldType} {E : xx_E} {σ : XS} {pc : Nat} {ls : Array Slot} {rest : List Value} (cx : xx_X "java/util/HashMap" cc nL ret E p s m args meth c) (hR : xR E σ H) {a : Nat} {r : Option Nat} (hr : r = some a) (hk : kd σ a = 18) (hdg : decode cc pc = .ok (.getfield 88, 3)) (kk : W p l e R s m args below meth c H locs cells slots Qz (F0 m (pc + 3) ls (.int (fi σ a 6) :: rest))) : W p l e R s m args below meth c H locs cells slots Qz (F0 m pc ls (xv E r :: rest)) :=
  x_get (ci := 17) cx hR hr hk (by decide) rfl in_J2 6 (by decide) q242 (fun _ h => h) (v := .int (fi σ a 6)) rfl hdg kk
def wJ1_resizeL_347 (Q : Option Nat → XS → Prop) (K151 : Nat → Option Nat → Int32 → Int32 → Option Nat → Int32 → Nat → Nat → XS → Prop) (th : Nat) (x1 : Option Nat) (x2 : Int32) (x4 : Int32) (x6 : Option Nat) (x7 : Int32) (bc : Nat) (bs : Nat) (σ : XS) : Prop :=
  ∀ v1 : Int32, v1 = x7 + (1 : Int32) → K151 th x1 x2 x4 x6 v1 bc bs σ
set_option maxHeartbeats 4000000 in
theorem BJ1_resizeL_347 {l : Launch} {p : Program} {e : Env} {s : State} {m : MethodId} {args : Array Value} {below : List Frame} {meth : Method} {c : Code} {E : xx_E} {mc ms : Nat} {Q : Option Nat → XS → Prop} {K151 : Nat → Option Nat → Int32 → Int32 → Option Nat → Int32 → Nat → Nat → XS → Prop} (cx : xx_X "java/util/HashMap" cJ1_resize 14 (some (.array (.object "java/util/HashMap$Node"))) E p s m args meth c) (hK151 : ∀ (th : Nat) (x1 : Option Nat) (x2 : Int32) (x4 : Int32) (x6 : Option Nat) (x7 : Int32) (bc : Nat) (bs : Nat) (σ : XS), K151 th x1 x2 x4 x6 x7 bc bs σ → x_T p l e ({ frames := 0, cells := mc, slots := ms, locals := 0 } : Room) s m args below meth c E (va_Qe (xr E) Q (fun σ' t => xW E σ' t) (xA E)) mc ms 14 151 bc bs σ [(0, xv E (some th)), (1, xv E x1), (2, .int x2), (4, .int x4), (6, xv E x6), (7, .int x7)] []) : ∀ (th : Nat) (x1 : Option Nat) (x2 : Int32) (x4 : Int32) (x6 : Option Nat) (x7 : Int32) (bc : Nat) (bs : Nat) (σ : XS), wJ1_resizeL_347 Q K151 th x1 x2 x4 x6 x7 bc bs σ → x_T p l e ({ frames := 0, cells := mc, slots := ms, locals := 0 } : Room) s m args below meth c E (va_Qe (xr E) Q (fun σ' t => xW E σ' t) (xA E)) mc ms 14 347 bc bs σ [(0, xv E (some th)), (1, xv E x1), (2, .int x2), (4, .int x4), (6, xv E x6), (7, .int x7)] [] := by
  intro th x1 x2 x4 x6 x7 bc bs σ hw H locs ls cells slots hR hS hl hcb hsb
  unfold wJ1_resizeL_347 at hw
  obtain ⟨hx, hb, hml, hown, hts, hrt, hlk, hMK, hZ⟩ := id cx
  obtain ⟨v1, hv1⟩ : ∃ v : Int32, v = x7 + (1 : Int32) := ⟨_, rfl⟩
  have hw := hw v1 hv1
  refine lv_iinc (v := v1) (lv' := [(7, .int v1), (0, xv E (some th)), (1, xv E x1), (2, .int x2), (4, .int x4), (6, xv E x6)]) hx hb dJ1_resize_347 hl (k := 5) rfl (by rw [hv1]; rfl) (by decide) (by simp [xv_cat]) (fun ls hl => ?_)
  refine lv_goto (tgt := 151) hx hb dJ1_resize_350 (by decide) ?_
  exact hK151 _ _ _ _ _ _ _ _ _ hw _ _ _ _ _ hR hS (lv_sub hl [1, 2, 3, 4, 5, 0] rfl) hcb hsb
def wJ1_resizeL_327 (Q : Option Nat → XS → Prop) (K151 : Nat → Option Nat → Int32 → Int32 → Option Nat → Int32 → Nat → Nat → XS → Prop) (th : Nat) (x1 : Option Nat) (x2 : Int32) (x4 : Int32) (x6 : Option Nat) (x7 : Int32) (x11 : Option Nat) (x12 : Option Nat) (bc : Nat) (bs : Nat) (σ : XS) : Prop :=
  if x12 = none then (wJ1_resizeL_347 Q K151 th x1 x2 x4 x6 x7 bc bs σ) else (oc σ x12 21 (fun a2 => xK ≤ a2 ∧ (oc (pfr σ a2 3 none) x6 106 (fun a3 => xK ≤ a3 ∧ (vp_in (x7 + x2) (ln (pfr σ a2 3 none) a3) ∧ (xck [20, 21] (pfr σ a2 3 none) x11 ∧ (wJ1_resizeL_347 Q K151 th x1 x2 x4 x6 x7 bc bs (par (pfr σ a2 3 none) a3 ((x7 + x2).toNatClampNeg) x11))))))))
set_option maxHeartbeats 4000000 in
theorem BJ1_resizeL_327 {l : Launch} {p : Program} {e : Env} {s : State} {m : MethodId} {args : Array Value} {below : List Frame} {meth : Method} {c : Code} {E : xx_E} {mc ms : Nat} {Q : Option Nat → XS → Prop} {K151 : Nat → Option Nat → Int32 → Int32 → Option Nat → Int32 → Nat → Nat → XS → Prop} (cx : xx_X "java/util/HashMap" cJ1_resize 14 (some (.array (.object "java/util/HashMap$Node"))) E p s m args meth c) (hK151 : ∀ (th : Nat) (x1 : Option Nat) (x2 : Int32) (x4 : Int32) (x6 : Option Nat) (x7 : Int32) (bc : Nat) (bs : Nat) (σ : XS), K151 th x1 x2 x4 x6 x7 bc bs σ → x_T p l e ({ frames := 0, cells := mc, slots := ms, locals := 0 } : Room) s m args below meth c E (va_Qe (xr E) Q (fun σ' t => xW E σ' t) (xA E)) mc ms 14 151 bc bs σ [(0, xv E (some th)), (1, xv E x1), (2, .int x2), (4, .int x4), (6, xv E x6), (7, .int x7)] []) : ∀ (th : Nat) (x1 : Option Nat) (x2 : Int32) (x4 : Int32) (x6 : Option Nat) (x7 : Int32) (x11 : Option Nat) (x12 : Option Nat) (bc : Nat) (bs : Nat) (σ : XS), wJ1_resizeL_327 Q K151 th x1 x2 x4 x6 x7 x11 x12 bc bs σ → x_T p l e ({ frames := 0, cells := mc, slots := ms, locals := 0 } : Room) s m args below meth c E (va_Qe (xr E) Q (fun σ' t => xW E σ' t) (xA E)) mc ms 14 327 bc bs σ [(0, xv E (some th)), (1, xv E x1), (2, .int x2), (4, .int x4), (6, xv E x6), (7, .int x7), (11, xv E x11), (12, xv E x12)] [] := by
  intro th x1 x2 x4 x6 x7 x11 x12 bc bs σ hw H locs ls cells slots hR hS hl hcb hsb
  unfold wJ1_resizeL_327 at hw
  obtain ⟨hx, hb, hml, hown, hts, hrt, hlk, hMK, hZ⟩ := id cx
  refine x_aload cx dJ1_resize_327 (lv_at hl 7 rfl) ?_
  refine x_ifnull (tgt := 347) cx dJ1_resize_329 (by decide) (fun hc => ?_) (fun hc => ?_)
  · have hw := mm_ip hc hw
    exact BJ1_resizeL_347 cx hK151 _ _ _ _ _ _ _ _ _ hw _ _ _ _ _ hR hS (lv_sub hl [0, 1, 2, 3, 4, 5] rfl) hcb hsb
  · have hw := mm_in hc hw
    refine x_aload cx dJ1_resize_332 (lv_at hl 7 rfl) ?_
    refine lv_null hx hb dJ1_resize_334 ?_
    obtain ⟨a2, hr2, hk2, hw⟩ := hw
    obtain ⟨hge_a2, hw⟩ := hw
    refine xp_J1_177_21 (v := none) cx hR hS hr2 hge_a2 hk2 dJ1_resize_335 (fun H locs hR hS => ?_)
    refine x_aload cx dJ1_resize_338 (lv_at hl 4 rfl) ?_
    refine lv_iload hx hb dJ1_resize_340 (lv_at hl 5 rfl) ?_
    refine lv_iload_n hx hb dJ1_resize_342 rfl (lv_at hl 2 rfl) ?_
    refine lv_iadd hx hb dJ1_resize_343 ?_
    refine x_aload cx dJ1_resize_344 (lv_at hl 6 rfl) ?_
    obtain ⟨a3, hr3, hk3, hw⟩ := hw
    obtain ⟨hge_a3, hw⟩ := hw
    obtain ⟨hi, hw⟩ := hw
    obtain ⟨hv, hw⟩ := hw
    refine x_ast cx hR hS hr3 hge_a3 6 (C := "java/util/HashMap$Node") rfl hk3 (by decide) (by decide) (j := (x7 + x2).toNatClampNeg) rfl hi (xcs_106 cx hv) dJ1_resize_346 (fun H locs hR hS => ?_)
    exact BJ1_resizeL_347 cx hK151 _ _ _ _ _ _ _ _ _ hw _ _ _ _ _ hR hS (lv_sub hl [0, 1, 2, 3, 4, 5] rfl) hcb hsb
def wJ1_resizeL_301 (Q : Option Nat → XS → Prop) (K151 : Nat → Option Nat → Int32 → Int32 → Option Nat → Int32 → Nat → Nat → XS → Prop) (K235 : Nat → Option Nat → Int32 → Int32 → Option Nat → Int32 → Option Nat → Option Nat → Option Nat → Option Nat → Option Nat → Nat → Nat → XS → Prop) (th : Nat) (x1 : Option Nat) (x2 : Int32) (x4 : Int32) (x6 : Option Nat) (x7 : Int32) (x9 : Option Nat) (x10 : Option Nat) (x11 : Option Nat) (x12 : Option Nat) (x13 : Option Nat) (bc : Nat) (bs : Nat) (σ : XS) : Prop :=
  if x13 = none then (if x10 = none then (wJ1_resizeL_327 Q K151 th x1 x2 x4 x6 x7 x11 x12 bc bs σ) else (oc σ x10 21 (fun a4 => xK ≤ a4 ∧ (oc (pfr σ a4 3 none) x6 106 (fun a5 => xK ≤ a5 ∧ (vp_in x7 (ln (pfr σ a4 3 none) a5) ∧ (xck [20, 21] (pfr σ a4 3 none) x9 ∧ (wJ1_resizeL_327 Q K151 th x1 x2 x4 x6 x7 x11 x12 bc bs (par (pfr σ a4 3 none) a5 x7.toNatClampNeg x9))))))))) else (K235 th x1 x2 x4 x6 x7 x13 x9 x10 x11 x12 bc bs σ)
set_option maxHeartbeats 4000000 in
theorem BJ1_resizeL_301 {l : Launch} {p : Program} {e : Env} {s : State} {m : MethodId} {args : Array Value} {below : List Frame} {meth : Method} {c : Code} {E : xx_E} {mc ms : Nat} {Q : Option Nat → XS → Prop} {K151 : Nat → Option Nat → Int32 → Int32 → Option Nat → Int32 → Nat → Nat → XS → Prop} {K235 : Nat → Option Nat → Int32 → Int32 → Option Nat → Int32 → Option Nat → Option Nat → Option Nat → Option Nat → Option Nat → Nat → Nat → XS → Prop} (cx : xx_X "java/util/HashMap" cJ1_resize 14 (some (.array (.object "java/util/HashMap$Node"))) E p s m args meth c) (hK151 : ∀ (th : Nat) (x1 : Option Nat) (x2 : Int32) (x4 : Int32) (x6 : Option Nat) (x7 : Int32) (bc : Nat) (bs : Nat) (σ : XS), K151 th x1 x2 x4 x6 x7 bc bs σ → x_T p l e ({ frames := 0, cells := mc, slots := ms, locals := 0 } : Room) s m args below meth c E (va_Qe (xr E) Q (fun σ' t => xW E σ' t) (xA E)) mc ms 14 151 bc bs σ [(0, xv E (some th)), (1, xv E x1), (2, .int x2), (4, .int x4), (6, xv E x6), (7, .int x7)] []) (hK235 : ∀ (th : Nat) (x1 : Option Nat) (x2 : Int32) (x4 : Int32) (x6 : Option Nat) (x7 : Int32) (x8 : Option Nat) (x9 : Option Nat) (x10 : Option Nat) (x11 : Option Nat) (x12 : Option Nat) (bc : Nat) (bs : Nat) (σ : XS), K235 th x1 x2 x4 x6 x7 x8 x9 x10 x11 x12 bc bs σ → x_T p l e ({ frames := 0, cells := mc, slots := ms, locals := 0 } : Room) s m args below meth c E (va_Qe (xr E) Q (fun σ' t => xW E σ' t) (xA E)) mc ms 14 235 bc bs σ [(0, xv E (some th)), (1, xv E x1), (2, .int x2), (4, .int x4), (6, xv E x6), (7, .int x7), (8, xv E x8), (9, xv E x9), (10, xv E x10), (11, xv E x11), (12, xv E x12)] []) : ∀ (th : Nat) (x1 : Option Nat) (x2 : Int32) (x4 : Int32) (x6 : Option Nat) (x7 : Int32) (x9 : Option Nat) (x10 : Option Nat) (x11 : Option Nat) (x12 : Option Nat) (x13 : Option Nat) (bc : Nat) (bs : Nat) (σ : XS), wJ1_resizeL_301 Q K151 K235 th x1 x2 x4 x6 x7 x9 x10 x11 x12 x13 bc bs σ → x_T p l e ({ frames := 0, cells := mc, slots := ms, locals := 0 } : Room) s m args below meth c E (va_Qe (xr E) Q (fun σ' t => xW E σ' t) (xA E)) mc ms 14 301 bc bs σ [(0, xv E (some th)), (1, xv E x1), (2, .int x2), (4, .int x4), (6, xv E x6), (7, .int x7), (9, xv E x9), (10, xv E x10), (11, xv E x11), (12, xv E x12), (13, xv E x13)] [] := by
  intro th x1 x2 x4 x6 x7 x9 x10 x11 x12 x13 bc bs σ hw H locs ls cells slots hR hS hl hcb hsb
  unfold wJ1_resizeL_301 at hw
  obtain ⟨hx, hb, hml, hown, hts, hrt, hlk, hMK, hZ⟩ := id cx
  refine x_aload cx dJ1_resize_301 (lv_at hl 10 rfl) ?_
  refine lv_dup hx hb dJ1_resize_303 (xv_cat _ _) ?_
  refine x_astore (i := 8) (r := x13) (lv' := [(8, xv E x13), (0, xv E (some th)), (1, xv E x1), (2, .int x2), (4, .int x4), (6, xv E x6), (7, .int x7), (9, xv E x9), (10, xv E x10), (11, xv E x11), (12, xv E x12), (13, xv E x13)]) cx dJ1_resize_304 hl (by decide) rfl (fun ls hl => ?_)
  refine x_ifnonnull (tgt := 235) cx dJ1_resize_306 (by decide) (fun hc => ?_) (fun hc => ?_)
  · have hw := mm_in hc hw
    exact hK235 _ _ _ _ _ _ _ _ _ _ _ _ _ _ hw _ _ _ _ _ hR hS (lv_sub hl [1, 2, 3, 4, 5, 6, 0, 7, 8, 9, 10] rfl) hcb hsb
  · have hw := mm_ip hc hw
    refine x_aload cx dJ1_resize_309 (lv_at hl 8 rfl) ?_
    refine x_ifnull (tgt := 327) cx dJ1_resize_311 (by decide) (fun hc => ?_) (fun hc => ?_)
    · have hw := mm_ip hc hw
      exact BJ1_resizeL_327 cx hK151 _ _ _ _ _ _ _ _ _ _ _ hw _ _ _ _ _ hR hS (lv_sub hl [1, 2, 3, 4, 5, 6, 9, 10] rfl) hcb hsb
    · have hw := mm_in hc hw
      refine x_aload cx dJ1_resize_314 (lv_at hl 8 rfl) ?_
      refine lv_null hx hb dJ1_resize_316 ?_
      obtain ⟨a4, hr4, hk4, hw⟩ := hw
      obtain ⟨hge_a4, hw⟩ := hw
      refine xp_J1_177_21 (v := none) cx hR hS hr4 hge_a4 hk4 dJ1_resize_317 (fun H locs hR hS => ?_)
      refine x_aload cx dJ1_resize_320 (lv_at hl 5 rfl) ?_
      refine lv_iload hx hb dJ1_resize_322 (lv_at hl 6 rfl) ?_
      refine x_aload cx dJ1_resize_324 (lv_at hl 7 rfl) ?_
      obtain ⟨a5, hr5, hk5, hw⟩ := hw
      obtain ⟨hge_a5, hw⟩ := hw
      obtain ⟨hi, hw⟩ := hw
      obtain ⟨hv, hw⟩ := hw
      refine x_ast cx hR hS hr5 hge_a5 6 (C := "java/util/HashMap$Node") rfl hk5 (by decide) (by decide) (j := x7.toNatClampNeg) rfl hi (xcs_106 cx hv) dJ1_resize_326 (fun H locs hR hS => ?_)
      exact BJ1_resizeL_327 cx hK151 _ _ _ _ _ _ _ _ _ _ _ hw _ _ _ _ _ hR hS (lv_sub hl [1, 2, 3, 4, 5, 6, 9, 10] rfl) hcb hsb
def wJ1_resizeL_297 (Q : Option Nat → XS → Prop) (K151 : Nat → Option Nat → Int32 → Int32 → Option Nat → Int32 → Nat → Nat → XS → Prop) (K235 : Nat → Option Nat → Int32 → Int32 → Option Nat → Int32 → Option Nat → Option Nat → Option Nat → Option Nat → Option Nat → Nat → Nat → XS → Prop) (th : Nat) (x1 : Option Nat) (x2 : Int32) (x4 : Int32) (x6 : Option Nat) (x7 : Int32) (x8 : Option Nat) (x9 : Option Nat) (x10 : Option Nat) (x11 : Option Nat) (x13 : Option Nat) (bc : Nat) (bs : Nat) (σ : XS) : Prop :=
  wJ1_resizeL_301 Q K151 K235 th x1 x2 x4 x6 x7 x9 x10 x11 x8 x13 bc bs σ
set_option maxHeartbeats 4000000 in
theorem BJ1_resizeL_297 {l : Launch} {p : Program} {e : Env} {s : State} {m : MethodId} {args : Array Value} {below : List Frame} {meth : Method} {c : Code} {E : xx_E} {mc ms : Nat} {Q : Option Nat → XS → Prop} {K151 : Nat → Option Nat → Int32 → Int32 → Option Nat → Int32 → Nat → Nat → XS → Prop} {K235 : Nat → Option Nat → Int32 → Int32 → Option Nat → Int32 → Option Nat → Option Nat → Option Nat → Option Nat → Option Nat → Nat → Nat → XS → Prop} (cx : xx_X "java/util/HashMap" cJ1_resize 14 (some (.array (.object "java/util/HashMap$Node"))) E p s m args meth c) (hK151 : ∀ (th : Nat) (x1 : Option Nat) (x2 : Int32) (x4 : Int32) (x6 : Option Nat) (x7 : Int32) (bc : Nat) (bs : Nat) (σ : XS), K151 th x1 x2 x4 x6 x7 bc bs σ → x_T p l e ({ frames := 0, cells := mc, slots := ms, locals := 0 } : Room) s m args below meth c E (va_Qe (xr E) Q (fun σ' t => xW E σ' t) (xA E)) mc ms 14 151 bc bs σ [(0, xv E (some th)), (1, xv E x1), (2, .int x2), (4, .int x4), (6, xv E x6), (7, .int x7)] []) (hK235 : ∀ (th : Nat) (x1 : Option Nat) (x2 : Int32) (x4 : Int32) (x6 : Option Nat) (x7 : Int32) (x8 : Option Nat) (x9 : Option Nat) (x10 : Option Nat) (x11 : Option Nat) (x12 : Option Nat) (bc : Nat) (bs : Nat) (σ : XS), K235 th x1 x2 x4 x6 x7 x8 x9 x10 x11 x12 bc bs σ → x_T p l e ({ frames := 0, cells := mc, slots := ms, locals := 0 } : Room) s m args below meth c E (va_Qe (xr E) Q (fun σ' t => xW E σ' t) (xA E)) mc ms 14 235 bc bs σ [(0, xv E (some th)), (1, xv E x1), (2, .int x2), (4, .int x4), (6, xv E x6), (7, .int x7), (8, xv E x8), (9, xv E x9), (10, xv E x10), (11, xv E x11), (12, xv E x12)] []) : ∀ (th : Nat) (x1 : Option Nat) (x2 : Int32) (x4 : Int32) (x6 : Option Nat) (x7 : Int32) (x8 : Option Nat) (x9 : Option Nat) (x10 : Option Nat) (x11 : Option Nat) (x13 : Option Nat) (bc : Nat) (bs : Nat) (σ : XS), wJ1_resizeL_297 Q K151 K235 th x1 x2 x4 x6 x7 x8 x9 x10 x11 x13 bc bs σ → x_T p l e ({ frames := 0, cells := mc, slots := ms, locals := 0 } : Room) s m args below meth c E (va_Qe (xr E) Q (fun σ' t => xW E σ' t) (xA E)) mc ms 14 297 bc bs σ [(0, xv E (some th)), (1, xv E x1), (2, .int x2), (4, .int x4), (6, xv E x6), (7, .int x7), (8, xv E x8), (9, xv E x9), (10, xv E x10), (11, xv E x11), (13, xv E x13)] [] := by
  intro th x1 x2 x4 x6 x7 x8 x9 x10 x11 x13 bc bs σ hw H locs ls cells slots hR hS hl hcb hsb
  unfold wJ1_resizeL_297 at hw
  obtain ⟨hx, hb, hml, hown, hts, hrt, hlk, hMK, hZ⟩ := id cx
  refine x_aload cx dJ1_resize_297 (lv_at hl 6 rfl) ?_
  refine x_astore (i := 12) (r := x8) (lv' := [(12, xv E x8), (0, xv E (some th)), (1, xv E x1), (2, .int x2), (4, .int x4), (6, xv E x6), (7, .int x7), (8, xv E x8), (9, xv E x9), (10, xv E x10), (11, xv E x11), (13, xv E x13)]) cx dJ1_resize_299 hl (by decide) (by simp [xv_cat]) (fun ls hl => ?_)
  exact BJ1_resizeL_301 cx hK151 hK235 _ _ _ _ _ _ _ _ _ _ _ _ _ _ hw _ _ _ _ _ hR hS (lv_sub hl [1, 2, 3, 4, 5, 6, 8, 9, 10, 0, 11] rfl) hcb hsb
def wJ1_resizeL_271 (Q : Option Nat → XS → Prop) (K151 : Nat → Option Nat → Int32 → Int32 → Option Nat → Int32 → Nat → Nat → XS → Prop) (K235 : Nat → Option Nat → Int32 → Int32 → Option Nat → Int32 → Option Nat → Option Nat → Option Nat → Option Nat → Option Nat → Nat → Nat → XS → Prop) (th : Nat) (x1 : Option Nat) (x2 : Int32) (x4 : Int32) (x6 : Option Nat) (x7 : Int32) (x8 : Option Nat) (x9 : Option Nat) (x11 : Option Nat) (x12 : Option Nat) (x13 : Option Nat) (bc : Nat) (bs : Nat) (σ : XS) : Prop :=
  wJ1_resizeL_301 Q K151 K235 th x1 x2 x4 x6 x7 x9 x8 x11 x12 x13 bc bs σ
set_option maxHeartbeats 4000000 in
theorem BJ1_resizeL_271 {l : Launch} {p : Program} {e : Env} {s : State} {m : MethodId} {args : Array Value} {below : List Frame} {meth : Method} {c : Code} {E : xx_E} {mc ms : Nat} {Q : Option Nat → XS → Prop} {K151 : Nat → Option Nat → Int32 → Int32 → Option Nat → Int32 → Nat → Nat → XS → Prop} {K235 : Nat → Option Nat → Int32 → Int32 → Option Nat → Int32 → Option Nat → Option Nat → Option Nat → Option Nat → Option Nat → Nat → Nat → XS → Prop} (cx : xx_X "java/util/HashMap" cJ1_resize 14 (some (.array (.object "java/util/HashMap$Node"))) E p s m args meth c) (hK151 : ∀ (th : Nat) (x1 : Option Nat) (x2 : Int32) (x4 : Int32) (x6 : Option Nat) (x7 : Int32) (bc : Nat) (bs : Nat) (σ : XS), K151 th x1 x2 x4 x6 x7 bc bs σ → x_T p l e ({ frames := 0, cells := mc, slots := ms, locals := 0 } : Room) s m args below meth c E (va_Qe (xr E) Q (fun σ' t => xW E σ' t) (xA E)) mc ms 14 151 bc bs σ [(0, xv E (some th)), (1, xv E x1), (2, .int x2), (4, .int x4), (6, xv E x6), (7, .int x7)] []) (hK235 : ∀ (th : Nat) (x1 : Option Nat) (x2 : Int32) (x4 : Int32) (x6 : Option Nat) (x7 : Int32) (x8 : Option Nat) (x9 : Option Nat) (x10 : Option Nat) (x11 : Option Nat) (x12 : Option Nat) (bc : Nat) (bs : Nat) (σ : XS), K235 th x1 x2 x4 x6 x7 x8 x9 x10 x11 x12 bc bs σ → x_T p l e ({ frames := 0, cells := mc, slots := ms, locals := 0 } : Room) s m args below meth c E (va_Qe (xr E) Q (fun σ' t => xW E σ' t) (xA E)) mc ms 14 235 bc bs σ [(0, xv E (some th)), (1, xv E x1), (2, .int x2), (4, .int x4), (6, xv E x6), (7, .int x7), (8, xv E x8), (9, xv E x9), (10, xv E x10), (11, xv E x11), (12, xv E x12)] []) : ∀ (th : Nat) (x1 : Option Nat) (x2 : Int32) (x4 : Int32) (x6 : Option Nat) (x7 : Int32) (x8 : Option Nat) (x9 : Option Nat) (x11 : Option Nat) (x12 : Option Nat) (x13 : Option Nat) (bc : Nat) (bs : Nat) (σ : XS), wJ1_resizeL_271 Q K151 K235 th x1 x2 x4 x6 x7 x8 x9 x11 x12 x13 bc bs σ → x_T p l e ({ frames := 0, cells := mc, slots := ms, locals := 0 } : Room) s m args below meth c E (va_Qe (xr E) Q (fun σ' t => xW E σ' t) (xA E)) mc ms 14 271 bc bs σ [(0, xv E (some th)), (1, xv E x1), (2, .int x2), (4, .int x4), (6, xv E x6), (7, .int x7), (8, xv E x8), (9, xv E x9), (11, xv E x11), (12, xv E x12), (13, xv E x13)] [] := by
  intro th x1 x2 x4 x6 x7 x8 x9 x11 x12 x13 bc bs σ hw H locs ls cells slots hR hS hl hcb hsb
  unfold wJ1_resizeL_271 at hw
  obtain ⟨hx, hb, hml, hown, hts, hrt, hlk, hMK, hZ⟩ := id cx
  refine x_aload cx dJ1_resize_271 (lv_at hl 6 rfl) ?_
  refine x_astore (i := 10) (r := x8) (lv' := [(10, xv E x8), (0, xv E (some th)), (1, xv E x1), (2, .int x2), (4, .int x4), (6, xv E x6), (7, .int x7), (8, xv E x8), (9, xv E x9), (11, xv E x11), (12, xv E x12), (13, xv E x13)]) cx dJ1_resize_273 hl (by decide) (by simp [xv_cat]) (fun ls hl => ?_)
  refine lv_goto (tgt := 301) hx hb dJ1_resize_275 (by decide) ?_
  exact BJ1_resizeL_301 cx hK151 hK235 _ _ _ _ _ _ _ _ _ _ _ _ _ _ hw _ _ _ _ _ hR hS (lv_sub hl [1, 2, 3, 4, 5, 6, 8, 0, 9, 10, 11] rfl) hcb hsb
def wJ1_resizeL_235 (Q : Option Nat → XS → Prop) (K151 : Nat → Option Nat → Int32 → Int32 → Option Nat → Int32 → Nat → Nat → XS → Prop) (K235 : Nat → Option Nat → Int32 → Int32 → Option Nat → Int32 → Option Nat → Option Nat → Option Nat → Option Nat → Option Nat → Nat → Nat → XS → Prop) (th : Nat) (x1 : Option Nat) (x2 : Int32) (x4 : Int32) (x6 : Option Nat) (x7 : Int32) (x8 : Option Nat) (x9 : Option Nat) (x10 : Option Nat) (x11 : Option Nat) (x12 : Option Nat) (bc : Nat) (bs : Nat) (σ : XS) : Prop :=
  oc σ x8 21 (fun a6 => if ((fi σ a6 0) &&& x2) = 0 then (if x10 = none then (wJ1_resizeL_271 Q K151 K235 th x1 x2 x4 x6 x7 x8 x8 x11 x12 (fr σ a6 3) bc bs σ) else (oc σ x10 21 (fun a8 => xK ≤ a8 ∧ (wJ1_resizeL_271 Q K151 K235 th x1 x2 x4 x6 x7 x8 x9 x11 x12 (fr σ a6 3) bc bs (pfr σ a8 3 x8))))) else (if x12 = none then (wJ1_resizeL_297 Q K151 K235 th x1 x2 x4 x6 x7 x8 x9 x10 x8 (fr σ a6 3) bc bs σ) else (oc σ x12 21 (fun a7 => xK ≤ a7 ∧ (wJ1_resizeL_297 Q K151 K235 th x1 x2 x4 x6 x7 x8 x9 x10 x11 (fr σ a6 3) bc bs (pfr σ a7 3 x8))))))
set_option maxHeartbeats 4000000 in
theorem BJ1_resizeL_235 {l : Launch} {p : Program} {e : Env} {s : State} {m : MethodId} {args : Array Value} {below : List Frame} {meth : Method} {c : Code} {E : xx_E} {mc ms : Nat} {Q : Option Nat → XS → Prop} {K151 : Nat → Option Nat → Int32 → Int32 → Option Nat → Int32 → Nat → Nat → XS → Prop} {K235 : Nat → Option Nat → Int32 → Int32 → Option Nat → Int32 → Option Nat → Option Nat → Option Nat → Option Nat → Option Nat → Nat → Nat → XS → Prop} (cx : xx_X "java/util/HashMap" cJ1_resize 14 (some (.array (.object "java/util/HashMap$Node"))) E p s m args meth c) (hK151 : ∀ (th : Nat) (x1 : Option Nat) (x2 : Int32) (x4 : Int32) (x6 : Option Nat) (x7 : Int32) (bc : Nat) (bs : Nat) (σ : XS), K151 th x1 x2 x4 x6 x7 bc bs σ → x_T p l e ({ frames := 0, cells := mc, slots := ms, locals := 0 } : Room) s m args below meth c E (va_Qe (xr E) Q (fun σ' t => xW E σ' t) (xA E)) mc ms 14 151 bc bs σ [(0, xv E (some th)), (1, xv E x1), (2, .int x2), (4, .int x4), (6, xv E x6), (7, .int x7)] []) (hK235 : ∀ (th : Nat) (x1 : Option Nat) (x2 : Int32) (x4 : Int32) (x6 : Option Nat) (x7 : Int32) (x8 : Option Nat) (x9 : Option Nat) (x10 : Option Nat) (x11 : Option Nat) (x12 : Option Nat) (bc : Nat) (bs : Nat) (σ : XS), K235 th x1 x2 x4 x6 x7 x8 x9 x10 x11 x12 bc bs σ → x_T p l e ({ frames := 0, cells := mc, slots := ms, locals := 0 } : Room) s m args below meth c E (va_Qe (xr E) Q (fun σ' t => xW E σ' t) (xA E)) mc ms 14 235 bc bs σ [(0, xv E (some th)), (1, xv E x1), (2, .int x2), (4, .int x4), (6, xv E x6), (7, .int x7), (8, xv E x8), (9, xv E x9), (10, xv E x10), (11, xv E x11), (12, xv E x12)] []) : ∀ (th : Nat) (x1 : Option Nat) (x2 : Int32) (x4 : Int32) (x6 : Option Nat) (x7 : Int32) (x8 : Option Nat) (x9 : Option Nat) (x10 : Option Nat) (x11 : Option Nat) (x12 : Option Nat) (bc : Nat) (bs : Nat) (σ : XS), wJ1_resizeL_235 Q K151 K235 th x1 x2 x4 x6 x7 x8 x9 x10 x11 x12 bc bs σ → x_T p l e ({ frames := 0, cells := mc, slots := ms, locals := 0 } : Room) s m args below meth c E (va_Qe (xr E) Q (fun σ' t => xW E σ' t) (xA E)) mc ms 14 235 bc bs σ [(0, xv E (some th)), (1, xv E x1), (2, .int x2), (4, .int x4), (6, xv E x6), (7, .int x7), (8, xv E x8), (9, xv E x9), (10, xv E x10), (11, xv E x11), (12, xv E x12)] [] := by
  intro th x1 x2 x4 x6 x7 x8 x9 x10 x11 x12 bc bs σ hw H locs ls cells slots hR hS hl hcb hsb
  unfold wJ1_resizeL_235 at hw
  obtain ⟨hx, hb, hml, hown, hts, hrt, hlk, hMK, hZ⟩ := id cx
  refine x_aload cx dJ1_resize_235 (lv_at hl 6 rfl) ?_
  obtain ⟨a6, hr6, hk6, hw⟩ := hw
  refine xg_J1_177_21 cx hR hr6 hk6 dJ1_resize_237 ?_
  refine x_astore (i := 13) (r := (fr σ a6 3)) (lv' := [(13, xv E (fr σ a6 3)), (0, xv E (some th)), (1, xv E x1), (2, .int x2), (4, .int x4), (6, xv E x6), (7, .int x7), (8, xv E x8), (9, xv E x9), (10, xv E x10), (11, xv E x11), (12, xv E x12)]) cx dJ1_resize_240 hl (by decide) (by simp [xv_cat]) (fun ls hl => ?_)
  refine x_aload cx dJ1_resize_242 (lv_at hl 7 rfl) ?_
  refine xg_J1_168_21 cx hR hr6 hk6 dJ1_resize_244 ?_
  refine lv_iload_n hx hb dJ1_resize_247 rfl (lv_at hl 3 rfl) ?_
  refine lv_iand hx hb dJ1_resize_248 ?_
  refine lv_if_ne (tgt := 278) hx hb dJ1_resize_249 (by decide) (fun hc => ?_) (fun hc => ?_)
  · have hw := mm_in hc hw
    refine x_aload cx dJ1_resize_278 (lv_at hl 11 rfl) ?_
    refine x_ifnonnull (tgt := 290) cx dJ1_resize_280 (by decide) (fun hc => ?_) (fun hc => ?_)
    · have hw := mm_in hc hw
      refine x_aload cx dJ1_resize_290 (lv_at hl 11 rfl) ?_
      refine x_aload cx dJ1_resize_292 (lv_at hl 7 rfl) ?_
      obtain ⟨a7, hr7, hk7, hw⟩ := hw
      obtain ⟨hge_a7, hw⟩ := hw
      refine xp_J1_177_21 (v := x8) cx hR hS hr7 hge_a7 hk7 dJ1_resize_294 (fun H locs hR hS => ?_)
      exact BJ1_resizeL_297 cx hK151 hK235 _ _ _ _ _ _ _ _ _ _ _ _ _ _ hw _ _ _ _ _ hR hS (lv_sub hl [1, 2, 3, 4, 5, 6, 7, 8, 9, 10, 0] rfl) hcb hsb
    · have hw := mm_ip hc hw
      refine x_aload cx dJ1_resize_283 (lv_at hl 7 rfl) ?_
      refine x_astore (i := 11) (r := x8) (lv' := [(11, xv E x8), (13, xv E (fr σ a6 3)), (0, xv E (some th)), (1, xv E x1), (2, .int x2), (4, .int x4), (6, xv E x6), (7, .int x7), (8, xv E x8), (9, xv E x9), (10, xv E x10), (12, xv E x12)]) cx dJ1_resize_285 hl (by decide) (by simp [xv_cat]) (fun ls hl => ?_)
      refine lv_goto (tgt := 297) hx hb dJ1_resize_287 (by decide) ?_
      exact BJ1_resizeL_297 cx hK151 hK235 _ _ _ _ _ _ _ _ _ _ _ _ _ _ hw _ _ _ _ _ hR hS (lv_sub hl [2, 3, 4, 5, 6, 7, 8, 9, 10, 0, 1] rfl) hcb hsb
  · have hw := mm_ip hc hw
    refine x_aload cx dJ1_resize_252 (lv_at hl 9 rfl) ?_
    refine x_ifnonnull (tgt := 264) cx dJ1_resize_254 (by decide) (fun hc => ?_) (fun hc => ?_)
    · have hw := mm_in hc hw
      refine x_aload cx dJ1_resize_264 (lv_at hl 9 rfl) ?_
      refine x_aload cx dJ1_resize_266 (lv_at hl 7 rfl) ?_
      obtain ⟨a8, hr8, hk8, hw⟩ := hw
      obtain ⟨hge_a8, hw⟩ := hw
      refine xp_J1_177_21 (v := x8) cx hR hS hr8 hge_a8 hk8 dJ1_resize_268 (fun H locs hR hS => ?_)
      exact BJ1_resizeL_271 cx hK151 hK235 _ _ _ _ _ _ _ _ _ _ _ _ _ _ hw _ _ _ _ _ hR hS (lv_sub hl [1, 2, 3, 4, 5, 6, 7, 8, 10, 11, 0] rfl) hcb hsb
    · have hw := mm_ip hc hw
      refine x_aload cx dJ1_resize_257 (lv_at hl 7 rfl) ?_
      refine x_astore (i := 9) (r := x8) (lv' := [(9, xv E x8), (13, xv E (fr σ a6 3)), (0, xv E (some th)), (1, xv E x1), (2, .int x2), (4, .int x4), (6, xv E x6), (7, .int x7), (8, xv E x8), (10, xv E x10), (11, xv E x11), (12, xv E x12)]) cx dJ1_resize_259 hl (by decide) (by simp [xv_cat]) (fun ls hl => ?_)
      refine lv_goto (tgt := 271) hx hb dJ1_resize_261 (by decide) ?_
      exact BJ1_resizeL_271 cx hK151 hK235 _ _ _ _ _ _ _ _ _ _ _ _ _ _ hw _ _ _ _ _ hR hS (lv_sub hl [2, 3, 4, 5, 6, 7, 8, 0, 10, 11, 1] rfl) hcb hsb
theorem LJ1_resizeL_235 {l : Launch} {p : Program} {e : Env} {s : State} {m : MethodId} {args : Array Value} {below : List Frame} {meth : Method} {c : Code} {E : xx_E} {mc ms : Nat} {Q : Option Nat → XS → Prop} {K151 : Nat → Option Nat → Int32 → Int32 → Option Nat → Int32 → Nat → Nat → XS → Prop} (cx : xx_X "java/util/HashMap" cJ1_resize 14 (some (.array (.object "java/util/HashMap$Node"))) E p s m args meth c) (hK151 : ∀ (th : Nat) (x1 : Option Nat) (x2 : Int32) (x4 : Int32) (x6 : Option Nat) (x7 : Int32) (bc : Nat) (bs : Nat) (σ : XS), K151 th x1 x2 x4 x6 x7 bc bs σ → x_T p l e ({ frames := 0, cells := mc, slots := ms, locals := 0 } : Room) s m args below meth c E (va_Qe (xr E) Q (fun σ' t => xW E σ' t) (xA E)) mc ms 14 151 bc bs σ [(0, xv E (some th)), (1, xv E x1), (2, .int x2), (4, .int x4), (6, xv E x6), (7, .int x7)] []) : ∀ (th : Nat) (x1 : Option Nat) (x2 : Int32) (x4 : Int32) (x6 : Option Nat) (x7 : Int32) (x8 : Option Nat) (x9 : Option Nat) (x10 : Option Nat) (x11 : Option Nat) (x12 : Option Nat) (bc : Nat) (bs : Nat) (σ : XS), lp14F (wJ1_resizeL_235 Q K151) th x1 x2 x4 x6 x7 x8 x9 x10 x11 x12 bc bs σ → x_T p l e ({ frames := 0, cells := mc, slots := ms, locals := 0 } : Room) s m args below meth c E (va_Qe (xr E) Q (fun σ' t => xW E σ' t) (xA E)) mc ms 14 235 bc bs σ [(0, xv E (some th)), (1, xv E x1), (2, .int x2), (4, .int x4), (6, xv E x6), (7, .int x7), (8, xv E x8), (9, xv E x9), (10, xv E x10), (11, xv E x11), (12, xv E x12)] [] :=
  lp14F_of (fun K hK => BJ1_resizeL_235 cx hK151 hK)
def wJ1_resizeL_151 (Q : Option Nat → XS → Prop) (K151 : Nat → Option Nat → Int32 → Int32 → Option Nat → Int32 → Nat → Nat → XS → Prop) (th : Nat) (x1 : Option Nat) (x2 : Int32) (x4 : Int32) (x6 : Option Nat) (x7 : Int32) (bc : Nat) (bs : Nat) (σ : XS) : Prop :=
  if x2 ≤ x7 then (Q x6 σ) else (oc σ x1 106 (fun a9 => vp_in x7 (ln σ a9) ∧ (if (ar σ a9 x7.toNatClampNeg) = none then (wJ1_resizeL_347 Q K151 th x1 x2 x4 x6 x7 bc bs σ) else (xK ≤ a9 ∧ (vp_in x7 (ln σ a9) ∧ (xck [20, 21] σ none ∧ (oc (par σ a9 x7.toNatClampNeg none) (ar σ a9 x7.toNatClampNeg) 21 (fun a10 => if (fr (par σ a9 x7.toNatClampNeg none) a10 3) = none then (oc (par σ a9 x7.toNatClampNeg none) x6 106 (fun a11 => xK ≤ a11 ∧ (vp_in ((fi (par σ a9 x7.toNatClampNeg none) a10 0) &&& (x4 - (1 : Int32))) (ln (par σ a9 x7.toNatClampNeg none) a11) ∧ (xck [20, 21] (par σ a9 x7.toNatClampNeg none) (ar σ a9 x7.toNatClampNeg) ∧ (wJ1_resizeL_347 Q K151 th x1 x2 x4 x6 x7 bc bs (par (par σ a9 x7.toNatClampNeg none) a11 (((fi (par σ a9 x7.toNatClampNeg none) a10 0) &&& (x4 - (1 : Int32))).toNatClampNeg) (ar σ a9 x7.toNatClampNeg))))))) else (lp14F (wJ1_resizeL_235 Q K151) th x1 x2 x4 x6 x7 (ar σ a9 x7.toNatClampNeg) none none none none bc bs (par σ a9 x7.toNatClampNeg none))))))))))
set_option maxHeartbeats 4000000 in
theorem BJ1_resizeL_151 {l : Launch} {p : Program} {e : Env} {s : State} {m : MethodId} {args : Array Value} {below : List Frame} {meth : Method} {c : Code} {E : xx_E} {mc ms : Nat} {Q : Option Nat → XS → Prop} {K151 : Nat → Option Nat → Int32 → Int32 → Option Nat → Int32 → Nat → Nat → XS → Prop} (cx : xx_X "java/util/HashMap" cJ1_resize 14 (some (.array (.object "java/util/HashMap$Node"))) E p s m args meth c) (hK151 : ∀ (th : Nat) (x1 : Option Nat) (x2 : Int32) (x4 : Int32) (x6 : Option Nat) (x7 : Int32) (bc : Nat) (bs : Nat) (σ : XS), K151 th x1 x2 x4 x6 x7 bc bs σ → x_T p l e ({ frames := 0, cells := mc, slots := ms, locals := 0 } : Room) s m args below meth c E (va_Qe (xr E) Q (fun σ' t => xW E σ' t) (xA E)) mc ms 14 151 bc bs σ [(0, xv E (some th)), (1, xv E x1), (2, .int x2), (4, .int x4), (6, xv E x6), (7, .int x7)] []) : ∀ (th : Nat) (x1 : Option Nat) (x2 : Int32) (x4 : Int32) (x6 : Option Nat) (x7 : Int32) (bc : Nat) (bs : Nat) (σ : XS), wJ1_resizeL_151 Q K151 th x1 x2 x4 x6 x7 bc bs σ → x_T p l e ({ frames := 0, cells := mc, slots := ms, locals := 0 } : Room) s m args below meth c E (va_Qe (xr E) Q (fun σ' t => xW E σ' t) (xA E)) mc ms 14 151 bc bs σ [(0, xv E (some th)), (1, xv E x1), (2, .int x2), (4, .int x4), (6, xv E x6), (7, .int x7)] [] := by
  intro th x1 x2 x4 x6 x7 bc bs σ hw H locs ls cells slots hR hS hl hcb hsb
  unfold wJ1_resizeL_151 at hw
  obtain ⟨hx, hb, hml, hown, hts, hrt, hlk, hMK, hZ⟩ := id cx
  refine lv_iload hx hb dJ1_resize_151 (lv_at hl 5 rfl) ?_
  refine lv_iload_n hx hb dJ1_resize_153 rfl (lv_at hl 2 rfl) ?_
  refine lv_icmp_ge (tgt := 353) hx hb dJ1_resize_154 (by decide) (fun hc => ?_) (fun hc => ?_)
  · have hw := mm_ip hc hw
    refine x_aload cx dJ1_resize_353 (lv_at hl 4 rfl) ?_
    exact x_aret cx (by first | exact Or.inl ⟨_, rfl⟩ | exact Or.inr ⟨_, rfl⟩) hR hS (xle hcb) (xle hsb) hw dJ1_resize_355
  · have hw := mm_in hc hw
    refine x_aload_n cx dJ1_resize_157 rfl (lv_at hl 1 rfl) ?_
    refine lv_iload hx hb dJ1_resize_158 (lv_at hl 5 rfl) ?_
    obtain ⟨a9, hr9, hk9, hw⟩ := hw
    obtain ⟨hi, hw⟩ := hw
    refine x_aald cx hR hr9 6 hk9 (by decide) (by decide) (j := x7.toNatClampNeg) rfl hi dJ1_resize_160 ?_
    refine lv_dup hx hb dJ1_resize_161 (xv_cat _ _) ?_
    refine x_astore (i := 8) (r := (ar σ a9 x7.toNatClampNeg)) (lv' := [(8, xv E (ar σ a9 x7.toNatClampNeg)), (0, xv E (some th)), (1, xv E x1), (2, .int x2), (4, .int x4), (6, xv E x6), (7, .int x7)]) cx dJ1_resize_162 hl (by decide) rfl (fun ls hl => ?_)
    refine x_ifnull (tgt := 347) cx dJ1_resize_164 (by decide) (fun hc => ?_) (fun hc => ?_)
    · have hw := mm_ip hc hw
      exact BJ1_resizeL_347 cx hK151 _ _ _ _ _ _ _ _ _ hw _ _ _ _ _ hR hS (lv_sub hl [1, 2, 3, 4, 5, 6] rfl) hcb hsb
    · have hw := mm_in hc hw
      refine x_aload_n cx dJ1_resize_167 rfl (lv_at hl 2 rfl) ?_
      refine lv_iload hx hb dJ1_resize_168 (lv_at hl 6 rfl) ?_
      refine lv_null hx hb dJ1_resize_170 ?_
      obtain ⟨hge_a9, hw⟩ := hw
      obtain ⟨hi, hw⟩ := hw
      obtain ⟨hv, hw⟩ := hw
      refine x_ast cx hR hS hr9 hge_a9 6 (C := "java/util/HashMap$Node") rfl hk9 (by decide) (by decide) (j := x7.toNatClampNeg) rfl hi (xcs_106 cx hv) dJ1_resize_171 (fun H locs hR hS => ?_)
      refine x_aload cx dJ1_resize_172 (lv_at hl 0 rfl) ?_
      obtain ⟨a10, hr10, hk10, hw⟩ := hw
      refine xg_J1_177_21 cx hR hr10 hk10 dJ1_resize_174 ?_
      refine x_ifnonnull (tgt := 198) cx dJ1_resize_177 (by decide) (fun hc => ?_) (fun hc => ?_)
      · have hw := mm_in hc hw
        refine x_aload cx dJ1_resize_198 (lv_at hl 0 rfl) ?_
        refine x_instN cx hR hr10 hk10 (by decide) rfl q1204 (by decide) dJ1_resize_200 ?_
        refine lv_if_eq (tgt := 223) hx hb dJ1_resize_203 (by decide) (fun hc => ?_) (fun hc => ?_)
        rotate_left
        · exact absurd hc (by decide)
        refine lv_null hx hb dJ1_resize_223 ?_
        refine x_astore (i := 9) (r := none) (lv' := [(9, xv E none), (8, xv E (ar σ a9 x7.toNatClampNeg)), (0, xv E (some th)), (1, xv E x1), (2, .int x2), (4, .int x4), (6, xv E x6), (7, .int x7)]) cx dJ1_resize_224 hl (by decide) (by simp [xv_cat]) (fun ls hl => ?_)
        refine lv_null hx hb dJ1_resize_226 ?_
        refine x_astore (i := 10) (r := none) (lv' := [(10, xv E none), (9, xv E none), (8, xv E (ar σ a9 x7.toNatClampNeg)), (0, xv E (some th)), (1, xv E x1), (2, .int x2), (4, .int x4), (6, xv E x6), (7, .int x7)]) cx dJ1_resize_227 hl (by decide) (by simp [xv_cat]) (fun ls hl => ?_)
        refine lv_null hx hb dJ1_resize_229 ?_
        refine x_astore (i := 11) (r := none) (lv' := [(11, xv E none), (10, xv E none), (9, xv E none), (8, xv E (ar σ a9 x7.toNatClampNeg)), (0, xv E (some th)), (1, xv E x1), (2, .int x2), (4, .int x4), (6, xv E x6), (7, .int x7)]) cx dJ1_resize_230 hl (by decide) (by simp [xv_cat]) (fun ls hl => ?_)
        refine lv_null hx hb dJ1_resize_232 ?_
        refine x_astore (i := 12) (r := none) (lv' := [(12, xv E none), (11, xv E none), (10, xv E none), (9, xv E none), (8, xv E (ar σ a9 x7.toNatClampNeg)), (0, xv E (some th)), (1, xv E x1), (2, .int x2), (4, .int x4), (6, xv E x6), (7, .int x7)]) cx dJ1_resize_233 hl (by decide) (by simp [xv_cat]) (fun ls hl => ?_)
        exact LJ1_resizeL_235 cx hK151 _ _ _ _ _ _ _ _ _ _ _ _ _ _ hw _ _ _ _ _ hR hS (lv_sub hl [5, 6, 7, 8, 9, 10, 4, 3, 2, 1, 0] rfl) hcb hsb
      · have hw := mm_ip hc hw
        refine x_aload cx dJ1_resize_180 (lv_at hl 5 rfl) ?_
        refine x_aload cx dJ1_resize_182 (lv_at hl 0 rfl) ?_
        refine xg_J1_168_21 cx hR hr10 hk10 dJ1_resize_184 ?_
        refine lv_iload hx hb dJ1_resize_187 (lv_at hl 4 rfl) ?_
        refine lv_iconst (v := (1 : Int32)) hx hb dJ1_resize_189 (by decide) ?_
        refine lv_isub hx hb dJ1_resize_190 ?_
        refine lv_iand hx hb dJ1_resize_191 ?_
        refine x_aload cx dJ1_resize_192 (lv_at hl 0 rfl) ?_
        obtain ⟨a11, hr11, hk11, hw⟩ := hw
        obtain ⟨hge_a11, hw⟩ := hw
        obtain ⟨hi, hw⟩ := hw
        obtain ⟨hv, hw⟩ := hw
        refine x_ast cx hR hS hr11 hge_a11 6 (C := "java/util/HashMap$Node") rfl hk11 (by decide) (by decide) (j := ((fi (par σ a9 x7.toNatClampNeg none) a10 0) &&& (x4 - (1 : Int32))).toNatClampNeg) rfl hi (xcs_106 cx hv) dJ1_resize_194 (fun H locs hR hS => ?_)
        refine lv_goto (tgt := 347) hx hb dJ1_resize_195 (by decide) ?_
        exact BJ1_resizeL_347 cx hK151 _ _ _ _ _ _ _ _ _ hw _ _ _ _ _ hR hS (lv_sub hl [1, 2, 3, 4, 5, 6] rfl) hcb hsb
theorem LJ1_resizeL_151 {l : Launch} {p : Program} {e : Env} {s : State} {m : MethodId} {args : Array Value} {below : List Frame} {meth : Method} {c : Code} {E : xx_E} {mc ms : Nat} {Q : Option Nat → XS → Prop} (cx : xx_X "java/util/HashMap" cJ1_resize 14 (some (.array (.object "java/util/HashMap$Node"))) E p s m args meth c) : ∀ (th : Nat) (x1 : Option Nat) (x2 : Int32) (x4 : Int32) (x6 : Option Nat) (x7 : Int32) (bc : Nat) (bs : Nat) (σ : XS), lp9F (wJ1_resizeL_151 Q) th x1 x2 x4 x6 x7 bc bs σ → x_T p l e ({ frames := 0, cells := mc, slots := ms, locals := 0 } : Room) s m args below meth c E (va_Qe (xr E) Q (fun σ' t => xW E σ' t) (xA E)) mc ms 14 151 bc bs σ [(0, xv E (some th)), (1, xv E x1), (2, .int x2), (4, .int x4), (6, xv E x6), (7, .int x7)] [] :=
  lp9F_of (fun K hK => BJ1_resizeL_151 cx hK)
def wJ1_resizeL_125 (Q : Option Nat → XS → Prop) (th : Nat) (x1 : Option Nat) (x2 : Int32) (x4 : Int32) (x5 : Int32) (bc : Nat) (bs : Nat) (σ : XS) : Prop :=
  kd σ th = 18 ∧ (xK ≤ th ∧ (¬ x4 < 0 ∧ x4.toNatClampNeg ≤ 67108864 ∧ (1 ≤ bc ∧ x4.toNatClampNeg ≤ bs ∧ (kd (xal (pfi σ th 6 x5) 106 x4.toNatClampNeg) th = 18 ∧ (if x1 = none then (Q (some (xn (pfi σ th 6 x5))) (pfr (xal (pfi σ th 6 x5) 106 x4.toNatClampNeg) th 2 (some (xn (pfi σ th 6 x5))))) else (lp9F (wJ1_resizeL_151 Q) th x1 x2 x4 (some (xn (pfi σ th 6 x5))) (0 : Int32) (bc - 1) (bs - x4.toNatClampNeg) (pfr (xal (pfi σ th 6 x5) 106 x4.toNatClampNeg) th 2 (some (xn (pfi σ th 6 x5))))))))))
set_option maxHeartbeats 4000000 in
theorem BJ1_resizeL_125 {l : Launch} {p : Program} {e : Env} {s : State} {m : MethodId} {args : Array Value} {below : List Frame} {meth : Method} {c : Code} {E : xx_E} {mc ms : Nat} {Q : Option Nat → XS → Prop} (cx : xx_X "java/util/HashMap" cJ1_resize 14 (some (.array (.object "java/util/HashMap$Node"))) E p s m args meth c) : ∀ (th : Nat) (x1 : Option Nat) (x2 : Int32) (x4 : Int32) (x5 : Int32) (bc : Nat) (bs : Nat) (σ : XS), wJ1_resizeL_125 Q th x1 x2 x4 x5 bc bs σ → x_T p l e ({ frames := 0, cells := mc, slots := ms, locals := 0 } : Room) s m args below meth c E (va_Qe (xr E) Q (fun σ' t => xW E σ' t) (xA E)) mc ms 14 125 bc bs σ [(0, xv E (some th)), (1, xv E x1), (2, .int x2), (4, .int x4), (5, .int x5)] [] := by
  intro th x1 x2 x4 x5 bc bs σ hw H locs ls cells slots hR hS hl hcb hsb
  unfold wJ1_resizeL_125 at hw
  obtain ⟨hx, hb, hml, hown, hts, hrt, hlk, hMK, hZ⟩ := id cx
  refine x_aload_n cx dJ1_resize_125 rfl (lv_at hl 0 rfl) ?_
  refine lv_iload hx hb dJ1_resize_126 (lv_at hl 4 rfl) ?_
  obtain ⟨hk12, hw⟩ := hw
  obtain ⟨hge_th, hw⟩ := hw
  refine xp_J1_88_18 (v := x5) cx hR hS rfl hge_th hk12 dJ1_resize_128 (fun H locs hR hS => ?_)
  refine lv_iload hx hb dJ1_resize_131 (lv_at hl 3 rfl) ?_
  obtain ⟨hn0, hn8, hw⟩ := hw
  obtain ⟨hb1, hb2, hw⟩ := hw
  refine x_anew cx hR hS 6 (by decide) (by decide) rfl (q1470) (by decide) (N := x4.toNatClampNeg) hn0 rfl (xbytes4 hn8) (by dsimp only; omega) (by dsimp only; omega) dJ1_resize_133 (fun H hR hS => ?_)
  have hcb := xadd hb1 hcb
  have hsb := xadd hb2 hsb
  refine x_astore (i := 6) (r := (some (xn (pfi σ th 6 x5)))) (lv' := [(6, xv E (some (xn (pfi σ th 6 x5)))), (0, xv E (some th)), (1, xv E x1), (2, .int x2), (4, .int x4), (5, .int x5)]) cx dJ1_resize_136 hl (by decide) rfl (fun ls hl => ?_)
  refine x_aload_n cx dJ1_resize_138 rfl (lv_at hl 1 rfl) ?_
  refine x_aload cx dJ1_resize_139 (lv_at hl 0 rfl) ?_
  obtain ⟨hk13, hw⟩ := hw
  refine xp_J1_105_18 (v := (some (xn (pfi σ th 6 x5)))) cx hR hS rfl hge_th hk13 dJ1_resize_141 (fun H locs hR hS => ?_)
  refine x_aload_n cx dJ1_resize_144 rfl (lv_at hl 2 rfl) ?_
  refine x_ifnull (tgt := 353) cx dJ1_resize_145 (by decide) (fun hc => ?_) (fun hc => ?_)
  · have hw := mm_ip hc hw
    refine x_aload cx dJ1_resize_353 (lv_at hl 0 rfl) ?_
    exact x_aret cx (by first | exact Or.inl ⟨_, rfl⟩ | exact Or.inr ⟨_, rfl⟩) hR hS (xle hcb) (xle hsb) hw dJ1_resize_355
  · have hw := mm_in hc hw
    refine lv_iconst (v := (0 : Int32)) hx hb dJ1_resize_148 (by decide) ?_
    refine lv_istore (i := 7) (lv' := [(7, .int (0 : Int32)), (6, xv E (some (xn (pfi σ th 6 x5)))), (0, xv E (some th)), (1, xv E x1), (2, .int x2), (4, .int x4), (5, .int x5)]) hx hb dJ1_resize_149 hl (by decide) (by simp [xv_cat]) (fun ls hl => ?_)
    exact LJ1_resizeL_151 cx _ _ _ _ _ _ _ _ _ hw _ _ _ _ _ hR hS (lv_sub hl [2, 3, 4, 5, 1, 0] rfl) hcb hsb
def wJ1_resizeL_123 (Q : Option Nat → XS → Prop) (th : Nat) (x1 : Option Nat) (x2 : Int32) (x4 : Int32) (t0 : Int32) (bc : Nat) (bs : Nat) (σ : XS) : Prop :=
  wJ1_resizeL_125 Q th x1 x2 x4 t0 bc bs σ
set_option maxHeartbeats 4000000 in
theorem BJ1_resizeL_123 {l : Launch} {p : Program} {e : Env} {s : State} {m : MethodId} {args : Array Value} {below : List Frame} {meth : Method} {c : Code} {E : xx_E} {mc ms : Nat} {Q : Option Nat → XS → Prop} (cx : xx_X "java/util/HashMap" cJ1_resize 14 (some (.array (.object "java/util/HashMap$Node"))) E p s m args meth c) : ∀ (th : Nat) (x1 : Option Nat) (x2 : Int32) (x4 : Int32) (t0 : Int32) (bc : Nat) (bs : Nat) (σ : XS), wJ1_resizeL_123 Q th x1 x2 x4 t0 bc bs σ → x_T p l e ({ frames := 0, cells := mc, slots := ms, locals := 0 } : Room) s m args below meth c E (va_Qe (xr E) Q (fun σ' t => xW E σ' t) (xA E)) mc ms 14 123 bc bs σ [(0, xv E (some th)), (1, xv E x1), (2, .int x2), (4, .int x4)] [.int t0] := by
  intro th x1 x2 x4 t0 bc bs σ hw H locs ls cells slots hR hS hl hcb hsb
  unfold wJ1_resizeL_123 at hw
  obtain ⟨hx, hb, hml, hown, hts, hrt, hlk, hMK, hZ⟩ := id cx
  refine lv_istore (i := 5) (lv' := [(5, .int t0), (0, xv E (some th)), (1, xv E x1), (2, .int x2), (4, .int x4)]) hx hb dJ1_resize_123 hl (by decide) rfl (fun ls hl => ?_)
  exact BJ1_resizeL_125 cx _ _ _ _ _ _ _ _ hw _ _ _ _ _ hR hS (lv_sub hl [1, 2, 3, 4, 0] rfl) hcb hsb
def wJ1_resizeL_121 (Q : Option Nat → XS → Prop) (th : Nat) (x1 : Option Nat) (x2 : Int32) (x4 : Int32) (bc : Nat) (bs : Nat) (σ : XS) : Prop :=
  wJ1_resizeL_123 Q th x1 x2 x4 (2147483647 : Int32) bc bs σ
set_option maxHeartbeats 4000000 in
theorem BJ1_resizeL_121 {l : Launch} {p : Program} {e : Env} {s : State} {m : MethodId} {args : Array Value} {below : List Frame} {meth : Method} {c : Code} {E : xx_E} {mc ms : Nat} {Q : Option Nat → XS → Prop} (cx : xx_X "java/util/HashMap" cJ1_resize 14 (some (.array (.object "java/util/HashMap$Node"))) E p s m args meth c) : ∀ (th : Nat) (x1 : Option Nat) (x2 : Int32) (x4 : Int32) (bc : Nat) (bs : Nat) (σ : XS), wJ1_resizeL_121 Q th x1 x2 x4 bc bs σ → x_T p l e ({ frames := 0, cells := mc, slots := ms, locals := 0 } : Room) s m args below meth c E (va_Qe (xr E) Q (fun σ' t => xW E σ' t) (xA E)) mc ms 14 121 bc bs σ [(0, xv E (some th)), (1, xv E x1), (2, .int x2), (4, .int x4)] [] := by
  intro th x1 x2 x4 bc bs σ hw H locs ls cells slots hR hS hl hcb hsb
  unfold wJ1_resizeL_121 at hw
  obtain ⟨hx, hb, hml, hown, hts, hrt, hlk, hMK, hZ⟩ := id cx
  refine lv_ldc (v := (2147483647 : Int32)) hx hb hown (hts _ q1468) dJ1_resize_121 ?_
  exact BJ1_resizeL_123 cx _ _ _ _ _ _ _ _ hw _ _ _ _ _ hR hS (lv_sub hl [0, 1, 2, 3] rfl) hcb hsb
def wJ1_resizeL_85 (Q : Option Nat → XS → Prop) (th : Nat) (x1 : Option Nat) (x2 : Int32) (x4 : Int32) (x5 : Int32) (bc : Nat) (bs : Nat) (σ : XS) : Prop :=
  if x5 = 0 then (kd σ th = 18 ∧ (vf_n32 (FP.fmul (FP.i2f x4) (ff σ th 7)) ∧ (if (1073741824 : Int32) ≤ x4 then (wJ1_resizeL_121 Q th x1 x2 x4 bc bs σ) else (if 0 ≤ (Op.cmpValue (FP.fcmp (FP.fmul (FP.i2f x4) (ff σ th 7)) (1317011456 : UInt32)) .g) then (wJ1_resizeL_121 Q th x1 x2 x4 bc bs σ) else (wJ1_resizeL_123 Q th x1 x2 x4 (FP.f2i (FP.fmul (FP.i2f x4) (ff σ th 7))) bc bs σ))))) else (wJ1_resizeL_125 Q th x1 x2 x4 x5 bc bs σ)
set_option maxHeartbeats 4000000 in
theorem BJ1_resizeL_85 {l : Launch} {p : Program} {e : Env} {s : State} {m : MethodId} {args : Array Value} {below : List Frame} {meth : Method} {c : Code} {E : xx_E} {mc ms : Nat} {Q : Option Nat → XS → Prop} (cx : xx_X "java/util/HashMap" cJ1_resize 14 (some (.array (.object "java/util/HashMap$Node"))) E p s m args meth c) : ∀ (th : Nat) (x1 : Option Nat) (x2 : Int32) (x4 : Int32) (x5 : Int32) (bc : Nat) (bs : Nat) (σ : XS), wJ1_resizeL_85 Q th x1 x2 x4 x5 bc bs σ → x_T p l e ({ frames := 0, cells := mc, slots := ms, locals := 0 } : Room) s m args below meth c E (va_Qe (xr E) Q (fun σ' t => xW E σ' t) (xA E)) mc ms 14 85 bc bs σ [(0, xv E (some th)), (1, xv E x1), (2, .int x2), (4, .int x4), (5, .int x5)] [] := by
  intro th x1 x2 x4 x5 bc bs σ hw H locs ls cells slots hR hS hl hcb hsb
  unfold wJ1_resizeL_85 at hw
  obtain ⟨hx, hb, hml, hown, hts, hrt, hlk, hMK, hZ⟩ := id cx
  refine lv_iload hx hb dJ1_resize_85 (lv_at hl 4 rfl) ?_
  refine lv_if_ne (tgt := 125) hx hb dJ1_resize_87 (by decide) (fun hc => ?_) (fun hc => ?_)
  · have hw := mm_in hc hw
    exact BJ1_resizeL_125 cx _ _ _ _ _ _ _ _ hw _ _ _ _ _ hR hS (lv_sub hl [0, 1, 2, 3, 4] rfl) hcb hsb
  · have hw := mm_ip hc hw
    refine lv_iload hx hb dJ1_resize_90 (lv_at hl 3 rfl) ?_
    refine lv_i2f hx hb dJ1_resize_92 ?_
    refine x_aload_n cx dJ1_resize_93 rfl (lv_at hl 0 rfl) ?_
    obtain ⟨hk14, hw⟩ := hw
    refine xg_J1_81_18 cx hR rfl hk14 dJ1_resize_94 ?_
    obtain ⟨hz, hw⟩ := hw
    refine lv_fmul hx hb dJ1_resize_97 hz ?_
    refine lv_fstore (i := 6) (lv' := [(6, .float (FP.fmul (FP.i2f x4) (ff σ th 7))), (0, xv E (some th)), (1, xv E x1), (2, .int x2), (4, .int x4), (5, .int x5)]) hx hb dJ1_resize_98 hl (by decide) rfl (fun ls hl => ?_)
    refine lv_iload hx hb dJ1_resize_100 (lv_at hl 4 rfl) ?_
    refine lv_ldc (v := (1073741824 : Int32)) hx hb hown (hts _ q558) dJ1_resize_102 ?_
    refine lv_icmp_ge (tgt := 121) hx hb dJ1_resize_104 (by decide) (fun hc => ?_) (fun hc => ?_)
    · have hw := mm_ip hc hw
      exact BJ1_resizeL_121 cx _ _ _ _ _ _ _ hw _ _ _ _ _ hR hS (lv_sub hl [1, 2, 3, 4] rfl) hcb hsb
    · have hw := mm_in hc hw
      refine lv_fload hx hb dJ1_resize_107 (lv_at hl 0 rfl) ?_
      refine lv_ldcf (v := 1317011456) hx hb hown (hts _ q1469) dJ1_resize_109 ?_
      refine lv_fcmp hx hb dJ1_resize_111 ?_
      refine lv_if_ge (tgt := 121) hx hb dJ1_resize_112 (by decide) (fun hc => ?_) (fun hc => ?_)
      · have hw := mm_ip hc hw
        exact BJ1_resizeL_121 cx _ _ _ _ _ _ _ hw _ _ _ _ _ hR hS (lv_sub hl [1, 2, 3, 4] rfl) hcb hsb
      · have hw := mm_in hc hw
        refine lv_fload hx hb dJ1_resize_115 (lv_at hl 0 rfl) ?_
        refine lv_f2i hx hb dJ1_resize_117 ?_
        refine lv_goto (tgt := 123) hx hb dJ1_resize_118 (by decide) ?_
        exact BJ1_resizeL_123 cx _ _ _ _ _ _ _ _ hw _ _ _ _ _ hR hS (lv_sub hl [1, 2, 3, 4] rfl) hcb hsb
def wJ1_resizeL_15 (Q : Option Nat → XS → Prop) (th : Nat) (x1 : Option Nat) (t0 : Int32) (bc : Nat) (bs : Nat) (σ : XS) : Prop :=
  kd σ th = 18 ∧ (∀ v16 : Int32, v16 = (fi σ th 6) → if t0 ≤ 0 then (if v16 ≤ 0 then (wJ1_resizeL_85 Q th x1 t0 (16 : Int32) (12 : Int32) bc bs σ) else (wJ1_resizeL_85 Q th x1 t0 v16 (0 : Int32) bc bs σ)) else (if t0 < (1073741824 : Int32) then (∀ v17 : Int32, v17 = (t0 <<< ((1 : Int32) &&& 31)) → if (1073741824 : Int32) ≤ (t0 <<< ((1 : Int32) &&& 31)) then (wJ1_resizeL_85 Q th x1 t0 v17 (0 : Int32) bc bs σ) else (if t0 < (16 : Int32) then (wJ1_resizeL_85 Q th x1 t0 v17 (0 : Int32) bc bs σ) else (∀ v18 : Int32, v18 = (v16 <<< ((1 : Int32) &&& 31)) → wJ1_resizeL_85 Q th x1 t0 v17 v18 bc bs σ))) else (xK ≤ th ∧ (Q x1 (pfi σ th 6 (2147483647 : Int32))))))
set_option maxHeartbeats 4000000 in
theorem BJ1_resizeL_15 {l : Launch} {p : Program} {e : Env} {s : State} {m : MethodId} {args : Array Value} {below : List Frame} {meth : Method} {c : Code} {E : xx_E} {mc ms : Nat} {Q : Option Nat → XS → Prop} (cx : xx_X "java/util/HashMap" cJ1_resize 14 (some (.array (.object "java/util/HashMap$Node"))) E p s m args meth c) : ∀ (th : Nat) (x1 : Option Nat) (t0 : Int32) (bc : Nat) (bs : Nat) (σ : XS), wJ1_resizeL_15 Q th x1 t0 bc bs σ → x_T p l e ({ frames := 0, cells := mc, slots := ms, locals := 0 } : Room) s m args below meth c E (va_Qe (xr E) Q (fun σ' t => xW E σ' t) (xA E)) mc ms 14 15 bc bs σ [(0, xv E (some th)), (1, xv E x1)] [.int t0] := by
  intro th x1 t0 bc bs σ hw H locs ls cells slots hR hS hl hcb hsb
  unfold wJ1_resizeL_15 at hw
  obtain ⟨hx, hb, hml, hown, hts, hrt, hlk, hMK, hZ⟩ := id cx
  refine lv_istore_n (i := 2) (lv' := [(2, .int t0), (0, xv E (some th)), (1, xv E x1)]) hx hb dJ1_resize_15 rfl hl (by decide) (by simp [xv_cat]) (fun ls hl => ?_)
  refine x_aload_n cx dJ1_resize_16 rfl (lv_at hl 1 rfl) ?_
  obtain ⟨hk15, hw⟩ := hw
  refine xg_J1_88_18 cx hR rfl hk15 dJ1_resize_17 ?_
  refine lv_topi (fun v16 hv16 => ?_)
  have hw := hw v16 hv16
  refine lv_istore_n (i := 3) (lv' := [(3, .int v16), (2, .int t0), (0, xv E (some th)), (1, xv E x1)]) hx hb dJ1_resize_20 rfl hl (by decide) rfl (fun ls hl => ?_)
  refine lv_iconst (v := (0 : Int32)) hx hb dJ1_resize_21 (by decide) ?_
  refine lv_istore (i := 5) (lv' := [(5, .int (0 : Int32)), (3, .int v16), (2, .int t0), (0, xv E (some th)), (1, xv E x1)]) hx hb dJ1_resize_22 hl (by decide) rfl (fun ls hl => ?_)
  refine lv_iload_n hx hb dJ1_resize_24 rfl (lv_at hl 2 rfl) ?_
  refine lv_if_le (tgt := 67) hx hb dJ1_resize_25 (by decide) (fun hc => ?_) (fun hc => ?_)
  · have hw := mm_ip hc hw
    refine lv_iload_n hx hb dJ1_resize_67 rfl (lv_at hl 1 rfl) ?_
    refine lv_if_le (tgt := 77) hx hb dJ1_resize_68 (by decide) (fun hc => ?_) (fun hc => ?_)
    · have hw := mm_ip hc hw
      refine lv_bipush (v := (16 : Int32)) hx hb dJ1_resize_77 (by decide) ?_
      refine lv_istore (i := 4) (lv' := [(4, .int (16 : Int32)), (5, .int (0 : Int32)), (3, .int v16), (2, .int t0), (0, xv E (some th)), (1, xv E x1)]) hx hb dJ1_resize_79 hl (by decide) rfl (fun ls hl => ?_)
      refine lv_bipush (v := (12 : Int32)) hx hb dJ1_resize_81 (by decide) ?_
      refine lv_istore (i := 5) (lv' := [(5, .int (12 : Int32)), (4, .int (16 : Int32)), (3, .int v16), (2, .int t0), (0, xv E (some th)), (1, xv E x1)]) hx hb dJ1_resize_83 hl (by decide) rfl (fun ls hl => ?_)
      exact BJ1_resizeL_85 cx _ _ _ _ _ _ _ _ hw _ _ _ _ _ hR hS (lv_sub hl [4, 5, 3, 1, 0] rfl) hcb hsb
    · have hw := mm_in hc hw
      refine lv_iload_n hx hb dJ1_resize_71 rfl (lv_at hl 1 rfl) ?_
      refine lv_istore (i := 4) (lv' := [(4, .int v16), (5, .int (0 : Int32)), (3, .int v16), (2, .int t0), (0, xv E (some th)), (1, xv E x1)]) hx hb dJ1_resize_72 hl (by decide) rfl (fun ls hl => ?_)
      refine lv_goto (tgt := 85) hx hb dJ1_resize_74 (by decide) ?_
      exact BJ1_resizeL_85 cx _ _ _ _ _ _ _ _ hw _ _ _ _ _ hR hS (lv_sub hl [4, 5, 3, 0, 1] rfl) hcb hsb
  · have hw := mm_in hc hw
    refine lv_iload_n hx hb dJ1_resize_28 rfl (lv_at hl 2 rfl) ?_
    refine lv_ldc (v := (1073741824 : Int32)) hx hb hown (hts _ q558) dJ1_resize_29 ?_
    refine lv_icmp_lt (tgt := 42) hx hb dJ1_resize_31 (by decide) (fun hc => ?_) (fun hc => ?_)
    · have hw := mm_ip hc hw
      refine lv_iload_n hx hb dJ1_resize_42 rfl (lv_at hl 2 rfl) ?_
      refine lv_iconst (v := (1 : Int32)) hx hb dJ1_resize_43 (by decide) ?_
      refine lv_ishl hx hb dJ1_resize_44 ?_
      refine lv_dup hx hb dJ1_resize_45 rfl ?_
      refine lv_topi (fun v17 hv17 => ?_)
      have hw := hw v17 hv17
      refine lv_istore (i := 4) (lv' := [(4, .int v17), (5, .int (0 : Int32)), (3, .int v16), (2, .int t0), (0, xv E (some th)), (1, xv E x1)]) hx hb dJ1_resize_46 hl (by decide) rfl (fun ls hl => ?_)
      refine lv_ldc (v := (1073741824 : Int32)) hx hb hown (hts _ q558) dJ1_resize_48 ?_
      refine lv_icmp_ge (tgt := 85) hx hb dJ1_resize_50 (by decide) (fun hc => ?_) (fun hc => ?_)
      · have hw := mm_ip hc hw
        exact BJ1_resizeL_85 cx _ _ _ _ _ _ _ _ hw _ _ _ _ _ hR hS (lv_sub hl [4, 5, 3, 0, 1] rfl) hcb hsb
      · have hw := mm_in hc hw
        refine lv_iload_n hx hb dJ1_resize_53 rfl (lv_at hl 3 rfl) ?_
        refine lv_bipush (v := (16 : Int32)) hx hb dJ1_resize_54 (by decide) ?_
        refine lv_icmp_lt (tgt := 85) hx hb dJ1_resize_56 (by decide) (fun hc => ?_) (fun hc => ?_)
        · have hw := mm_ip hc hw
          exact BJ1_resizeL_85 cx _ _ _ _ _ _ _ _ hw _ _ _ _ _ hR hS (lv_sub hl [4, 5, 3, 0, 1] rfl) hcb hsb
        · have hw := mm_in hc hw
          refine lv_iload_n hx hb dJ1_resize_59 rfl (lv_at hl 2 rfl) ?_
          refine lv_iconst (v := (1 : Int32)) hx hb dJ1_resize_60 (by decide) ?_
          refine lv_ishl hx hb dJ1_resize_61 ?_
          refine lv_topi (fun v18 hv18 => ?_)
          have hw := hw v18 hv18
          refine lv_istore (i := 5) (lv' := [(5, .int v18), (4, .int v17), (3, .int v16), (2, .int t0), (0, xv E (some th)), (1, xv E x1)]) hx hb dJ1_resize_62 hl (by decide) rfl (fun ls hl => ?_)
          refine lv_goto (tgt := 85) hx hb dJ1_resize_64 (by decide) ?_
          exact BJ1_resizeL_85 cx _ _ _ _ _ _ _ _ hw _ _ _ _ _ hR hS (lv_sub hl [4, 5, 3, 1, 0] rfl) hcb hsb
    · have hw := mm_in hc hw
      refine x_aload_n cx dJ1_resize_34 rfl (lv_at hl 3 rfl) ?_
      refine lv_ldc (v := (2147483647 : Int32)) hx hb hown (hts _ q1468) dJ1_resize_35 ?_
      obtain ⟨hge_th, hw⟩ := hw
      refine xp_J1_88_18 (v := (2147483647 : Int32)) cx hR hS rfl hge_th hk15 dJ1_resize_37 (fun H locs hR hS => ?_)
      refine x_aload_n cx dJ1_resize_40 rfl (lv_at hl 4 rfl) ?_
      exact x_aret cx (by first | exact Or.inl ⟨_, rfl⟩ | exact Or.inr ⟨_, rfl⟩) hR hS (xle hcb) (xle hsb) hw dJ1_resize_41
def wJ1_resizeL (th : Nat) (bc : Nat) (bs : Nat) (σ : XS) (Q : Option Nat → XS → Prop) : Prop :=
  kd σ th = 18 ∧ (if (fr σ th 2) = none then (wJ1_resizeL_15 Q th (fr σ th 2) (0 : Int32) bc bs σ) else (oc σ (fr σ th 2) 106 (fun a20 => wJ1_resizeL_15 Q th (fr σ th 2) (nI (ln σ a20)) bc bs σ)))
set_option maxHeartbeats 4000000 in
theorem MJ1_resizeL (l : Launch) (E : xx_E) (th : Nat) (bc : Nat) (bs : Nat) (σ : XS) (Q : Option Nat → XS → Prop) (hw : wJ1_resizeL th bc bs σ Q) : xx_Mr l yJ1_resize (ws_ yJ1_resize cJ1_resize 14 (some (.array (.object "java/util/HashMap$Node")))) ({ frames := 0, cells := bc, slots := bs, locals := 0 } : Room) E [xv E (some th)] σ Q bc bs := by
  refine x_of (own := "java/util/HashMap") (by decide +kernel) rfl ?_
  intro p e s m args below meth c cx hR ha hnm
  refine x_entry [xv E (some th)] 14 [(0, xv E (some th))] ha (by simp [lg_sl, xv_cat, vc_i, vc_j, vc_f]) (by simp [lv_args, xv_cat, vc_i, vc_j, vc_f]) (fun ls hl => ?_)
  have hS : va_S (xA E) s.heap s.heap [] := va_S.rf
  have hcb : 0 + bc ≤ bc := Nat.le_of_eq (Nat.zero_add _)
  have hsb : 0 + bs ≤ bs := Nat.le_of_eq (Nat.zero_add _)
  unfold wJ1_resizeL at hw
  obtain ⟨hx, hb, hml, hown, hts, hrt, hlk, hMK, hZ⟩ := id cx
  refine x_aload_n cx dJ1_resize_0 rfl (lv_at hl 0 rfl) ?_
  obtain ⟨hk19, hw⟩ := hw
  refine xg_J1_105_18 cx hR rfl hk19 dJ1_resize_1 ?_
  refine x_astore_n (i := 1) (r := (fr σ th 2)) (lv' := [(1, xv E (fr σ th 2)), (0, xv E (some th))]) cx dJ1_resize_4 rfl hl (by decide) (by simp [xv_cat]) (fun ls hl => ?_)
  refine x_aload_n cx dJ1_resize_5 rfl (lv_at hl 0 rfl) ?_
  refine x_ifnonnull (tgt := 13) cx dJ1_resize_6 (by decide) (fun hc => ?_) (fun hc => ?_)
  · have hw := mm_in hc hw
    refine x_aload_n cx dJ1_resize_13 rfl (lv_at hl 0 rfl) ?_
    obtain ⟨a20, hr20, hk20, hw⟩ := hw
    refine x_alen cx hR hr20 6 hk20 (by decide) dJ1_resize_14 ?_
    exact BJ1_resizeL_15 cx _ _ _ _ _ _ hw _ _ _ _ _ hR hS (lv_sub hl [1, 0] rfl) hcb hsb
  · have hw := mm_ip hc hw
    refine lv_iconst (v := (0 : Int32)) hx hb dJ1_resize_9 (by decide) ?_
    refine lv_goto (tgt := 15) hx hb dJ1_resize_10 (by decide) ?_
    exact BJ1_resizeL_15 cx _ _ _ _ _ _ hw _ _ _ _ _ hR hS (lv_sub hl [1, 0] rfl) hcb hsb
-- J25_initE
theorem xp_J25_7_21 {l : Launch} {p : Program} {e : Env} {R : Room} {s : State} {m : MethodId} {args : Array Value} {below : List Frame} {meth : Method} {c : Code} {H : Heap} {locs : List Loc} {cells slots : Nat} {Qz : State → Prop} {cc : ByteArray} {nL : Nat} {ret : Option FieldType} {E : xx_E} {σ : XS} {pc : Nat} {ls : Array Slot} {rest : List Value} (cx : xx_X "java/util/HashMap$Node" cc nL ret E p s m args meth c) (hR : xR E σ H) (hS0 : va_S (xA E) s.heap H locs) {a : Nat} {r : Option Nat} {v : Int32} (hr : r = some a) (ha : xK ≤ a) (hk : kd σ a = 21) (hini : meth.name = "<init>") (hdg : decode cc pc = .ok (.putfield 7, 3)) (kk : ∀ (H1 : Heap) (locs1 : List Loc), xR E (pfi σ a 0 v) H1 → va_S (xA E) s.heap H1 locs1 → W p l e R s m args below meth c H1 locs1 cells slots Qz (F0 m (pc + 3) ls rest)) : W p l e R s m args below meth c H locs cells slots Qz (F0 m pc ls (.int v :: xv E r :: rest)) :=
  x_put (ci := 20) cx hR hS0 hr ha hk (by decide) rfl in_J26 tyJ26 tyJ26_ok nmJ26 0 (by decide) (Or.inr (Or.inl ⟨q1499, rfl, hini, rfl⟩)) (fun _ h => h) rfl rfl (xput_i rfl) hdg kk
theorem xp_J25_13_21 {l : Launch} {p : Program} {e : Env} {R : Room} {s : State} {m : MethodId} {args : Array Value} {below : List Frame} {meth : Method} {c : Code} {H : Heap} {locs : List Loc} {cells slots : Nat} {Qz : State → Prop} {cc : ByteArray} {nL : Nat} {ret : Option FieldType} {E : xx_E} {σ : XS} {pc : Nat} {ls : Array Slot} {rest : List Value} (cx : xx_X "java/util/HashMap$Node" cc nL ret E p s m args meth c) (hR : xR E σ H) (hS0 : va_S (xA E) s.heap H locs) {a : Nat} {r : Option Nat} {v : Option Nat} (hr : r = some a) (ha : xK ≤ a) (hk : kd σ a = 21) (hini : meth.name = "<init>") (hdg : decode cc pc = .ok (.putfield 13, 3)) (kk : ∀ (H1 : Heap) (locs1 : List Loc), xR E (pfr σ a 1 v) H1 → va_S (xA E) s.heap H1 locs1 → W p l e R s m args below meth c H1 locs1 cells slots Qz (F0 m (pc + 3) ls rest)) : W p l e R s m args below meth c H locs cells slots Qz (F0 m pc ls (xv E v :: xv E r :: rest)) :=
  x_put (ci := 20) cx hR hS0 hr ha hk (by decide) rfl in_J26 tyJ26 tyJ26_ok nmJ26 1 (by decide) (Or.inr (Or.inl ⟨q1505, rfl, hini, rfl⟩)) (fun _ h => h) (by cases v <;> rfl) (by cases v <;> rfl) (xput_r rfl) hdg kk
theorem xp_J25_17_21 {l : Launch} {p : Program} {e : Env} {R : Room} {s : State} {m : MethodId} {args : Array Value} {below : List Frame} {meth : Method} {c : Code} {H : Heap} {locs : List Loc} {cells slots : Nat} {Qz : State → Prop} {cc : ByteArray} {nL : Nat} {ret : Option FieldType} {E : xx_E} {σ : XS} {pc : Nat} {ls : Array Slot} {rest : List Value} (cx : xx_X "java/util/HashMap$Node" cc nL ret E p s m args meth c) (hR : xR E σ H) (hS0 : va_S (xA E) s.heap H locs) {a : Nat} {r : Option Nat} {v : Option Nat} (hr : r = some a) (ha : xK ≤ a) (hk : kd σ a = 21) (hdg : decode cc pc = .ok (.putfield 17, 3)) (kk : ∀ (H1 : Heap) (locs1 : List Loc), xR E (pfr σ a 2 v) H1 → va_S (xA E) s.heap H1 locs1 → W p l e R s m args below meth c H1 locs1 cells slots Qz (F0 m (pc + 3) ls rest)) : W p l e R s m args below meth c H locs cells slots Qz (F0 m pc ls (xv E v :: xv E r :: rest)) :=
  x_put (ci := 20) cx hR hS0 hr ha hk (by decide) rfl in_J26 tyJ26 tyJ26_ok nmJ26 2 (by decide) (Or.inl ⟨q1511, rfl⟩) (fun _ h => h) (by cases v <;> rfl) (by cases v <;> rfl) (xput_r rfl) hdg kk
theorem xp_J25_20_21 {l : Launch} {p : Program} {e : Env} {R : Room} {s : State} {m : MethodId} {args : Array Value} {below : List Frame} {meth : Method} {c : Code} {H : Heap} {locs : List Loc} {cells slots : Nat} {Qz : State → Prop} {cc : ByteArray} {nL : Nat} {ret : Option FieldType} {E : xx_E} {σ : XS} {pc : Nat} {ls : Array Slot} {rest : List Value} (cx : xx_X "java/util/HashMap$Node" cc nL ret E p s m args meth c) (hR : xR E σ H) (hS0 : va_S (xA E) s.heap H locs) {a : Nat} {r : Option Nat} {v : Option Nat} (hr : r = some a) (ha : xK ≤ a) (hk : kd σ a = 21) (hdg : decode cc pc = .ok (.putfield 20, 3)) (kk : ∀ (H1 : Heap) (locs1 : List Loc), xR E (pfr σ a 3 v) H1 → va_S (xA E) s.heap H1 locs1 → W p l e R s m args below meth c H1 locs1 cells slots Qz (F0 m (pc + 3) ls rest)) : W p l e R s m args below meth c H locs cells slots Qz (F0 m pc ls (xv E v :: xv E r :: rest)) :=
  x_put (ci := 20) cx hR hS0 hr ha hk (by decide) rfl in_J26 tyJ26 tyJ26_ok nmJ26 3 (by decide) (Or.inl ⟨q1516, rfl⟩) (fun _ h => h) (by cases v <;> rfl) (by cases v <;> rfl) (xput_r rfl) hdg kk
def wJ25_initE (th : Nat) (x1 : Int32) (x2 : Option Nat) (x3 : Option Nat) (x4 : Option Nat) (σ : XS) (Q : XS → Prop) : Prop :=
  kd σ th = 21 ∧ (xK ≤ th ∧ (Q (pfr (pfr (pfr (pfi σ th 0 x1) th 1 x2) th 2 x3) th 3 x4)))
set_option maxHeartbeats 4000000 in
theorem MJ25_initE (l : Launch) (E : xx_E) (th : Nat) (x1 : Int32) (x2 : Option Nat) (x3 : Option Nat) (x4 : Option Nat) (σ : XS) (Q : XS → Prop) (hw : wJ25_initE th x1 x2 x3 x4 σ Q) : xx_Mv l yJ25_init (ws_ yJ25_init cJ25_init 5 none) ({ frames := 1, cells := 0, slots := 0, locals := 40 } : Room) E [xv E (some th), .int x1, xv E x2, xv E x3, xv E x4] σ Q 0 0 := by
  refine x_of (own := "java/util/HashMap$Node") (by decide +kernel) rfl ?_
  intro p e s m args below meth c cx hR ha hnm
  refine x_entry [xv E (some th), .int x1, xv E x2, xv E x3, xv E x4] 5 [(0, xv E (some th)), (1, .int x1), (2, xv E x2), (3, xv E x3), (4, xv E x4)] ha (by simp [lg_sl, xv_cat, vc_i, vc_j, vc_f]) (by simp [lv_args, xv_cat, vc_i, vc_j, vc_f]) (fun ls hl => ?_)
  have hS : va_S (xA E) s.heap s.heap [] := va_S.rf
  have hcb : 0 + 0 ≤ 0 := Nat.le_of_eq (Nat.zero_add _)
  have hsb : 0 + 0 ≤ 0 := Nat.le_of_eq (Nat.zero_add _)
  have hini : meth.name = "<init>" := hnm
  unfold wJ25_initE at hw
  obtain ⟨hx, hb, hml, hown, hts, hrt, hlk, hMK, hZ⟩ := id cx
  refine x_aload_n cx dJ25_init_0 rfl (lv_at hl 0 rfl) ?_
  refine x_objinit cx hl.1 rfl q1496 (xroom12 (Nat.le_of_ble_eq_true rfl) (by dsimp only; omega)) (by dsimp only; omega) dJ25_init_1 ?_
  refine x_aload_n cx dJ25_init_4 rfl (lv_at hl 0 rfl) ?_
  refine lv_iload_n hx hb dJ25_init_5 rfl (lv_at hl 1 rfl) ?_
  obtain ⟨hk1, hw⟩ := hw
  obtain ⟨hge_th, hw⟩ := hw
  refine xp_J25_7_21 (v := x1) cx hR hS rfl hge_th hk1 hini dJ25_init_6 (fun H locs hR hS => ?_)
  refine x_aload_n cx dJ25_init_9 rfl (lv_at hl 0 rfl) ?_
  refine x_aload_n cx dJ25_init_10 rfl (lv_at hl 2 rfl) ?_
  refine xp_J25_13_21 (v := x2) cx hR hS rfl hge_th hk1 hini dJ25_init_11 (fun H locs hR hS => ?_)
  refine x_aload_n cx dJ25_init_14 rfl (lv_at hl 0 rfl) ?_
  refine x_aload_n cx dJ25_init_15 rfl (lv_at hl 3 rfl) ?_
  refine xp_J25_17_21 (v := x3) cx hR hS rfl hge_th hk1 dJ25_init_16 (fun H locs hR hS => ?_)
  refine x_aload_n cx dJ25_init_19 rfl (lv_at hl 0 rfl) ?_
  refine x_aload cx dJ25_init_20 (lv_at hl 4 rfl) ?_
  refine xp_J25_20_21 (v := x4) cx hR hS rfl hge_th hk1 dJ25_init_22 (fun H locs hR hS => ?_)
  exact x_vret cx hR hS (xle hcb) (xle hsb) hw dJ25_init_25
-- J26_init
theorem CJ25_initE_J26_1 {l : Launch} {p : Program} {e : Env} {R : Room} {s : State} {m : MethodId} {args : Array Value} {below : List Frame} {meth : Method} {c : Code} {H : Heap} {locs : List Loc} {cells slots : Nat} {Qz : State → Prop} {cc : ByteArray} {nL : Nat} {ret : Option FieldType} {E : xx_E} {σ : XS} {pc : Nat} {ls : Array Slot} {rest : List Value} {th : Nat} {x1 : Int32} {x2 : Option Nat} {x3 : Option Nat} {x4 : Option Nat} (cx : xx_X "java/util/LinkedHashMap$Entry" cc nL ret E p s m args meth c) (hR0 : xR E σ H) (hS0 : va_S (xA E) s.heap H locs) {r0 : Option Nat} (hr : r0 = some th) (hk : kd σ th = 21) {Qf : XS → Prop} (hw : wJ25_initE th x1 x2 x3 x4 σ Qf) (hR : (({ frames := 1, cells := 0, slots := 0, locals := 40 } : Room)).frames + 1 ≤ R.frames ∧ 8 + (5 + 11) + (({ frames := 1, cells := 0, slots := 0, locals := 40 } : Room)).locals ≤ R.locals) (hrest : rest.length ≤ 4) (hsize : ls.size = nL) (hf : cells + 0 ≤ R.cells ∧ slots + 0 ≤ R.slots) (hdg : decode cc pc = .ok (.invokespecial 1, 3))
    (kk : ∀ (σ1 : XS) (H1 : Heap) (locs1 : List Loc), Qf σ1 → xR E σ1 H1 → va_S (xA E) s.heap H1 locs1 → W p l e R s m args below meth c H1 locs1 (cells + 0) (slots + 0) Qz (F0 m (pc + 3) ls rest)) : W p l e R s m args below meth c H locs cells slots Qz (F0 m pc ls (xv E x4 :: xv E x3 :: xv E x2 :: .int x1 :: xv E r0 :: rest)) := by
  subst hr
  obtain ⟨hx, hb, hml, hown, hts, hrt, hlk, hK, hZ⟩ := id cx
  exact x_gov (va_runI (As := [.int x1, xv E x2, xv E x3, xv E x4]) (rest := rest) (x_fix cx) (MJ25_initE l E th x1 x2 x3 x4 σ Qf hw) (cwI 4 hts (lw_meth q1495) rfl rfl rfl (hts _ q191) (hts _ q1493) (hts _ q1494) rfl (by decide +kernel) hR) ⟨xblind, x_pre cx hR0 hS0 (.ref (xr E th) :: [.int x1, xv E x2, xv E x3, xv E x4])⟩ rfl rfl hsize rfl (lv_room (xroom hrest)) hdg hf) hS0 kk
def wJ26_init (th : Nat) (x1 : Int32) (x2 : Option Nat) (x3 : Option Nat) (x4 : Option Nat) (σ : XS) (Q : XS → Prop) : Prop :=
  kd σ th = 21 ∧ (wJ25_initE th x1 x2 x3 x4 σ (fun s1 => Q s1))
set_option maxHeartbeats 4000000 in
theorem MJ26_init (l : Launch) (E : xx_E) (th : Nat) (x1 : Int32) (x2 : Option Nat) (x3 : Option Nat) (x4 : Option Nat) (σ : XS) (Q : XS → Prop) (hw : wJ26_init th x1 x2 x3 x4 σ Q) : xx_Mv l yJ26_init (ws_ yJ26_init cJ26_init 5 none) ({ frames := 2, cells := 0, slots := 0, locals := 80 } : Room) E [xv E (some th), .int x1, xv E x2, xv E x3, xv E x4] σ Q 0 0 := by
  refine x_of (own := "java/util/LinkedHashMap$Entry") (by decide +kernel) rfl ?_
  intro p e s m args below meth c cx hR ha hnm
  refine x_entry [xv E (some th), .int x1, xv E x2, xv E x3, xv E x4] 5 [(0, xv E (some th)), (1, .int x1), (2, xv E x2), (3, xv E x3), (4, xv E x4)] ha (by simp [lg_sl, xv_cat, vc_i, vc_j, vc_f]) (by simp [lv_args, xv_cat, vc_i, vc_j, vc_f]) (fun ls hl => ?_)
  have hS : va_S (xA E) s.heap s.heap [] := va_S.rf
  have hcb : 0 + 0 ≤ 0 := Nat.le_of_eq (Nat.zero_add _)
  have hsb : 0 + 0 ≤ 0 := Nat.le_of_eq (Nat.zero_add _)
  have hini : meth.name = "<init>" := hnm
  unfold wJ26_init at hw
  obtain ⟨hx, hb, hml, hown, hts, hrt, hlk, hMK, hZ⟩ := id cx
  refine x_aload_n cx dJ26_init_0 rfl (lv_at hl 0 rfl) ?_
  refine lv_iload_n hx hb dJ26_init_1 rfl (lv_at hl 1 rfl) ?_
  refine x_aload_n cx dJ26_init_2 rfl (lv_at hl 2 rfl) ?_
  refine x_aload_n cx dJ26_init_3 rfl (lv_at hl 3 rfl) ?_
  refine x_aload cx dJ26_init_4 (lv_at hl 4 rfl) ?_
  obtain ⟨hk2, hw⟩ := hw
  refine CJ25_initE_J26_1 cx hR hS rfl hk2 hw ⟨Nat.le_of_ble_eq_true rfl, Nat.le_of_ble_eq_true rfl⟩ (Nat.le_of_ble_eq_true rfl) hl.1 ⟨by dsimp only; omega, by dsimp only; omega⟩ dJ26_init_6 (fun s1 H locs hw hR hS => ?_)
  exact x_vret cx hR hS (xle hcb) (xle hsb) hw dJ26_init_9
-- J2_linkNodeAtEndL
def wJ2_linkNodeAtEndL_40 (Q : XS → Prop) (th : Nat) (σ : XS) : Prop :=
  Q σ
set_option maxHeartbeats 4000000 in
theorem BJ2_linkNodeAtEndL_40 {l : Launch} {p : Program} {e : Env} {s : State} {m : MethodId} {args : Array Value} {below : List Frame} {meth : Method} {c : Code} {E : xx_E} {Q : XS → Prop} (cx : xx_X "java/util/LinkedHashMap" cJ2_linkNodeAtEnd 3 none E p s m args meth c) : ∀ (th : Nat) (σ : XS), wJ2_linkNodeAtEndL_40 Q th σ → x_T p l e ({ frames := 0, cells := 0, slots := 0, locals := 0 } : Room) s m args below meth c E (va_Qv Q (fun σ' t => xW E σ' t) (xA E)) 0 0 3 40 0 0 σ [(0, xv E (some th))] [] := by
  intro th σ hw H locs ls cells slots hR hS hl hcb hsb
  unfold wJ2_linkNodeAtEndL_40 at hw
  obtain ⟨hx, hb, hml, hown, hts, hrt, hlk, hMK, hZ⟩ := id cx
  refine lv_goto (tgt := 75) hx hb dJ2_linkNodeAtEnd_40 (by decide) ?_
  exact x_vret cx hR hS (xle hcb) (xle hsb) hw dJ2_linkNodeAtEnd_75
def wJ2_linkNodeAtEndL (th : Nat) (x1 : Option Nat) (σ : XS) (Q : XS → Prop) : Prop :=
  kd σ th = 18 ∧ (if (fi σ th 11) = (1 : Int32) then (xK ≤ th ∧ (if (fr σ th 8) = none then (wJ2_linkNodeAtEndL_40 Q th (pfr (pfr σ th 8 x1) th 9 x1)) else (oc (pfr σ th 8 x1) x1 21 (fun a4 => xK ≤ a4 ∧ (oc (pfr (pfr σ th 8 x1) a4 5 (fr σ th 8)) (fr σ th 8) 21 (fun a5 => xK ≤ a5 ∧ (wJ2_linkNodeAtEndL_40 Q th (pfr (pfr (pfr σ th 8 x1) a4 5 (fr σ th 8)) a5 4 x1)))))))) else (xK ≤ th ∧ (if (fr σ th 9) = none then (Q (pfr (pfr σ th 9 x1) th 8 x1)) else (oc (pfr σ th 9 x1) x1 21 (fun a2 => xK ≤ a2 ∧ (oc (pfr (pfr σ th 9 x1) a2 4 (fr σ th 9)) (fr σ th 9) 21 (fun a3 => xK ≤ a3 ∧ (Q (pfr (pfr (pfr σ th 9 x1) a2 4 (fr σ th 9)) a3 5 x1)))))))))
set_option maxHeartbeats 4000000 in
theorem MJ2_linkNodeAtEndL (l : Launch) (E : xx_E) (th : Nat) (x1 : Option Nat) (σ : XS) (Q : XS → Prop) (hw : wJ2_linkNodeAtEndL th x1 σ Q) : xx_Mv l yJ2_linkNodeAtEnd (ws_ yJ2_linkNodeAtEnd cJ2_linkNodeAtEnd 3 none) ({ frames := 0, cells := 0, slots := 0, locals := 0 } : Room) E [xv E (some th), xv E x1] σ Q 0 0 := by
  refine x_of (own := "java/util/LinkedHashMap") (by decide +kernel) rfl ?_
  intro p e s m args below meth c cx hR ha hnm
  refine x_entry [xv E (some th), xv E x1] 3 [(0, xv E (some th)), (1, xv E x1)] ha (by simp [lg_sl, xv_cat, vc_i, vc_j, vc_f]) (by simp [lv_args, xv_cat, vc_i, vc_j, vc_f]) (fun ls hl => ?_)
  have hS : va_S (xA E) s.heap s.heap [] := va_S.rf
  have hcb : 0 + 0 ≤ 0 := Nat.le_of_eq (Nat.zero_add _)
  have hsb : 0 + 0 ≤ 0 := Nat.le_of_eq (Nat.zero_add _)
  unfold wJ2_linkNodeAtEndL at hw
  obtain ⟨hx, hb, hml, hown, hts, hrt, hlk, hMK, hZ⟩ := id cx
  refine x_aload_n cx dJ2_linkNodeAtEnd_0 rfl (lv_at hl 0 rfl) ?_
  obtain ⟨hk1, hw⟩ := hw
  refine xg_J2_1_18 cx hR rfl hk1 dJ2_linkNodeAtEnd_1 ?_
  refine lv_iconst (v := (1 : Int32)) hx hb dJ2_linkNodeAtEnd_4 (by decide) ?_
  refine lv_icmp_ne (tgt := 43) hx hb dJ2_linkNodeAtEnd_5 (by decide) (fun hc => ?_) (fun hc => ?_)
  · have hw := mm_in hc hw
    refine x_aload_n cx dJ2_linkNodeAtEnd_43 rfl (lv_at hl 0 rfl) ?_
    refine xg_J2_11_18 cx hR rfl hk1 dJ2_linkNodeAtEnd_44 ?_
    refine x_astore_n (i := 2) (r := (fr σ th 9)) (lv' := [(2, xv E (fr σ th 9)), (0, xv E (some th)), (1, xv E x1)]) cx dJ2_linkNodeAtEnd_47 rfl hl (by decide) (by simp [xv_cat]) (fun ls hl => ?_)
    refine x_aload_n cx dJ2_linkNodeAtEnd_48 rfl (lv_at hl 1 rfl) ?_
    refine x_aload_n cx dJ2_linkNodeAtEnd_49 rfl (lv_at hl 2 rfl) ?_
    obtain ⟨hge_th, hw⟩ := hw
    refine xp_J2_11_18 (v := x1) cx hR hS rfl hge_th hk1 dJ2_linkNodeAtEnd_50 (fun H locs hR hS => ?_)
    refine x_aload_n cx dJ2_linkNodeAtEnd_53 rfl (lv_at hl 0 rfl) ?_
    refine x_ifnonnull (tgt := 65) cx dJ2_linkNodeAtEnd_54 (by decide) (fun hc => ?_) (fun hc => ?_)
    · have hw := mm_in hc hw
      refine x_aload_n cx dJ2_linkNodeAtEnd_65 rfl (lv_at hl 2 rfl) ?_
      refine x_aload_n cx dJ2_linkNodeAtEnd_66 rfl (lv_at hl 0 rfl) ?_
      obtain ⟨a2, hr2, hk2, hw⟩ := hw
      obtain ⟨hge_a2, hw⟩ := hw
      refine xp_J2_19_21 (v := (fr σ th 9)) cx hR hS hr2 hge_a2 hk2 dJ2_linkNodeAtEnd_67 (fun H locs hR hS => ?_)
      refine x_aload_n cx dJ2_linkNodeAtEnd_70 rfl (lv_at hl 0 rfl) ?_
      refine x_aload_n cx dJ2_linkNodeAtEnd_71 rfl (lv_at hl 2 rfl) ?_
      obtain ⟨a3, hr3, hk3, hw⟩ := hw
      obtain ⟨hge_a3, hw⟩ := hw
      refine xp_J2_14_21 (v := x1) cx hR hS hr3 hge_a3 hk3 dJ2_linkNodeAtEnd_72 (fun H locs hR hS => ?_)
      exact x_vret cx hR hS (xle hcb) (xle hsb) hw dJ2_linkNodeAtEnd_75
    · have hw := mm_ip hc hw
      refine x_aload_n cx dJ2_linkNodeAtEnd_57 rfl (lv_at hl 1 rfl) ?_
      refine x_aload_n cx dJ2_linkNodeAtEnd_58 rfl (lv_at hl 2 rfl) ?_
      refine xp_J2_7_18 (v := x1) cx hR hS rfl hge_th hk1 dJ2_linkNodeAtEnd_59 (fun H locs hR hS => ?_)
      refine lv_goto (tgt := 75) hx hb dJ2_linkNodeAtEnd_62 (by decide) ?_
      exact x_vret cx hR hS (xle hcb) (xle hsb) hw dJ2_linkNodeAtEnd_75
  · have hw := mm_ip hc hw
    refine x_aload_n cx dJ2_linkNodeAtEnd_8 rfl (lv_at hl 0 rfl) ?_
    refine xg_J2_7_18 cx hR rfl hk1 dJ2_linkNodeAtEnd_9 ?_
    refine x_astore_n (i := 2) (r := (fr σ th 8)) (lv' := [(2, xv E (fr σ th 8)), (0, xv E (some th)), (1, xv E x1)]) cx dJ2_linkNodeAtEnd_12 rfl hl (by decide) (by simp [xv_cat]) (fun ls hl => ?_)
    refine x_aload_n cx dJ2_linkNodeAtEnd_13 rfl (lv_at hl 1 rfl) ?_
    refine x_aload_n cx dJ2_linkNodeAtEnd_14 rfl (lv_at hl 2 rfl) ?_
    obtain ⟨hge_th, hw⟩ := hw
    refine xp_J2_7_18 (v := x1) cx hR hS rfl hge_th hk1 dJ2_linkNodeAtEnd_15 (fun H locs hR hS => ?_)
    refine x_aload_n cx dJ2_linkNodeAtEnd_18 rfl (lv_at hl 0 rfl) ?_
    refine x_ifnonnull (tgt := 30) cx dJ2_linkNodeAtEnd_19 (by decide) (fun hc => ?_) (fun hc => ?_)
    · have hw := mm_in hc hw
      refine x_aload_n cx dJ2_linkNodeAtEnd_30 rfl (lv_at hl 2 rfl) ?_
      refine x_aload_n cx dJ2_linkNodeAtEnd_31 rfl (lv_at hl 0 rfl) ?_
      obtain ⟨a4, hr4, hk4, hw⟩ := hw
      obtain ⟨hge_a4, hw⟩ := hw
      refine xp_J2_14_21 (v := (fr σ th 8)) cx hR hS hr4 hge_a4 hk4 dJ2_linkNodeAtEnd_32 (fun H locs hR hS => ?_)
      refine x_aload_n cx dJ2_linkNodeAtEnd_35 rfl (lv_at hl 0 rfl) ?_
      refine x_aload_n cx dJ2_linkNodeAtEnd_36 rfl (lv_at hl 2 rfl) ?_
      obtain ⟨a5, hr5, hk5, hw⟩ := hw
      obtain ⟨hge_a5, hw⟩ := hw
      refine xp_J2_19_21 (v := x1) cx hR hS hr5 hge_a5 hk5 dJ2_linkNodeAtEnd_37 (fun H locs hR hS => ?_)
      exact BJ2_linkNodeAtEndL_40 cx _ _ hw _ _ _ _ _ hR hS (lv_sub hl [1] rfl) hcb hsb
    · have hw := mm_ip hc hw
      refine x_aload_n cx dJ2_linkNodeAtEnd_22 rfl (lv_at hl 1 rfl) ?_
      refine x_aload_n cx dJ2_linkNodeAtEnd_23 rfl (lv_at hl 2 rfl) ?_
      refine xp_J2_11_18 (v := x1) cx hR hS rfl hge_th hk1 dJ2_linkNodeAtEnd_24 (fun H locs hR hS => ?_)
      refine lv_goto (tgt := 40) hx hb dJ2_linkNodeAtEnd_27 (by decide) ?_
      exact BJ2_linkNodeAtEndL_40 cx _ _ hw _ _ _ _ _ hR hS (lv_sub hl [1] rfl) hcb hsb
-- J2_newNodeL
theorem xn_J2_15 {l : Launch} {p : Program} {e : Env} {R : Room} {s : State} {m : MethodId} {args : Array Value} {below : List Frame} {meth : Method} {c : Code} {H : Heap} {locs : List Loc} {cells slots : Nat} {Qz : State → Prop} {cc : ByteArray} {nL : Nat} {ret : Option FieldType} {E : xx_E} {σ : XS} {pc : Nat} {ls : Array Slot} {rest : List Value} (cx : xx_X "java/util/LinkedHashMap" cc nL ret E p s m args meth c) (hR : xR E σ H) (hS0 : va_S (xA E) s.heap H locs) (hcells : cells + 1 ≤ R.cells) (hslots : slots + 6 ≤ R.slots) (hdg : decode cc pc = .ok (.new 15, 3)) (kk : ∀ (H1 : Heap), xR E (xal σ 21 0) H1 → va_S (xA E) s.heap H1 locs → W p l e R s m args below meth c H1 locs (cells + 1) (slots + 6) Qz (F0 m (pc + 3) ls (xv E (some (xn σ)) :: rest))) : W p l e R s m args below meth c H locs cells slots Qz (F0 m pc ls rest) :=
  x_new cx hR hS0 20 (by decide) rfl in_J26 tyJ26 tyJ26_ok q1488 q1489 q192 (fun j hj => by
    match j, hj with
    | 0, _ => exact xnew_i rfl
    | 1, _ => exact xnew_r rfl
    | 2, _ => exact xnew_r rfl
    | 3, _ => exact xnew_r rfl
    | 4, _ => exact xnew_r rfl
    | 5, _ => exact xnew_r rfl) hcells hslots hdg kk
theorem CJ26_init_J2_28 {l : Launch} {p : Program} {e : Env} {R : Room} {s : State} {m : MethodId} {args : Array Value} {below : List Frame} {meth : Method} {c : Code} {H : Heap} {locs : List Loc} {cells slots : Nat} {Qz : State → Prop} {cc : ByteArray} {nL : Nat} {ret : Option FieldType} {E : xx_E} {σ : XS} {pc : Nat} {ls : Array Slot} {rest : List Value} {th : Nat} {x1 : Int32} {x2 : Option Nat} {x3 : Option Nat} {x4 : Option Nat} (cx : xx_X "java/util/LinkedHashMap" cc nL ret E p s m args meth c) (hR0 : xR E σ H) (hS0 : va_S (xA E) s.heap H locs) {r0 : Option Nat} (hr : r0 = some th) (hk : kd σ th = 21) {Qf : XS → Prop} (hw : wJ26_init th x1 x2 x3 x4 σ Qf) (hR : (({ frames := 2, cells := 0, slots := 0, locals := 80 } : Room)).frames + 1 ≤ R.frames ∧ 8 + (5 + 11) + (({ frames := 2, cells := 0, slots := 0, locals := 80 } : Room)).locals ≤ R.locals) (hrest : rest.length ≤ 4) (hsize : ls.size = nL) (hf : cells + 0 ≤ R.cells ∧ slots + 0 ≤ R.slots) (hdg : decode cc pc = .ok (.invokespecial 28, 3))
    (kk : ∀ (σ1 : XS) (H1 : Heap) (locs1 : List Loc), Qf σ1 → xR E σ1 H1 → va_S (xA E) s.heap H1 locs1 → W p l e R s m args below meth c H1 locs1 (cells + 0) (slots + 0) Qz (F0 m (pc + 3) ls rest)) : W p l e R s m args below meth c H locs cells slots Qz (F0 m pc ls (xv E x4 :: xv E x3 :: xv E x2 :: .int x1 :: xv E r0 :: rest)) := by
  subst hr
  obtain ⟨hx, hb, hml, hown, hts, hrt, hlk, hK, hZ⟩ := id cx
  exact x_gov (va_runI (As := [.int x1, xv E x2, xv E x3, xv E x4]) (rest := rest) (x_fix cx) (MJ26_init l E th x1 x2 x3 x4 σ Qf hw) (cwI 4 hts (lw_meth q1492) rfl rfl rfl (hts _ q192) (hts _ q1490) (hts _ q1491) rfl (by decide +kernel) hR) ⟨xblind, x_pre cx hR0 hS0 (.ref (xr E th) :: [.int x1, xv E x2, xv E x3, xv E x4])⟩ rfl rfl hsize rfl (lv_room (xroom hrest)) hdg hf) hS0 kk
theorem CJ2_linkNodeAtEndL_J2_32 {l : Launch} {p : Program} {e : Env} {R : Room} {s : State} {m : MethodId} {args : Array Value} {below : List Frame} {meth : Method} {c : Code} {H : Heap} {locs : List Loc} {cells slots : Nat} {Qz : State → Prop} {cc : ByteArray} {nL : Nat} {ret : Option FieldType} {E : xx_E} {σ : XS} {pc : Nat} {ls : Array Slot} {rest : List Value} {th : Nat} {x1 : Option Nat} (cx : xx_X "java/util/LinkedHashMap" cc nL ret E p s m args meth c) (hR0 : xR E σ H) (hS0 : va_S (xA E) s.heap H locs) {r0 : Option Nat} (hr : r0 = some th) (hk : kd σ th = 18) {Qf : XS → Prop} (hw : wJ2_linkNodeAtEndL th x1 σ Qf) (hR : (({ frames := 0, cells := 0, slots := 0, locals := 0 } : Room)).frames + 1 ≤ R.frames ∧ 8 + (3 + 11) + (({ frames := 0, cells := 0, slots := 0, locals := 0 } : Room)).locals ≤ R.locals) (hrest : rest.length ≤ 4) (hsize : ls.size = nL) (hf : cells + 0 ≤ R.cells ∧ slots + 0 ≤ R.slots) (hdg : decode cc pc = .ok (.invokevirtual 32, 3))
    (kk : ∀ (σ1 : XS) (H1 : Heap) (locs1 : List Loc), Qf σ1 → xR E σ1 H1 → va_S (xA E) s.heap H1 locs1 → W p l e R s m args below meth c H1 locs1 (cells + 0) (slots + 0) Qz (F0 m (pc + 3) ls rest)) : W p l e R s m args below meth c H locs cells slots Qz (F0 m pc ls (xv E x1 :: xv E r0 :: rest)) := by
  subst hr
  obtain ⟨hx, hb, hml, hown, hts, hrt, hlk, hK, hZ⟩ := id cx
  exact x_gov (va_runV (As := [xv E x1]) (rest := rest) (x_fix cx) (MJ2_linkNodeAtEndL l E th x1 σ Qf hw) (cwV 1 hts (lw_V q1572 q1574 qs12 q160 q1575) rfl rfl rfl (by decide +kernel) hR) (x_preV cx hR0 hS0 hk (by decide) (q := (RJ2, TJ2, 12)) rfl rfl [xv E x1]) rfl rfl hsize rfl (lv_room (xroom hrest)) hdg hf) hS0 kk
def wJ2_newNodeL (th : Nat) (x1 : Int32) (x2 : Option Nat) (x3 : Option Nat) (x4 : Option Nat) (bc : Nat) (bs : Nat) (σ : XS) (Q : Option Nat → XS → Prop) : Prop :=
  1 ≤ bc ∧ 6 ≤ bs ∧ (kd (xal σ 21 0) (xn σ) = 21 ∧ (wJ26_init (xn σ) x1 x2 x3 x4 (xal σ 21 0) (fun s1 => kd s1 th = 18 ∧ (wJ2_linkNodeAtEndL th (some (xn σ)) s1 (fun s3 => Q (some (xn σ)) s3)))))
set_option maxHeartbeats 4000000 in
theorem MJ2_newNodeL (l : Launch) (E : xx_E) (th : Nat) (x1 : Int32) (x2 : Option Nat) (x3 : Option Nat) (x4 : Option Nat) (bc : Nat) (bs : Nat) (σ : XS) (Q : Option Nat → XS → Prop) (hw : wJ2_newNodeL th x1 x2 x3 x4 bc bs σ Q) : xx_Mr l yJ2_newNode (ws_ yJ2_newNode cJ2_newNode 6 (some (.object "java/util/HashMap$Node"))) ({ frames := 3, cells := bc, slots := bs, locals := 120 } : Room) E [xv E (some th), .int x1, xv E x2, xv E x3, xv E x4] σ Q bc bs := by
  refine x_of (own := "java/util/LinkedHashMap") (by decide +kernel) rfl ?_
  intro p e s m args below meth c cx hR ha hnm
  refine x_entry [xv E (some th), .int x1, xv E x2, xv E x3, xv E x4] 6 [(0, xv E (some th)), (1, .int x1), (2, xv E x2), (3, xv E x3), (4, xv E x4)] ha (by simp [lg_sl, xv_cat, vc_i, vc_j, vc_f]) (by simp [lv_args, xv_cat, vc_i, vc_j, vc_f]) (fun ls hl => ?_)
  have hS : va_S (xA E) s.heap s.heap [] := va_S.rf
  have hcb : 0 + bc ≤ bc := Nat.le_of_eq (Nat.zero_add _)
  have hsb : 0 + bs ≤ bs := Nat.le_of_eq (Nat.zero_add _)
  unfold wJ2_newNodeL at hw
  obtain ⟨hx, hb, hml, hown, hts, hrt, hlk, hMK, hZ⟩ := id cx
  obtain ⟨hb1, hb2, hw⟩ := hw
  refine xn_J2_15 cx hR hS (by dsimp only; omega) (by dsimp only; omega) dJ2_newNode_0 (fun H hR hS => ?_)
  have hcb := xadd hb1 hcb
  have hsb := xadd hb2 hsb
  refine lv_dup hx hb dJ2_newNode_3 (xv_cat _ _) ?_
  refine lv_iload_n hx hb dJ2_newNode_4 rfl (lv_at hl 1 rfl) ?_
  refine x_aload_n cx dJ2_newNode_5 rfl (lv_at hl 2 rfl) ?_
  refine x_aload_n cx dJ2_newNode_6 rfl (lv_at hl 3 rfl) ?_
  refine x_aload cx dJ2_newNode_7 (lv_at hl 4 rfl) ?_
  obtain ⟨hk2, hw⟩ := hw
  refine CJ26_init_J2_28 cx hR hS rfl hk2 hw ⟨Nat.le_of_ble_eq_true rfl, Nat.le_of_ble_eq_true rfl⟩ (Nat.le_of_ble_eq_true rfl) hl.1 ⟨by dsimp only; omega, by dsimp only; omega⟩ dJ2_newNode_9 (fun s1 H locs hw hR hS => ?_)
  refine x_astore (i := 5) (r := (some (xn σ))) (lv' := [(5, xv E (some (xn σ))), (0, xv E (some th)), (1, .int x1), (2, xv E x2), (3, xv E x3), (4, xv E x4)]) cx dJ2_newNode_12 hl (by decide) (by simp [xv_cat]) (fun ls hl => ?_)
  refine x_aload_n cx dJ2_newNode_14 rfl (lv_at hl 1 rfl) ?_
  refine x_aload cx dJ2_newNode_15 (lv_at hl 0 rfl) ?_
  obtain ⟨hk4, hw⟩ := hw
  refine CJ2_linkNodeAtEndL_J2_32 cx hR hS rfl hk4 hw ⟨Nat.le_of_ble_eq_true rfl, Nat.le_of_ble_eq_true rfl⟩ (Nat.le_of_ble_eq_true rfl) hl.1 ⟨by dsimp only; omega, by dsimp only; omega⟩ dJ2_newNode_17 (fun s3 H locs hw hR hS => ?_)
  refine x_aload cx dJ2_newNode_20 (lv_at hl 0 rfl) ?_
  exact x_aret cx (by first | exact Or.inl ⟨_, rfl⟩ | exact Or.inr ⟨_, rfl⟩) hR hS (xle hcb) (xle hsb) hw dJ2_newNode_22
-- J2_removeEldestEntryL
def wJ2_removeEldestEntryL (th : Nat) (x1 : Option Nat) (σ : XS) (Q : Int32 → XS → Prop) : Prop :=
  Q (0 : Int32) σ
set_option maxHeartbeats 4000000 in
theorem MJ2_removeEldestEntryL (l : Launch) (E : xx_E) (th : Nat) (x1 : Option Nat) (σ : XS) (Q : Int32 → XS → Prop) (hw : wJ2_removeEldestEntryL th x1 σ Q) : xx_Mi l yJ2_removeEldestEntry (ws_ yJ2_removeEldestEntry cJ2_removeEldestEntry 2 (some .boolean)) ({ frames := 0, cells := 0, slots := 0, locals := 0 } : Room) E [xv E (some th), xv E x1] σ Q 0 0 := by
  refine x_of (own := "java/util/LinkedHashMap") (by decide +kernel) rfl ?_
  intro p e s m args below meth c cx hR ha hnm
  refine x_entry [xv E (some th), xv E x1] 2 [(0, xv E (some th)), (1, xv E x1)] ha (by simp [lg_sl, xv_cat, vc_i, vc_j, vc_f]) (by simp [lv_args, xv_cat, vc_i, vc_j, vc_f]) (fun ls hl => ?_)
  have hS : va_S (xA E) s.heap s.heap [] := va_S.rf
  have hcb : 0 + 0 ≤ 0 := Nat.le_of_eq (Nat.zero_add _)
  have hsb : 0 + 0 ≤ 0 := Nat.le_of_eq (Nat.zero_add _)
  unfold wJ2_removeEldestEntryL at hw
  obtain ⟨hx, hb, hml, hown, hts, hrt, hlk, hMK, hZ⟩ := id cx
  refine lv_iconst (v := (0 : Int32)) hx hb dJ2_removeEldestEntry_0 (by decide) ?_
  exact x_nret cx hR hS (xle hcb) (xle hsb) (zb_nar (Or.inl rfl)) hw dJ2_removeEldestEntry_1
-- J2_afterNodeInsertionL
theorem xg_J2_39_21 {l : Launch} {p : Program} {e : Env} {R : Room} {s : State} {m : MethodId} {args : Array Value} {below : List Frame} {meth : Method} {c : Code} {H : Heap} {locs : List Loc} {cells slots : Nat} {Qz : State → Prop} {cc : ByteArray} {nL : Nat} {ret : Option FieldType} {E : xx_E} {σ : XS} {pc : Nat} {ls : Array Slot} {rest : List Value} (cx : xx_X "java/util/LinkedHashMap" cc nL ret E p s m args meth c) (hR : xR E σ H) {a : Nat} {r : Option Nat} (hr : r = some a) (hk : kd σ a = 21) (hdg : decode cc pc = .ok (.getfield 39, 3)) (kk : W p l e R s m args below meth c H locs cells slots Qz (F0 m (pc + 3) ls (xv E (fr σ a 1) :: rest))) : W p l e R s m args below meth c H locs cells slots Qz (F0 m pc ls (xv E r :: rest)) :=
  x_get (ci := 20) cx hR hr hk (by decide) rfl in_J26 1 (by decide) q1508 (u_same (cx.2.2.2.2.1 _ q1509)) (v := xv E (fr σ a 1)) rfl hdg kk
theorem CJ2_removeEldestEntryL_J2_53 {l : Launch} {p : Program} {e : Env} {R : Room} {s : State} {m : MethodId} {args : Array Value} {below : List Frame} {meth : Method} {c : Code} {H : Heap} {locs : List Loc} {cells slots : Nat} {Qz : State → Prop} {cc : ByteArray} {nL : Nat} {ret : Option FieldType} {E : xx_E} {σ : XS} {pc : Nat} {ls : Array Slot} {rest : List Value} {th : Nat} {x1 : Option Nat} (cx : xx_X "java/util/LinkedHashMap" cc nL ret E p s m args meth c) (hR0 : xR E σ H) (hS0 : va_S (xA E) s.heap H locs) {r0 : Option Nat} (hr : r0 = some th) (hk : kd σ th = 18) {Qf : Int32 → XS → Prop} (hw : wJ2_removeEldestEntryL th x1 σ Qf) (hR : (({ frames := 0, cells := 0, slots := 0, locals := 0 } : Room)).frames + 1 ≤ R.frames ∧ 8 + (2 + 11) + (({ frames := 0, cells := 0, slots := 0, locals := 0 } : Room)).locals ≤ R.locals) (hrest : rest.length ≤ 4) (hsize : ls.size = nL) (hf : cells + 0 ≤ R.cells ∧ slots + 0 ≤ R.slots) (hdg : decode cc pc = .ok (.invokevirtual 53, 3))
    (kk : ∀ (r : Int32) (σ1 : XS) (H1 : Heap) (locs1 : List Loc), Qf r σ1 → xR E σ1 H1 → va_S (xA E) s.heap H1 locs1 → W p l e R s m args below meth c H1 locs1 (cells + 0) (slots + 0) Qz (F0 m (pc + 3) ls (.int r :: rest))) : W p l e R s m args below meth c H locs cells slots Qz (F0 m pc ls (xv E x1 :: xv E r0 :: rest)) := by
  subst hr
  obtain ⟨hx, hb, hml, hown, hts, hrt, hlk, hK, hZ⟩ := id cx
  exact x_goi (va_runV (As := [xv E x1]) (rest := rest) (x_fix cx) (MJ2_removeEldestEntryL l E th x1 σ Qf hw) (cwV 1 hts (lw_V q1649 q1650 q1651 q160 q1652) rfl rfl rfl (by decide +kernel) hR) (x_preV cx hR0 hS0 hk (by decide) (q := (RJ2, TJ2, 12)) rfl rfl [xv E x1]) rfl rfl hsize rfl (lv_room (xroom hrest)) hdg hf) hS0 kk
def wJ2_afterNodeInsertionL (th : Nat) (x1 : Int32) (σ : XS) (Q : XS → Prop) : Prop :=
  if x1 = 0 then (Q σ) else (kd σ th = 18 ∧ (if (fr σ th 8) = none then (Q σ) else (wJ2_removeEldestEntryL th (fr σ th 8) σ (fun r2 s2 => if r2 = 0 then (Q s2) else (oc s2 (fr σ th 8) 21 (fun a3 => False))))))
set_option maxHeartbeats 4000000 in
theorem MJ2_afterNodeInsertionL (l : Launch) (E : xx_E) (th : Nat) (x1 : Int32) (σ : XS) (Q : XS → Prop) (hw : wJ2_afterNodeInsertionL th x1 σ Q) : xx_Mv l yJ2_afterNodeInsertion (ws_ yJ2_afterNodeInsertion cJ2_afterNodeInsertion 4 none) ({ frames := 1, cells := 0, slots := 0, locals := 40 } : Room) E [xv E (some th), .int x1] σ Q 0 0 := by
  refine x_of (own := "java/util/LinkedHashMap") (by decide +kernel) rfl ?_
  intro p e s m args below meth c cx hR ha hnm
  refine x_entry [xv E (some th), .int x1] 4 [(0, xv E (some th)), (1, .int x1)] ha (by simp [lg_sl, xv_cat, vc_i, vc_j, vc_f]) (by simp [lv_args, xv_cat, vc_i, vc_j, vc_f]) (fun ls hl => ?_)
  have hS : va_S (xA E) s.heap s.heap [] := va_S.rf
  have hcb : 0 + 0 ≤ 0 := Nat.le_of_eq (Nat.zero_add _)
  have hsb : 0 + 0 ≤ 0 := Nat.le_of_eq (Nat.zero_add _)
  unfold wJ2_afterNodeInsertionL at hw
  obtain ⟨hx, hb, hml, hown, hts, hrt, hlk, hMK, hZ⟩ := id cx
  refine lv_iload_n hx hb dJ2_afterNodeInsertion_0 rfl (lv_at hl 1 rfl) ?_
  refine lv_if_eq (tgt := 39) hx hb dJ2_afterNodeInsertion_1 (by decide) (fun hc => ?_) (fun hc => ?_)
  · have hw := mm_ip hc hw
    exact x_vret cx hR hS (xle hcb) (xle hsb) hw dJ2_afterNodeInsertion_39
  · have hw := mm_in hc hw
    refine x_aload_n cx dJ2_afterNodeInsertion_4 rfl (lv_at hl 0 rfl) ?_
    obtain ⟨hk1, hw⟩ := hw
    refine xg_J2_7_18 cx hR rfl hk1 dJ2_afterNodeInsertion_5 ?_
    refine lv_dup hx hb dJ2_afterNodeInsertion_8 (xv_cat _ _) ?_
    refine x_astore_n (i := 2) (r := (fr σ th 8)) (lv' := [(2, xv E (fr σ th 8)), (0, xv E (some th)), (1, .int x1)]) cx dJ2_afterNodeInsertion_9 rfl hl (by decide) rfl (fun ls hl => ?_)
    refine x_ifnull (tgt := 39) cx dJ2_afterNodeInsertion_10 (by decide) (fun hc => ?_) (fun hc => ?_)
    · have hw := mm_ip hc hw
      exact x_vret cx hR hS (xle hcb) (xle hsb) hw dJ2_afterNodeInsertion_39
    · have hw := mm_in hc hw
      refine x_aload_n cx dJ2_afterNodeInsertion_13 rfl (lv_at hl 1 rfl) ?_
      refine x_aload_n cx dJ2_afterNodeInsertion_14 rfl (lv_at hl 0 rfl) ?_
      refine CJ2_removeEldestEntryL_J2_53 cx hR hS rfl hk1 hw ⟨Nat.le_of_ble_eq_true rfl, Nat.le_of_ble_eq_true rfl⟩ (Nat.le_of_ble_eq_true rfl) hl.1 ⟨by dsimp only; omega, by dsimp only; omega⟩ dJ2_afterNodeInsertion_15 (fun r2 s2 H locs hw hR hS => ?_)
      refine lv_if_eq (tgt := 39) hx hb dJ2_afterNodeInsertion_18 (by decide) (fun hc => ?_) (fun hc => ?_)
      · have hw := mm_ip hc hw
        exact x_vret cx hR hS (xle hcb) (xle hsb) hw dJ2_afterNodeInsertion_39
      · have hw := mm_in hc hw
        refine x_aload_n cx dJ2_afterNodeInsertion_21 rfl (lv_at hl 0 rfl) ?_
        obtain ⟨a3, hr3, hk3, hw⟩ := hw
        refine xg_J2_39_21 cx hR hr3 hk3 dJ2_afterNodeInsertion_22 ?_
        refine x_astore_n (i := 3) (r := (fr s2 a3 1)) (lv' := [(3, xv E (fr s2 a3 1)), (2, xv E (fr σ th 8)), (0, xv E (some th)), (1, .int x1)]) cx dJ2_afterNodeInsertion_25 rfl hl (by decide) (by simp [xv_cat]) (fun ls hl => ?_)
        refine x_aload_n cx dJ2_afterNodeInsertion_26 rfl (lv_at hl 2 rfl) ?_
        refine x_aload_n cx dJ2_afterNodeInsertion_27 rfl (lv_at hl 0 rfl) ?_
        exact hw.elim
-- J1_treeifyBinL
theorem CJ1_resizeL_J1_117 {l : Launch} {p : Program} {e : Env} {R : Room} {s : State} {m : MethodId} {args : Array Value} {below : List Frame} {meth : Method} {c : Code} {H : Heap} {locs : List Loc} {cells slots : Nat} {Qz : State → Prop} {cc : ByteArray} {nL : Nat} {ret : Option FieldType} {E : xx_E} {σ : XS} {pc : Nat} {ls : Array Slot} {rest : List Value} {th : Nat} {k n : Nat} (cx : xx_X "java/util/HashMap" cc nL ret E p s m args meth c) (hR0 : xR E σ H) (hS0 : va_S (xA E) s.heap H locs) {r0 : Option Nat} (hr : r0 = some th) (hk : kd σ th = 18) {Qf : Option Nat → XS → Prop} (hw : wJ1_resizeL th k n σ Qf) (hR : (({ frames := 0, cells := k, slots := n, locals := 0 } : Room)).frames + 1 ≤ R.frames ∧ 8 + (14 + 11) + (({ frames := 0, cells := k, slots := n, locals := 0 } : Room)).locals ≤ R.locals) (hrest : rest.length ≤ 4) (hsize : ls.size = nL) (hf : cells + k ≤ R.cells ∧ slots + n ≤ R.slots) (hdg : decode cc pc = .ok (.invokevirtual 117, 3))
    (kk : ∀ (r : Option Nat) (σ1 : XS) (H1 : Heap) (locs1 : List Loc), Qf r σ1 → xR E σ1 H1 → va_S (xA E) s.heap H1 locs1 → W p l e R s m args below meth c H1 locs1 (cells + k) (slots + n) Qz (F0 m (pc + 3) ls (xv E r :: rest))) : W p l e R s m args below meth c H locs cells slots Qz (F0 m pc ls (xv E r0 :: rest)) := by
  subst hr
  obtain ⟨hx, hb, hml, hown, hts, hrt, hlk, hK, hZ⟩ := id cx
  exact x_gor (va_runU (C := "java/util/LinkedHashMap") (owner := "java/util/HashMap") (As := []) (rest := rest) (x_fix cx) (MJ1_resizeL l E th k n σ Qf hw) (va_cwU (C := "java/util/LinkedHashMap") (owner := "java/util/HashMap") (x := ⟨"java/util/HashMap", "resize", "()[Ljava/util/HashMap$Node;"⟩) 0 hts (lw_app (xin5 q1462 q1465 q1466 q1463 q159) (lw_meth q1467)) rfl rfl rfl rfl (by decide +kernel) hR) (x_preV cx hR0 hS0 hk (by decide) (q := (RJ2, TJ2, 12)) rfl rfl []) rfl rfl hsize rfl (lv_room (xroom hrest)) hdg hf) hS0 kk
def wJ1_treeifyBinL_13 (Q : XS → Prop) (th : Nat) (bc : Nat) (bs : Nat) (σ : XS) : Prop :=
  kd σ th = 18 ∧ (∃ k3 n3 : Nat, k3 ≤ bc ∧ n3 ≤ bs ∧ (wJ1_resizeL th k3 n3 σ (fun r1 s1 => Q s1)))
set_option maxHeartbeats 4000000 in
theorem BJ1_treeifyBinL_13 {l : Launch} {p : Program} {e : Env} {s : State} {m : MethodId} {args : Array Value} {below : List Frame} {meth : Method} {c : Code} {E : xx_E} {mc ms : Nat} {Q : XS → Prop} (cx : xx_X "java/util/HashMap" cJ1_treeifyBin 9 none E p s m args meth c) : ∀ (th : Nat) (bc : Nat) (bs : Nat) (σ : XS), wJ1_treeifyBinL_13 Q th bc bs σ → x_T p l e ({ frames := 1, cells := mc, slots := ms, locals := 40 } : Room) s m args below meth c E (va_Qv Q (fun σ' t => xW E σ' t) (xA E)) mc ms 9 13 bc bs σ [(0, xv E (some th))] [] := by
  intro th bc bs σ hw H locs ls cells slots hR hS hl hcb hsb
  unfold wJ1_treeifyBinL_13 at hw
  obtain ⟨hx, hb, hml, hown, hts, hrt, hlk, hMK, hZ⟩ := id cx
  refine x_aload_n cx dJ1_treeifyBin_13 rfl (lv_at hl 0 rfl) ?_
  obtain ⟨hk2, hw⟩ := hw
  obtain ⟨k3, n3, hb1, hb2, hw⟩ := hw
  refine CJ1_resizeL_J1_117 cx hR hS rfl hk2 hw ⟨Nat.le_of_ble_eq_true rfl, Nat.le_of_ble_eq_true rfl⟩ (Nat.le_of_ble_eq_true rfl) hl.1 ⟨by dsimp only; omega, by dsimp only; omega⟩ dJ1_treeifyBin_14 (fun r1 s1 H locs hw hR hS => ?_)
  have hcb := xadd hb1 hcb
  have hsb := xadd hb2 hsb
  refine lv_pop hx hb dJ1_treeifyBin_17 (xv_cat _ _) ?_
  refine lv_goto (tgt := 109) hx hb dJ1_treeifyBin_18 (by decide) ?_
  exact x_vret cx hR hS (xle hcb) (xle hsb) hw dJ1_treeifyBin_109
def wJ1_treeifyBinL (th : Nat) (x1 : Option Nat) (x2 : Int32) (bc : Nat) (bs : Nat) (σ : XS) (Q : XS → Prop) : Prop :=
  if x1 = none then (wJ1_treeifyBinL_13 Q th bc bs σ) else (oc σ x1 106 (fun a4 => ∀ v5 : Int32, v5 = (nI (ln σ a4)) → if (64 : Int32) ≤ (nI (ln σ a4)) then (∀ v6 : Int32, v6 = ((v5 - (1 : Int32)) &&& x2) → vp_in ((v5 - (1 : Int32)) &&& x2) (ln σ a4) ∧ (if (ar σ a4 (((v5 - (1 : Int32)) &&& x2).toNatClampNeg)) = none then (Q σ) else False)) else (wJ1_treeifyBinL_13 Q th bc bs σ)))
set_option maxHeartbeats 4000000 in
theorem MJ1_treeifyBinL (l : Launch) (E : xx_E) (th : Nat) (x1 : Option Nat) (x2 : Int32) (bc : Nat) (bs : Nat) (σ : XS) (Q : XS → Prop) (hw : wJ1_treeifyBinL th x1 x2 bc bs σ Q) : xx_Mv l yJ1_treeifyBin (ws_ yJ1_treeifyBin cJ1_treeifyBin 9 none) ({ frames := 1, cells := bc, slots := bs, locals := 40 } : Room) E [xv E (some th), xv E x1, .int x2] σ Q bc bs := by
  refine x_of (own := "java/util/HashMap") (by decide +kernel) rfl ?_
  intro p e s m args below meth c cx hR ha hnm
  refine x_entry [xv E (some th), xv E x1, .int x2] 9 [(0, xv E (some th)), (1, xv E x1), (2, .int x2)] ha (by simp [lg_sl, xv_cat, vc_i, vc_j, vc_f]) (by simp [lv_args, xv_cat, vc_i, vc_j, vc_f]) (fun ls hl => ?_)
  have hS : va_S (xA E) s.heap s.heap [] := va_S.rf
  have hcb : 0 + bc ≤ bc := Nat.le_of_eq (Nat.zero_add _)
  have hsb : 0 + bs ≤ bs := Nat.le_of_eq (Nat.zero_add _)
  unfold wJ1_treeifyBinL at hw
  obtain ⟨hx, hb, hml, hown, hts, hrt, hlk, hMK, hZ⟩ := id cx
  refine x_aload_n cx dJ1_treeifyBin_0 rfl (lv_at hl 1 rfl) ?_
  refine x_ifnull (tgt := 13) cx dJ1_treeifyBin_1 (by decide) (fun hc => ?_) (fun hc => ?_)
  · have hw := mm_ip hc hw
    exact BJ1_treeifyBinL_13 cx _ _ _ _ hw _ _ _ _ _ hR hS (lv_sub hl [0] rfl) hcb hsb
  · have hw := mm_in hc hw
    refine x_aload_n cx dJ1_treeifyBin_4 rfl (lv_at hl 1 rfl) ?_
    obtain ⟨a4, hr4, hk4, hw⟩ := hw
    refine x_alen cx hR hr4 6 hk4 (by decide) dJ1_treeifyBin_5 ?_
    refine lv_dup hx hb dJ1_treeifyBin_6 rfl ?_
    refine lv_topi (fun v5 hv5 => ?_)
    have hw := hw v5 hv5
    refine lv_istore_n (i := 3) (lv' := [(3, .int v5), (0, xv E (some th)), (1, xv E x1), (2, .int x2)]) hx hb dJ1_treeifyBin_7 rfl hl (by decide) rfl (fun ls hl => ?_)
    refine lv_bipush (v := (64 : Int32)) hx hb dJ1_treeifyBin_8 (by decide) ?_
    refine lv_icmp_ge (tgt := 21) hx hb dJ1_treeifyBin_10 (by decide) (fun hc => ?_) (fun hc => ?_)
    · have hw := mm_ip hc hw
      refine x_aload_n cx dJ1_treeifyBin_21 rfl (lv_at hl 2 rfl) ?_
      refine lv_iload_n hx hb dJ1_treeifyBin_22 rfl (lv_at hl 0 rfl) ?_
      refine lv_iconst (v := (1 : Int32)) hx hb dJ1_treeifyBin_23 (by decide) ?_
      refine lv_isub hx hb dJ1_treeifyBin_24 ?_
      refine lv_iload_n hx hb dJ1_treeifyBin_25 rfl (lv_at hl 3 rfl) ?_
      refine lv_iand hx hb dJ1_treeifyBin_26 ?_
      refine lv_dup hx hb dJ1_treeifyBin_27 rfl ?_
      refine lv_topi (fun v6 hv6 => ?_)
      have hw := hw v6 hv6
      refine lv_istore (i := 4) (lv' := [(4, .int v6), (3, .int v5), (0, xv E (some th)), (1, xv E x1), (2, .int x2)]) hx hb dJ1_treeifyBin_28 hl (by decide) rfl (fun ls hl => ?_)
      obtain ⟨hi, hw⟩ := hw
      refine x_aald cx hR hr4 6 hk4 (by decide) (by decide) (j := ((v5 - (1 : Int32)) &&& x2).toNatClampNeg) rfl hi dJ1_treeifyBin_30 ?_
      refine lv_dup hx hb dJ1_treeifyBin_31 (xv_cat _ _) ?_
      refine x_astore (i := 5) (r := (ar σ a4 (((v5 - (1 : Int32)) &&& x2).toNatClampNeg))) (lv' := [(5, xv E (ar σ a4 (((v5 - (1 : Int32)) &&& x2).toNatClampNeg))), (4, .int v6), (3, .int v5), (0, xv E (some th)), (1, xv E x1), (2, .int x2)]) cx dJ1_treeifyBin_32 hl (by decide) rfl (fun ls hl => ?_)
      refine x_ifnull (tgt := 109) cx dJ1_treeifyBin_34 (by decide) (fun hc => ?_) (fun hc => ?_)
      · have hw := mm_ip hc hw
        exact x_vret cx hR hS (xle hcb) (xle hsb) hw dJ1_treeifyBin_109
      · have hw := mm_in hc hw
        refine lv_null hx hb dJ1_treeifyBin_37 ?_
        refine x_astore (i := 6) (r := none) (lv' := [(6, xv E none), (5, xv E (ar σ a4 (((v5 - (1 : Int32)) &&& x2).toNatClampNeg))), (4, .int v6), (3, .int v5), (0, xv E (some th)), (1, xv E x1), (2, .int x2)]) cx dJ1_treeifyBin_38 hl (by decide) (by simp [xv_cat]) (fun ls hl => ?_)
        refine lv_null hx hb dJ1_treeifyBin_40 ?_
        refine x_astore (i := 7) (r := none) (lv' := [(7, xv E none), (6, xv E none), (5, xv E (ar σ a4 (((v5 - (1 : Int32)) &&& x2).toNatClampNeg))), (4, .int v6), (3, .int v5), (0, xv E (some th)), (1, xv E x1), (2, .int x2)]) cx dJ1_treeifyBin_41 hl (by decide) (by simp [xv_cat]) (fun ls hl => ?_)
        refine x_aload_n cx dJ1_treeifyBin_43 rfl (lv_at hl 5 rfl) ?_
        refine x_aload cx dJ1_treeifyBin_44 (lv_at hl 2 rfl) ?_
        refine lv_null hx hb dJ1_treeifyBin_46 ?_
        exact hw.elim
    · have hw := mm_in hc hw
      exact BJ1_treeifyBinL_13 cx _ _ _ _ hw _ _ _ _ _ hR hS (lv_sub hl [1] rfl) hcb hsb
