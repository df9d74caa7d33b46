set_option maxRecDepth 100000
-- J1_putValL
theorem xg_J1_202_18 {l : Launch} {p : Program} {e : Env} {R : Room} {s : State} {m : MethodId} {args : Array Value} {below : List Frame} {meth : Method} {c : Code} {H : Heap} {locs : List Loc} {cells slots : Nat} {Qz : State → Prop} {cc : ByteArray} {nL : Nat} {ret : Option FieldType} {E : xx_E} {σ : XS} {pc : Nat} {ls : Array Slot} {rest : List Value} (cx : xx_X "java/util/HashMap" cc nL ret E p s m args meth c) (hR : xR E σ H) {a : Nat} {r : Option Nat} (hr : r = some a) (hk : kd σ a = 18) (hdg : decode cc pc = .ok (.getfield 202, 3)) (kk : W p l e R s m args below meth c H locs cells slots Qz (F0 m (pc + 3) ls (.int (fi σ a 5) :: rest))) : W p l e R s m args below meth c H locs cells slots Qz (F0 m pc ls (xv E r :: rest)) :=
  x_get (ci := 17) cx hR hr hk (by decide) rfl in_J2 5 (by decide) q241 (fun _ h => h) (v := .int (fi σ a 5)) rfl hdg kk
theorem xp_J1_202_18 {l : Launch} {p : Program} {e : Env} {R : Room} {s : State} {m : MethodId} {args : Array Value} {below : List Frame} {meth : Method} {c : Code} {H : Heap} {locs : List Loc} {cells slots : Nat} {Qz : State → Prop} {cc : ByteArray} {nL : Nat} {ret : Option FieldType} {E : xx_E} {σ : XS} {pc : Nat} {ls : Array Slot} {rest : List Value} (cx : xx_X "java/util/HashMap" cc nL ret E p s m args meth c) (hR : xR E σ H) (hS0 : va_S (xA E) s.heap H locs) {a : Nat} {r : Option Nat} {v : Int32} (hr : r = some a) (ha : xK ≤ a) (hk : kd σ a = 18) (hdg : decode cc pc = .ok (.putfield 202, 3)) (kk : ∀ (H1 : Heap) (locs1 : List Loc), xR E (pfi σ a 5 v) H1 → va_S (xA E) s.heap H1 locs1 → W p l e R s m args below meth c H1 locs1 cells slots Qz (F0 m (pc + 3) ls rest)) : W p l e R s m args below meth c H locs cells slots Qz (F0 m pc ls (.int v :: xv E r :: rest)) :=
  x_put (ci := 17) cx hR hS0 hr ha hk (by decide) rfl in_J2 tyJ2 tyJ2_ok nmJ2 5 (by decide) (Or.inl ⟨q241, rfl⟩) (fun _ h => h) rfl rfl (xput_i rfl) hdg kk
theorem xg_J1_156_18 {l : Launch} {p : Program} {e : Env} {R : Room} {s : State} {m : MethodId} {args : Array Value} {below : List Frame} {meth : Method} {c : Code} {H : Heap} {locs : List Loc} {cells slots : Nat} {Qz : State → Prop} {cc : ByteArray} {nL : Nat} {ret : Option FieldType} {E : xx_E} {σ : XS} {pc : Nat} {ls : Array Slot} {rest : List Value} (cx : xx_X "java/util/HashMap" cc nL ret E p s m args meth c) (hR : xR E σ H) {a : Nat} {r : Option Nat} (hr : r = some a) (hk : kd σ a = 18) (hdg : decode cc pc = .ok (.getfield 156, 3)) (kk : W p l e R s m args below meth c H locs cells slots Qz (F0 m (pc + 3) ls (.int (fi σ a 4) :: rest))) : W p l e R s m args below meth c H locs cells slots Qz (F0 m pc ls (xv E r :: rest)) :=
  x_get (ci := 17) cx hR hr hk (by decide) rfl in_J2 4 (by decide) q238 (fun _ h => h) (v := .int (fi σ a 4)) rfl hdg kk
theorem xp_J1_156_18 {l : Launch} {p : Program} {e : Env} {R : Room} {s : State} {m : MethodId} {args : Array Value} {below : List Frame} {meth : Method} {c : Code} {H : Heap} {locs : List Loc} {cells slots : Nat} {Qz : State → Prop} {cc : ByteArray} {nL : Nat} {ret : Option FieldType} {E : xx_E} {σ : XS} {pc : Nat} {ls : Array Slot} {rest : List Value} (cx : xx_X "java/util/HashMap" cc nL ret E p s m args meth c) (hR : xR E σ H) (hS0 : va_S (xA E) s.heap H locs) {a : Nat} {r : Option Nat} {v : Int32} (hr : r = some a) (ha : xK ≤ a) (hk : kd σ a = 18) (hdg : decode cc pc = .ok (.putfield 156, 3)) (kk : ∀ (H1 : Heap) (locs1 : List Loc), xR E (pfi σ a 4 v) H1 → va_S (xA E) s.heap H1 locs1 → W p l e R s m args below meth c H1 locs1 cells slots Qz (F0 m (pc + 3) ls rest)) : W p l e R s m args below meth c H locs cells slots Qz (F0 m pc ls (.int v :: xv E r :: rest)) :=
  x_put (ci := 17) cx hR hS0 hr ha hk (by decide) rfl in_J2 tyJ2 tyJ2_ok nmJ2 4 (by decide) (Or.inl ⟨q238, rfl⟩) (fun _ h => h) rfl rfl (xput_i rfl) hdg kk
theorem xp_J1_162_21 {l : Launch} {p : Program} {e : Env} {R : Room} {s : State} {m : MethodId} {args : Array Value} {below : List Frame} {meth : Method} {c : Code} {H : Heap} {locs : List Loc} {cells slots : Nat} {Qz : State → Prop} {cc : ByteArray} {nL : Nat} {ret : Option FieldType} {E : xx_E} {σ : XS} {pc : Nat} {ls : Array Slot} {rest : List Value} (cx : xx_X "java/util/HashMap" cc nL ret E p s m args meth c) (hR : xR E σ H) (hS0 : va_S (xA E) s.heap H locs) {a : Nat} {r : Option Nat} {v : Option Nat} (hr : r = some a) (ha : xK ≤ a) (hk : kd σ a = 21) (hdg : decode cc pc = .ok (.putfield 162, 3)) (kk : ∀ (H1 : Heap) (locs1 : List Loc), xR E (pfr σ a 2 v) H1 → va_S (xA E) s.heap H1 locs1 → W p l e R s m args below meth c H1 locs1 cells slots Qz (F0 m (pc + 3) ls rest)) : W p l e R s m args below meth c H locs cells slots Qz (F0 m pc ls (xv E v :: xv E r :: rest)) :=
  x_put (ci := 20) cx hR hS0 hr ha hk (by decide) rfl in_J26 tyJ26 tyJ26_ok nmJ26 2 (by decide) (Or.inl ⟨q1514, rfl⟩) (fun _ h => h) (by cases v <;> rfl) (by cases v <;> rfl) (xput_r rfl) hdg kk
theorem xg_J1_162_21 {l : Launch} {p : Program} {e : Env} {R : Room} {s : State} {m : MethodId} {args : Array Value} {below : List Frame} {meth : Method} {c : Code} {H : Heap} {locs : List Loc} {cells slots : Nat} {Qz : State → Prop} {cc : ByteArray} {nL : Nat} {ret : Option FieldType} {E : xx_E} {σ : XS} {pc : Nat} {ls : Array Slot} {rest : List Value} (cx : xx_X "java/util/HashMap" cc nL ret E p s m args meth c) (hR : xR E σ H) {a : Nat} {r : Option Nat} (hr : r = some a) (hk : kd σ a = 21) (hdg : decode cc pc = .ok (.getfield 162, 3)) (kk : W p l e R s m args below meth c H locs cells slots Qz (F0 m (pc + 3) ls (xv E (fr σ a 2) :: rest))) : W p l e R s m args below meth c H locs cells slots Qz (F0 m pc ls (xv E r :: rest)) :=
  x_get (ci := 20) cx hR hr hk (by decide) rfl in_J26 2 (by decide) q1514 (fun _ h => h) (v := xv E (fr σ a 2)) rfl hdg kk
theorem CJ2_newNodeL_J1_186 {l : Launch} {p : Program} {e : Env} {R : Room} {s : State} {m : MethodId} {args : Array Value} {below : List Frame} {meth : Method} {c : Code} {H : Heap} {locs : List Loc} {cells slots : Nat} {Qz : State → Prop} {cc : ByteArray} {nL : Nat} {ret : Option FieldType} {E : xx_E} {σ : XS} {pc : Nat} {ls : Array Slot} {rest : List Value} {th : Nat} {x1 : Int32} {x2 : Option Nat} {x3 : Option Nat} {x4 : Option Nat} {k n : Nat} (cx : xx_X "java/util/HashMap" cc nL ret E p s m args meth c) (hR0 : xR E σ H) (hS0 : va_S (xA E) s.heap H locs) {r0 : Option Nat} (hr : r0 = some th) (hk : kd σ th = 18) {Qf : Option Nat → XS → Prop} (hw : wJ2_newNodeL th x1 x2 x3 x4 k n σ Qf) (hR : (({ frames := 3, cells := k, slots := n, locals := 120 } : Room)).frames + 1 ≤ R.frames ∧ 8 + (6 + 11) + (({ frames := 3, cells := k, slots := n, locals := 120 } : Room)).locals ≤ R.locals) (hrest : rest.length ≤ 4) (hsize : ls.size = nL) (hf : cells + k ≤ R.cells ∧ slots + n ≤ R.slots) (hdg : decode cc pc = .ok (.invokevirtual 186, 3))
    (kk : ∀ (r : Option Nat) (σ1 : XS) (H1 : Heap) (locs1 : List Loc), Qf r σ1 → xR E σ1 H1 → va_S (xA E) s.heap H1 locs1 → W p l e R s m args below meth c H1 locs1 (cells + k) (slots + n) Qz (F0 m (pc + 3) ls (xv E r :: rest))) : W p l e R s m args below meth c H locs cells slots Qz (F0 m pc ls (xv E x4 :: xv E x3 :: xv E x2 :: .int x1 :: xv E r0 :: rest)) := by
  subst hr
  obtain ⟨hx, hb, hml, hown, hts, hrt, hlk, hK, hZ⟩ := id cx
  exact x_gor (va_runU (C := "java/util/LinkedHashMap") (owner := "java/util/HashMap") (As := [.int x1, xv E x2, xv E x3, xv E x4]) (rest := rest) (x_fix cx) (MJ2_newNodeL l E th x1 x2 x3 x4 k n σ Qf hw) (va_cwO (C := "java/util/LinkedHashMap") (owner := "java/util/HashMap") (x := ⟨"java/util/HashMap", "newNode", "(ILjava/lang/Object;Ljava/lang/Object;Ljava/util/HashMap$Node;)Ljava/util/HashMap$Node;"⟩) 4 hts (lw_app (xin6 q1565 q1568 q1566 q1569 q1570 q160) (lw_meth q1571)) rfl rfl rfl q1576 (by decide +kernel) hR) (x_preV cx hR0 hS0 hk (by decide) (q := (RJ2, TJ2, 12)) rfl rfl [.int x1, xv E x2, xv E x3, xv E x4]) rfl rfl hsize rfl (lv_room (xroom hrest)) hdg hf) hS0 kk
theorem CJ2_afterNodeInsertionL_J1_205 {l : Launch} {p : Program} {e : Env} {R : Room} {s : State} {m : MethodId} {args : Array Value} {below : List Frame} {meth : Method} {c : Code} {H : Heap} {locs : List Loc} {cells slots : Nat} {Qz : State → Prop} {cc : ByteArray} {nL : Nat} {ret : Option FieldType} {E : xx_E} {σ : XS} {pc : Nat} {ls : Array Slot} {rest : List Value} {th : Nat} {x1 : Int32} (cx : xx_X "java/util/HashMap" cc nL ret E p s m args meth c) (hR0 : xR E σ H) (hS0 : va_S (xA E) s.heap H locs) {r0 : Option Nat} (hr : r0 = some th) (hk : kd σ th = 18) {Qf : XS → Prop} (hw : wJ2_afterNodeInsertionL th x1 σ Qf) (hR : (({ frames := 1, cells := 0, slots := 0, locals := 40 } : Room)).frames + 1 ≤ R.frames ∧ 8 + (4 + 11) + (({ frames := 1, cells := 0, slots := 0, locals := 40 } : Room)).locals ≤ R.locals) (hrest : rest.length ≤ 4) (hsize : ls.size = nL) (hf : cells + 0 ≤ R.cells ∧ slots + 0 ≤ R.slots) (hdg : decode cc pc = .ok (.invokevirtual 205, 3))
    (kk : ∀ (σ1 : XS) (H1 : Heap) (locs1 : List Loc), Qf σ1 → xR E σ1 H1 → va_S (xA E) s.heap H1 locs1 → W p l e R s m args below meth c H1 locs1 (cells + 0) (slots + 0) Qz (F0 m (pc + 3) ls rest)) : W p l e R s m args below meth c H locs cells slots Qz (F0 m pc ls (.int x1 :: xv E r0 :: rest)) := by
  subst hr
  obtain ⟨hx, hb, hml, hown, hts, hrt, hlk, hK, hZ⟩ := id cx
  exact x_gov (va_runU (C := "java/util/LinkedHashMap") (owner := "java/util/HashMap") (As := [.int x1]) (rest := rest) (x_fix cx) (MJ2_afterNodeInsertionL l E th x1 σ Qf hw) (va_cwO (C := "java/util/LinkedHashMap") (owner := "java/util/HashMap") (x := ⟨"java/util/HashMap", "afterNodeInsertion", "(Z)V"⟩) 1 hts (lw_app (xin6 q1642 q1645 q1643 q1646 q1647 q160) (lw_meth q1648)) rfl rfl rfl q1653 (by decide +kernel) hR) (x_preV cx hR0 hS0 hk (by decide) (q := (RJ2, TJ2, 12)) rfl rfl [.int x1]) rfl rfl hsize rfl (lv_room (xroom hrest)) hdg hf) hS0 kk
theorem CJ2_afterNodeAccessL_J1_198 {l : Launch} {p : Program} {e : Env} {R : Room} {s : State} {m : MethodId} {args : Array Value} {below : List Frame} {meth : Method} {c : Code} {H : Heap} {locs : List Loc} {cells slots : Nat} {Qz : State → Prop} {cc : ByteArray} {nL : Nat} {ret : Option FieldType} {E : xx_E} {σ : XS} {pc : Nat} {ls : Array Slot} {rest : List Value} {th : Nat} {x1 : Option Nat} (cx : xx_X "java/util/HashMap" cc nL ret E p s m args meth c) (hR0 : xR E σ H) (hS0 : va_S (xA E) s.heap H locs) {r0 : Option Nat} (hr : r0 = some th) (hk : kd σ th = 18) {Qf : XS → Prop} (hw : wJ2_afterNodeAccessL th x1 σ Qf) (hR : (({ frames := 0, cells := 0, slots := 0, locals := 0 } : Room)).frames + 1 ≤ R.frames ∧ 8 + (7 + 11) + (({ frames := 0, cells := 0, slots := 0, locals := 0 } : Room)).locals ≤ R.locals) (hrest : rest.length ≤ 4) (hsize : ls.size = nL) (hf : cells + 0 ≤ R.cells ∧ slots + 0 ≤ R.slots) (hdg : decode cc pc = .ok (.invokevirtual 198, 3))
    (kk : ∀ (σ1 : XS) (H1 : Heap) (locs1 : List Loc), Qf σ1 → xR E σ1 H1 → va_S (xA E) s.heap H1 locs1 → W p l e R s m args below meth c H1 locs1 (cells + 0) (slots + 0) Qz (F0 m (pc + 3) ls rest)) : W p l e R s m args below meth c H locs cells slots Qz (F0 m pc ls (xv E x1 :: xv E r0 :: rest)) := by
  subst hr
  obtain ⟨hx, hb, hml, hown, hts, hrt, hlk, hK, hZ⟩ := id cx
  exact x_gov (va_runU (C := "java/util/LinkedHashMap") (owner := "java/util/HashMap") (As := [xv E x1]) (rest := rest) (x_fix cx) (MJ2_afterNodeAccessL l E th x1 σ Qf hw) (va_cwO (C := "java/util/LinkedHashMap") (owner := "java/util/HashMap") (x := ⟨"java/util/HashMap", "afterNodeAccess", "(Ljava/util/HashMap$Node;)V"⟩) 1 hts (lw_app (xin6 q1634 q1637 q1635 q1638 q1639 q160) (lw_meth q1640)) rfl rfl rfl q1641 (by decide +kernel) hR) (x_preV cx hR0 hS0 hk (by decide) (q := (RJ2, TJ2, 12)) rfl rfl [xv E x1]) rfl rfl hsize rfl (lv_room (xroom hrest)) hdg hf) hS0 kk
theorem CJ1_treeifyBinL_J1_194 {l : Launch} {p : Program} {e : Env} {R : Room} {s : State} {m : MethodId} {args : Array Value} {below : List Frame} {meth : Method} {c : Code} {H : Heap} {locs : List Loc} {cells slots : Nat} {Qz : State → Prop} {cc : ByteArray} {nL : Nat} {ret : Option FieldType} {E : xx_E} {σ : XS} {pc : Nat} {ls : Array Slot} {rest : List Value} {th : Nat} {x1 : Option Nat} {x2 : Int32} {k n : Nat} (cx : xx_X "java/util/HashMap" cc nL ret E p s m args meth c) (hR0 : xR E σ H) (hS0 : va_S (xA E) s.heap H locs) {r0 : Option Nat} (hr : r0 = some th) (hk : kd σ th = 18) {Qf : XS → Prop} (hw : wJ1_treeifyBinL th x1 x2 k n σ Qf) (hR : (({ frames := 1, cells := k, slots := n, locals := 40 } : Room)).frames + 1 ≤ R.frames ∧ 8 + (9 + 11) + (({ frames := 1, cells := k, slots := n, locals := 40 } : Room)).locals ≤ R.locals) (hrest : rest.length ≤ 4) (hsize : ls.size = nL) (hf : cells + k ≤ R.cells ∧ slots + n ≤ R.slots) (hdg : decode cc pc = .ok (.invokevirtual 194, 3))
    (kk : ∀ (σ1 : XS) (H1 : Heap) (locs1 : List Loc), Qf σ1 → xR E σ1 H1 → va_S (xA E) s.heap H1 locs1 → W p l e R s m args below meth c H1 locs1 (cells + k) (slots + n) Qz (F0 m (pc + 3) ls rest)) : W p l e R s m args below meth c H locs cells slots Qz (F0 m pc ls (.int x2 :: xv E x1 :: xv E r0 :: rest)) := by
  subst hr
  obtain ⟨hx, hb, hml, hown, hts, hrt, hlk, hK, hZ⟩ := id cx
  exact x_gov (va_runU (C := "java/util/LinkedHashMap") (owner := "java/util/HashMap") (As := [xv E x1, .int x2]) (rest := rest) (x_fix cx) (MJ1_treeifyBinL l E th x1 x2 k n σ Qf hw) (va_cwU (C := "java/util/LinkedHashMap") (owner := "java/util/HashMap") (x := ⟨"java/util/HashMap", "treeifyBin", "([Ljava/util/HashMap$Node;I)V"⟩) 2 hts (lw_app (xin5 q1619 q1622 q1623 q1620 q159) (lw_meth q1624)) rfl rfl rfl rfl (by decide +kernel) hR) (x_preV cx hR0 hS0 hk (by decide) (q := (RJ2, TJ2, 12)) rfl rfl [xv E x1, .int x2]) rfl rfl hsize rfl (lv_room (xroom hrest)) hdg hf) hS0 kk
def wJ1_putValL_292 (Q : Option Nat → XS → Prop) (th : Nat) (x5 : Int32) (bc : Nat) (bs : Nat) (σ : XS) : Prop :=
  kd σ th = 18 ∧ (wJ2_afterNodeInsertionL th x5 σ (fun s1 => Q none s1))
set_option maxHeartbeats 4000000 in
theorem BJ1_putValL_292 {l : Launch} {p : Program} {e : Env} {s : State} {m : MethodId} {args : Array Value} {below : List Frame} {meth : Method} {c : Code} {E : xx_E} {mc ms : Nat} {Q : Option Nat → XS → Prop} (cx : xx_X "java/util/HashMap" cJ1_putVal 13 (some (.object "java/lang/Object")) E p s m args meth c) : ∀ (th : Nat) (x5 : Int32) (bc : Nat) (bs : Nat) (σ : XS), wJ1_putValL_292 Q th x5 bc bs σ → x_T p l e ({ frames := 5, cells := mc, slots := ms, locals := 200 } : Room) s m args below meth c E (va_Qe (xr E) Q (fun σ' t => xW E σ' t) (xA E)) mc ms 13 292 bc bs σ [(0, xv E (some th)), (5, .int x5)] [] := by
  intro th x5 bc bs σ hw H locs ls cells slots hR hS hl hcb hsb
  unfold wJ1_putValL_292 at hw
  obtain ⟨hx, hb, hml, hown, hts, hrt, hlk, hMK, hZ⟩ := id cx
  refine x_aload_n cx dJ1_putVal_292 rfl (lv_at hl 0 rfl) ?_
  refine lv_iload hx hb dJ1_putVal_293 (lv_at hl 1 rfl) ?_
  obtain ⟨hk2, hw⟩ := hw
  refine CJ2_afterNodeInsertionL_J1_205 cx hR hS rfl hk2 hw ⟨Nat.le_of_ble_eq_true rfl, Nat.le_of_ble_eq_true rfl⟩ (Nat.le_of_ble_eq_true rfl) hl.1 ⟨by dsimp only; omega, by dsimp only; omega⟩ dJ1_putVal_295 (fun s1 H locs hw hR hS => ?_)
  refine lv_null hx hb dJ1_putVal_298 ?_
  exact x_aret cx (by first | exact Or.inl ⟨_, rfl⟩ | exact Or.inr ⟨_, rfl⟩) hR hS (xle hcb) (xle hsb) hw dJ1_putVal_299
def wJ1_putValL_259 (Q : Option Nat → XS → Prop) (th : Nat) (x5 : Int32) (bc : Nat) (bs : Nat) (σ : XS) : Prop :=
  kd σ th = 18 ∧ (xK ≤ th ∧ (if ((fi (pfi σ th 5 ((fi σ th 5) + (1 : Int32))) th 4) + (1 : Int32)) ≤ (fi (pfi (pfi σ th 5 ((fi σ th 5) + (1 : Int32))) th 4 ((fi (pfi σ th 5 ((fi σ th 5) + (1 : Int32))) th 4) + (1 : Int32))) th 6) then (wJ1_putValL_292 Q th x5 bc bs (pfi (pfi σ th 5 ((fi σ th 5) + (1 : Int32))) th 4 ((fi (pfi σ th 5 ((fi σ th 5) + (1 : Int32))) th 4) + (1 : Int32)))) else (∃ k5 n5 : Nat, k5 ≤ bc ∧ n5 ≤ bs ∧ (wJ1_resizeL th k5 n5 (pfi (pfi σ th 5 ((fi σ th 5) + (1 : Int32))) th 4 ((fi (pfi σ th 5 ((fi σ th 5) + (1 : Int32))) th 4) + (1 : Int32))) (fun r4 s4 => wJ1_putValL_292 Q th x5 (bc - k5) (bs - n5) s4)))))
set_option maxHeartbeats 4000000 in
theorem BJ1_putValL_259 {l : Launch} {p : Program} {e : Env} {s : State} {m : MethodId} {args : Array Value} {below : List Frame} {meth : Method} {c : Code} {E : xx_E} {mc ms : Nat} {Q : Option Nat → XS → Prop} (cx : xx_X "java/util/HashMap" cJ1_putVal 13 (some (.object "java/lang/Object")) E p s m args meth c) : ∀ (th : Nat) (x5 : Int32) (bc : Nat) (bs : Nat) (σ : XS), wJ1_putValL_259 Q th x5 bc bs σ → x_T p l e ({ frames := 5, cells := mc, slots := ms, locals := 200 } : Room) s m args below meth c E (va_Qe (xr E) Q (fun σ' t => xW E σ' t) (xA E)) mc ms 13 259 bc bs σ [(0, xv E (some th)), (5, .int x5)] [] := by
  intro th x5 bc bs σ hw H locs ls cells slots hR hS hl hcb hsb
  unfold wJ1_putValL_259 at hw
  obtain ⟨hx, hb, hml, hown, hts, hrt, hlk, hMK, hZ⟩ := id cx
  refine x_aload_n cx dJ1_putVal_259 rfl (lv_at hl 0 rfl) ?_
  refine lv_dup hx hb dJ1_putVal_260 (xv_cat _ _) ?_
  obtain ⟨hk3, hw⟩ := hw
  refine xg_J1_202_18 cx hR rfl hk3 dJ1_putVal_261 ?_
  refine lv_iconst (v := (1 : Int32)) hx hb dJ1_putVal_264 (by decide) ?_
  refine lv_iadd hx hb dJ1_putVal_265 ?_
  obtain ⟨hge_th, hw⟩ := hw
  refine xp_J1_202_18 (v := ((fi σ th 5) + (1 : Int32))) cx hR hS rfl hge_th hk3 dJ1_putVal_266 (fun H locs hR hS => ?_)
  refine x_aload_n cx dJ1_putVal_269 rfl (lv_at hl 0 rfl) ?_
  refine lv_dup hx hb dJ1_putVal_270 (xv_cat _ _) ?_
  refine xg_J1_156_18 cx hR rfl hk3 dJ1_putVal_271 ?_
  refine lv_iconst (v := (1 : Int32)) hx hb dJ1_putVal_274 (by decide) ?_
  refine lv_iadd hx hb dJ1_putVal_275 ?_
  refine lv_dup_x1 hx hb dJ1_putVal_276 rfl (xv_cat _ _) ?_
  refine xp_J1_156_18 (v := ((fi (pfi σ th 5 ((fi σ th 5) + (1 : Int32))) th 4) + (1 : Int32))) cx hR hS rfl hge_th hk3 dJ1_putVal_277 (fun H locs hR hS => ?_)
  refine x_aload_n cx dJ1_putVal_280 rfl (lv_at hl 0 rfl) ?_
  refine xg_J1_88_18 cx hR rfl hk3 dJ1_putVal_281 ?_
  refine lv_icmp_le (tgt := 292) hx hb dJ1_putVal_284 (by decide) (fun hc => ?_) (fun hc => ?_)
  · have hw := mm_ip hc hw
    exact BJ1_putValL_292 cx _ _ _ _ _ hw _ _ _ _ _ hR hS (lv_sub hl [0, 1] rfl) hcb hsb
  · have hw := mm_in hc hw
    refine x_aload_n cx dJ1_putVal_287 rfl (lv_at hl 0 rfl) ?_
    obtain ⟨k5, n5, hb1, hb2, hw⟩ := hw
    refine CJ1_resizeL_J1_117 cx hR hS rfl hk3 hw ⟨Nat.le_of_ble_eq_true rfl, Nat.le_of_ble_eq_true rfl⟩ (Nat.le_of_ble_eq_true rfl) hl.1 ⟨by dsimp only; omega, by dsimp only; omega⟩ dJ1_putVal_288 (fun r4 s4 H locs hw hR hS => ?_)
    have hcb := xadd hb1 hcb
    have hsb := xadd hb2 hsb
    refine lv_pop hx hb dJ1_putVal_291 (xv_cat _ _) ?_
    exact BJ1_putValL_292 cx _ _ _ _ _ hw _ _ _ _ _ hR hS (lv_sub hl [0, 1] rfl) hcb hsb
def wJ1_putValL_250 (Q : Option Nat → XS → Prop) (th : Nat) (x10 : Option Nat) (x12 : Option Nat) (bc : Nat) (bs : Nat) (σ : XS) : Prop :=
  kd σ th = 18 ∧ (wJ2_afterNodeAccessL th x10 σ (fun s6 => Q x12 s6))
set_option maxHeartbeats 4000000 in
theorem BJ1_putValL_250 {l : Launch} {p : Program} {e : Env} {s : State} {m : MethodId} {args : Array Value} {below : List Frame} {meth : Method} {c : Code} {E : xx_E} {mc ms : Nat} {Q : Option Nat → XS → Prop} (cx : xx_X "java/util/HashMap" cJ1_putVal 13 (some (.object "java/lang/Object")) E p s m args meth c) : ∀ (th : Nat) (x10 : Option Nat) (x12 : Option Nat) (bc : Nat) (bs : Nat) (σ : XS), wJ1_putValL_250 Q th x10 x12 bc bs σ → x_T p l e ({ frames := 5, cells := mc, slots := ms, locals := 200 } : Room) s m args below meth c E (va_Qe (xr E) Q (fun σ' t => xW E σ' t) (xA E)) mc ms 13 250 bc bs σ [(0, xv E (some th)), (10, xv E x10), (12, xv E x12)] [] := by
  intro th x10 x12 bc bs σ hw H locs ls cells slots hR hS hl hcb hsb
  unfold wJ1_putValL_250 at hw
  obtain ⟨hx, hb, hml, hown, hts, hrt, hlk, hMK, hZ⟩ := id cx
  refine x_aload_n cx dJ1_putVal_250 rfl (lv_at hl 0 rfl) ?_
  refine x_aload cx dJ1_putVal_251 (lv_at hl 1 rfl) ?_
  obtain ⟨hk7, hw⟩ := hw
  refine CJ2_afterNodeAccessL_J1_198 cx hR hS rfl hk7 hw ⟨Nat.le_of_ble_eq_true rfl, Nat.le_of_ble_eq_true rfl⟩ (Nat.le_of_ble_eq_true rfl) hl.1 ⟨by dsimp only; omega, by dsimp only; omega⟩ dJ1_putVal_253 (fun s6 H locs hw hR hS => ?_)
  refine x_aload cx dJ1_putVal_256 (lv_at hl 2 rfl) ?_
  exact x_aret cx (by first | exact Or.inl ⟨_, rfl⟩ | exact Or.inr ⟨_, rfl⟩) hR hS (xle hcb) (xle hsb) hw dJ1_putVal_258
def wJ1_putValL_244 (Q : Option Nat → XS → Prop) (th : Nat) (x3 : Option Nat) (x10 : Option Nat) (x12 : Option Nat) (bc : Nat) (bs : Nat) (σ : XS) : Prop :=
  oc σ x10 21 (fun a8 => xK ≤ a8 ∧ (wJ1_putValL_250 Q th x10 x12 bc bs (pfr σ a8 2 x3)))
set_option maxHeartbeats 4000000 in
theorem BJ1_putValL_244 {l : Launch} {p : Program} {e : Env} {s : State} {m : MethodId} {args : Array Value} {below : List Frame} {meth : Method} {c : Code} {E : xx_E} {mc ms : Nat} {Q : Option Nat → XS → Prop} (cx : xx_X "java/util/HashMap" cJ1_putVal 13 (some (.object "java/lang/Object")) E p s m args meth c) : ∀ (th : Nat) (x3 : Option Nat) (x10 : Option Nat) (x12 : Option Nat) (bc : Nat) (bs : Nat) (σ : XS), wJ1_putValL_244 Q th x3 x10 x12 bc bs σ → x_T p l e ({ frames := 5, cells := mc, slots := ms, locals := 200 } : Room) s m args below meth c E (va_Qe (xr E) Q (fun σ' t => xW E σ' t) (xA E)) mc ms 13 244 bc bs σ [(0, xv E (some th)), (3, xv E x3), (10, xv E x10), (12, xv E x12)] [] := by
  intro th x3 x10 x12 bc bs σ hw H locs ls cells slots hR hS hl hcb hsb
  unfold wJ1_putValL_244 at hw
  obtain ⟨hx, hb, hml, hown, hts, hrt, hlk, hMK, hZ⟩ := id cx
  refine x_aload cx dJ1_putVal_244 (lv_at hl 2 rfl) ?_
  refine x_aload_n cx dJ1_putVal_246 rfl (lv_at hl 1 rfl) ?_
  obtain ⟨a8, hr8, hk8, hw⟩ := hw
  obtain ⟨hge_a8, hw⟩ := hw
  refine xp_J1_162_21 (v := x3) cx hR hS hr8 hge_a8 hk8 dJ1_putVal_247 (fun H locs hR hS => ?_)
  exact BJ1_putValL_250 cx _ _ _ _ _ _ hw _ _ _ _ _ hR hS (lv_sub hl [0, 2, 3] rfl) hcb hsb
def wJ1_putValL_222 (Q : Option Nat → XS → Prop) (th : Nat) (x3 : Option Nat) (x4 : Int32) (x5 : Int32) (x10 : Option Nat) (bc : Nat) (bs : Nat) (σ : XS) : Prop :=
  if x10 = none then (wJ1_putValL_259 Q th x5 bc bs σ) else (oc σ x10 21 (fun a9 => if x4 = 0 then (wJ1_putValL_244 Q th x3 x10 (fr σ a9 2) bc bs σ) else (if (fr σ a9 2) = none then (wJ1_putValL_244 Q th x3 x10 (fr σ a9 2) bc bs σ) else (wJ1_putValL_250 Q th x10 (fr σ a9 2) bc bs σ))))
set_option maxHeartbeats 4000000 in
theorem BJ1_putValL_222 {l : Launch} {p : Program} {e : Env} {s : State} {m : MethodId} {args : Array Value} {below : List Frame} {meth : Method} {c : Code} {E : xx_E} {mc ms : Nat} {Q : Option Nat → XS → Prop} (cx : xx_X "java/util/HashMap" cJ1_putVal 13 (some (.object "java/lang/Object")) E p s m args meth c) : ∀ (th : Nat) (x3 : Option Nat) (x4 : Int32) (x5 : Int32) (x10 : Option Nat) (bc : Nat) (bs : Nat) (σ : XS), wJ1_putValL_222 Q th x3 x4 x5 x10 bc bs σ → x_T p l e ({ frames := 5, cells := mc, slots := ms, locals := 200 } : Room) s m args below meth c E (va_Qe (xr E) Q (fun σ' t => xW E σ' t) (xA E)) mc ms 13 222 bc bs σ [(0, xv E (some th)), (3, xv E x3), (4, .int x4), (5, .int x5), (10, xv E x10)] [] := by
  intro th x3 x4 x5 x10 bc bs σ hw H locs ls cells slots hR hS hl hcb hsb
  unfold wJ1_putValL_222 at hw
  obtain ⟨hx, hb, hml, hown, hts, hrt, hlk, hMK, hZ⟩ := id cx
  refine x_aload cx dJ1_putVal_222 (lv_at hl 4 rfl) ?_
  refine x_ifnull (tgt := 259) cx dJ1_putVal_224 (by decide) (fun hc => ?_) (fun hc => ?_)
  · have hw := mm_ip hc hw
    exact BJ1_putValL_259 cx _ _ _ _ _ hw _ _ _ _ _ hR hS (lv_sub hl [0, 3] rfl) hcb hsb
  · have hw := mm_in hc hw
    refine x_aload cx dJ1_putVal_227 (lv_at hl 4 rfl) ?_
    obtain ⟨a9, hr9, hk9, hw⟩ := hw
    refine xg_J1_162_21 cx hR hr9 hk9 dJ1_putVal_229 ?_
    refine x_astore (i := 12) (r := (fr σ a9 2)) (lv' := [(12, xv E (fr σ a9 2)), (0, xv E (some th)), (3, xv E x3), (4, .int x4), (5, .int x5), (10, xv E x10)]) cx dJ1_putVal_232 hl (by decide) rfl (fun ls hl => ?_)
    refine lv_iload hx hb dJ1_putVal_234 (lv_at hl 3 rfl) ?_
    refine lv_if_eq (tgt := 244) hx hb dJ1_putVal_236 (by decide) (fun hc => ?_) (fun hc => ?_)
    · have hw := mm_ip hc hw
      exact BJ1_putValL_244 cx _ _ _ _ _ _ _ hw _ _ _ _ _ hR hS (lv_sub hl [1, 2, 5, 0] rfl) hcb hsb
    · have hw := mm_in hc hw
      refine x_aload cx dJ1_putVal_239 (lv_at hl 0 rfl) ?_
      refine x_ifnonnull (tgt := 250) cx dJ1_putVal_241 (by decide) (fun hc => ?_) (fun hc => ?_)
      · have hw := mm_in hc hw
        exact BJ1_putValL_250 cx _ _ _ _ _ _ hw _ _ _ _ _ hR hS (lv_sub hl [1, 5, 0] rfl) hcb hsb
      · have hw := mm_ip hc hw
        exact BJ1_putValL_244 cx _ _ _ _ _ _ _ hw _ _ _ _ _ hR hS (lv_sub hl [1, 2, 5, 0] rfl) hcb hsb
def wJ1_putValL_212 (Q : Option Nat → XS → Prop) (K134 : Nat → Int32 → Option Nat → Option Nat → Int32 → Int32 → Option Nat → Option Nat → Int32 → Nat → Nat → XS → Prop) (th : Nat) (x1 : Int32) (x2 : Option Nat) (x3 : Option Nat) (x4 : Int32) (x5 : Int32) (x6 : Option Nat) (x10 : Option Nat) (x12 : Int32) (bc : Nat) (bs : Nat) (σ : XS) : Prop :=
  ∀ v10 : Int32, v10 = x12 + (1 : Int32) → K134 th x1 x2 x3 x4 x5 x6 x10 v10 bc bs σ
set_option maxHeartbeats 4000000 in
theorem BJ1_putValL_212 {l : Launch} {p : Program} {e : Env} {s : State} {m : MethodId} {args : Array Value} {below : List Frame} {meth : Method} {c : Code} {E : xx_E} {mc ms : Nat} {Q : Option Nat → XS → Prop} {K134 : Nat → Int32 → Option Nat → Option Nat → Int32 → Int32 → Option Nat → Option Nat → Int32 → Nat → Nat → XS → Prop} (cx : xx_X "java/util/HashMap" cJ1_putVal 13 (some (.object "java/lang/Object")) E p s m args meth c) (hK134 : ∀ (th : Nat) (x1 : Int32) (x2 : Option Nat) (x3 : Option Nat) (x4 : Int32) (x5 : Int32) (x6 : Option Nat) (x7 : Option Nat) (x12 : Int32) (bc : Nat) (bs : Nat) (σ : XS), K134 th x1 x2 x3 x4 x5 x6 x7 x12 bc bs σ → x_T p l e ({ frames := 5, cells := mc, slots := ms, locals := 200 } : Room) s m args below meth c E (va_Qe (xr E) Q (fun σ' t => xW E σ' t) (xA E)) mc ms 13 134 bc bs σ [(0, xv E (some th)), (1, .int x1), (2, xv E x2), (3, xv E x3), (4, .int x4), (5, .int x5), (6, xv E x6), (7, xv E x7), (12, .int x12)] []) : ∀ (th : Nat) (x1 : Int32) (x2 : Option Nat) (x3 : Option Nat) (x4 : Int32) (x5 : Int32) (x6 : Option Nat) (x10 : Option Nat) (x12 : Int32) (bc : Nat) (bs : Nat) (σ : XS), wJ1_putValL_212 Q K134 th x1 x2 x3 x4 x5 x6 x10 x12 bc bs σ → x_T p l e ({ frames := 5, cells := mc, slots := ms, locals := 200 } : Room) s m args below meth c E (va_Qe (xr E) Q (fun σ' t => xW E σ' t) (xA E)) mc ms 13 212 bc bs σ [(0, xv E (some th)), (1, .int x1), (2, xv E x2), (3, xv E x3), (4, .int x4), (5, .int x5), (6, xv E x6), (10, xv E x10), (12, .int x12)] [] := by
  intro th x1 x2 x3 x4 x5 x6 x10 x12 bc bs σ hw H locs ls cells slots hR hS hl hcb hsb
  unfold wJ1_putValL_212 at hw
  obtain ⟨hx, hb, hml, hown, hts, hrt, hlk, hMK, hZ⟩ := id cx
  refine x_aload cx dJ1_putVal_212 (lv_at hl 7 rfl) ?_
  refine x_astore (i := 7) (r := x10) (lv' := [(7, xv E x10), (0, xv E (some th)), (1, .int x1), (2, xv E x2), (3, xv E x3), (4, .int x4), (5, .int x5), (6, xv E x6), (10, xv E x10), (12, .int x12)]) cx dJ1_putVal_214 hl (by decide) (by simp [xv_cat]) (fun ls hl => ?_)
  obtain ⟨v10, hv10⟩ : ∃ v : Int32, v = x12 + (1 : Int32) := ⟨_, rfl⟩
  have hw := hw v10 hv10
  refine lv_iinc (v := v10) (lv' := [(12, .int v10), (7, xv E x10), (0, xv E (some th)), (1, .int x1), (2, xv E x2), (3, xv E x3), (4, .int x4), (5, .int x5), (6, xv E x6), (10, xv E x10)]) hx hb dJ1_putVal_216 hl (k := 9) rfl (by rw [hv10]; rfl) (by decide) rfl (fun ls hl => ?_)
  refine lv_goto (tgt := 134) hx hb dJ1_putVal_219 (by decide) ?_
  exact hK134 _ _ _ _ _ _ _ _ _ _ _ _ hw _ _ _ _ _ hR hS (lv_sub hl [2, 3, 4, 5, 6, 7, 8, 1, 0] rfl) hcb hsb
def wJ1_putValL_134 (Q : Option Nat → XS → Prop) (K134 : Nat → Int32 → Option Nat → Option Nat → Int32 → Int32 → Option Nat → Option Nat → Int32 → Nat → Nat → XS → Prop) (th : Nat) (x1 : Int32) (x2 : Option Nat) (x3 : Option Nat) (x4 : Int32) (x5 : Int32) (x6 : Option Nat) (x7 : Option Nat) (x12 : Int32) (bc : Nat) (bs : Nat) (σ : XS) : Prop :=
  oc σ x7 21 (fun a11 => if (fr σ a11 3) = none then (kd σ th = 18 ∧ (∃ k17 n17 : Nat, k17 ≤ bc ∧ n17 ≤ bs ∧ (wJ2_newNodeL th x1 x2 x3 none k17 n17 σ (fun r15 s15 => oc s15 x7 21 (fun a18 => xK ≤ a18 ∧ (if x12 < (7 : Int32) then (wJ1_putValL_222 Q th x3 x4 x5 (fr σ a11 3) (bc - k17) (bs - n17) (pfr s15 a18 3 r15)) else (kd (pfr s15 a18 3 r15) th = 18 ∧ (∃ k21 n21 : Nat, k21 ≤ (bc - k17) ∧ n21 ≤ (bs - n17) ∧ (wJ1_treeifyBinL th x6 x1 k21 n21 (pfr s15 a18 3 r15) (fun s19 => wJ1_putValL_222 Q th x3 x4 x5 (fr σ a11 3) ((bc - k17) - k21) ((bs - n17) - n21) s19)))))))))) else (oc σ (fr σ a11 3) 21 (fun a12 => if (fi σ a12 0) = x1 then (xok (fr σ a12 1) x2 ∧ (if (fr σ a12 1) = x2 then (wJ1_putValL_222 Q th x3 x4 x5 (fr σ a11 3) bc bs σ) else (if x2 = none then (wJ1_putValL_212 Q K134 th x1 x2 x3 x4 x5 x6 (fr σ a11 3) x12 bc bs σ) else (oe x2 (fun a14 => wO_equals a14 (fr σ a12 1) σ (fun r13 s13 => if r13 = 0 then (wJ1_putValL_212 Q K134 th x1 x2 x3 x4 x5 x6 (fr σ a11 3) x12 bc bs s13) else (wJ1_putValL_222 Q th x3 x4 x5 (fr σ a11 3) bc bs s13))))))) else (wJ1_putValL_212 Q K134 th x1 x2 x3 x4 x5 x6 (fr σ a11 3) x12 bc bs σ))))
set_option maxHeartbeats 4000000 in
theorem BJ1_putValL_134 {l : Launch} {p : Program} {e : Env} {s : State} {m : MethodId} {args : Array Value} {below : List Frame} {meth : Method} {c : Code} {E : xx_E} {mc ms : Nat} {Q : Option Nat → XS → Prop} {K134 : Nat → Int32 → Option Nat → Option Nat → Int32 → Int32 → Option Nat → Option Nat → Int32 → Nat → Nat → XS → Prop} (cx : xx_X "java/util/HashMap" cJ1_putVal 13 (some (.object "java/lang/Object")) E p s m args meth c) (hK134 : ∀ (th : Nat) (x1 : Int32) (x2 : Option Nat) (x3 : Option Nat) (x4 : Int32) (x5 : Int32) (x6 : Option Nat) (x7 : Option Nat) (x12 : Int32) (bc : Nat) (bs : Nat) (σ : XS), K134 th x1 x2 x3 x4 x5 x6 x7 x12 bc bs σ → x_T p l e ({ frames := 5, cells := mc, slots := ms, locals := 200 } : Room) s m args below meth c E (va_Qe (xr E) Q (fun σ' t => xW E σ' t) (xA E)) mc ms 13 134 bc bs σ [(0, xv E (some th)), (1, .int x1), (2, xv E x2), (3, xv E x3), (4, .int x4), (5, .int x5), (6, xv E x6), (7, xv E x7), (12, .int x12)] []) : ∀ (th : Nat) (x1 : Int32) (x2 : Option Nat) (x3 : Option Nat) (x4 : Int32) (x5 : Int32) (x6 : Option Nat) (x7 : Option Nat) (x12 : Int32) (bc : Nat) (bs : Nat) (σ : XS), wJ1_putValL_134 Q K134 th x1 x2 x3 x4 x5 x6 x7 x12 bc bs σ → x_T p l e ({ frames := 5, cells := mc, slots := ms, locals := 200 } : Room) s m args below meth c E (va_Qe (xr E) Q (fun σ' t => xW E σ' t) (xA E)) mc ms 13 134 bc bs σ [(0, xv E (some th)), (1, .int x1), (2, xv E x2), (3, xv E x3), (4, .int x4), (5, .int x5), (6, xv E x6), (7, xv E x7), (12, .int x12)] [] := by
  intro th x1 x2 x3 x4 x5 x6 x7 x12 bc bs σ hw H locs ls cells slots hR hS hl hcb hsb
  unfold wJ1_putValL_134 at hw
  obtain ⟨hx, hb, hml, hown, hts, hrt, hlk, hMK, hZ⟩ := id cx
  refine x_aload cx dJ1_putVal_134 (lv_at hl 7 rfl) ?_
  obtain ⟨a11, hr11, hk11, hw⟩ := hw
  refine xg_J1_177_21 cx hR hr11 hk11 dJ1_putVal_136 ?_
  refine lv_dup hx hb dJ1_putVal_139 (xv_cat _ _) ?_
  refine x_astore (i := 10) (r := (fr σ a11 3)) (lv' := [(10, xv E (fr σ a11 3)), (0, xv E (some th)), (1, .int x1), (2, xv E x2), (3, xv E x3), (4, .int x4), (5, .int x5), (6, xv E x6), (7, xv E x7), (12, .int x12)]) cx dJ1_putVal_140 hl (by decide) rfl (fun ls hl => ?_)
  refine x_ifnonnull (tgt := 175) cx dJ1_putVal_142 (by decide) (fun hc => ?_) (fun hc => ?_)
  · have hw := mm_in hc hw
    refine x_aload cx dJ1_putVal_175 (lv_at hl 0 rfl) ?_
    obtain ⟨a12, hr12, hk12, hw⟩ := hw
    refine xg_J1_168_21 cx hR hr12 hk12 dJ1_putVal_177 ?_
    refine lv_iload_n hx hb dJ1_putVal_180 rfl (lv_at hl 2 rfl) ?_
    refine lv_icmp_ne (tgt := 212) hx hb dJ1_putVal_181 (by decide) (fun hc => ?_) (fun hc => ?_)
    · have hw := mm_in hc hw
      exact BJ1_putValL_212 cx hK134 _ _ _ _ _ _ _ _ _ _ _ _ hw _ _ _ _ _ hR hS (lv_sub hl [1, 2, 3, 4, 5, 6, 7, 0, 9] rfl) hcb hsb
    · have hw := mm_ip hc hw
      refine x_aload cx dJ1_putVal_184 (lv_at hl 0 rfl) ?_
      refine xg_J1_170_21 cx hR hr12 hk12 dJ1_putVal_186 ?_
      refine lv_dup hx hb dJ1_putVal_189 (xv_cat _ _) ?_
      refine x_astore (i := 11) (r := (fr σ a12 1)) (lv' := [(11, xv E (fr σ a12 1)), (10, xv E (fr σ a11 3)), (0, xv E (some th)), (1, .int x1), (2, xv E x2), (3, xv E x3), (4, .int x4), (5, .int x5), (6, xv E x6), (7, xv E x7), (12, .int x12)]) cx dJ1_putVal_190 hl (by decide) (by simp [xv_cat]) (fun ls hl => ?_)
      refine x_aload_n cx dJ1_putVal_192 rfl (lv_at hl 4 rfl) ?_
      obtain ⟨hok, hw⟩ := hw
      refine x_acmp_eq (tgt := 222) cx hok dJ1_putVal_193 (by decide) (fun hc => ?_) (fun hc => ?_)
      · have hw := mm_ip hc hw
        exact BJ1_putValL_222 cx _ _ _ _ _ _ _ _ hw _ _ _ _ _ hR hS (lv_sub hl [2, 5, 6, 7, 1] rfl) hcb hsb
      · have hw := mm_in hc hw
        refine x_aload_n cx dJ1_putVal_196 rfl (lv_at hl 4 rfl) ?_
        refine x_ifnull (tgt := 212) cx dJ1_putVal_197 (by decide) (fun hc => ?_) (fun hc => ?_)
        · have hw := mm_ip hc hw
          exact BJ1_putValL_212 cx hK134 _ _ _ _ _ _ _ _ _ _ _ _ hw _ _ _ _ _ hR hS (lv_sub hl [2, 3, 4, 5, 6, 7, 8, 1, 10] rfl) hcb hsb
        · have hw := mm_in hc hw
          refine x_aload_n cx dJ1_putVal_200 rfl (lv_at hl 4 rfl) ?_
          refine x_aload cx dJ1_putVal_201 (lv_at hl 0 rfl) ?_
          obtain ⟨a14, hr14, hw⟩ := hw
          refine CO_equals_J1_173 cx hR hS hr14 hw ⟨Nat.le_of_ble_eq_true rfl, Nat.le_of_ble_eq_true rfl⟩ (Nat.le_of_ble_eq_true rfl) hl.1 ⟨by dsimp only; omega, by dsimp only; omega⟩ dJ1_putVal_203 (fun r13 s13 H locs hw hR hS => ?_)
          refine lv_if_eq (tgt := 212) hx hb dJ1_putVal_206 (by decide) (fun hc => ?_) (fun hc => ?_)
          · have hw := mm_ip hc hw
            exact BJ1_putValL_212 cx hK134 _ _ _ _ _ _ _ _ _ _ _ _ hw _ _ _ _ _ hR hS (lv_sub hl [2, 3, 4, 5, 6, 7, 8, 1, 10] rfl) hcb hsb
          · have hw := mm_in hc hw
            refine lv_goto (tgt := 222) hx hb dJ1_putVal_209 (by decide) ?_
            exact BJ1_putValL_222 cx _ _ _ _ _ _ _ _ hw _ _ _ _ _ hR hS (lv_sub hl [2, 5, 6, 7, 1] rfl) hcb hsb
  · have hw := mm_ip hc hw
    refine x_aload cx dJ1_putVal_145 (lv_at hl 8 rfl) ?_
    refine x_aload_n cx dJ1_putVal_147 rfl (lv_at hl 1 rfl) ?_
    refine lv_iload_n hx hb dJ1_putVal_148 rfl (lv_at hl 2 rfl) ?_
    refine x_aload_n cx dJ1_putVal_149 rfl (lv_at hl 3 rfl) ?_
    refine x_aload_n cx dJ1_putVal_150 rfl (lv_at hl 4 rfl) ?_
    refine lv_null hx hb dJ1_putVal_151 ?_
    obtain ⟨hk16, hw⟩ := hw
    obtain ⟨k17, n17, hb1, hb2, hw⟩ := hw
    refine CJ2_newNodeL_J1_186 cx hR hS rfl hk16 hw ⟨Nat.le_of_ble_eq_true rfl, Nat.le_of_ble_eq_true rfl⟩ (Nat.le_of_ble_eq_true rfl) hl.1 ⟨by dsimp only; omega, by dsimp only; omega⟩ dJ1_putVal_152 (fun r15 s15 H locs hw hR hS => ?_)
    have hcb := xadd hb1 hcb
    have hsb := xadd hb2 hsb
    obtain ⟨a18, hr18, hk18, hw⟩ := hw
    obtain ⟨hge_a18, hw⟩ := hw
    refine xp_J1_177_21 (v := r15) cx hR hS hr18 hge_a18 hk18 dJ1_putVal_155 (fun H locs hR hS => ?_)
    refine lv_iload hx hb dJ1_putVal_158 (lv_at hl 9 rfl) ?_
    refine lv_bipush (v := (7 : Int32)) hx hb dJ1_putVal_160 (by decide) ?_
    refine lv_icmp_lt (tgt := 222) hx hb dJ1_putVal_162 (by decide) (fun hc => ?_) (fun hc => ?_)
    · have hw := mm_ip hc hw
      exact BJ1_putValL_222 cx _ _ _ _ _ _ _ _ hw _ _ _ _ _ hR hS (lv_sub hl [1, 4, 5, 6, 0] rfl) hcb hsb
    · have hw := mm_in hc hw
      refine x_aload_n cx dJ1_putVal_165 rfl (lv_at hl 1 rfl) ?_
      refine x_aload cx dJ1_putVal_166 (lv_at hl 7 rfl) ?_
      refine lv_iload_n hx hb dJ1_putVal_168 rfl (lv_at hl 2 rfl) ?_
      obtain ⟨hk20, hw⟩ := hw
      obtain ⟨k21, n21, hb1, hb2, hw⟩ := hw
      refine CJ1_treeifyBinL_J1_194 cx hR hS rfl hk20 hw ⟨Nat.le_of_ble_eq_true rfl, Nat.le_of_ble_eq_true rfl⟩ (Nat.le_of_ble_eq_true rfl) hl.1 ⟨by dsimp only; omega, by dsimp only; omega⟩ dJ1_putVal_169 (fun s19 H locs hw hR hS => ?_)
      have hcb := xadd hb1 hcb
      have hsb := xadd hb2 hsb
      refine lv_goto (tgt := 222) hx hb dJ1_putVal_172 (by decide) ?_
      exact BJ1_putValL_222 cx _ _ _ _ _ _ _ _ hw _ _ _ _ _ hR hS (lv_sub hl [1, 4, 5, 6, 0] rfl) hcb hsb
theorem LJ1_putValL_134 {l : Launch} {p : Program} {e : Env} {s : State} {m : MethodId} {args : Array Value} {below : List Frame} {meth : Method} {c : Code} {E : xx_E} {mc ms : Nat} {Q : Option Nat → XS → Prop} (cx : xx_X "java/util/HashMap" cJ1_putVal 13 (some (.object "java/lang/Object")) E p s m args meth c) : ∀ (th : Nat) (x1 : Int32) (x2 : Option Nat) (x3 : Option Nat) (x4 : Int32) (x5 : Int32) (x6 : Option Nat) (x7 : Option Nat) (x12 : Int32) (bc : Nat) (bs : Nat) (σ : XS), lp12F (wJ1_putValL_134 Q) th x1 x2 x3 x4 x5 x6 x7 x12 bc bs σ → x_T p l e ({ frames := 5, cells := mc, slots := ms, locals := 200 } : Room) s m args below meth c E (va_Qe (xr E) Q (fun σ' t => xW E σ' t) (xA E)) mc ms 13 134 bc bs σ [(0, xv E (some th)), (1, .int x1), (2, xv E x2), (3, xv E x3), (4, .int x4), (5, .int x5), (6, xv E x6), (7, xv E x7), (12, .int x12)] [] :=
  lp12F_of (fun K hK => BJ1_putValL_134 cx hK)
def wJ1_putValL_104 (Q : Option Nat → XS → Prop) (th : Nat) (x1 : Int32) (x2 : Option Nat) (x3 : Option Nat) (x4 : Int32) (x5 : Int32) (x6 : Option Nat) (x7 : Option Nat) (bc : Nat) (bs : Nat) (σ : XS) : Prop :=
  oc σ x7 21 (fun a22 => lp12F (wJ1_putValL_134 Q) th x1 x2 x3 x4 x5 x6 x7 (0 : Int32) bc bs σ)
set_option maxHeartbeats 4000000 in
theorem BJ1_putValL_104 {l : Launch} {p : Program} {e : Env} {s : State} {m : MethodId} {args : Array Value} {below : List Frame} {meth : Method} {c : Code} {E : xx_E} {mc ms : Nat} {Q : Option Nat → XS → Prop} (cx : xx_X "java/util/HashMap" cJ1_putVal 13 (some (.object "java/lang/Object")) E p s m args meth c) : ∀ (th : Nat) (x1 : Int32) (x2 : Option Nat) (x3 : Option Nat) (x4 : Int32) (x5 : Int32) (x6 : Option Nat) (x7 : Option Nat) (bc : Nat) (bs : Nat) (σ : XS), wJ1_putValL_104 Q th x1 x2 x3 x4 x5 x6 x7 bc bs σ → x_T p l e ({ frames := 5, cells := mc, slots := ms, locals := 200 } : Room) s m args below meth c E (va_Qe (xr E) Q (fun σ' t => xW E σ' t) (xA E)) mc ms 13 104 bc bs σ [(0, xv E (some th)), (1, .int x1), (2, xv E x2), (3, xv E x3), (4, .int x4), (5, .int x5), (6, xv E x6), (7, xv E x7)] [] := by
  intro th x1 x2 x3 x4 x5 x6 x7 bc bs σ hw H locs ls cells slots hR hS hl hcb hsb
  unfold wJ1_putValL_104 at hw
  obtain ⟨hx, hb, hml, hown, hts, hrt, hlk, hMK, hZ⟩ := id cx
  refine x_aload cx dJ1_putVal_104 (lv_at hl 7 rfl) ?_
  obtain ⟨a22, hr22, hk22, hw⟩ := hw
  refine x_instN cx hR hr22 hk22 (by decide) rfl q1204 (by decide) dJ1_putVal_106 ?_
  refine lv_if_eq (tgt := 131) hx hb dJ1_putVal_109 (by decide) (fun hc => ?_) (fun hc => ?_)
  rotate_left
  · exact absurd hc (by decide)
  refine lv_iconst (v := (0 : Int32)) hx hb dJ1_putVal_131 (by decide) ?_
  refine lv_istore (i := 12) (lv' := [(12, .int (0 : Int32)), (0, xv E (some th)), (1, .int x1), (2, xv E x2), (3, xv E x3), (4, .int x4), (5, .int x5), (6, xv E x6), (7, xv E x7)]) hx hb dJ1_putVal_132 hl (by decide) rfl (fun ls hl => ?_)
  exact LJ1_putValL_134 cx _ _ _ _ _ _ _ _ _ _ _ _ hw _ _ _ _ _ hR hS (lv_sub hl [1, 2, 3, 4, 5, 6, 7, 8, 0] rfl) hcb hsb
def wJ1_putValL_97 (Q : Option Nat → XS → Prop) (th : Nat) (x3 : Option Nat) (x4 : Int32) (x5 : Int32) (x7 : Option Nat) (bc : Nat) (bs : Nat) (σ : XS) : Prop :=
  wJ1_putValL_222 Q th x3 x4 x5 x7 bc bs σ
set_option maxHeartbeats 4000000 in
theorem BJ1_putValL_97 {l : Launch} {p : Program} {e : Env} {s : State} {m : MethodId} {args : Array Value} {below : List Frame} {meth : Method} {c : Code} {E : xx_E} {mc ms : Nat} {Q : Option Nat → XS → Prop} (cx : xx_X "java/util/HashMap" cJ1_putVal 13 (some (.object "java/lang/Object")) E p s m args meth c) : ∀ (th : Nat) (x3 : Option Nat) (x4 : Int32) (x5 : Int32) (x7 : Option Nat) (bc : Nat) (bs : Nat) (σ : XS), wJ1_putValL_97 Q th x3 x4 x5 x7 bc bs σ → x_T p l e ({ frames := 5, cells := mc, slots := ms, locals := 200 } : Room) s m args below meth c E (va_Qe (xr E) Q (fun σ' t => xW E σ' t) (xA E)) mc ms 13 97 bc bs σ [(0, xv E (some th)), (3, xv E x3), (4, .int x4), (5, .int x5), (7, xv E x7)] [] := by
  intro th x3 x4 x5 x7 bc bs σ hw H locs ls cells slots hR hS hl hcb hsb
  unfold wJ1_putValL_97 at hw
  obtain ⟨hx, hb, hml, hown, hts, hrt, hlk, hMK, hZ⟩ := id cx
  refine x_aload cx dJ1_putVal_97 (lv_at hl 4 rfl) ?_
  refine x_astore (i := 10) (r := x7) (lv' := [(10, xv E x7), (0, xv E (some th)), (3, xv E x3), (4, .int x4), (5, .int x5), (7, xv E x7)]) cx dJ1_putVal_99 hl (by decide) rfl (fun ls hl => ?_)
  refine lv_goto (tgt := 222) hx hb dJ1_putVal_101 (by decide) ?_
  exact BJ1_putValL_222 cx _ _ _ _ _ _ _ _ hw _ _ _ _ _ hR hS (lv_sub hl [1, 2, 3, 4, 0] rfl) hcb hsb
def wJ1_putValL_29 (Q : Option Nat → XS → Prop) (th : Nat) (x1 : Int32) (x2 : Option Nat) (x3 : Option Nat) (x4 : Int32) (x5 : Int32) (x6 : Option Nat) (x8 : Int32) (bc : Nat) (bs : Nat) (σ : XS) : Prop :=
  ∀ v23 : Int32, v23 = ((x8 - (1 : Int32)) &&& x1) → oc σ x6 106 (fun a24 => vp_in ((x8 - (1 : Int32)) &&& x1) (ln σ a24) ∧ (if (ar σ a24 (((x8 - (1 : Int32)) &&& x1).toNatClampNeg)) = none then (kd σ th = 18 ∧ (∃ k30 n30 : Nat, k30 ≤ bc ∧ n30 ≤ bs ∧ (wJ2_newNodeL th x1 x2 x3 none k30 n30 σ (fun r28 s28 => oc s28 x6 106 (fun a31 => xK ≤ a31 ∧ (vp_in v23 (ln s28 a31) ∧ (xck [20, 21] s28 r28 ∧ (wJ1_putValL_259 Q th x5 (bc - k30) (bs - n30) (par s28 a31 v23.toNatClampNeg r28))))))))) else (oc σ (ar σ a24 (((x8 - (1 : Int32)) &&& x1).toNatClampNeg)) 21 (fun a25 => if (fi σ a25 0) = x1 then (xok (fr σ a25 1) x2 ∧ (if (fr σ a25 1) = x2 then (wJ1_putValL_97 Q th x3 x4 x5 (ar σ a24 (((x8 - (1 : Int32)) &&& x1).toNatClampNeg)) bc bs σ) else (if x2 = none then (wJ1_putValL_104 Q th x1 x2 x3 x4 x5 x6 (ar σ a24 (((x8 - (1 : Int32)) &&& x1).toNatClampNeg)) bc bs σ) else (oe x2 (fun a27 => wO_equals a27 (fr σ a25 1) σ (fun r26 s26 => if r26 = 0 then (wJ1_putValL_104 Q th x1 x2 x3 x4 x5 x6 (ar σ a24 (((x8 - (1 : Int32)) &&& x1).toNatClampNeg)) bc bs s26) else (wJ1_putValL_97 Q th x3 x4 x5 (ar σ a24 (((x8 - (1 : Int32)) &&& x1).toNatClampNeg)) bc bs s26))))))) else (wJ1_putValL_104 Q th x1 x2 x3 x4 x5 x6 (ar σ a24 (((x8 - (1 : Int32)) &&& x1).toNatClampNeg)) bc bs σ)))))
set_option maxHeartbeats 4000000 in
theorem BJ1_putValL_29 {l : Launch} {p : Program} {e : Env} {s : State} {m : MethodId} {args : Array Value} {below : List Frame} {meth : Method} {c : Code} {E : xx_E} {mc ms : Nat} {Q : Option Nat → XS → Prop} (cx : xx_X "java/util/HashMap" cJ1_putVal 13 (some (.object "java/lang/Object")) E p s m args meth c) : ∀ (th : Nat) (x1 : Int32) (x2 : Option Nat) (x3 : Option Nat) (x4 : Int32) (x5 : Int32) (x6 : Option Nat) (x8 : Int32) (bc : Nat) (bs : Nat) (σ : XS), wJ1_putValL_29 Q th x1 x2 x3 x4 x5 x6 x8 bc bs σ → x_T p l e ({ frames := 5, cells := mc, slots := ms, locals := 200 } : Room) s m args below meth c E (va_Qe (xr E) Q (fun σ' t => xW E σ' t) (xA E)) mc ms 13 29 bc bs σ [(0, xv E (some th)), (1, .int x1), (2, xv E x2), (3, xv E x3), (4, .int x4), (5, .int x5), (6, xv E x6), (8, .int x8)] [] := by
  intro th x1 x2 x3 x4 x5 x6 x8 bc bs σ hw H locs ls cells slots hR hS hl hcb hsb
  unfold wJ1_putValL_29 at hw
  obtain ⟨hx, hb, hml, hown, hts, hrt, hlk, hMK, hZ⟩ := id cx
  refine x_aload cx dJ1_putVal_29 (lv_at hl 6 rfl) ?_
  refine lv_iload hx hb dJ1_putVal_31 (lv_at hl 7 rfl) ?_
  refine lv_iconst (v := (1 : Int32)) hx hb dJ1_putVal_33 (by decide) ?_
  refine lv_isub hx hb dJ1_putVal_34 ?_
  refine lv_iload_n hx hb dJ1_putVal_35 rfl (lv_at hl 1 rfl) ?_
  refine lv_iand hx hb dJ1_putVal_36 ?_
  refine lv_dup hx hb dJ1_putVal_37 rfl ?_
  refine lv_topi (fun v23 hv23 => ?_)
  have hw := hw v23 hv23
  refine lv_istore (i := 9) (lv' := [(9, .int v23), (0, xv E (some th)), (1, .int x1), (2, xv E x2), (3, xv E x3), (4, .int x4), (5, .int x5), (6, xv E x6), (8, .int x8)]) hx hb dJ1_putVal_38 hl (by decide) rfl (fun ls hl => ?_)
  obtain ⟨a24, hr24, hk24, hw⟩ := hw
  obtain ⟨hi, hw⟩ := hw
  refine x_aald cx hR hr24 6 hk24 (by decide) (by decide) (j := ((x8 - (1 : Int32)) &&& x1).toNatClampNeg) rfl hi dJ1_putVal_40 ?_
  refine lv_dup hx hb dJ1_putVal_41 (xv_cat _ _) ?_
  refine x_astore (i := 7) (r := (ar σ a24 (((x8 - (1 : Int32)) &&& x1).toNatClampNeg))) (lv' := [(7, xv E (ar σ a24 (((x8 - (1 : Int32)) &&& x1).toNatClampNeg))), (9, .int v23), (0, xv E (some th)), (1, .int x1), (2, xv E x2), (3, xv E x3), (4, .int x4), (5, .int x5), (6, xv E x6), (8, .int x8)]) cx dJ1_putVal_42 hl (by decide) (by simp [xv_cat]) (fun ls hl => ?_)
  refine x_ifnonnull (tgt := 63) cx dJ1_putVal_44 (by decide) (fun hc => ?_) (fun hc => ?_)
  · have hw := mm_in hc hw
    refine x_aload cx dJ1_putVal_63 (lv_at hl 0 rfl) ?_
    obtain ⟨a25, hr25, hk25, hw⟩ := hw
    refine xg_J1_168_21 cx hR hr25 hk25 dJ1_putVal_65 ?_
    refine lv_iload_n hx hb dJ1_putVal_68 rfl (lv_at hl 3 rfl) ?_
    refine lv_icmp_ne (tgt := 104) hx hb dJ1_putVal_69 (by decide) (fun hc => ?_) (fun hc => ?_)
    · have hw := mm_in hc hw
      exact BJ1_putValL_104 cx _ _ _ _ _ _ _ _ _ _ _ hw _ _ _ _ _ hR hS (lv_sub hl [2, 3, 4, 5, 6, 7, 8, 0] rfl) hcb hsb
    · have hw := mm_ip hc hw
      refine x_aload cx dJ1_putVal_72 (lv_at hl 0 rfl) ?_
      refine xg_J1_170_21 cx hR hr25 hk25 dJ1_putVal_74 ?_
      refine lv_dup hx hb dJ1_putVal_77 (xv_cat _ _) ?_
      refine x_astore (i := 11) (r := (fr σ a25 1)) (lv' := [(11, xv E (fr σ a25 1)), (7, xv E (ar σ a24 (((x8 - (1 : Int32)) &&& x1).toNatClampNeg))), (9, .int v23), (0, xv E (some th)), (1, .int x1), (2, xv E x2), (3, xv E x3), (4, .int x4), (5, .int x5), (6, xv E x6), (8, .int x8)]) cx dJ1_putVal_78 hl (by decide) rfl (fun ls hl => ?_)
      refine x_aload_n cx dJ1_putVal_80 rfl (lv_at hl 5 rfl) ?_
      obtain ⟨hok, hw⟩ := hw
      refine x_acmp_eq (tgt := 97) cx hok dJ1_putVal_81 (by decide) (fun hc => ?_) (fun hc => ?_)
      · have hw := mm_ip hc hw
        exact BJ1_putValL_97 cx _ _ _ _ _ _ _ _ hw _ _ _ _ _ hR hS (lv_sub hl [3, 6, 7, 8, 1] rfl) hcb hsb
      · have hw := mm_in hc hw
        refine x_aload_n cx dJ1_putVal_84 rfl (lv_at hl 5 rfl) ?_
        refine x_ifnull (tgt := 104) cx dJ1_putVal_85 (by decide) (fun hc => ?_) (fun hc => ?_)
        · have hw := mm_ip hc hw
          exact BJ1_putValL_104 cx _ _ _ _ _ _ _ _ _ _ _ hw _ _ _ _ _ hR hS (lv_sub hl [3, 4, 5, 6, 7, 8, 9, 1] rfl) hcb hsb
        · have hw := mm_in hc hw
          refine x_aload_n cx dJ1_putVal_88 rfl (lv_at hl 5 rfl) ?_
          refine x_aload cx dJ1_putVal_89 (lv_at hl 0 rfl) ?_
          obtain ⟨a27, hr27, hw⟩ := hw
          refine CO_equals_J1_173 cx hR hS hr27 hw ⟨Nat.le_of_ble_eq_true rfl, Nat.le_of_ble_eq_true rfl⟩ (Nat.le_of_ble_eq_true rfl) hl.1 ⟨by dsimp only; omega, by dsimp only; omega⟩ dJ1_putVal_91 (fun r26 s26 H locs hw hR hS => ?_)
          refine lv_if_eq (tgt := 104) hx hb dJ1_putVal_94 (by decide) (fun hc => ?_) (fun hc => ?_)
          · have hw := mm_ip hc hw
            exact BJ1_putValL_104 cx _ _ _ _ _ _ _ _ _ _ _ hw _ _ _ _ _ hR hS (lv_sub hl [3, 4, 5, 6, 7, 8, 9, 1] rfl) hcb hsb
          · have hw := mm_in hc hw
            exact BJ1_putValL_97 cx _ _ _ _ _ _ _ _ hw _ _ _ _ _ hR hS (lv_sub hl [3, 6, 7, 8, 1] rfl) hcb hsb
  · have hw := mm_ip hc hw
    refine x_aload cx dJ1_putVal_47 (lv_at hl 8 rfl) ?_
    refine lv_iload hx hb dJ1_putVal_49 (lv_at hl 1 rfl) ?_
    refine x_aload_n cx dJ1_putVal_51 rfl (lv_at hl 2 rfl) ?_
    refine lv_iload_n hx hb dJ1_putVal_52 rfl (lv_at hl 3 rfl) ?_
    refine x_aload_n cx dJ1_putVal_53 rfl (lv_at hl 4 rfl) ?_
    refine x_aload_n cx dJ1_putVal_54 rfl (lv_at hl 5 rfl) ?_
    refine lv_null hx hb dJ1_putVal_55 ?_
    obtain ⟨hk29, hw⟩ := hw
    obtain ⟨k30, n30, hb1, hb2, hw⟩ := hw
    refine CJ2_newNodeL_J1_186 cx hR hS rfl hk29 hw ⟨Nat.le_of_ble_eq_true rfl, Nat.le_of_ble_eq_true rfl⟩ (Nat.le_of_ble_eq_true rfl) hl.1 ⟨by dsimp only; omega, by dsimp only; omega⟩ dJ1_putVal_56 (fun r28 s28 H locs hw hR hS => ?_)
    have hcb := xadd hb1 hcb
    have hsb := xadd hb2 hsb
    obtain ⟨a31, hr31, hk31, hw⟩ := hw
    obtain ⟨hge_a31, hw⟩ := hw
    obtain ⟨hi, hw⟩ := hw
    obtain ⟨hv, hw⟩ := hw
    refine x_ast cx hR hS hr31 hge_a31 6 (C := "java/util/HashMap$Node") rfl hk31 (by decide) (by decide) (j := v23.toNatClampNeg) rfl hi (xcs_106 cx hv) dJ1_putVal_59 (fun H locs hR hS => ?_)
    refine lv_goto (tgt := 259) hx hb dJ1_putVal_60 (by decide) ?_
    exact BJ1_putValL_259 cx _ _ _ _ _ hw _ _ _ _ _ hR hS (lv_sub hl [2, 7] rfl) hcb hsb
def wJ1_putValL_19 (Q : Option Nat → XS → Prop) (th : Nat) (x1 : Int32) (x2 : Option Nat) (x3 : Option Nat) (x4 : Int32) (x5 : Int32) (bc : Nat) (bs : Nat) (σ : XS) : Prop :=
  kd σ th = 18 ∧ (∃ k34 n34 : Nat, k34 ≤ bc ∧ n34 ≤ bs ∧ (wJ1_resizeL th k34 n34 σ (fun r32 s32 => oc s32 r32 106 (fun a35 => ∀ v36 : Int32, v36 = (nI (ln s32 a35)) → wJ1_putValL_29 Q th x1 x2 x3 x4 x5 r32 v36 (bc - k34) (bs - n34) s32))))
set_option maxHeartbeats 4000000 in
theorem BJ1_putValL_19 {l : Launch} {p : Program} {e : Env} {s : State} {m : MethodId} {args : Array Value} {below : List Frame} {meth : Method} {c : Code} {E : xx_E} {mc ms : Nat} {Q : Option Nat → XS → Prop} (cx : xx_X "java/util/HashMap" cJ1_putVal 13 (some (.object "java/lang/Object")) E p s m args meth c) : ∀ (th : Nat) (x1 : Int32) (x2 : Option Nat) (x3 : Option Nat) (x4 : Int32) (x5 : Int32) (bc : Nat) (bs : Nat) (σ : XS), wJ1_putValL_19 Q th x1 x2 x3 x4 x5 bc bs σ → x_T p l e ({ frames := 5, cells := mc, slots := ms, locals := 200 } : Room) s m args below meth c E (va_Qe (xr E) Q (fun σ' t => xW E σ' t) (xA E)) mc ms 13 19 bc bs σ [(0, xv E (some th)), (1, .int x1), (2, xv E x2), (3, xv E x3), (4, .int x4), (5, .int x5)] [] := by
  intro th x1 x2 x3 x4 x5 bc bs σ hw H locs ls cells slots hR hS hl hcb hsb
  unfold wJ1_putValL_19 at hw
  obtain ⟨hx, hb, hml, hown, hts, hrt, hlk, hMK, hZ⟩ := id cx
  refine x_aload_n cx dJ1_putVal_19 rfl (lv_at hl 0 rfl) ?_
  obtain ⟨hk33, hw⟩ := hw
  obtain ⟨k34, n34, hb1, hb2, hw⟩ := hw
  refine CJ1_resizeL_J1_117 cx hR hS rfl hk33 hw ⟨Nat.le_of_ble_eq_true rfl, Nat.le_of_ble_eq_true rfl⟩ (Nat.le_of_ble_eq_true rfl) hl.1 ⟨by dsimp only; omega, by dsimp only; omega⟩ dJ1_putVal_20 (fun r32 s32 H locs hw hR hS => ?_)
  have hcb := xadd hb1 hcb
  have hsb := xadd hb2 hsb
  refine lv_dup hx hb dJ1_putVal_23 (xv_cat _ _) ?_
  refine x_astore (i := 6) (r := r32) (lv' := [(6, xv E r32), (0, xv E (some th)), (1, .int x1), (2, xv E x2), (3, xv E x3), (4, .int x4), (5, .int x5)]) cx dJ1_putVal_24 hl (by decide) rfl (fun ls hl => ?_)
  obtain ⟨a35, hr35, hk35, hw⟩ := hw
  refine x_alen cx hR hr35 6 hk35 (by decide) dJ1_putVal_26 ?_
  refine lv_topi (fun v36 hv36 => ?_)
  have hw := hw v36 hv36
  refine lv_istore (i := 8) (lv' := [(8, .int v36), (6, xv E r32), (0, xv E (some th)), (1, .int x1), (2, xv E x2), (3, xv E x3), (4, .int x4), (5, .int x5)]) hx hb dJ1_putVal_27 hl (by decide) rfl (fun ls hl => ?_)
  exact BJ1_putValL_29 cx _ _ _ _ _ _ _ _ _ _ _ hw _ _ _ _ _ hR hS (lv_sub hl [2, 3, 4, 5, 6, 7, 1, 0] rfl) hcb hsb
def wJ1_putValL (th : Nat) (x1 : Int32) (x2 : Option Nat) (x3 : Option Nat) (x4 : Int32) (x5 : Int32) (bc : Nat) (bs : Nat) (σ : XS) (Q : Option Nat → XS → Prop) : Prop :=
  kd σ th = 18 ∧ (if (fr σ th 2) = none then (wJ1_putValL_19 Q th x1 x2 x3 x4 x5 bc bs σ) else (oc σ (fr σ th 2) 106 (fun a38 => ∀ v39 : Int32, v39 = (nI (ln σ a38)) → if (nI (ln σ a38)) = 0 then (wJ1_putValL_19 Q th x1 x2 x3 x4 x5 bc bs σ) else (wJ1_putValL_29 Q th x1 x2 x3 x4 x5 (fr σ th 2) v39 bc bs σ))))
set_option maxHeartbeats 4000000 in
theorem MJ1_putValL (l : Launch) (E : xx_E) (th : Nat) (x1 : Int32) (x2 : Option Nat) (x3 : Option Nat) (x4 : Int32) (x5 : Int32) (bc : Nat) (bs : Nat) (σ : XS) (Q : Option Nat → XS → Prop) (hw : wJ1_putValL th x1 x2 x3 x4 x5 bc bs σ Q) : xx_Mr l yJ1_putVal (ws_ yJ1_putVal cJ1_putVal 13 (some (.object "java/lang/Object"))) ({ frames := 5, cells := bc, slots := bs, locals := 200 } : Room) E [xv E (some th), .int x1, xv E x2, xv E x3, .int x4, .int x5] σ Q bc bs := by
  refine x_of (own := "java/util/HashMap") (by decide +kernel) rfl ?_
  intro p e s m args below meth c cx hR ha hnm
  refine x_entry [xv E (some th), .int x1, xv E x2, xv E x3, .int x4, .int x5] 13 [(0, xv E (some th)), (1, .int x1), (2, xv E x2), (3, xv E x3), (4, .int x4), (5, .int x5)] ha (by simp [lg_sl, xv_cat, vc_i, vc_j, vc_f]) (by simp [lv_args, xv_cat, vc_i, vc_j, vc_f]) (fun ls hl => ?_)
  have hS : va_S (xA E) s.heap s.heap [] := va_S.rf
  have hcb : 0 + bc ≤ bc := Nat.le_of_eq (Nat.zero_add _)
  have hsb : 0 + bs ≤ bs := Nat.le_of_eq (Nat.zero_add _)
  unfold wJ1_putValL at hw
  obtain ⟨hx, hb, hml, hown, hts, hrt, hlk, hMK, hZ⟩ := id cx
  refine x_aload_n cx dJ1_putVal_0 rfl (lv_at hl 0 rfl) ?_
  obtain ⟨hk37, hw⟩ := hw
  refine xg_J1_105_18 cx hR rfl hk37 dJ1_putVal_1 ?_
  refine lv_dup hx hb dJ1_putVal_4 (xv_cat _ _) ?_
  refine x_astore (i := 6) (r := (fr σ th 2)) (lv' := [(6, xv E (fr σ th 2)), (0, xv E (some th)), (1, .int x1), (2, xv E x2), (3, xv E x3), (4, .int x4), (5, .int x5)]) cx dJ1_putVal_5 hl (by decide) rfl (fun ls hl => ?_)
  refine x_ifnull (tgt := 19) cx dJ1_putVal_7 (by decide) (fun hc => ?_) (fun hc => ?_)
  · have hw := mm_ip hc hw
    exact BJ1_putValL_19 cx _ _ _ _ _ _ _ _ _ hw _ _ _ _ _ hR hS (lv_sub hl [1, 2, 3, 4, 5, 6] rfl) hcb hsb
  · have hw := mm_in hc hw
    refine x_aload cx dJ1_putVal_10 (lv_at hl 0 rfl) ?_
    obtain ⟨a38, hr38, hk38, hw⟩ := hw
    refine x_alen cx hR hr38 6 hk38 (by decide) dJ1_putVal_12 ?_
    refine lv_dup hx hb dJ1_putVal_13 rfl ?_
    refine lv_topi (fun v39 hv39 => ?_)
    have hw := hw v39 hv39
    refine lv_istore (i := 8) (lv' := [(8, .int v39), (6, xv E (fr σ th 2)), (0, xv E (some th)), (1, .int x1), (2, xv E x2), (3, xv E x3), (4, .int x4), (5, .int x5)]) hx hb dJ1_putVal_14 hl (by decide) rfl (fun ls hl => ?_)
    refine lv_if_ne (tgt := 29) hx hb dJ1_putVal_16 (by decide) (fun hc => ?_) (fun hc => ?_)
    · have hw := mm_in hc hw
      exact BJ1_putValL_29 cx _ _ _ _ _ _ _ _ _ _ _ hw _ _ _ _ _ hR hS (lv_sub hl [2, 3, 4, 5, 6, 7, 1, 0] rfl) hcb hsb
    · have hw := mm_ip hc hw
      exact BJ1_putValL_19 cx _ _ _ _ _ _ _ _ _ hw _ _ _ _ _ hR hS (lv_sub hl [2, 3, 4, 5, 6, 7] rfl) hcb hsb
-- J1_putL
theorem CJ1_putValL_J1_152 {l : Launch} {p : Program} {e : Env} {R : Room} {s : State} {m : MethodId} {args : Array Value} {below : List Frame} {meth : Method} {c : Code} {H : Heap} {locs : List Loc} {cells slots : Nat} {Qz : State → Prop} {cc : ByteArray} {nL : Nat} {ret : Option FieldType} {E : xx_E} {σ : XS} {pc : Nat} {ls : Array Slot} {rest : List Value} {th : Nat} {x1 : Int32} {x2 : Option Nat} {x3 : Option Nat} {x4 : Int32} {x5 : Int32} {k n : Nat} (cx : xx_X "java/util/HashMap" cc nL ret E p s m args meth c) (hR0 : xR E σ H) (hS0 : va_S (xA E) s.heap H locs) {r0 : Option Nat} (hr : r0 = some th) (hk : kd σ th = 18) {Qf : Option Nat → XS → Prop} (hw : wJ1_putValL th x1 x2 x3 x4 x5 k n σ Qf) (hR : (({ frames := 5, cells := k, slots := n, locals := 200 } : Room)).frames + 1 ≤ R.frames ∧ 8 + (13 + 11) + (({ frames := 5, cells := k, slots := n, locals := 200 } : Room)).locals ≤ R.locals) (hrest : rest.length ≤ 4) (hsize : ls.size = nL) (hf : cells + k ≤ R.cells ∧ slots + n ≤ R.slots) (hdg : decode cc pc = .ok (.invokevirtual 152, 3))
    (kk : ∀ (r : Option Nat) (σ1 : XS) (H1 : Heap) (locs1 : List Loc), Qf r σ1 → xR E σ1 H1 → va_S (xA E) s.heap H1 locs1 → W p l e R s m args below meth c H1 locs1 (cells + k) (slots + n) Qz (F0 m (pc + 3) ls (xv E r :: rest))) : W p l e R s m args below meth c H locs cells slots Qz (F0 m pc ls (.int x5 :: .int x4 :: xv E x3 :: xv E x2 :: .int x1 :: xv E r0 :: rest)) := by
  subst hr
  obtain ⟨hx, hb, hml, hown, hts, hrt, hlk, hK, hZ⟩ := id cx
  exact x_gor (va_runU (C := "java/util/LinkedHashMap") (owner := "java/util/HashMap") (As := [.int x1, xv E x2, xv E x3, .int x4, .int x5]) (rest := rest) (x_fix cx) (MJ1_putValL l E th x1 x2 x3 x4 x5 k n σ Qf hw) (va_cwU (C := "java/util/LinkedHashMap") (owner := "java/util/HashMap") (x := ⟨"java/util/HashMap", "putVal", "(ILjava/lang/Object;Ljava/lang/Object;ZZ)Ljava/lang/Object;"⟩) 5 hts (lw_app (xin5 q1456 q1459 q1460 q1457 q159) (lw_meth q1461)) rfl rfl rfl rfl (by decide +kernel) hR) (x_preV cx hR0 hS0 hk (by decide) (q := (RJ2, TJ2, 12)) rfl rfl [.int x1, xv E x2, xv E x3, .int x4, .int x5]) rfl rfl hsize rfl (lv_room (xroom hrest)) hdg hf) hS0 kk
def wJ1_putL (th : Nat) (x1 : Option Nat) (x2 : Option Nat) (bc : Nat) (bs : Nat) (σ : XS) (Q : Option Nat → XS → Prop) : Prop :=
  wJ1_hash x1 σ (fun r1 s1 => kd s1 th = 18 ∧ (∃ k4 n4 : Nat, k4 ≤ bc ∧ n4 ≤ bs ∧ (wJ1_putValL th r1 x1 x2 (0 : Int32) (1 : Int32) k4 n4 s1 (fun r2 s2 => Q r2 s2))))
set_option maxHeartbeats 4000000 in
theorem MJ1_putL (l : Launch) (E : xx_E) (th : Nat) (x1 : Option Nat) (x2 : Option Nat) (bc : Nat) (bs : Nat) (σ : XS) (Q : Option Nat → XS → Prop) (hw : wJ1_putL th x1 x2 bc bs σ Q) : xx_Mr l yJ1_put (ws_ yJ1_put cJ1_put 3 (some (.object "java/lang/Object"))) ({ frames := 9, cells := bc, slots := bs, locals := 360 } : Room) E [xv E (some th), xv E x1, xv E x2] σ Q bc bs := by
  refine x_of (own := "java/util/HashMap") (by decide +kernel) rfl ?_
  intro p e s m args below meth c cx hR ha hnm
  refine x_entry [xv E (some th), xv E x1, xv E x2] 3 [(0, xv E (some th)), (1, xv E x1), (2, xv E x2)] ha (by simp [lg_sl, xv_cat, vc_i, vc_j, vc_f]) (by simp [lv_args, xv_cat, vc_i, vc_j, vc_f]) (fun ls hl => ?_)
  have hS : va_S (xA E) s.heap s.heap [] := va_S.rf
  have hcb : 0 + bc ≤ bc := Nat.le_of_eq (Nat.zero_add _)
  have hsb : 0 + bs ≤ bs := Nat.le_of_eq (Nat.zero_add _)
  unfold wJ1_putL at hw
  obtain ⟨hx, hb, hml, hown, hts, hrt, hlk, hMK, hZ⟩ := id cx
  refine x_aload_n cx dJ1_put_0 rfl (lv_at hl 0 rfl) ?_
  refine x_aload_n cx dJ1_put_1 rfl (lv_at hl 1 rfl) ?_
  refine CJ1_hash_J1_149 cx hR hS  hw ⟨Nat.le_of_ble_eq_true rfl, Nat.le_of_ble_eq_true rfl⟩ (Nat.le_of_ble_eq_true rfl) hl.1 ⟨by dsimp only; omega, by dsimp only; omega⟩ dJ1_put_2 (fun r1 s1 H locs hw hR hS => ?_)
  refine x_aload_n cx dJ1_put_5 rfl (lv_at hl 1 rfl) ?_
  refine x_aload_n cx dJ1_put_6 rfl (lv_at hl 2 rfl) ?_
  refine lv_iconst (v := (0 : Int32)) hx hb dJ1_put_7 (by decide) ?_
  refine lv_iconst (v := (1 : Int32)) hx hb dJ1_put_8 (by decide) ?_
  obtain ⟨hk3, hw⟩ := hw
  obtain ⟨k4, n4, hb1, hb2, hw⟩ := hw
  refine CJ1_putValL_J1_152 cx hR hS rfl hk3 hw ⟨Nat.le_of_ble_eq_true rfl, Nat.le_of_ble_eq_true rfl⟩ (Nat.le_of_ble_eq_true rfl) hl.1 ⟨by dsimp only; omega, by dsimp only; omega⟩ dJ1_put_9 (fun r2 s2 H locs hw hR hS => ?_)
  have hcb := xadd hb1 hcb
  have hsb := xadd hb2 hsb
  exact x_aret cx (by first | exact Or.inl ⟨_, rfl⟩ | exact Or.inr ⟨_, rfl⟩) hR hS (xle hcb) (xle hsb) hw dJ1_put_12
-- X12_init
theorem xp_X12_12_12 {l : Launch} {p : Program} {e : Env} {R : Room} {s : State} {m : MethodId} {args : Array Value} {below : List Frame} {meth : Method} {c : Code} {H : Heap} {locs : List Loc} {cells slots : Nat} {Qz : State → Prop} {cc : ByteArray} {nL : Nat} {ret : Option FieldType} {E : xx_E} {σ : XS} {pc : Nat} {ls : Array Slot} {rest : List Value} (cx : xx_X "StruckCounts$Told" cc nL ret E p s m args meth c) (hR : xR E σ H) (hS0 : va_S (xA E) s.heap H locs) {a : Nat} {r : Option Nat} {v : Option Nat} (hr : r = some a) (ha : xK ≤ a) (hk : kd σ a = 12) (hini : meth.name = "<init>") (hdg : decode cc pc = .ok (.putfield 12, 3)) (kk : ∀ (H1 : Heap) (locs1 : List Loc), xR E (pfr σ a 2 v) H1 → va_S (xA E) s.heap H1 locs1 → W p l e R s m args below meth c H1 locs1 cells slots Qz (F0 m (pc + 3) ls rest)) : W p l e R s m args below meth c H locs cells slots Qz (F0 m pc ls (xv E v :: xv E r :: rest)) :=
  x_put (ci := 11) cx hR hS0 hr ha hk (by decide) rfl in_X12 tyX12 tyX12_ok nmX12 2 (by decide) (Or.inr (Or.inl ⟨q1810, rfl, hini, rfl⟩)) (fun _ h => h) (by cases v <;> rfl) (by cases v <;> rfl) (xput_r rfl) hdg kk
theorem xp_X12_18_12 {l : Launch} {p : Program} {e : Env} {R : Room} {s : State} {m : MethodId} {args : Array Value} {below : List Frame} {meth : Method} {c : Code} {H : Heap} {locs : List Loc} {cells slots : Nat} {Qz : State → Prop} {cc : ByteArray} {nL : Nat} {ret : Option FieldType} {E : xx_E} {σ : XS} {pc : Nat} {ls : Array Slot} {rest : List Value} (cx : xx_X "StruckCounts$Told" cc nL ret E p s m args meth c) (hR : xR E σ H) (hS0 : va_S (xA E) s.heap H locs) {a : Nat} {r : Option Nat} {v : Option Nat} (hr : r = some a) (ha : xK ≤ a) (hk : kd σ a = 12) (hini : meth.name = "<init>") (hdg : decode cc pc = .ok (.putfield 18, 3)) (kk : ∀ (H1 : Heap) (locs1 : List Loc), xR E (pfr σ a 3 v) H1 → va_S (xA E) s.heap H1 locs1 → W p l e R s m args below meth c H1 locs1 cells slots Qz (F0 m (pc + 3) ls rest)) : W p l e R s m args below meth c H locs cells slots Qz (F0 m pc ls (xv E v :: xv E r :: rest)) :=
  x_put (ci := 11) cx hR hS0 hr ha hk (by decide) rfl in_X12 tyX12 tyX12_ok nmX12 3 (by decide) (Or.inr (Or.inl ⟨q1814, rfl, hini, rfl⟩)) (fun _ h => h) (by cases v <;> rfl) (by cases v <;> rfl) (xput_r rfl) hdg kk
theorem xp_X12_21_12 {l : Launch} {p : Program} {e : Env} {R : Room} {s : State} {m : MethodId} {args : Array Value} {below : List Frame} {meth : Method} {c : Code} {H : Heap} {locs : List Loc} {cells slots : Nat} {Qz : State → Prop} {cc : ByteArray} {nL : Nat} {ret : Option FieldType} {E : xx_E} {σ : XS} {pc : Nat} {ls : Array Slot} {rest : List Value} (cx : xx_X "StruckCounts$Told" cc nL ret E p s m args meth c) (hR : xR E σ H) (hS0 : va_S (xA E) s.heap H locs) {a : Nat} {r : Option Nat} {v : Int32} (hr : r = some a) (ha : xK ≤ a) (hk : kd σ a = 12) (hini : meth.name = "<init>") (hdg : decode cc pc = .ok (.putfield 21, 3)) (kk : ∀ (H1 : Heap) (locs1 : List Loc), xR E (pfi σ a 0 v) H1 → va_S (xA E) s.heap H1 locs1 → W p l e R s m args below meth c H1 locs1 cells slots Qz (F0 m (pc + 3) ls rest)) : W p l e R s m args below meth c H locs cells slots Qz (F0 m pc ls (.int v :: xv E r :: rest)) :=
  x_put (ci := 11) cx hR hS0 hr ha hk (by decide) rfl in_X12 tyX12 tyX12_ok nmX12 0 (by decide) (Or.inr (Or.inl ⟨q1806, rfl, hini, rfl⟩)) (fun _ h => h) rfl rfl (xput_i rfl) hdg kk
theorem xp_X12_25_12 {l : Launch} {p : Program} {e : Env} {R : Room} {s : State} {m : MethodId} {args : Array Value} {below : List Frame} {meth : Method} {c : Code} {H : Heap} {locs : List Loc} {cells slots : Nat} {Qz : State → Prop} {cc : ByteArray} {nL : Nat} {ret : Option FieldType} {E : xx_E} {σ : XS} {pc : Nat} {ls : Array Slot} {rest : List Value} (cx : xx_X "StruckCounts$Told" cc nL ret E p s m args meth c) (hR : xR E σ H) (hS0 : va_S (xA E) s.heap H locs) {a : Nat} {r : Option Nat} {v : Int32} (hr : r = some a) (ha : xK ≤ a) (hk : kd σ a = 12) (hini : meth.name = "<init>") (hdg : decode cc pc = .ok (.putfield 25, 3)) (kk : ∀ (H1 : Heap) (locs1 : List Loc), xR E (pfi σ a 1 v) H1 → va_S (xA E) s.heap H1 locs1 → W p l e R s m args below meth c H1 locs1 cells slots Qz (F0 m (pc + 3) ls rest)) : W p l e R s m args below meth c H locs cells slots Qz (F0 m pc ls (.int v :: xv E r :: rest)) :=
  x_put (ci := 11) cx hR hS0 hr ha hk (by decide) rfl in_X12 tyX12 tyX12_ok nmX12 1 (by decide) (Or.inr (Or.inl ⟨q1808, rfl, hini, rfl⟩)) (fun _ h => h) rfl rfl (xput_i rfl) hdg kk
theorem xn_X12_7 {l : Launch} {p : Program} {e : Env} {R : Room} {s : State} {m : MethodId} {args : Array Value} {below : List Frame} {meth : Method} {c : Code} {H : Heap} {locs : List Loc} {cells slots : Nat} {Qz : State → Prop} {cc : ByteArray} {nL : Nat} {ret : Option FieldType} {E : xx_E} {σ : XS} {pc : Nat} {ls : Array Slot} {rest : List Value} (cx : xx_X "StruckCounts$Told" cc nL ret E p s m args meth c) (hR : xR E σ H) (hS0 : va_S (xA E) s.heap H locs) (hcells : cells + 1 ≤ R.cells) (hslots : slots + 3 ≤ R.slots) (hdg : decode cc pc = .ok (.new 7, 3)) (kk : ∀ (H1 : Heap), xR E (xal σ 16 0) H1 → va_S (xA E) s.heap H1 locs → W p l e R s m args below meth c H1 locs (cells + 1) (slots + 3) Qz (F0 m (pc + 3) ls (xv E (some (xn σ)) :: rest))) : W p l e R s m args below meth c H locs cells slots Qz (F0 m pc ls rest) :=
  x_new cx hR hS0 15 (by decide) rfl in_J7 tyJ7 tyJ7_ok q1804 q299 q165 (fun j hj => by
    match j, hj with
    | 0, _ => exact xnew_i rfl
    | 1, _ => exact xnew_r rfl
    | 2, _ => exact xnew_i rfl) hcells hslots hdg kk
theorem CJ7_init_X12_9 {l : Launch} {p : Program} {e : Env} {R : Room} {s : State} {m : MethodId} {args : Array Value} {below : List Frame} {meth : Method} {c : Code} {H : Heap} {locs : List Loc} {cells slots : Nat} {Qz : State → Prop} {cc : ByteArray} {nL : Nat} {ret : Option FieldType} {E : xx_E} {σ : XS} {pc : Nat} {ls : Array Slot} {rest : List Value} {th : Nat} {x1 : Int32} {k n : Nat} (cx : xx_X "StruckCounts$Told" cc nL ret E p s m args meth c) (hR0 : xR E σ H) (hS0 : va_S (xA E) s.heap H locs) {r0 : Option Nat} (hr : r0 = some th) (hk : kd σ th = 16) {Qf : XS → Prop} (hw : wJ7_init th x1 k n σ Qf) (hR : (({ frames := 3, cells := k, slots := n, locals := 120 } : Room)).frames + 1 ≤ R.frames ∧ 8 + (2 + 11) + (({ frames := 3, cells := k, slots := n, locals := 120 } : Room)).locals ≤ R.locals) (hrest : rest.length ≤ 4) (hsize : ls.size = nL) (hf : cells + k ≤ R.cells ∧ slots + n ≤ R.slots) (hdg : decode cc pc = .ok (.invokespecial 9, 3))
    (kk : ∀ (σ1 : XS) (H1 : Heap) (locs1 : List Loc), Qf σ1 → xR E σ1 H1 → va_S (xA E) s.heap H1 locs1 → W p l e R s m args below meth c H1 locs1 (cells + k) (slots + n) Qz (F0 m (pc + 3) ls rest)) : W p l e R s m args below meth c H locs cells slots Qz (F0 m pc ls (.int x1 :: xv E r0 :: rest)) := by
  subst hr
  obtain ⟨hx, hb, hml, hown, hts, hrt, hlk, hK, hZ⟩ := id cx
  exact x_gov (va_runI (As := [.int x1]) (rest := rest) (x_fix cx) (MJ7_init l E th x1 k n σ Qf hw) (cwI 1 hts (lw_meth q302) rfl rfl rfl (hts _ q165) (hts _ q1805) (hts _ q301) rfl (by decide +kernel) hR) ⟨xblind, x_pre cx hR0 hS0 (.ref (xr E th) :: [.int x1])⟩ rfl rfl hsize rfl (lv_room (xroom hrest)) hdg hf) hS0 kk
def wX12_init (th : Nat) (x1 : Int32) (x2 : Int32) (bc : Nat) (bs : Nat) (σ : XS) (Q : XS → Prop) : Prop :=
  1 ≤ bc ∧ 3 ≤ bs ∧ (kd (xal σ 16 0) (xn σ) = 16 ∧ (∃ k3 n3 : Nat, k3 ≤ (bc - 1) ∧ n3 ≤ (bs - 3) ∧ (wJ7_init (xn σ) (4 : Int32) k3 n3 (xal σ 16 0) (fun s1 => kd s1 th = 12 ∧ (xK ≤ th ∧ (1 ≤ ((bc - 1) - k3) ∧ 3 ≤ ((bs - 3) - n3) ∧ (kd (xal (pfr s1 th 2 (some (xn σ))) 16 0) (xn (pfr s1 th 2 (some (xn σ)))) = 16 ∧ (∃ k7 n7 : Nat, k7 ≤ (((bc - 1) - k3) - 1) ∧ n7 ≤ (((bs - 3) - n3) - 3) ∧ (wJ7_init (xn (pfr s1 th 2 (some (xn σ)))) (2 : Int32) k7 n7 (xal (pfr s1 th 2 (some (xn σ))) 16 0) (fun s5 => kd s5 th = 12 ∧ (Q (pfi (pfi (pfr s5 th 3 (some (xn (pfr s1 th 2 (some (xn σ)))))) th 0 x1) th 1 x2))))))))))))
set_option maxHeartbeats 4000000 in
theorem MX12_init (l : Launch) (E : xx_E) (th : Nat) (x1 : Int32) (x2 : Int32) (bc : Nat) (bs : Nat) (σ : XS) (Q : XS → Prop) (hw : wX12_init th x1 x2 bc bs σ Q) : xx_Mv l yX12_init (ws_ yX12_init cX12_init 3 none) ({ frames := 4, cells := bc, slots := bs, locals := 160 } : Room) E [xv E (some th), .int x1, .int x2] σ Q bc bs := by
  refine x_of (own := "StruckCounts$Told") (by decide +kernel) rfl ?_
  intro p e s m args below meth c cx hR ha hnm
  refine x_entry [xv E (some th), .int x1, .int x2] 3 [(0, xv E (some th)), (1, .int x1), (2, .int x2)] ha (by simp [lg_sl, xv_cat, vc_i, vc_j, vc_f]) (by simp [lv_args, xv_cat, vc_i, vc_j, vc_f]) (fun ls hl => ?_)
  have hS : va_S (xA E) s.heap s.heap [] := va_S.rf
  have hcb : 0 + bc ≤ bc := Nat.le_of_eq (Nat.zero_add _)
  have hsb : 0 + bs ≤ bs := Nat.le_of_eq (Nat.zero_add _)
  have hini : meth.name = "<init>" := hnm
  unfold wX12_init at hw
  obtain ⟨hx, hb, hml, hown, hts, hrt, hlk, hMK, hZ⟩ := id cx
  refine x_aload_n cx dX12_init_0 rfl (lv_at hl 0 rfl) ?_
  refine x_objinit cx hl.1 rfl q1803 (xroom12 (Nat.le_of_ble_eq_true rfl) (by dsimp only; omega)) (by dsimp only; omega) dX12_init_1 ?_
  refine x_aload_n cx dX12_init_4 rfl (lv_at hl 0 rfl) ?_
  obtain ⟨hb1, hb2, hw⟩ := hw
  refine xn_X12_7 cx hR hS (by dsimp only; omega) (by dsimp only; omega) dX12_init_5 (fun H hR hS => ?_)
  have hcb := xadd hb1 hcb
  have hsb := xadd hb2 hsb
  refine lv_dup hx hb dX12_init_8 (xv_cat _ _) ?_
  refine lv_iconst (v := (4 : Int32)) hx hb dX12_init_9 (by decide) ?_
  obtain ⟨hk2, hw⟩ := hw
  obtain ⟨k3, n3, hb1, hb2, hw⟩ := hw
  refine CJ7_init_X12_9 cx hR hS rfl hk2 hw ⟨Nat.le_of_ble_eq_true rfl, Nat.le_of_ble_eq_true rfl⟩ (Nat.le_of_ble_eq_true rfl) hl.1 ⟨by dsimp only; omega, by dsimp only; omega⟩ dX12_init_10 (fun s1 H locs hw hR hS => ?_)
  have hcb := xadd hb1 hcb
  have hsb := xadd hb2 hsb
  obtain ⟨hk4, hw⟩ := hw
  obtain ⟨hge_th, hw⟩ := hw
  refine xp_X12_12_12 (v := (some (xn σ))) cx hR hS rfl hge_th hk4 hini dX12_init_13 (fun H locs hR hS => ?_)
  refine x_aload_n cx dX12_init_16 rfl (lv_at hl 0 rfl) ?_
  obtain ⟨hb1, hb2, hw⟩ := hw
  refine xn_X12_7 cx hR hS (by dsimp only; omega) (by dsimp only; omega) dX12_init_17 (fun H hR hS => ?_)
  have hcb := xadd hb1 hcb
  have hsb := xadd hb2 hsb
  refine lv_dup hx hb dX12_init_20 (xv_cat _ _) ?_
  refine lv_iconst (v := (2 : Int32)) hx hb dX12_init_21 (by decide) ?_
  obtain ⟨hk6, hw⟩ := hw
  obtain ⟨k7, n7, hb1, hb2, hw⟩ := hw
  refine CJ7_init_X12_9 cx hR hS rfl hk6 hw ⟨Nat.le_of_ble_eq_true rfl, Nat.le_of_ble_eq_true rfl⟩ (Nat.le_of_ble_eq_true rfl) hl.1 ⟨by dsimp only; omega, by dsimp only; omega⟩ dX12_init_22 (fun s5 H locs hw hR hS => ?_)
  have hcb := xadd hb1 hcb
  have hsb := xadd hb2 hsb
  obtain ⟨hk8, hw⟩ := hw
  refine xp_X12_18_12 (v := (some (xn (pfr s1 th 2 (some (xn σ)))))) cx hR hS rfl hge_th hk8 hini dX12_init_25 (fun H locs hR hS => ?_)
  refine x_aload_n cx dX12_init_28 rfl (lv_at hl 0 rfl) ?_
  refine lv_iload_n hx hb dX12_init_29 rfl (lv_at hl 1 rfl) ?_
  refine xp_X12_21_12 (v := x1) cx hR hS rfl hge_th hk8 hini dX12_init_30 (fun H locs hR hS => ?_)
  refine x_aload_n cx dX12_init_33 rfl (lv_at hl 0 rfl) ?_
  refine lv_iload_n hx hb dX12_init_34 rfl (lv_at hl 2 rfl) ?_
  refine xp_X12_25_12 (v := x2) cx hR hS rfl hge_th hk8 hini dX12_init_35 (fun H locs hR hS => ?_)
  exact x_vret cx hR hS (xle hcb) (xle hsb) hw dX12_init_38
-- X1_hasWorld
def wX1_hasWorld_2 (d : Nat) (Q : Int32 → XS → Prop) (K2 : Nat → Int32 → XS → Prop) (th : Nat) (x1 : Int32) (σ : XS) : Prop :=
  kd σ th = 2 ∧ (wX1_sets th σ (fun r1 s1 => if r1 ≤ x1 then (Q (0 : Int32) s1) else (kd s1 th = 2 ∧ (wX1_mayBe d th x1 s1 (fun r3 s3 => if r3 = 0 then (∀ v5 : Int32, v5 = x1 + (1 : Int32) → K2 th v5 s3) else (Q (1 : Int32) s3))))))
set_option maxHeartbeats 4000000 in
theorem BX1_hasWorld_2 {l : Launch} {p : Program} {e : Env} {s : State} {m : MethodId} {args : Array Value} {below : List Frame} {meth : Method} {c : Code} {E : xx_E} {Q : Int32 → XS → Prop} {K2 : Nat → Int32 → XS → Prop} (d : Nat) (cx : xx_X "StruckCounts$Suit" cX1_hasWorld 2 (some .boolean) E p s m args meth c) (hK2 : ∀ (th : Nat) (x1 : Int32) (σ : XS), K2 th x1 σ → x_T p l e ({ frames := (6 + 3 * d), cells := 0, slots := 0, locals := 40 * (6 + 3 * d) } : Room) s m args below meth c E (va_Qi Q (fun σ' t => xW E σ' t) (xA E)) 0 0 2 2 0 0 σ [(0, xv E (some th)), (1, .int x1)] []) : ∀ (th : Nat) (x1 : Int32) (σ : XS), wX1_hasWorld_2 d Q K2 th x1 σ → x_T p l e ({ frames := (6 + 3 * d), cells := 0, slots := 0, locals := 40 * (6 + 3 * d) } : Room) s m args below meth c E (va_Qi Q (fun σ' t => xW E σ' t) (xA E)) 0 0 2 2 0 0 σ [(0, xv E (some th)), (1, .int x1)] [] := by
  intro th x1 σ hw H locs ls cells slots hR hS hl hcb hsb
  unfold wX1_hasWorld_2 at hw
  obtain ⟨hx, hb, hml, hown, hts, hrt, hlk, hMK, hZ⟩ := id cx
  refine lv_iload_n hx hb dX1_hasWorld_2 rfl (lv_at hl 1 rfl) ?_
  refine x_aload_n cx dX1_hasWorld_3 rfl (lv_at hl 0 rfl) ?_
  obtain ⟨hk2, hw⟩ := hw
  refine CX1_sets_X1_69 cx hR hS rfl hk2 hw (by constructor <;> dsimp only <;> omega) (Nat.le_of_ble_eq_true rfl) hl.1 ⟨by dsimp only; omega, by dsimp only; omega⟩ dX1_hasWorld_4 (fun r1 s1 H locs hw hR hS => ?_)
  refine lv_icmp_ge (tgt := 26) hx hb dX1_hasWorld_7 (by decide) (fun hc => ?_) (fun hc => ?_)
  · have hw := mm_ip hc hw
    refine lv_iconst (v := (0 : Int32)) hx hb dX1_hasWorld_26 (by decide) ?_
    exact x_nret cx hR hS (xle hcb) (xle hsb) (zb_nar (Or.inl rfl)) hw dX1_hasWorld_27
  · have hw := mm_in hc hw
    refine x_aload_n cx dX1_hasWorld_10 rfl (lv_at hl 0 rfl) ?_
    refine lv_iload_n hx hb dX1_hasWorld_11 rfl (lv_at hl 1 rfl) ?_
    obtain ⟨hk4, hw⟩ := hw
    refine CX1_mayBe_X1_72 d cx hR hS rfl hk4 hw (by constructor <;> dsimp only <;> omega) (Nat.le_of_ble_eq_true rfl) hl.1 ⟨by dsimp only; omega, by dsimp only; omega⟩ dX1_hasWorld_12 (fun r3 s3 H locs hw hR hS => ?_)
    refine lv_if_eq (tgt := 20) hx hb dX1_hasWorld_15 (by decide) (fun hc => ?_) (fun hc => ?_)
    · have hw := mm_ip hc hw
      obtain ⟨v5, hv5⟩ : ∃ v : Int32, v = x1 + (1 : Int32) := ⟨_, rfl⟩
      have hw := hw v5 hv5
      refine lv_iinc (v := v5) (lv' := [(1, .int v5), (0, xv E (some th))]) hx hb dX1_hasWorld_20 hl (k := 1) rfl (by rw [hv5]; rfl) (by decide) (by simp [xv_cat]) (fun ls hl => ?_)
      refine lv_goto (tgt := 2) hx hb dX1_hasWorld_23 (by decide) ?_
      exact hK2 _ _ _ hw _ _ _ _ _ hR hS (lv_sub hl [1, 0] rfl) hcb hsb
    · have hw := mm_in hc hw
      refine lv_iconst (v := (1 : Int32)) hx hb dX1_hasWorld_18 (by decide) ?_
      exact x_nret cx hR hS (xle hcb) (xle hsb) (zb_nar (Or.inr rfl)) hw dX1_hasWorld_19
theorem LX1_hasWorld_2 {l : Launch} {p : Program} {e : Env} {s : State} {m : MethodId} {args : Array Value} {below : List Frame} {meth : Method} {c : Code} {E : xx_E} {Q : Int32 → XS → Prop} (d : Nat) (cx : xx_X "StruckCounts$Suit" cX1_hasWorld 2 (some .boolean) E p s m args meth c) : ∀ (th : Nat) (x1 : Int32) (σ : XS), lp3F (wX1_hasWorld_2 d Q) th x1 σ → x_T p l e ({ frames := (6 + 3 * d), cells := 0, slots := 0, locals := 40 * (6 + 3 * d) } : Room) s m args below meth c E (va_Qi Q (fun σ' t => xW E σ' t) (xA E)) 0 0 2 2 0 0 σ [(0, xv E (some th)), (1, .int x1)] [] :=
  lp3F_of (fun K hK => BX1_hasWorld_2 d cx hK)
def wX1_hasWorld (d : Nat) (th : Nat) (σ : XS) (Q : Int32 → XS → Prop) : Prop :=
  lp3F (wX1_hasWorld_2 d Q) th (0 : Int32) σ
set_option maxHeartbeats 4000000 in
theorem MX1_hasWorld (l : Launch) (E : xx_E) (d : Nat) (th : Nat) (σ : XS) (Q : Int32 → XS → Prop) (hw : wX1_hasWorld d th σ Q) : xx_Mi l yX1_hasWorld (ws_ yX1_hasWorld cX1_hasWorld 2 (some .boolean)) ({ frames := (6 + 3 * d), cells := 0, slots := 0, locals := 40 * (6 + 3 * d) } : Room) E [xv E (some th)] σ Q 0 0 := by
  refine x_of (own := "StruckCounts$Suit") (by decide +kernel) rfl ?_
  intro p e s m args below meth c cx hR ha hnm
  refine x_entry [xv E (some th)] 2 [(0, xv E (some th))] ha (by simp [lg_sl, xv_cat, vc_i, vc_j, vc_f]) (by simp [lv_args, xv_cat, vc_i, vc_j, vc_f]) (fun ls hl => ?_)
  have hS : va_S (xA E) s.heap s.heap [] := va_S.rf
  have hcb : 0 + 0 ≤ 0 := Nat.le_of_eq (Nat.zero_add _)
  have hsb : 0 + 0 ≤ 0 := Nat.le_of_eq (Nat.zero_add _)
  unfold wX1_hasWorld at hw
  obtain ⟨hx, hb, hml, hown, hts, hrt, hlk, hMK, hZ⟩ := id cx
  refine lv_iconst (v := (0 : Int32)) hx hb dX1_hasWorld_0 (by decide) ?_
  refine lv_istore_n (i := 1) (lv' := [(1, .int (0 : Int32)), (0, xv E (some th))]) hx hb dX1_hasWorld_1 rfl hl (by decide) (by simp [xv_cat]) (fun ls hl => ?_)
  exact LX1_hasWorld_2 d cx _ _ _ hw _ _ _ _ _ hR hS (lv_sub hl [1, 0] rfl) hcb hsb
-- X0_fails
theorem xg_X0_108_5 {l : Launch} {p : Program} {e : Env} {R : Room} {s : State} {m : MethodId} {args : Array Value} {below : List Frame} {meth : Method} {c : Code} {H : Heap} {locs : List Loc} {cells slots : Nat} {Qz : State → Prop} {cc : ByteArray} {nL : Nat} {ret : Option FieldType} {E : xx_E} {σ : XS} {pc : Nat} {ls : Array Slot} {rest : List Value} (cx : xx_X "StruckCounts" cc nL ret E p s m args meth c) (hR : xR E σ H) {a : Nat} {r : Option Nat} (hr : r = some a) (hk : kd σ a = 5) (hdg : decode cc pc = .ok (.getfield 108, 3)) (kk : W p l e R s m args below meth c H locs cells slots Qz (F0 m (pc + 3) ls (.int (fi σ a 6) :: rest))) : W p l e R s m args below meth c H locs cells slots Qz (F0 m pc ls (xv E r :: rest)) :=
  x_getN (ci := 4) cx hR hr hk (by decide) rfl in_X5 6 (by decide) (xx_nf_mem (i := 21) rfl) (fun _ h => h) (v := .int (fi σ a 6)) rfl hdg kk
theorem xg_X0_113_5 {l : Launch} {p : Program} {e : Env} {R : Room} {s : State} {m : MethodId} {args : Array Value} {below : List Frame} {meth : Method} {c : Code} {H : Heap} {locs : List Loc} {cells slots : Nat} {Qz : State → Prop} {cc : ByteArray} {nL : Nat} {ret : Option FieldType} {E : xx_E} {σ : XS} {pc : Nat} {ls : Array Slot} {rest : List Value} (cx : xx_X "StruckCounts" cc nL ret E p s m args meth c) (hR : xR E σ H) {a : Nat} {r : Option Nat} (hr : r = some a) (hk : kd σ a = 5) (hdg : decode cc pc = .ok (.getfield 113, 3)) (kk : W p l e R s m args below meth c H locs cells slots Qz (F0 m (pc + 3) ls (.int (fi σ a 7) :: rest))) : W p l e R s m args below meth c H locs cells slots Qz (F0 m pc ls (xv E r :: rest)) :=
  x_getN (ci := 4) cx hR hr hk (by decide) rfl in_X5 7 (by decide) (xx_nf_mem (i := 22) rfl) (fun _ h => h) (v := .int (fi σ a 7)) rfl hdg kk
def wX0_fails (th : Nat) (x1 : Option Nat) (σ : XS) (Q : Int32 → XS → Prop) : Prop :=
  oc σ x1 5 (fun a1 => kd σ th = 1 ∧ (xK ≤ th ∧ (Q (-1 : Int32) (pfi (pfi σ th 2 (fi σ a1 6)) th 3 (fi (pfi σ th 2 (fi σ a1 6)) a1 7)))))
set_option maxHeartbeats 4000000 in
theorem MX0_fails (l : Launch) (E : xx_E) (th : Nat) (x1 : Option Nat) (σ : XS) (Q : Int32 → XS → Prop) (hw : wX0_fails th x1 σ Q) : xx_Mi l yX0_fails (ws_ yX0_fails cX0_fails 2 (some .int)) ({ frames := 0, cells := 0, slots := 0, locals := 0 } : Room) E [xv E (some th), xv E x1] σ Q 0 0 := by
  refine x_of (own := "StruckCounts") (by decide +kernel) rfl ?_
  intro p e s m args below meth c cx hR ha hnm
  refine x_entry [xv E (some th), xv E x1] 2 [(0, xv E (some th)), (1, xv E x1)] ha (by simp [lg_sl, xv_cat, vc_i, vc_j, vc_f]) (by simp [lv_args, xv_cat, vc_i, vc_j, vc_f]) (fun ls hl => ?_)
  have hS : va_S (xA E) s.heap s.heap [] := va_S.rf
  have hcb : 0 + 0 ≤ 0 := Nat.le_of_eq (Nat.zero_add _)
  have hsb : 0 + 0 ≤ 0 := Nat.le_of_eq (Nat.zero_add _)
  unfold wX0_fails at hw
  obtain ⟨hx, hb, hml, hown, hts, hrt, hlk, hMK, hZ⟩ := id cx
  refine x_aload_n cx dX0_fails_0 rfl (lv_at hl 0 rfl) ?_
  refine x_aload_n cx dX0_fails_1 rfl (lv_at hl 1 rfl) ?_
  obtain ⟨a1, hr1, hk1, hw⟩ := hw
  refine xg_X0_108_5 cx hR hr1 hk1 dX0_fails_2 ?_
  obtain ⟨hk2, hw⟩ := hw
  obtain ⟨hge_th, hw⟩ := hw
  refine xp_X0_100_1 (v := (fi σ a1 6)) cx hR hS rfl hge_th hk2 dX0_fails_5 (fun H locs hR hS => ?_)
  refine x_aload_n cx dX0_fails_8 rfl (lv_at hl 0 rfl) ?_
  refine x_aload_n cx dX0_fails_9 rfl (lv_at hl 1 rfl) ?_
  refine xg_X0_113_5 cx hR hr1 hk1 dX0_fails_10 ?_
  refine xp_X0_13_1 (v := (fi (pfi σ th 2 (fi σ a1 6)) a1 7)) cx hR hS rfl hge_th hk2 dX0_fails_13 (fun H locs hR hS => ?_)
  refine lv_iconst (v := (-1 : Int32)) hx hb dX0_fails_16 (by decide) ?_
  exact x_iret cx hR hS (xle hcb) (xle hsb) hw dX0_fails_17
-- X0_fault
theorem xg_X0_13_1 {l : Launch} {p : Program} {e : Env} {R : Room} {s : State} {m : MethodId} {args : Array Value} {below : List Frame} {meth : Method} {c : Code} {H : Heap} {locs : List Loc} {cells slots : Nat} {Qz : State → Prop} {cc : ByteArray} {nL : Nat} {ret : Option FieldType} {E : xx_E} {σ : XS} {pc : Nat} {ls : Array Slot} {rest : List Value} (cx : xx_X "StruckCounts" cc nL ret E p s m args meth c) (hR : xR E σ H) {a : Nat} {r : Option Nat} (hr : r = some a) (hk : kd σ a = 1) (hdg : decode cc pc = .ok (.getfield 13, 3)) (kk : W p l e R s m args below meth c H locs cells slots Qz (F0 m (pc + 3) ls (.int (fi σ a 3) :: rest))) : W p l e R s m args below meth c H locs cells slots Qz (F0 m pc ls (xv E r :: rest)) :=
  x_get (ci := 0) cx hR hr hk (by decide) rfl in_X0 3 (by decide) q574 (fun _ h => h) (v := .int (fi σ a 3)) rfl hdg kk
theorem xg_X0_100_1 {l : Launch} {p : Program} {e : Env} {R : Room} {s : State} {m : MethodId} {args : Array Value} {below : List Frame} {meth : Method} {c : Code} {H : Heap} {locs : List Loc} {cells slots : Nat} {Qz : State → Prop} {cc : ByteArray} {nL : Nat} {ret : Option FieldType} {E : xx_E} {σ : XS} {pc : Nat} {ls : Array Slot} {rest : List Value} (cx : xx_X "StruckCounts" cc nL ret E p s m args meth c) (hR : xR E σ H) {a : Nat} {r : Option Nat} (hr : r = some a) (hk : kd σ a = 1) (hdg : decode cc pc = .ok (.getfield 100, 3)) (kk : W p l e R s m args below meth c H locs cells slots Qz (F0 m (pc + 3) ls (.int (fi σ a 2) :: rest))) : W p l e R s m args below meth c H locs cells slots Qz (F0 m pc ls (xv E r :: rest)) :=
  x_get (ci := 0) cx hR hr hk (by decide) rfl in_X0 2 (by decide) q573 (fun _ h => h) (v := .int (fi σ a 2)) rfl hdg kk
def wX0_fault (th : Nat) (x1 : Int32) (σ : XS) (Q : Int32 → XS → Prop) : Prop :=
  if x1 = 0 then (kd σ th = 1 ∧ (Q (fi σ th 2) σ)) else (if x1 = (1 : Int32) then (kd σ th = 1 ∧ (Q (fi σ th 3) σ)) else (Q (-1 : Int32) σ))
set_option maxHeartbeats 4000000 in
theorem MX0_fault (l : Launch) (E : xx_E) (th : Nat) (x1 : Int32) (σ : XS) (Q : Int32 → XS → Prop) (hw : wX0_fault th x1 σ Q) : xx_Mi l yX0_fault (ws_ yX0_fault cX0_fault 2 (some .int)) ({ frames := 0, cells := 0, slots := 0, locals := 0 } : Room) E [xv E (some th), .int x1] σ Q 0 0 := by
  refine x_of (own := "StruckCounts") (by decide +kernel) rfl ?_
  intro p e s m args below meth c cx hR ha hnm
  refine x_entry [xv E (some th), .int x1] 2 [(0, xv E (some th)), (1, .int x1)] ha (by simp [lg_sl, xv_cat, vc_i, vc_j, vc_f]) (by simp [lv_args, xv_cat, vc_i, vc_j, vc_f]) (fun ls hl => ?_)
  have hS : va_S (xA E) s.heap s.heap [] := va_S.rf
  have hcb : 0 + 0 ≤ 0 := Nat.le_of_eq (Nat.zero_add _)
  have hsb : 0 + 0 ≤ 0 := Nat.le_of_eq (Nat.zero_add _)
  unfold wX0_fault at hw
  obtain ⟨hx, hb, hml, hown, hts, hrt, hlk, hMK, hZ⟩ := id cx
  refine lv_iload_n hx hb dX0_fault_0 rfl (lv_at hl 1 rfl) ?_
  refine lv_if_ne (tgt := 11) hx hb dX0_fault_1 (by decide) (fun hc => ?_) (fun hc => ?_)
  · have hw := mm_in hc hw
    refine lv_iload_n hx hb dX0_fault_11 rfl (lv_at hl 1 rfl) ?_
    refine lv_iconst (v := (1 : Int32)) hx hb dX0_fault_12 (by decide) ?_
    refine lv_icmp_ne (tgt := 23) hx hb dX0_fault_13 (by decide) (fun hc => ?_) (fun hc => ?_)
    · have hw := mm_in hc hw
      refine lv_iconst (v := (-1 : Int32)) hx hb dX0_fault_23 (by decide) ?_
      exact x_iret cx hR hS (xle hcb) (xle hsb) hw dX0_fault_24
    · have hw := mm_ip hc hw
      refine x_aload_n cx dX0_fault_16 rfl (lv_at hl 0 rfl) ?_
      obtain ⟨hk1, hw⟩ := hw
      refine xg_X0_13_1 cx hR rfl hk1 dX0_fault_17 ?_
      refine lv_goto (tgt := 24) hx hb dX0_fault_20 (by decide) ?_
      exact x_iret cx hR hS (xle hcb) (xle hsb) hw dX0_fault_24
  · have hw := mm_ip hc hw
    refine x_aload_n cx dX0_fault_4 rfl (lv_at hl 0 rfl) ?_
    obtain ⟨hk2, hw⟩ := hw
    refine xg_X0_100_1 cx hR rfl hk2 dX0_fault_5 ?_
    refine lv_goto (tgt := 24) hx hb dX0_fault_8 (by decide) ?_
    exact x_iret cx hR hS (xle hcb) (xle hsb) hw dX0_fault_24
-- X0_isFact
theorem xg_X0_133_2 {l : Launch} {p : Program} {e : Env} {R : Room} {s : State} {m : MethodId} {args : Array Value} {below : List Frame} {meth : Method} {c : Code} {H : Heap} {locs : List Loc} {cells slots : Nat} {Qz : State → Prop} {cc : ByteArray} {nL : Nat} {ret : Option FieldType} {E : xx_E} {σ : XS} {pc : Nat} {ls : Array Slot} {rest : List Value} (cx : xx_X "StruckCounts" cc nL ret E p s m args meth c) (hR : xR E σ H) {a : Nat} {r : Option Nat} (hr : r = some a) (hk : kd σ a = 2) (hdg : decode cc pc = .ok (.getfield 133, 3)) (kk : W p l e R s m args below meth c H locs cells slots Qz (F0 m (pc + 3) ls (.int (fi σ a 5) :: rest))) : W p l e R s m args below meth c H locs cells slots Qz (F0 m pc ls (xv E r :: rest)) :=
  x_getN (ci := 1) cx hR hr hk (by decide) rfl in_X1 5 (by decide) (xx_nf_mem (i := 3) rfl) (fun _ h => h) (v := .int (fi σ a 5)) rfl hdg kk
def wX0_isFact (th : Nat) (x1 : Int32) (σ : XS) (Q : Int32 → XS → Prop) : Prop :=
  kd σ th = 1 ∧ (oc σ (fr σ th 5) 2 (fun a2 => wX0_in x1 (0 : Int32) ((fi σ a2 5) - (1 : Int32)) σ (fun r3 s3 => zb r3 ∧ Q r3 s3)))
set_option maxHeartbeats 4000000 in
theorem MX0_isFact (l : Launch) (E : xx_E) (th : Nat) (x1 : Int32) (σ : XS) (Q : Int32 → XS → Prop) (hw : wX0_isFact th x1 σ Q) : xx_Mi l yX0_isFact (ws_ yX0_isFact cX0_isFact 2 (some .boolean)) ({ frames := 1, cells := 0, slots := 0, locals := 40 } : Room) E [xv E (some th), .int x1] σ Q 0 0 := by
  refine x_of (own := "StruckCounts") (by decide +kernel) rfl ?_
  intro p e s m args below meth c cx hR ha hnm
  refine x_entry [xv E (some th), .int x1] 2 [(0, xv E (some th)), (1, .int x1)] ha (by simp [lg_sl, xv_cat, vc_i, vc_j, vc_f]) (by simp [lv_args, xv_cat, vc_i, vc_j, vc_f]) (fun ls hl => ?_)
  have hS : va_S (xA E) s.heap s.heap [] := va_S.rf
  have hcb : 0 + 0 ≤ 0 := Nat.le_of_eq (Nat.zero_add _)
  have hsb : 0 + 0 ≤ 0 := Nat.le_of_eq (Nat.zero_add _)
  unfold wX0_isFact at hw
  obtain ⟨hx, hb, hml, hown, hts, hrt, hlk, hMK, hZ⟩ := id cx
  refine lv_iload_n hx hb dX0_isFact_0 rfl (lv_at hl 1 rfl) ?_
  refine lv_iconst (v := (0 : Int32)) hx hb dX0_isFact_1 (by decide) ?_
  refine x_aload_n cx dX0_isFact_2 rfl (lv_at hl 0 rfl) ?_
  obtain ⟨hk1, hw⟩ := hw
  refine xg_X0_24_1 cx hR rfl hk1 dX0_isFact_3 ?_
  obtain ⟨a2, hr2, hk2, hw⟩ := hw
  refine xg_X0_133_2 cx hR hr2 hk2 dX0_isFact_6 ?_
  refine lv_iconst (v := (1 : Int32)) hx hb dX0_isFact_9 (by decide) ?_
  refine lv_isub hx hb dX0_isFact_10 ?_
  refine CX0_in_X0_96 cx hR hS  hw ⟨Nat.le_of_ble_eq_true rfl, Nat.le_of_ble_eq_true rfl⟩ (Nat.le_of_ble_eq_true rfl) hl.1 ⟨by dsimp only; omega, by dsimp only; omega⟩ dX0_isFact_11 (fun r3 s3 H locs hw hR hS => ?_)
  obtain ⟨hz, hw⟩ := hw
  exact x_nret cx hR hS (xle hcb) (xle hsb) (zb_nar hz) hw dX0_isFact_14
-- X0_sayers
theorem xg_X0_136_3 {l : Launch} {p : Program} {e : Env} {R : Room} {s : State} {m : MethodId} {args : Array Value} {below : List Frame} {meth : Method} {c : Code} {H : Heap} {locs : List Loc} {cells slots : Nat} {Qz : State → Prop} {cc : ByteArray} {nL : Nat} {ret : Option FieldType} {E : xx_E} {σ : XS} {pc : Nat} {ls : Array Slot} {rest : List Value} (cx : xx_X "StruckCounts" cc nL ret E p s m args meth c) (hR : xR E σ H) {a : Nat} {r : Option Nat} (hr : r = some a) (hk : kd σ a = 3) (hdg : decode cc pc = .ok (.getfield 136, 3)) (kk : W p l e R s m args below meth c H locs cells slots Qz (F0 m (pc + 3) ls (.int (fi σ a 9) :: rest))) : W p l e R s m args below meth c H locs cells slots Qz (F0 m pc ls (xv E r :: rest)) :=
  x_getN (ci := 2) cx hR hr hk (by decide) rfl in_X2 9 (by decide) (xx_nf_mem (i := 17) rfl) (fun _ h => h) (v := .int (fi σ a 9)) rfl hdg kk
theorem xg_X0_195_3 {l : Launch} {p : Program} {e : Env} {R : Room} {s : State} {m : MethodId} {args : Array Value} {below : List Frame} {meth : Method} {c : Code} {H : Heap} {locs : List Loc} {cells slots : Nat} {Qz : State → Prop} {cc : ByteArray} {nL : Nat} {ret : Option FieldType} {E : xx_E} {σ : XS} {pc : Nat} {ls : Array Slot} {rest : List Value} (cx : xx_X "StruckCounts" cc nL ret E p s m args meth c) (hR : xR E σ H) {a : Nat} {r : Option Nat} (hr : r = some a) (hk : kd σ a = 3) (hdg : decode cc pc = .ok (.getfield 195, 3)) (kk : W p l e R s m args below meth c H locs cells slots Qz (F0 m (pc + 3) ls (xv E (fr σ a 5) :: rest))) : W p l e R s m args below meth c H locs cells slots Qz (F0 m pc ls (xv E r :: rest)) :=
  x_getN (ci := 2) cx hR hr hk (by decide) rfl in_X2 5 (by decide) (xx_nf_mem (i := 13) rfl) (fun _ h => h) (v := xv E (fr σ a 5)) rfl hdg kk
theorem CX0_has_X0_223 {l : Launch} {p : Program} {e : Env} {R : Room} {s : State} {m : MethodId} {args : Array Value} {below : List Frame} {meth : Method} {c : Code} {H : Heap} {locs : List Loc} {cells slots : Nat} {Qz : State → Prop} {cc : ByteArray} {nL : Nat} {ret : Option FieldType} {E : xx_E} {σ : XS} {pc : Nat} {ls : Array Slot} {rest : List Value} {x0 : Int32} {x1 : Int32} (cx : xx_X "StruckCounts" cc nL ret E p s m args meth c) (hR0 : xR E σ H) (hS0 : va_S (xA E) s.heap H locs) {Qf : Int32 → XS → Prop} (hw : wX0_has x0 x1 σ Qf) (hR : (({ frames := 0, cells := 0, slots := 0, locals := 0 } : Room)).frames + 1 ≤ R.frames ∧ 8 + (2 + 11) + (({ frames := 0, cells := 0, slots := 0, locals := 0 } : Room)).locals ≤ R.locals) (hrest : rest.length ≤ 4) (hsize : ls.size = nL) (hf : cells + 0 ≤ R.cells ∧ slots + 0 ≤ R.slots) (hdg : decode cc pc = .ok (.invokestatic 223, 3))
    (kk : ∀ (r : Int32) (σ1 : XS) (H1 : Heap) (locs1 : List Loc), Qf r σ1 → xR E σ1 H1 → va_S (xA E) s.heap H1 locs1 → W p l e R s m args below meth c H1 locs1 (cells + 0) (slots + 0) Qz (F0 m (pc + 3) ls (.int r :: rest))) : W p l e R s m args below meth c H locs cells slots Qz (F0 m pc ls (.int x1 :: .int x0 :: rest)) := by
  obtain ⟨hx, hb, hml, hown, hts, hrt, hlk, hK, hZ⟩ := id cx
  exact x_goi (va_runS (As := [.int x0, .int x1]) (rest := rest) (x_fix cx) (MX0_has l E x0 x1 σ Qf hw) (va_cwS 2 hts (lw_S q1909 q431 q156 q432) rfl rfl rfl (by decide +kernel) hR) ⟨xblind, x_pre cx hR0 hS0 [.int x0, .int x1]⟩ rfl rfl hsize rfl (lv_room (xroom hrest)) hdg hf) hS0 kk
def wX0_sayers_39 (Q : Int32 → XS → Prop) (K4 : Nat → Int32 → Int32 → Int32 → XS → Prop) (th : Nat) (x1 : Int32) (x3 : Int32) (t0 : Int32) (t1 : Int32) (σ : XS) : Prop :=
  ∀ v1 : Int32, v1 = (t0 ||| t1) → ∀ v2 : Int32, v2 = x3 + (1 : Int32) → K4 th x1 v1 v2 σ
set_option maxHeartbeats 4000000 in
theorem BX0_sayers_39 {l : Launch} {p : Program} {e : Env} {s : State} {m : MethodId} {args : Array Value} {below : List Frame} {meth : Method} {c : Code} {E : xx_E} {Q : Int32 → XS → Prop} {K4 : Nat → Int32 → Int32 → Int32 → XS → Prop} (cx : xx_X "StruckCounts" cX0_sayers 4 (some .int) E p s m args meth c) (hK4 : ∀ (th : Nat) (x1 : Int32) (x2 : Int32) (x3 : Int32) (σ : XS), K4 th x1 x2 x3 σ → x_T p l e ({ frames := 1, cells := 0, slots := 0, locals := 40 } : Room) s m args below meth c E (va_Qi Q (fun σ' t => xW E σ' t) (xA E)) 0 0 4 4 0 0 σ [(0, xv E (some th)), (1, .int x1), (2, .int x2), (3, .int x3)] []) : ∀ (th : Nat) (x1 : Int32) (x3 : Int32) (t0 : Int32) (t1 : Int32) (σ : XS), wX0_sayers_39 Q K4 th x1 x3 t0 t1 σ → x_T p l e ({ frames := 1, cells := 0, slots := 0, locals := 40 } : Room) s m args below meth c E (va_Qi Q (fun σ' t => xW E σ' t) (xA E)) 0 0 4 39 0 0 σ [(0, xv E (some th)), (1, .int x1), (3, .int x3)] [.int t1, .int t0] := by
  intro th x1 x3 t0 t1 σ hw H locs ls cells slots hR hS hl hcb hsb
  unfold wX0_sayers_39 at hw
  obtain ⟨hx, hb, hml, hown, hts, hrt, hlk, hMK, hZ⟩ := id cx
  refine lv_ior hx hb dX0_sayers_39 ?_
  refine lv_topi (fun v1 hv1 => ?_)
  have hw := hw v1 hv1
  refine lv_istore_n (i := 2) (lv' := [(2, .int v1), (0, xv E (some th)), (1, .int x1), (3, .int x3)]) hx hb dX0_sayers_40 rfl hl (by decide) rfl (fun ls hl => ?_)
  obtain ⟨v2, hv2⟩ : ∃ v : Int32, v = x3 + (1 : Int32) := ⟨_, rfl⟩
  have hw := hw v2 hv2
  refine lv_iinc (v := v2) (lv' := [(3, .int v2), (2, .int v1), (0, xv E (some th)), (1, .int x1)]) hx hb dX0_sayers_41 hl (k := 3) rfl (by rw [hv2]; rfl) (by decide) rfl (fun ls hl => ?_)
  refine lv_goto (tgt := 4) hx hb dX0_sayers_44 (by decide) ?_
  exact hK4 _ _ _ _ _ hw _ _ _ _ _ hR hS (lv_sub hl [2, 3, 1, 0] rfl) hcb hsb
def wX0_sayers_4 (Q : Int32 → XS → Prop) (K4 : Nat → Int32 → Int32 → Int32 → XS → Prop) (th : Nat) (x1 : Int32) (x2 : Int32) (x3 : Int32) (σ : XS) : Prop :=
  kd σ th = 1 ∧ (oc σ (fr σ th 6) 3 (fun a4 => if (fi σ a4 9) ≤ x3 then (Q x2 σ) else (oc σ (fr σ a4 5) 100 (fun a5 => vp_in x3 (ln σ a5) ∧ (wX0_has (ai σ a5 x3.toNatClampNeg) x1 σ (fun r6 s6 => if r6 = 0 then (wX0_sayers_39 Q K4 th x1 x3 x2 (0 : Int32) s6) else (wX0_sayers_39 Q K4 th x1 x3 x2 ((1 : Int32) <<< (x3 &&& 31)) s6)))))))
set_option maxHeartbeats 4000000 in
theorem BX0_sayers_4 {l : Launch} {p : Program} {e : Env} {s : State} {m : MethodId} {args : Array Value} {below : List Frame} {meth : Method} {c : Code} {E : xx_E} {Q : Int32 → XS → Prop} {K4 : Nat → Int32 → Int32 → Int32 → XS → Prop} (cx : xx_X "StruckCounts" cX0_sayers 4 (some .int) E p s m args meth c) (hK4 : ∀ (th : Nat) (x1 : Int32) (x2 : Int32) (x3 : Int32) (σ : XS), K4 th x1 x2 x3 σ → x_T p l e ({ frames := 1, cells := 0, slots := 0, locals := 40 } : Room) s m args below meth c E (va_Qi Q (fun σ' t => xW E σ' t) (xA E)) 0 0 4 4 0 0 σ [(0, xv E (some th)), (1, .int x1), (2, .int x2), (3, .int x3)] []) : ∀ (th : Nat) (x1 : Int32) (x2 : Int32) (x3 : Int32) (σ : XS), wX0_sayers_4 Q K4 th x1 x2 x3 σ → x_T p l e ({ frames := 1, cells := 0, slots := 0, locals := 40 } : Room) s m args below meth c E (va_Qi Q (fun σ' t => xW E σ' t) (xA E)) 0 0 4 4 0 0 σ [(0, xv E (some th)), (1, .int x1), (2, .int x2), (3, .int x3)] [] := by
  intro th x1 x2 x3 σ hw H locs ls cells slots hR hS hl hcb hsb
  unfold wX0_sayers_4 at hw
  obtain ⟨hx, hb, hml, hown, hts, hrt, hlk, hMK, hZ⟩ := id cx
  refine lv_iload_n hx hb dX0_sayers_4 rfl (lv_at hl 3 rfl) ?_
  refine x_aload_n cx dX0_sayers_5 rfl (lv_at hl 0 rfl) ?_
  obtain ⟨hk3, hw⟩ := hw
  refine xg_X0_31_1 cx hR rfl hk3 dX0_sayers_6 ?_
  obtain ⟨a4, hr4, hk4, hw⟩ := hw
  refine xg_X0_136_3 cx hR hr4 hk4 dX0_sayers_9 ?_
  refine lv_icmp_ge (tgt := 47) hx hb dX0_sayers_12 (by decide) (fun hc => ?_) (fun hc => ?_)
  · have hw := mm_ip hc hw
    refine lv_iload_n hx hb dX0_sayers_47 rfl (lv_at hl 2 rfl) ?_
    exact x_iret cx hR hS (xle hcb) (xle hsb) hw dX0_sayers_48
  · have hw := mm_in hc hw
    refine lv_iload_n hx hb dX0_sayers_15 rfl (lv_at hl 2 rfl) ?_
    refine x_aload_n cx dX0_sayers_16 rfl (lv_at hl 0 rfl) ?_
    refine xg_X0_31_1 cx hR rfl hk3 dX0_sayers_17 ?_
    refine xg_X0_195_3 cx hR hr4 hk4 dX0_sayers_20 ?_
    refine lv_iload_n hx hb dX0_sayers_23 rfl (lv_at hl 3 rfl) ?_
    obtain ⟨a5, hr5, hk5, hw⟩ := hw
    obtain ⟨hi, hw⟩ := hw
    refine x_iald cx hR hr5 hk5 (j := x3.toNatClampNeg) rfl hi dX0_sayers_24 ?_
    refine lv_iload_n hx hb dX0_sayers_25 rfl (lv_at hl 1 rfl) ?_
    refine CX0_has_X0_223 cx hR hS  hw ⟨Nat.le_of_ble_eq_true rfl, Nat.le_of_ble_eq_true rfl⟩ (Nat.le_of_ble_eq_true rfl) hl.1 ⟨by dsimp only; omega, by dsimp only; omega⟩ dX0_sayers_26 (fun r6 s6 H locs hw hR hS => ?_)
    refine lv_if_eq (tgt := 38) hx hb dX0_sayers_29 (by decide) (fun hc => ?_) (fun hc => ?_)
    · have hw := mm_ip hc hw
      refine lv_iconst (v := (0 : Int32)) hx hb dX0_sayers_38 (by decide) ?_
      exact BX0_sayers_39 cx hK4 _ _ _ _ _ _ hw _ _ _ _ _ hR hS (lv_sub hl [0, 1, 3] rfl) hcb hsb
    · have hw := mm_in hc hw
      refine lv_iconst (v := (1 : Int32)) hx hb dX0_sayers_32 (by decide) ?_
      refine lv_iload_n hx hb dX0_sayers_33 rfl (lv_at hl 3 rfl) ?_
      refine lv_ishl hx hb dX0_sayers_34 ?_
      refine lv_goto (tgt := 39) hx hb dX0_sayers_35 (by decide) ?_
      exact BX0_sayers_39 cx hK4 _ _ _ _ _ _ hw _ _ _ _ _ hR hS (lv_sub hl [0, 1, 3] rfl) hcb hsb
theorem LX0_sayers_4 {l : Launch} {p : Program} {e : Env} {s : State} {m : MethodId} {args : Array Value} {below : List Frame} {meth : Method} {c : Code} {E : xx_E} {Q : Int32 → XS → Prop} (cx : xx_X "StruckCounts" cX0_sayers 4 (some .int) E p s m args meth c) : ∀ (th : Nat) (x1 : Int32) (x2 : Int32) (x3 : Int32) (σ : XS), lp5F (wX0_sayers_4 Q) th x1 x2 x3 σ → x_T p l e ({ frames := 1, cells := 0, slots := 0, locals := 40 } : Room) s m args below meth c E (va_Qi Q (fun σ' t => xW E σ' t) (xA E)) 0 0 4 4 0 0 σ [(0, xv E (some th)), (1, .int x1), (2, .int x2), (3, .int x3)] [] :=
  lp5F_of (fun K hK => BX0_sayers_4 cx hK)
def wX0_sayers (th : Nat) (x1 : Int32) (σ : XS) (Q : Int32 → XS → Prop) : Prop :=
  lp5F (wX0_sayers_4 Q) th x1 (0 : Int32) (0 : Int32) σ
set_option maxHeartbeats 4000000 in
theorem MX0_sayers (l : Launch) (E : xx_E) (th : Nat) (x1 : Int32) (σ : XS) (Q : Int32 → XS → Prop) (hw : wX0_sayers th x1 σ Q) : xx_Mi l yX0_sayers (ws_ yX0_sayers cX0_sayers 4 (some .int)) ({ frames := 1, cells := 0, slots := 0, locals := 40 } : Room) E [xv E (some th), .int x1] σ Q 0 0 := by
  refine x_of (own := "StruckCounts") (by decide +kernel) rfl ?_
  intro p e s m args below meth c cx hR ha hnm
  refine x_entry [xv E (some th), .int x1] 4 [(0, xv E (some th)), (1, .int x1)] ha (by simp [lg_sl, xv_cat, vc_i, vc_j, vc_f]) (by simp [lv_args, xv_cat, vc_i, vc_j, vc_f]) (fun ls hl => ?_)
  have hS : va_S (xA E) s.heap s.heap [] := va_S.rf
  have hcb : 0 + 0 ≤ 0 := Nat.le_of_eq (Nat.zero_add _)
  have hsb : 0 + 0 ≤ 0 := Nat.le_of_eq (Nat.zero_add _)
  unfold wX0_sayers at hw
  obtain ⟨hx, hb, hml, hown, hts, hrt, hlk, hMK, hZ⟩ := id cx
  refine lv_iconst (v := (0 : Int32)) hx hb dX0_sayers_0 (by decide) ?_
  refine lv_istore_n (i := 2) (lv' := [(2, .int (0 : Int32)), (0, xv E (some th)), (1, .int x1)]) hx hb dX0_sayers_1 rfl hl (by decide) rfl (fun ls hl => ?_)
  refine lv_iconst (v := (0 : Int32)) hx hb dX0_sayers_2 (by decide) ?_
  refine lv_istore_n (i := 3) (lv' := [(3, .int (0 : Int32)), (2, .int (0 : Int32)), (0, xv E (some th)), (1, .int x1)]) hx hb dX0_sayers_3 rfl hl (by decide) rfl (fun ls hl => ?_)
  exact LX0_sayers_4 cx _ _ _ _ _ hw _ _ _ _ _ hR hS (lv_sub hl [2, 3, 1, 0] rfl) hcb hsb
-- X0_fact
theorem xg_X0_281_2 {l : Launch} {p : Program} {e : Env} {R : Room} {s : State} {m : MethodId} {args : Array Value} {below : List Frame} {meth : Method} {c : Code} {H : Heap} {locs : List Loc} {cells slots : Nat} {Qz : State → Prop} {cc : ByteArray} {nL : Nat} {ret : Option FieldType} {E : xx_E} {σ : XS} {pc : Nat} {ls : Array Slot} {rest : List Value} (cx : xx_X "StruckCounts" cc nL ret E p s m args meth c) (hR : xR E σ H) {a : Nat} {r : Option Nat} (hr : r = some a) (hk : kd σ a = 2) (hdg : decode cc pc = .ok (.getfield 281, 3)) (kk : W p l e R s m args below meth c H locs cells slots Qz (F0 m (pc + 3) ls (xv E (fr σ a 4) :: rest))) : W p l e R s m args below meth c H locs cells slots Qz (F0 m pc ls (xv E r :: rest)) :=
  x_getN (ci := 1) cx hR hr hk (by decide) rfl in_X1 4 (by decide) (xx_nf_mem (i := 2) rfl) (fun _ h => h) (v := xv E (fr σ a 4)) rfl hdg kk
theorem xg_X0_284_3 {l : Launch} {p : Program} {e : Env} {R : Room} {s : State} {m : MethodId} {args : Array Value} {below : List Frame} {meth : Method} {c : Code} {H : Heap} {locs : List Loc} {cells slots : Nat} {Qz : State → Prop} {cc : ByteArray} {nL : Nat} {ret : Option FieldType} {E : xx_E} {σ : XS} {pc : Nat} {ls : Array Slot} {rest : List Value} (cx : xx_X "StruckCounts" cc nL ret E p s m args meth c) (hR : xR E σ H) {a : Nat} {r : Option Nat} (hr : r = some a) (hk : kd σ a = 3) (hdg : decode cc pc = .ok (.getfield 284, 3)) (kk : W p l e R s m args below meth c H locs cells slots Qz (F0 m (pc + 3) ls (xv E (fr σ a 0) :: rest))) : W p l e R s m args below meth c H locs cells slots Qz (F0 m pc ls (xv E r :: rest)) :=
  x_getN (ci := 2) cx hR hr hk (by decide) rfl in_X2 0 (by decide) (xx_nf_mem (i := 8) rfl) (fun _ h => h) (v := xv E (fr σ a 0)) rfl hdg kk
theorem xg_X0_149_3 {l : Launch} {p : Program} {e : Env} {R : Room} {s : State} {m : MethodId} {args : Array Value} {below : List Frame} {meth : Method} {c : Code} {H : Heap} {locs : List Loc} {cells slots : Nat} {Qz : State → Prop} {cc : ByteArray} {nL : Nat} {ret : Option FieldType} {E : xx_E} {σ : XS} {pc : Nat} {ls : Array Slot} {rest : List Value} (cx : xx_X "StruckCounts" cc nL ret E p s m args meth c) (hR : xR E σ H) {a : Nat} {r : Option Nat} (hr : r = some a) (hk : kd σ a = 3) (hdg : decode cc pc = .ok (.getfield 149, 3)) (kk : W p l e R s m args below meth c H locs cells slots Qz (F0 m (pc + 3) ls (.int (fi σ a 7) :: rest))) : W p l e R s m args below meth c H locs cells slots Qz (F0 m pc ls (xv E r :: rest)) :=
  x_getN (ci := 2) cx hR hr hk (by decide) rfl in_X2 7 (by decide) (xx_nf_mem (i := 15) rfl) (fun _ h => h) (v := .int (fi σ a 7)) rfl hdg kk
theorem xg_X0_152_3 {l : Launch} {p : Program} {e : Env} {R : Room} {s : State} {m : MethodId} {args : Array Value} {below : List Frame} {meth : Method} {c : Code} {H : Heap} {locs : List Loc} {cells slots : Nat} {Qz : State → Prop} {cc : ByteArray} {nL : Nat} {ret : Option FieldType} {E : xx_E} {σ : XS} {pc : Nat} {ls : Array Slot} {rest : List Value} (cx : xx_X "StruckCounts" cc nL ret E p s m args meth c) (hR : xR E σ H) {a : Nat} {r : Option Nat} (hr : r = some a) (hk : kd σ a = 3) (hdg : decode cc pc = .ok (.getfield 152, 3)) (kk : W p l e R s m args below meth c H locs cells slots Qz (F0 m (pc + 3) ls (.int (fi σ a 8) :: rest))) : W p l e R s m args below meth c H locs cells slots Qz (F0 m pc ls (xv E r :: rest)) :=
  x_getN (ci := 2) cx hR hr hk (by decide) rfl in_X2 8 (by decide) (xx_nf_mem (i := 16) rfl) (fun _ h => h) (v := .int (fi σ a 8)) rfl hdg kk
theorem CX0_isFact_X0_277 {l : Launch} {p : Program} {e : Env} {R : Room} {s : State} {m : MethodId} {args : Array Value} {below : List Frame} {meth : Method} {c : Code} {H : Heap} {locs : List Loc} {cells slots : Nat} {Qz : State → Prop} {cc : ByteArray} {nL : Nat} {ret : Option FieldType} {E : xx_E} {σ : XS} {pc : Nat} {ls : Array Slot} {rest : List Value} {th : Nat} {x1 : Int32} (cx : xx_X "StruckCounts" cc nL ret E p s m args meth c) (hR0 : xR E σ H) (hS0 : va_S (xA E) s.heap H locs) {r0 : Option Nat} (hr : r0 = some th) (hk : kd σ th = 1) {Qf : Int32 → XS → Prop} (hw : wX0_isFact th x1 σ Qf) (hR : (({ frames := 1, cells := 0, slots := 0, locals := 40 } : Room)).frames + 1 ≤ R.frames ∧ 8 + (2 + 11) + (({ frames := 1, cells := 0, slots := 0, locals := 40 } : Room)).locals ≤ R.locals) (hrest : rest.length ≤ 4) (hsize : ls.size = nL) (hf : cells + 0 ≤ R.cells ∧ slots + 0 ≤ R.slots) (hdg : decode cc pc = .ok (.invokevirtual 277, 3))
    (kk : ∀ (r : Int32) (σ1 : XS) (H1 : Heap) (locs1 : List Loc), Qf r σ1 → xR E σ1 H1 → va_S (xA E) s.heap H1 locs1 → W p l e R s m args below meth c H1 locs1 (cells + 0) (slots + 0) Qz (F0 m (pc + 3) ls (.int r :: rest))) : W p l e R s m args below meth c H locs cells slots Qz (F0 m pc ls (.int x1 :: xv E r0 :: rest)) := by
  subst hr
  obtain ⟨hx, hb, hml, hown, hts, hrt, hlk, hK, hZ⟩ := id cx
  exact x_goi (va_runV (As := [.int x1]) (rest := rest) (x_fix cx) (MX0_isFact l E th x1 σ Qf hw) (cwV 1 hts (lw_V q1905 q1907 qs33 q156 q1908) rfl rfl rfl (by decide +kernel) hR) (x_preV cx hR0 hS0 hk (by decide) (q := (RX0, TX0, 24)) rfl rfl [.int x1]) rfl rfl hsize rfl (lv_room (xroom hrest)) hdg hf) hS0 kk
theorem CX0_sayers_X0_287 {l : Launch} {p : Program} {e : Env} {R : Room} {s : State} {m : MethodId} {args : Array Value} {below : List Frame} {meth : Method} {c : Code} {H : Heap} {locs : List Loc} {cells slots : Nat} {Qz : State → Prop} {cc : ByteArray} {nL : Nat} {ret : Option FieldType} {E : xx_E} {σ : XS} {pc : Nat} {ls : Array Slot} {rest : List Value} {th : Nat} {x1 : Int32} (cx : xx_X "StruckCounts" cc nL ret E p s m args meth c) (hR0 : xR E σ H) (hS0 : va_S (xA E) s.heap H locs) {r0 : Option Nat} (hr : r0 = some th) (hk : kd σ th = 1) {Qf : Int32 → XS → Prop} (hw : wX0_sayers th x1 σ Qf) (hR : (({ frames := 1, cells := 0, slots := 0, locals := 40 } : Room)).frames + 1 ≤ R.frames ∧ 8 + (4 + 11) + (({ frames := 1, cells := 0, slots := 0, locals := 40 } : Room)).locals ≤ R.locals) (hrest : rest.length ≤ 4) (hsize : ls.size = nL) (hf : cells + 0 ≤ R.cells ∧ slots + 0 ≤ R.slots) (hdg : decode cc pc = .ok (.invokevirtual 287, 3))
    (kk : ∀ (r : Int32) (σ1 : XS) (H1 : Heap) (locs1 : List Loc), Qf r σ1 → xR E σ1 H1 → va_S (xA E) s.heap H1 locs1 → W p l e R s m args below meth c H1 locs1 (cells + 0) (slots + 0) Qz (F0 m (pc + 3) ls (.int r :: rest))) : W p l e R s m args below meth c H locs cells slots Qz (F0 m pc ls (.int x1 :: xv E r0 :: rest)) := by
  subst hr
  obtain ⟨hx, hb, hml, hown, hts, hrt, hlk, hK, hZ⟩ := id cx
  exact x_goi (va_runV (As := [.int x1]) (rest := rest) (x_fix cx) (MX0_sayers l E th x1 σ Qf hw) (cwV 1 hts (lw_V q1910 q1912 qs34 q156 q1913) rfl rfl rfl (by decide +kernel) hR) (x_preV cx hR0 hS0 hk (by decide) (q := (RX0, TX0, 24)) rfl rfl [.int x1]) rfl rfl hsize rfl (lv_room (xroom hrest)) hdg hf) hS0 kk
def wX0_fact (th : Nat) (x1 : Int32) (x2 : Int32) (σ : XS) (Q : Int32 → XS → Prop) : Prop :=
  kd σ th = 1 ∧ (wX0_isFact th x1 σ (fun r1 s1 => if r1 = 0 then (Q (-1 : Int32) s1) else (if x2 = 0 then (kd s1 th = 1 ∧ (oc s1 (fr s1 th 5) 2 (fun a4 => oc s1 (fr s1 a4 4) 100 (fun a5 => vp_in x1 (ln s1 a5) ∧ (Q (ai s1 a5 x1.toNatClampNeg) s1))))) else (if x2 = 1 then (kd s1 th = 1 ∧ (oc s1 (fr s1 th 6) 3 (fun a7 => oc s1 (fr s1 a7 0) 100 (fun a8 => vp_in x1 (ln s1 a8) ∧ (Q (ai s1 a8 x1.toNatClampNeg) s1))))) else (if x2 = 2 then (kd s1 th = 1 ∧ (oc s1 (fr s1 th 6) 3 (fun a10 => wX0_has (fi s1 a10 7) x1 s1 (fun r11 s11 => if r11 = 0 then (Q (2 : Int32) s11) else (kd s11 th = 1 ∧ (oc s11 (fr s11 th 6) 3 (fun a13 => wX0_has (fi s11 a13 8) x1 s11 (fun r14 s14 => if r14 = 0 then (Q (0 : Int32) s14) else (Q (1 : Int32) s14))))))))) else (if x2 = 3 then (kd s1 th = 1 ∧ (wX0_sayers th x1 s1 (fun r15 s15 => Q r15 s15))) else (Q (-1 : Int32) s1)))))))
set_option maxHeartbeats 4000000 in
theorem MX0_fact (l : Launch) (E : xx_E) (th : Nat) (x1 : Int32) (x2 : Int32) (σ : XS) (Q : Int32 → XS → Prop) (hw : wX0_fact th x1 x2 σ Q) : xx_Mi l yX0_fact (ws_ yX0_fact cX0_fact 3 (some .int)) ({ frames := 2, cells := 0, slots := 0, locals := 80 } : Room) E [xv E (some th), .int x1, .int x2] σ Q 0 0 := by
  refine x_of (own := "StruckCounts") (by decide +kernel) rfl ?_
  intro p e s m args below meth c cx hR ha hnm
  refine x_entry [xv E (some th), .int x1, .int x2] 3 [(0, xv E (some th)), (1, .int x1), (2, .int x2)] ha (by simp [lg_sl, xv_cat, vc_i, vc_j, vc_f]) (by simp [lv_args, xv_cat, vc_i, vc_j, vc_f]) (fun ls hl => ?_)
  have hS : va_S (xA E) s.heap s.heap [] := va_S.rf
  have hcb : 0 + 0 ≤ 0 := Nat.le_of_eq (Nat.zero_add _)
  have hsb : 0 + 0 ≤ 0 := Nat.le_of_eq (Nat.zero_add _)
  unfold wX0_fact at hw
  obtain ⟨hx, hb, hml, hown, hts, hrt, hlk, hMK, hZ⟩ := id cx
  refine x_aload_n cx dX0_fact_0 rfl (lv_at hl 0 rfl) ?_
  refine lv_iload_n hx hb dX0_fact_1 rfl (lv_at hl 1 rfl) ?_
  obtain ⟨hk2, hw⟩ := hw
  refine CX0_isFact_X0_277 cx hR hS rfl hk2 hw ⟨Nat.le_of_ble_eq_true rfl, Nat.le_of_ble_eq_true rfl⟩ (Nat.le_of_ble_eq_true rfl) hl.1 ⟨by dsimp only; omega, by dsimp only; omega⟩ dX0_fact_2 (fun r1 s1 H locs hw hR hS => ?_)
  refine lv_if_ne (tgt := 10) hx hb dX0_fact_5 (by decide) (fun hc => ?_) (fun hc => ?_)
  · have hw := mm_in hc hw
    refine lv_iload_n hx hb dX0_fact_10 rfl (lv_at hl 2 rfl) ?_
    by_cases hc0 : x2 = 0
    · have hw := mm_ip hc0 hw
      refine lv_tableIn (off := 29) (tgt := 40) hx hb dX0_fact_11 (by rw [hc0]; decide) (by rw [hc0]; decide) (by rw [hc0]; decide) (by decide) ?_
      refine x_aload_n cx dX0_fact_40 rfl (lv_at hl 0 rfl) ?_
      obtain ⟨hk3, hw⟩ := hw
      refine xg_X0_24_1 cx hR rfl hk3 dX0_fact_41 ?_
      obtain ⟨a4, hr4, hk4, hw⟩ := hw
      refine xg_X0_281_2 cx hR hr4 hk4 dX0_fact_44 ?_
      refine lv_iload_n hx hb dX0_fact_47 rfl (lv_at hl 1 rfl) ?_
      obtain ⟨a5, hr5, hk5, hw⟩ := hw
      obtain ⟨hi, hw⟩ := hw
      refine x_iald cx hR hr5 hk5 (j := x1.toNatClampNeg) rfl hi dX0_fact_48 ?_
      exact x_iret cx hR hS (xle hcb) (xle hsb) hw dX0_fact_49
    have hw := mm_in hc0 hw
    by_cases hc1 : x2 = 1
    · have hw := mm_ip hc1 hw
      refine lv_tableIn (off := 39) (tgt := 50) hx hb dX0_fact_11 (by rw [hc1]; decide) (by rw [hc1]; decide) (by rw [hc1]; decide) (by decide) ?_
      refine x_aload_n cx dX0_fact_50 rfl (lv_at hl 0 rfl) ?_
      obtain ⟨hk6, hw⟩ := hw
      refine xg_X0_31_1 cx hR rfl hk6 dX0_fact_51 ?_
      obtain ⟨a7, hr7, hk7, hw⟩ := hw
      refine xg_X0_284_3 cx hR hr7 hk7 dX0_fact_54 ?_
      refine lv_iload_n hx hb dX0_fact_57 rfl (lv_at hl 1 rfl) ?_
      obtain ⟨a8, hr8, hk8, hw⟩ := hw
      obtain ⟨hi, hw⟩ := hw
      refine x_iald cx hR hr8 hk8 (j := x1.toNatClampNeg) rfl hi dX0_fact_58 ?_
      exact x_iret cx hR hS (xle hcb) (xle hsb) hw dX0_fact_59
    have hw := mm_in hc1 hw
    by_cases hc2 : x2 = 2
    · have hw := mm_ip hc2 hw
      refine lv_tableIn (off := 49) (tgt := 60) hx hb dX0_fact_11 (by rw [hc2]; decide) (by rw [hc2]; decide) (by rw [hc2]; decide) (by decide) ?_
      refine x_aload_n cx dX0_fact_60 rfl (lv_at hl 0 rfl) ?_
      obtain ⟨hk9, hw⟩ := hw
      refine xg_X0_31_1 cx hR rfl hk9 dX0_fact_61 ?_
      obtain ⟨a10, hr10, hk10, hw⟩ := hw
      refine xg_X0_149_3 cx hR hr10 hk10 dX0_fact_64 ?_
      refine lv_iload_n hx hb dX0_fact_67 rfl (lv_at hl 1 rfl) ?_
      refine CX0_has_X0_223 cx hR hS  hw ⟨Nat.le_of_ble_eq_true rfl, Nat.le_of_ble_eq_true rfl⟩ (Nat.le_of_ble_eq_true rfl) hl.1 ⟨by dsimp only; omega, by dsimp only; omega⟩ dX0_fact_68 (fun r11 s11 H locs hw hR hS => ?_)
      refine lv_if_ne (tgt := 78) hx hb dX0_fact_71 (by decide) (fun hc => ?_) (fun hc => ?_)
      · have hw := mm_in hc hw
        refine x_aload_n cx dX0_fact_78 rfl (lv_at hl 0 rfl) ?_
        obtain ⟨hk12, hw⟩ := hw
        refine xg_X0_31_1 cx hR rfl hk12 dX0_fact_79 ?_
        obtain ⟨a13, hr13, hk13, hw⟩ := hw
        refine xg_X0_152_3 cx hR hr13 hk13 dX0_fact_82 ?_
        refine lv_iload_n hx hb dX0_fact_85 rfl (lv_at hl 1 rfl) ?_
        refine CX0_has_X0_223 cx hR hS  hw ⟨Nat.le_of_ble_eq_true rfl, Nat.le_of_ble_eq_true rfl⟩ (Nat.le_of_ble_eq_true rfl) hl.1 ⟨by dsimp only; omega, by dsimp only; omega⟩ dX0_fact_86 (fun r14 s14 H locs hw hR hS => ?_)
        refine lv_if_eq (tgt := 96) hx hb dX0_fact_89 (by decide) (fun hc => ?_) (fun hc => ?_)
        · have hw := mm_ip hc hw
          refine lv_iconst (v := (0 : Int32)) hx hb dX0_fact_96 (by decide) ?_
          exact x_iret cx hR hS (xle hcb) (xle hsb) hw dX0_fact_97
        · have hw := mm_in hc hw
          refine lv_iconst (v := (1 : Int32)) hx hb dX0_fact_92 (by decide) ?_
          refine lv_goto (tgt := 97) hx hb dX0_fact_93 (by decide) ?_
          exact x_iret cx hR hS (xle hcb) (xle hsb) hw dX0_fact_97
      · have hw := mm_ip hc hw
        refine lv_iconst (v := (2 : Int32)) hx hb dX0_fact_74 (by decide) ?_
        refine lv_goto (tgt := 97) hx hb dX0_fact_75 (by decide) ?_
        exact x_iret cx hR hS (xle hcb) (xle hsb) hw dX0_fact_97
    have hw := mm_in hc2 hw
    by_cases hc3 : x2 = 3
    · have hw := mm_ip hc3 hw
      refine lv_tableIn (off := 87) (tgt := 98) hx hb dX0_fact_11 (by rw [hc3]; decide) (by rw [hc3]; decide) (by rw [hc3]; decide) (by decide) ?_
      refine x_aload_n cx dX0_fact_98 rfl (lv_at hl 0 rfl) ?_
      refine lv_iload_n hx hb dX0_fact_99 rfl (lv_at hl 1 rfl) ?_
      obtain ⟨hk16, hw⟩ := hw
      refine CX0_sayers_X0_287 cx hR hS rfl hk16 hw ⟨Nat.le_of_ble_eq_true rfl, Nat.le_of_ble_eq_true rfl⟩ (Nat.le_of_ble_eq_true rfl) hl.1 ⟨by dsimp only; omega, by dsimp only; omega⟩ dX0_fact_100 (fun r15 s15 H locs hw hR hS => ?_)
      exact x_iret cx hR hS (xle hcb) (xle hsb) hw dX0_fact_103
    have hw := mm_in hc3 hw
    refine lv_tableOut (tgt := 104) hx hb dX0_fact_11 (sw_out 0 3 [(0 : Int32), (1 : Int32), (2 : Int32), (3 : Int32)] (by simp only [List.all_cons, List.all_nil, Bool.and_true, Bool.and_eq_true, decide_eq_true_eq]; exact ⟨hc0, hc1, hc2, hc3⟩) (by intro z h1 h2; exact sw_in4 z h1 h2)) (by decide) ?_
    refine lv_iconst (v := (-1 : Int32)) hx hb dX0_fact_104 (by decide) ?_
    exact x_iret cx hR hS (xle hcb) (xle hsb) hw dX0_fact_105
  · have hw := mm_ip hc hw
    refine lv_iconst (v := (-1 : Int32)) hx hb dX0_fact_8 (by decide) ?_
    exact x_iret cx hR hS (xle hcb) (xle hsb) hw dX0_fact_9
-- X0_isCount
def wX0_isCount (th : Nat) (x1 : Int32) (σ : XS) (Q : Int32 → XS → Prop) : Prop :=
  kd σ th = 1 ∧ (oc σ (fr σ th 6) 3 (fun a2 => wX0_in x1 (0 : Int32) ((fi σ a2 9) - (1 : Int32)) σ (fun r3 s3 => zb r3 ∧ Q r3 s3)))
set_option maxHeartbeats 4000000 in
theorem MX0_isCount (l : Launch) (E : xx_E) (th : Nat) (x1 : Int32) (σ : XS) (Q : Int32 → XS → Prop) (hw : wX0_isCount th x1 σ Q) : xx_Mi l yX0_isCount (ws_ yX0_isCount cX0_isCount 2 (some .boolean)) ({ frames := 1, cells := 0, slots := 0, locals := 40 } : Room) E [xv E (some th), .int x1] σ Q 0 0 := by
  refine x_of (own := "StruckCounts") (by decide +kernel) rfl ?_
  intro p e s m args below meth c cx hR ha hnm
  refine x_entry [xv E (some th), .int x1] 2 [(0, xv E (some th)), (1, .int x1)] ha (by simp [lg_sl, xv_cat, vc_i, vc_j, vc_f]) (by simp [lv_args, xv_cat, vc_i, vc_j, vc_f]) (fun ls hl => ?_)
  have hS : va_S (xA E) s.heap s.heap [] := va_S.rf
  have hcb : 0 + 0 ≤ 0 := Nat.le_of_eq (Nat.zero_add _)
  have hsb : 0 + 0 ≤ 0 := Nat.le_of_eq (Nat.zero_add _)
  unfold wX0_isCount at hw
  obtain ⟨hx, hb, hml, hown, hts, hrt, hlk, hMK, hZ⟩ := id cx
  refine lv_iload_n hx hb dX0_isCount_0 rfl (lv_at hl 1 rfl) ?_
  refine lv_iconst (v := (0 : Int32)) hx hb dX0_isCount_1 (by decide) ?_
  refine x_aload_n cx dX0_isCount_2 rfl (lv_at hl 0 rfl) ?_
  obtain ⟨hk1, hw⟩ := hw
  refine xg_X0_31_1 cx hR rfl hk1 dX0_isCount_3 ?_
  obtain ⟨a2, hr2, hk2, hw⟩ := hw
  refine xg_X0_136_3 cx hR hr2 hk2 dX0_isCount_6 ?_
  refine lv_iconst (v := (1 : Int32)) hx hb dX0_isCount_9 (by decide) ?_
  refine lv_isub hx hb dX0_isCount_10 ?_
  refine CX0_in_X0_96 cx hR hS  hw ⟨Nat.le_of_ble_eq_true rfl, Nat.le_of_ble_eq_true rfl⟩ (Nat.le_of_ble_eq_true rfl) hl.1 ⟨by dsimp only; omega, by dsimp only; omega⟩ dX0_isCount_11 (fun r3 s3 H locs hw hR hS => ?_)
  obtain ⟨hz, hw⟩ := hw
  exact x_nret cx hR hS (xle hcb) (xle hsb) (zb_nar hz) hw dX0_isCount_14
-- X0_areSame
theorem xg_X0_164_3 {l : Launch} {p : Program} {e : Env} {R : Room} {s : State} {m : MethodId} {args : Array Value} {below : List Frame} {meth : Method} {c : Code} {H : Heap} {locs : List Loc} {cells slots : Nat} {Qz : State → Prop} {cc : ByteArray} {nL : Nat} {ret : Option FieldType} {E : xx_E} {σ : XS} {pc : Nat} {ls : Array Slot} {rest : List Value} (cx : xx_X "StruckCounts" cc nL ret E p s m args meth c) (hR : xR E σ H) {a : Nat} {r : Option Nat} (hr : r = some a) (hk : kd σ a = 3) (hdg : decode cc pc = .ok (.getfield 164, 3)) (kk : W p l e R s m args below meth c H locs cells slots Qz (F0 m (pc + 3) ls (xv E (fr σ a 1) :: rest))) : W p l e R s m args below meth c H locs cells slots Qz (F0 m pc ls (xv E r :: rest)) :=
  x_getN (ci := 2) cx hR hr hk (by decide) rfl in_X2 1 (by decide) (xx_nf_mem (i := 9) rfl) (fun _ h => h) (v := xv E (fr σ a 1)) rfl hdg kk
theorem xg_X0_155_2 {l : Launch} {p : Program} {e : Env} {R : Room} {s : State} {m : MethodId} {args : Array Value} {below : List Frame} {meth : Method} {c : Code} {H : Heap} {locs : List Loc} {cells slots : Nat} {Qz : State → Prop} {cc : ByteArray} {nL : Nat} {ret : Option FieldType} {E : xx_E} {σ : XS} {pc : Nat} {ls : Array Slot} {rest : List Value} (cx : xx_X "StruckCounts" cc nL ret E p s m args meth c) (hR : xR E σ H) {a : Nat} {r : Option Nat} (hr : r = some a) (hk : kd σ a = 2) (hdg : decode cc pc = .ok (.getfield 155, 3)) (kk : W p l e R s m args below meth c H locs cells slots Qz (F0 m (pc + 3) ls (xv E (fr σ a 2) :: rest))) : W p l e R s m args below meth c H locs cells slots Qz (F0 m pc ls (xv E r :: rest)) :=
  x_getN (ci := 1) cx hR hr hk (by decide) rfl in_X1 2 (by decide) (xx_nf_mem (i := 1) rfl) (fun _ h => h) (v := xv E (fr σ a 2)) rfl hdg kk
theorem xg_X0_259_2 {l : Launch} {p : Program} {e : Env} {R : Room} {s : State} {m : MethodId} {args : Array Value} {below : List Frame} {meth : Method} {c : Code} {H : Heap} {locs : List Loc} {cells slots : Nat} {Qz : State → Prop} {cc : ByteArray} {nL : Nat} {ret : Option FieldType} {E : xx_E} {σ : XS} {pc : Nat} {ls : Array Slot} {rest : List Value} (cx : xx_X "StruckCounts" cc nL ret E p s m args meth c) (hR : xR E σ H) {a : Nat} {r : Option Nat} (hr : r = some a) (hk : kd σ a = 2) (hdg : decode cc pc = .ok (.getfield 259, 3)) (kk : W p l e R s m args below meth c H locs cells slots Qz (F0 m (pc + 3) ls (xv E (fr σ a 1) :: rest))) : W p l e R s m args below meth c H locs cells slots Qz (F0 m pc ls (xv E r :: rest)) :=
  x_getN (ci := 1) cx hR hr hk (by decide) rfl in_X1 1 (by decide) (xx_nf_mem (i := 0) rfl) (fun _ h => h) (v := xv E (fr σ a 1)) rfl hdg kk
theorem xn_X0_263 {l : Launch} {p : Program} {e : Env} {R : Room} {s : State} {m : MethodId} {args : Array Value} {below : List Frame} {meth : Method} {c : Code} {H : Heap} {locs : List Loc} {cells slots : Nat} {Qz : State → Prop} {cc : ByteArray} {nL : Nat} {ret : Option FieldType} {E : xx_E} {σ : XS} {pc : Nat} {ls : Array Slot} {rest : List Value} (cx : xx_X "StruckCounts" cc nL ret E p s m args meth c) (hR : xR E σ H) (hS0 : va_S (xA E) s.heap H locs) (hcells : cells + 1 ≤ R.cells) (hslots : slots + 2 ≤ R.slots) (hdg : decode cc pc = .ok (.new 263, 3)) (kk : ∀ (H1 : Heap), xR E (xal σ 14 0) H1 → va_S (xA E) s.heap H1 locs → W p l e R s m args below meth c H1 locs (cells + 1) (slots + 2) Qz (F0 m (pc + 3) ls (xv E (some (xn σ)) :: rest))) : W p l e R s m args below meth c H locs cells slots Qz (F0 m pc ls rest) :=
  x_new cx hR hS0 13 (by decide) rfl in_X14 tyX14 tyX14_ok q1987 q1864 q201 (fun j hj => by
    match j, hj with
    | 0, _ => exact xnew_i rfl
    | 1, _ => exact xnew_i rfl) hcells hslots hdg kk
theorem CJ7_size_X0_159 {l : Launch} {p : Program} {e : Env} {R : Room} {s : State} {m : MethodId} {args : Array Value} {below : List Frame} {meth : Method} {c : Code} {H : Heap} {locs : List Loc} {cells slots : Nat} {Qz : State → Prop} {cc : ByteArray} {nL : Nat} {ret : Option FieldType} {E : xx_E} {σ : XS} {pc : Nat} {ls : Array Slot} {rest : List Value} {th : Nat} (cx : xx_X "StruckCounts" cc nL ret E p s m args meth c) (hR0 : xR E σ H) (hS0 : va_S (xA E) s.heap H locs) {r0 : Option Nat} (hr : r0 = some th) (hk : kd σ th = 16) {Qf : Int32 → XS → Prop} (hw : wJ7_size th σ Qf) (hR : (({ frames := 0, cells := 0, slots := 0, locals := 0 } : Room)).frames + 1 ≤ R.frames ∧ 8 + (1 + 11) + (({ frames := 0, cells := 0, slots := 0, locals := 0 } : Room)).locals ≤ R.locals) (hrest : rest.length ≤ 4) (hsize : ls.size = nL) (hf : cells + 0 ≤ R.cells ∧ slots + 0 ≤ R.slots) (hdg : decode cc pc = .ok (.invokevirtual 159, 3))
    (kk : ∀ (r : Int32) (σ1 : XS) (H1 : Heap) (locs1 : List Loc), Qf r σ1 → xR E σ1 H1 → va_S (xA E) s.heap H1 locs1 → W p l e R s m args below meth c H1 locs1 (cells + 0) (slots + 0) Qz (F0 m (pc + 3) ls (.int r :: rest))) : W p l e R s m args below meth c H locs cells slots Qz (F0 m pc ls (xv E r0 :: rest)) := by
  subst hr
  obtain ⟨hx, hb, hml, hown, hts, hrt, hlk, hK, hZ⟩ := id cx
  exact x_goi (va_runV (As := []) (rest := rest) (x_fix cx) (MJ7_size l E th σ Qf hw) (cwV 0 hts (lw_V q1941 q391 q392 q165 q393) rfl rfl rfl (by decide +kernel) hR) (x_preV cx hR0 hS0 hk (by decide) (q := (RJ7, TJ7, 3)) rfl rfl []) rfl rfl hsize rfl (lv_room (xroom hrest)) hdg hf) hS0 kk
theorem CX14_init_X0_265 {l : Launch} {p : Program} {e : Env} {R : Room} {s : State} {m : MethodId} {args : Array Value} {below : List Frame} {meth : Method} {c : Code} {H : Heap} {locs : List Loc} {cells slots : Nat} {Qz : State → Prop} {cc : ByteArray} {nL : Nat} {ret : Option FieldType} {E : xx_E} {σ : XS} {pc : Nat} {ls : Array Slot} {rest : List Value} {th : Nat} {x1 : Int32} {x2 : Int32} (cx : xx_X "StruckCounts" cc nL ret E p s m args meth c) (hR0 : xR E σ H) (hS0 : va_S (xA E) s.heap H locs) {r0 : Option Nat} (hr : r0 = some th) (hk : kd σ th = 14) {Qf : XS → Prop} (hw : wX14_init th x1 x2 σ Qf) (hR : (({ frames := 1, cells := 0, slots := 0, locals := 40 } : Room)).frames + 1 ≤ R.frames ∧ 8 + (3 + 11) + (({ frames := 1, cells := 0, slots := 0, locals := 40 } : Room)).locals ≤ R.locals) (hrest : rest.length ≤ 4) (hsize : ls.size = nL) (hf : cells + 0 ≤ R.cells ∧ slots + 0 ≤ R.slots) (hdg : decode cc pc = .ok (.invokespecial 265, 3))
    (kk : ∀ (σ1 : XS) (H1 : Heap) (locs1 : List Loc), Qf σ1 → xR E σ1 H1 → va_S (xA E) s.heap H1 locs1 → W p l e R s m args below meth c H1 locs1 (cells + 0) (slots + 0) Qz (F0 m (pc + 3) ls rest)) : W p l e R s m args below meth c H locs cells slots Qz (F0 m pc ls (.int x2 :: .int x1 :: xv E r0 :: rest)) := by
  subst hr
  obtain ⟨hx, hb, hml, hown, hts, hrt, hlk, hK, hZ⟩ := id cx
  exact x_gov (va_runI (As := [.int x1, .int x2]) (rest := rest) (x_fix cx) (MX14_init l E th x1 x2 σ Qf hw) (cwI 2 hts (lw_meth q1867) rfl rfl rfl (hts _ q201) (hts _ q1988) (hts _ q1866) rfl (by decide +kernel) hR) ⟨xblind, x_pre cx hR0 hS0 (.ref (xr E th) :: [.int x1, .int x2])⟩ rfl rfl hsize rfl (lv_room (xroom hrest)) hdg hf) hS0 kk
theorem CJ5_contains_X0_268 {l : Launch} {p : Program} {e : Env} {R : Room} {s : State} {m : MethodId} {args : Array Value} {below : List Frame} {meth : Method} {c : Code} {H : Heap} {locs : List Loc} {cells slots : Nat} {Qz : State → Prop} {cc : ByteArray} {nL : Nat} {ret : Option FieldType} {E : xx_E} {σ : XS} {pc : Nat} {ls : Array Slot} {rest : List Value} {th : Nat} {x1 : Option Nat} (cx : xx_X "StruckCounts" cc nL ret E p s m args meth c) (hR0 : xR E σ H) (hS0 : va_S (xA E) s.heap H locs) {r0 : Option Nat} (hr : r0 = some th) (hk : kd σ th = 19) {Qf : Int32 → XS → Prop} (hw : wJ5_contains th x1 σ Qf) (hR : (({ frames := 11, cells := 0, slots := 0, locals := 440 } : Room)).frames + 1 ≤ R.frames ∧ 8 + (2 + 11) + (({ frames := 11, cells := 0, slots := 0, locals := 440 } : Room)).locals ≤ R.locals) (hrest : rest.length ≤ 4) (hsize : ls.size = nL) (hf : cells + 0 ≤ R.cells ∧ slots + 0 ≤ R.slots) (hdg : decode cc pc = .ok (.invokevirtual 268, 3))
    (kk : ∀ (r : Int32) (σ1 : XS) (H1 : Heap) (locs1 : List Loc), Qf r σ1 → xR E σ1 H1 → va_S (xA E) s.heap H1 locs1 → W p l e R s m args below meth c H1 locs1 (cells + 0) (slots + 0) Qz (F0 m (pc + 3) ls (.int r :: rest))) : W p l e R s m args below meth c H locs cells slots Qz (F0 m pc ls (xv E x1 :: xv E r0 :: rest)) := by
  subst hr
  obtain ⟨hx, hb, hml, hown, hts, hrt, hlk, hK, hZ⟩ := id cx
  exact x_goi (va_runV (As := [xv E x1]) (rest := rest) (x_fix cx) (MJ5_contains l E th x1 σ Qf hw) (cwV 1 hts (lw_V q1989 q1877 q1878 q163 q1879) rfl rfl rfl (by decide +kernel) hR) (x_preV cx hR0 hS0 hk (by decide) (q := (RJ5, TJ5, 1)) rfl rfl [xv E x1]) rfl rfl hsize rfl (lv_room (xroom hrest)) hdg hf) hS0 kk
def wX0_areSame (th : Nat) (x1 : Int32) (x2 : Int32) (bc : Nat) (bs : Nat) (σ : XS) (Q : Int32 → XS → Prop) : Prop :=
  kd σ th = 1 ∧ (oc σ (fr σ th 6) 3 (fun a2 => oc σ (fr σ a2 1) 100 (fun a3 => vp_in x1 (ln σ a3) ∧ (if (ai σ a3 x1.toNatClampNeg) = x2 then (Q (1 : Int32) σ) else (vp_in x2 (ln σ a3) ∧ (if (ai σ a3 x2.toNatClampNeg) = x1 then (Q (1 : Int32) σ) else (oc σ (fr σ th 5) 2 (fun a4 => oc σ (fr σ a4 2) 16 (fun a6 => wJ7_size a6 σ (fun r5 s5 => if r5 ≤ (imax x1 x2) then (Q (0 : Int32) s5) else (kd s5 th = 1 ∧ (oc s5 (fr s5 th 5) 2 (fun a8 => 1 ≤ bc ∧ 2 ≤ bs ∧ (kd (xal s5 14 0) (xn s5) = 14 ∧ (wX14_init (xn s5) x1 x2 (xal s5 14 0) (fun s9 => oc s9 (fr s5 a8 1) 19 (fun a12 => wJ5_contains a12 (some (xn s5)) s9 (fun r11 s11 => if r11 = 0 then (Q (0 : Int32) s11) else (Q (1 : Int32) s11)))))))))))))))))))
set_option maxHeartbeats 4000000 in
theorem MX0_areSame (l : Launch) (E : xx_E) (th : Nat) (x1 : Int32) (x2 : Int32) (bc : Nat) (bs : Nat) (σ : XS) (Q : Int32 → XS → Prop) (hw : wX0_areSame th x1 x2 bc bs σ Q) : xx_Mi l yX0_areSame (ws_ yX0_areSame cX0_areSame 3 (some .boolean)) ({ frames := 12, cells := bc, slots := bs, locals := 480 } : Room) E [xv E (some th), .int x1, .int x2] σ Q bc bs := by
  refine x_of (own := "StruckCounts") (by decide +kernel) rfl ?_
  intro p e s m args below meth c cx hR ha hnm
  refine x_entry [xv E (some th), .int x1, .int x2] 3 [(0, xv E (some th)), (1, .int x1), (2, .int x2)] ha (by simp [lg_sl, xv_cat, vc_i, vc_j, vc_f]) (by simp [lv_args, xv_cat, vc_i, vc_j, vc_f]) (fun ls hl => ?_)
  have hS : va_S (xA E) s.heap s.heap [] := va_S.rf
  have hcb : 0 + bc ≤ bc := Nat.le_of_eq (Nat.zero_add _)
  have hsb : 0 + bs ≤ bs := Nat.le_of_eq (Nat.zero_add _)
  unfold wX0_areSame at hw
  obtain ⟨hx, hb, hml, hown, hts, hrt, hlk, hMK, hZ⟩ := id cx
  refine x_aload_n cx dX0_areSame_0 rfl (lv_at hl 0 rfl) ?_
  obtain ⟨hk1, hw⟩ := hw
  refine xg_X0_31_1 cx hR rfl hk1 dX0_areSame_1 ?_
  obtain ⟨a2, hr2, hk2, hw⟩ := hw
  refine xg_X0_164_3 cx hR hr2 hk2 dX0_areSame_4 ?_
  refine lv_iload_n hx hb dX0_areSame_7 rfl (lv_at hl 1 rfl) ?_
  obtain ⟨a3, hr3, hk3, hw⟩ := hw
  obtain ⟨hi, hw⟩ := hw
  refine x_iald cx hR hr3 hk3 (j := x1.toNatClampNeg) rfl hi dX0_areSame_8 ?_
  refine lv_iload_n hx hb dX0_areSame_9 rfl (lv_at hl 2 rfl) ?_
  refine lv_icmp_eq (tgt := 26) hx hb dX0_areSame_10 (by decide) (fun hc => ?_) (fun hc => ?_)
  · have hw := mm_ip hc hw
    refine lv_iconst (v := (1 : Int32)) hx hb dX0_areSame_26 (by decide) ?_
    exact x_nret cx hR hS (xle hcb) (xle hsb) (zb_nar (Or.inr rfl)) hw dX0_areSame_27
  · have hw := mm_in hc hw
    refine x_aload_n cx dX0_areSame_13 rfl (lv_at hl 0 rfl) ?_
    refine xg_X0_31_1 cx hR rfl hk1 dX0_areSame_14 ?_
    refine xg_X0_164_3 cx hR hr2 hk2 dX0_areSame_17 ?_
    refine lv_iload_n hx hb dX0_areSame_20 rfl (lv_at hl 2 rfl) ?_
    obtain ⟨hi, hw⟩ := hw
    refine x_iald cx hR hr3 hk3 (j := x2.toNatClampNeg) rfl hi dX0_areSame_21 ?_
    refine lv_iload_n hx hb dX0_areSame_22 rfl (lv_at hl 1 rfl) ?_
    refine lv_icmp_ne (tgt := 28) hx hb dX0_areSame_23 (by decide) (fun hc => ?_) (fun hc => ?_)
    · have hw := mm_in hc hw
      refine lv_iload_n hx hb dX0_areSame_28 rfl (lv_at hl 1 rfl) ?_
      refine lv_iload_n hx hb dX0_areSame_29 rfl (lv_at hl 2 rfl) ?_
      refine x_max cx hl.1 q1986 (by dsimp only; omega) (xroom13 (Nat.le_of_ble_eq_true rfl) (by dsimp only; omega)) (by dsimp only; omega) (by dsimp only; omega) dX0_areSame_30 ?_
      refine x_aload_n cx dX0_areSame_33 rfl (lv_at hl 0 rfl) ?_
      refine xg_X0_24_1 cx hR rfl hk1 dX0_areSame_34 ?_
      obtain ⟨a4, hr4, hk4, hw⟩ := hw
      refine xg_X0_155_2 cx hR hr4 hk4 dX0_areSame_37 ?_
      obtain ⟨a6, hr6, hk6, hw⟩ := hw
      refine CJ7_size_X0_159 cx hR hS hr6 hk6 hw ⟨Nat.le_of_ble_eq_true rfl, Nat.le_of_ble_eq_true rfl⟩ (Nat.le_of_ble_eq_true rfl) hl.1 ⟨by dsimp only; omega, by dsimp only; omega⟩ dX0_areSame_40 (fun r5 s5 H locs hw hR hS => ?_)
      refine lv_icmp_ge (tgt := 72) hx hb dX0_areSame_43 (by decide) (fun hc => ?_) (fun hc => ?_)
      · have hw := mm_ip hc hw
        refine lv_iconst (v := (0 : Int32)) hx hb dX0_areSame_72 (by decide) ?_
        exact x_nret cx hR hS (xle hcb) (xle hsb) (zb_nar (Or.inl rfl)) hw dX0_areSame_73
      · have hw := mm_in hc hw
        refine x_aload_n cx dX0_areSame_46 rfl (lv_at hl 0 rfl) ?_
        obtain ⟨hk7, hw⟩ := hw
        refine xg_X0_24_1 cx hR rfl hk7 dX0_areSame_47 ?_
        obtain ⟨a8, hr8, hk8, hw⟩ := hw
        refine xg_X0_259_2 cx hR hr8 hk8 dX0_areSame_50 ?_
        obtain ⟨hb1, hb2, hw⟩ := hw
        refine xn_X0_263 cx hR hS (by dsimp only; omega) (by dsimp only; omega) dX0_areSame_53 (fun H hR hS => ?_)
        have hcb := xadd hb1 hcb
        have hsb := xadd hb2 hsb
        refine lv_dup hx hb dX0_areSame_56 (xv_cat _ _) ?_
        refine lv_iload_n hx hb dX0_areSame_57 rfl (lv_at hl 1 rfl) ?_
        refine lv_iload_n hx hb dX0_areSame_58 rfl (lv_at hl 2 rfl) ?_
        obtain ⟨hk10, hw⟩ := hw
        refine CX14_init_X0_265 cx hR hS rfl hk10 hw ⟨Nat.le_of_ble_eq_true rfl, Nat.le_of_ble_eq_true rfl⟩ (Nat.le_of_ble_eq_true rfl) hl.1 ⟨by dsimp only; omega, by dsimp only; omega⟩ dX0_areSame_59 (fun s9 H locs hw hR hS => ?_)
        obtain ⟨a12, hr12, hk12, hw⟩ := hw
        refine CJ5_contains_X0_268 cx hR hS hr12 hk12 hw ⟨Nat.le_of_ble_eq_true rfl, Nat.le_of_ble_eq_true rfl⟩ (Nat.le_of_ble_eq_true rfl) hl.1 ⟨by dsimp only; omega, by dsimp only; omega⟩ dX0_areSame_62 (fun r11 s11 H locs hw hR hS => ?_)
        refine lv_if_eq (tgt := 72) hx hb dX0_areSame_65 (by decide) (fun hc => ?_) (fun hc => ?_)
        · have hw := mm_ip hc hw
          refine lv_iconst (v := (0 : Int32)) hx hb dX0_areSame_72 (by decide) ?_
          exact x_nret cx hR hS (xle hcb) (xle hsb) (zb_nar (Or.inl rfl)) hw dX0_areSame_73
        · have hw := mm_in hc hw
          refine lv_iconst (v := (1 : Int32)) hx hb dX0_areSame_68 (by decide) ?_
          refine lv_goto (tgt := 73) hx hb dX0_areSame_69 (by decide) ?_
          exact x_nret cx hR hS (xle hcb) (xle hsb) (zb_nar (Or.inr rfl)) hw dX0_areSame_73
    · have hw := mm_ip hc hw
      refine lv_iconst (v := (1 : Int32)) hx hb dX0_areSame_26 (by decide) ?_
      exact x_nret cx hR hS (xle hcb) (xle hsb) (zb_nar (Or.inr rfl)) hw dX0_areSame_27
-- X0_laysInjuries
theorem xg_X0_56_1 {l : Launch} {p : Program} {e : Env} {R : Room} {s : State} {m : MethodId} {args : Array Value} {below : List Frame} {meth : Method} {c : Code} {H : Heap} {locs : List Loc} {cells slots : Nat} {Qz : State → Prop} {cc : ByteArray} {nL : Nat} {ret : Option FieldType} {E : xx_E} {σ : XS} {pc : Nat} {ls : Array Slot} {rest : List Value} (cx : xx_X "StruckCounts" cc nL ret E p s m args meth c) (hR : xR E σ H) {a : Nat} {r : Option Nat} (hr : r = some a) (hk : kd σ a = 1) (hdg : decode cc pc = .ok (.getfield 56, 3)) (kk : W p l e R s m args below meth c H locs cells slots Qz (F0 m (pc + 3) ls (xv E (fr σ a 12) :: rest))) : W p l e R s m args below meth c H locs cells slots Qz (F0 m pc ls (xv E r :: rest)) :=
  x_get (ci := 0) cx hR hr hk (by decide) rfl in_X0 12 (by decide) q583 (fun _ h => h) (v := xv E (fr σ a 12)) rfl hdg kk
theorem CX0_areSame_X0_274 {l : Launch} {p : Program} {e : Env} {R : Room} {s : State} {m : MethodId} {args : Array Value} {below : List Frame} {meth : Method} {c : Code} {H : Heap} {locs : List Loc} {cells slots : Nat} {Qz : State → Prop} {cc : ByteArray} {nL : Nat} {ret : Option FieldType} {E : xx_E} {σ : XS} {pc : Nat} {ls : Array Slot} {rest : List Value} {th : Nat} {x1 : Int32} {x2 : Int32} {k n : Nat} (cx : xx_X "StruckCounts" cc nL ret E p s m args meth c) (hR0 : xR E σ H) (hS0 : va_S (xA E) s.heap H locs) {r0 : Option Nat} (hr : r0 = some th) (hk : kd σ th = 1) {Qf : Int32 → XS → Prop} (hw : wX0_areSame th x1 x2 k n σ Qf) (hR : (({ frames := 12, cells := k, slots := n, locals := 480 } : Room)).frames + 1 ≤ R.frames ∧ 8 + (3 + 11) + (({ frames := 12, cells := k, slots := n, locals := 480 } : Room)).locals ≤ R.locals) (hrest : rest.length ≤ 4) (hsize : ls.size = nL) (hf : cells + k ≤ R.cells ∧ slots + n ≤ R.slots) (hdg : decode cc pc = .ok (.invokevirtual 274, 3))
    (kk : ∀ (r : Int32) (σ1 : XS) (H1 : Heap) (locs1 : List Loc), Qf r σ1 → xR E σ1 H1 → va_S (xA E) s.heap H1 locs1 → W p l e R s m args below meth c H1 locs1 (cells + k) (slots + n) Qz (F0 m (pc + 3) ls (.int r :: rest))) : W p l e R s m args below meth c H locs cells slots Qz (F0 m pc ls (.int x2 :: .int x1 :: xv E r0 :: rest)) := by
  subst hr
  obtain ⟨hx, hb, hml, hown, hts, hrt, hlk, hK, hZ⟩ := id cx
  exact x_goi (va_runV (As := [.int x1, .int x2]) (rest := rest) (x_fix cx) (MX0_areSame l E th x1 x2 k n σ Qf hw) (cwV 2 hts (lw_V q1982 q1984 qs48 q156 q1985) rfl rfl rfl (by decide +kernel) hR) (x_preV cx hR0 hS0 hk (by decide) (q := (RX0, TX0, 24)) rfl rfl [.int x1, .int x2]) rfl rfl hsize rfl (lv_room (xroom hrest)) hdg hf) hS0 kk
def wX0_laysInjuries_116 (Q : XS → Prop) (K28 : Nat → Int32 → Nat → Nat → XS → Prop) (K36 : Nat → Int32 → Int32 → Nat → Nat → XS → Prop) (K49 : Nat → Int32 → Int32 → Int32 → Nat → Nat → XS → Prop) (th : Nat) (x1 : Int32) (x2 : Int32) (x3 : Int32) (bc : Nat) (bs : Nat) (σ : XS) : Prop :=
  ∀ v1 : Int32, v1 = x3 + (1 : Int32) → K49 th x1 x2 v1 bc bs σ
set_option maxHeartbeats 4000000 in
theorem BX0_laysInjuries_116 {l : Launch} {p : Program} {e : Env} {s : State} {m : MethodId} {args : Array Value} {below : List Frame} {meth : Method} {c : Code} {E : xx_E} {mc ms : Nat} {Q : XS → Prop} {K28 : Nat → Int32 → Nat → Nat → XS → Prop} {K36 : Nat → Int32 → Int32 → Nat → Nat → XS → Prop} {K49 : Nat → Int32 → Int32 → Int32 → Nat → Nat → XS → Prop} (cx : xx_X "StruckCounts" cX0_laysInjuries 5 none E p s m args meth c) (hK28 : ∀ (th : Nat) (x1 : Int32) (bc : Nat) (bs : Nat) (σ : XS), K28 th x1 bc bs σ → x_T p l e ({ frames := 13, cells := mc, slots := ms, locals := 520 } : Room) s m args below meth c E (va_Qv Q (fun σ' t => xW E σ' t) (xA E)) mc ms 5 28 bc bs σ [(0, xv E (some th)), (1, .int x1)] []) (hK36 : ∀ (th : Nat) (x1 : Int32) (x2 : Int32) (bc : Nat) (bs : Nat) (σ : XS), K36 th x1 x2 bc bs σ → x_T p l e ({ frames := 13, cells := mc, slots := ms, locals := 520 } : Room) s m args below meth c E (va_Qv Q (fun σ' t => xW E σ' t) (xA E)) mc ms 5 36 bc bs σ [(0, xv E (some th)), (1, .int x1), (2, .int x2)] []) (hK49 : ∀ (th : Nat) (x1 : Int32) (x2 : Int32) (x3 : Int32) (bc : Nat) (bs : Nat) (σ : XS), K49 th x1 x2 x3 bc bs σ → x_T p l e ({ frames := 13, cells := mc, slots := ms, locals := 520 } : Room) s m args below meth c E (va_Qv Q (fun σ' t => xW E σ' t) (xA E)) mc ms 5 49 bc bs σ [(0, xv E (some th)), (1, .int x1), (2, .int x2), (3, .int x3)] []) : ∀ (th : Nat) (x1 : Int32) (x2 : Int32) (x3 : Int32) (bc : Nat) (bs : Nat) (σ : XS), wX0_laysInjuries_116 Q K28 K36 K49 th x1 x2 x3 bc bs σ → x_T p l e ({ frames := 13, cells := mc, slots := ms, locals := 520 } : Room) s m args below meth c E (va_Qv Q (fun σ' t => xW E σ' t) (xA E)) mc ms 5 116 bc bs σ [(0, xv E (some th)), (1, .int x1), (2, .int x2), (3, .int x3)] [] := by
  intro th x1 x2 x3 bc bs σ hw H locs ls cells slots hR hS hl hcb hsb
  unfold wX0_laysInjuries_116 at hw
  obtain ⟨hx, hb, hml, hown, hts, hrt, hlk, hMK, hZ⟩ := id cx
  obtain ⟨v1, hv1⟩ : ∃ v : Int32, v = x3 + (1 : Int32) := ⟨_, rfl⟩
  have hw := hw v1 hv1
  refine lv_iinc (v := v1) (lv' := [(3, .int v1), (0, xv E (some th)), (1, .int x1), (2, .int x2)]) hx hb dX0_laysInjuries_116 hl (k := 3) rfl (by rw [hv1]; rfl) (by decide) rfl (fun ls hl => ?_)
  refine lv_goto (tgt := 49) hx hb dX0_laysInjuries_119 (by decide) ?_
  exact hK49 _ _ _ _ _ _ _ hw _ _ _ _ _ hR hS (lv_sub hl [1, 2, 3, 0] rfl) hcb hsb
def wX0_laysInjuries_49 (Q : XS → Prop) (K28 : Nat → Int32 → Nat → Nat → XS → Prop) (K36 : Nat → Int32 → Int32 → Nat → Nat → XS → Prop) (K49 : Nat → Int32 → Int32 → Int32 → Nat → Nat → XS → Prop) (th : Nat) (x1 : Int32) (x2 : Int32) (x3 : Int32) (bc : Nat) (bs : Nat) (σ : XS) : Prop :=
  if x2 ≤ x3 then (∀ v2 : Int32, v2 = x2 + (1 : Int32) → K36 th x1 v2 bc bs σ) else (kd σ th = 1 ∧ (oc σ (fr σ th 12) 100 (fun a4 => vp_in x2 (ln σ a4) ∧ (vp_in x3 (ln σ a4) ∧ (if (ai σ a4 x2.toNatClampNeg) = (ai σ a4 x3.toNatClampNeg) then (wX0_laysInjuries_116 Q K28 K36 K49 th x1 x2 x3 bc bs σ) else (∃ k6 n6 : Nat, k6 ≤ bc ∧ n6 ≤ bs ∧ (wX0_areSame th x2 x3 k6 n6 σ (fun r5 s5 => if r5 = 0 then (wX0_laysInjuries_116 Q K28 K36 K49 th x1 x2 x3 (bc - k6) (bs - n6) s5) else (kd s5 th = 1 ∧ (oc s5 (fr s5 th 12) 100 (fun a8 => vp_in x2 (ln s5 a8) ∧ (vp_in x3 (ln s5 a8) ∧ (∀ v9 : Int32, v9 = (imin (ai s5 a8 x2.toNatClampNeg) (ai s5 a8 x3.toNatClampNeg)) → xK ≤ a8 ∧ (vp_in x2 (ln s5 a8) ∧ (oc (pai s5 a8 x2.toNatClampNeg v9) (fr (pai s5 a8 x2.toNatClampNeg v9) th 12) 100 (fun a10 => xK ≤ a10 ∧ (vp_in x3 (ln (pai s5 a8 x2.toNatClampNeg v9) a10) ∧ (wX0_laysInjuries_116 Q K28 K36 K49 th (1 : Int32) x2 x3 (bc - k6) (bs - n6) (pai (pai s5 a8 x2.toNatClampNeg v9) a10 x3.toNatClampNeg v9)))))))))))))))))))
set_option maxHeartbeats 4000000 in
theorem BX0_laysInjuries_49 {l : Launch} {p : Program} {e : Env} {s : State} {m : MethodId} {args : Array Value} {below : List Frame} {meth : Method} {c : Code} {E : xx_E} {mc ms : Nat} {Q : XS → Prop} {K28 : Nat → Int32 → Nat → Nat → XS → Prop} {K36 : Nat → Int32 → Int32 → Nat → Nat → XS → Prop} {K49 : Nat → Int32 → Int32 → Int32 → Nat → Nat → XS → Prop} (cx : xx_X "StruckCounts" cX0_laysInjuries 5 none E p s m args meth c) (hK28 : ∀ (th : Nat) (x1 : Int32) (bc : Nat) (bs : Nat) (σ : XS), K28 th x1 bc bs σ → x_T p l e ({ frames := 13, cells := mc, slots := ms, locals := 520 } : Room) s m args below meth c E (va_Qv Q (fun σ' t => xW E σ' t) (xA E)) mc ms 5 28 bc bs σ [(0, xv E (some th)), (1, .int x1)] []) (hK36 : ∀ (th : Nat) (x1 : Int32) (x2 : Int32) (bc : Nat) (bs : Nat) (σ : XS), K36 th x1 x2 bc bs σ → x_T p l e ({ frames := 13, cells := mc, slots := ms, locals := 520 } : Room) s m args below meth c E (va_Qv Q (fun σ' t => xW E σ' t) (xA E)) mc ms 5 36 bc bs σ [(0, xv E (some th)), (1, .int x1), (2, .int x2)] []) (hK49 : ∀ (th : Nat) (x1 : Int32) (x2 : Int32) (x3 : Int32) (bc : Nat) (bs : Nat) (σ : XS), K49 th x1 x2 x3 bc bs σ → x_T p l e ({ frames := 13, cells := mc, slots := ms, locals := 520 } : Room) s m args below meth c E (va_Qv Q (fun σ' t => xW E σ' t) (xA E)) mc ms 5 49 bc bs σ [(0, xv E (some th)), (1, .int x1), (2, .int x2), (3, .int x3)] []) : ∀ (th : Nat) (x1 : Int32) (x2 : Int32) (x3 : Int32) (bc : Nat) (bs : Nat) (σ : XS), wX0_laysInjuries_49 Q K28 K36 K49 th x1 x2 x3 bc bs σ → x_T p l e ({ frames := 13, cells := mc, slots := ms, locals := 520 } : Room) s m args below meth c E (va_Qv Q (fun σ' t => xW E σ' t) (xA E)) mc ms 5 49 bc bs σ [(0, xv E (some th)), (1, .int x1), (2, .int x2), (3, .int x3)] [] := by
  intro th x1 x2 x3 bc bs σ hw H locs ls cells slots hR hS hl hcb hsb
  unfold wX0_laysInjuries_49 at hw
  obtain ⟨hx, hb, hml, hown, hts, hrt, hlk, hMK, hZ⟩ := id cx
  refine lv_iload_n hx hb dX0_laysInjuries_49 rfl (lv_at hl 3 rfl) ?_
  refine lv_iload_n hx hb dX0_laysInjuries_50 rfl (lv_at hl 2 rfl) ?_
  refine lv_icmp_ge (tgt := 122) hx hb dX0_laysInjuries_51 (by decide) (fun hc => ?_) (fun hc => ?_)
  · have hw := mm_ip hc hw
    obtain ⟨v2, hv2⟩ : ∃ v : Int32, v = x2 + (1 : Int32) := ⟨_, rfl⟩
    have hw := hw v2 hv2
    refine lv_iinc (v := v2) (lv' := [(2, .int v2), (0, xv E (some th)), (1, .int x1), (3, .int x3)]) hx hb dX0_laysInjuries_122 hl (k := 2) rfl (by rw [hv2]; rfl) (by decide) rfl (fun ls hl => ?_)
    refine lv_goto (tgt := 36) hx hb dX0_laysInjuries_125 (by decide) ?_
    exact hK36 _ _ _ _ _ _ hw _ _ _ _ _ hR hS (lv_sub hl [1, 2, 0] rfl) hcb hsb
  · have hw := mm_in hc hw
    refine x_aload_n cx dX0_laysInjuries_54 rfl (lv_at hl 0 rfl) ?_
    obtain ⟨hk3, hw⟩ := hw
    refine xg_X0_56_1 cx hR rfl hk3 dX0_laysInjuries_55 ?_
    refine lv_iload_n hx hb dX0_laysInjuries_58 rfl (lv_at hl 2 rfl) ?_
    obtain ⟨a4, hr4, hk4, hw⟩ := hw
    obtain ⟨hi, hw⟩ := hw
    refine x_iald cx hR hr4 hk4 (j := x2.toNatClampNeg) rfl hi dX0_laysInjuries_59 ?_
    refine x_aload_n cx dX0_laysInjuries_60 rfl (lv_at hl 0 rfl) ?_
    refine xg_X0_56_1 cx hR rfl hk3 dX0_laysInjuries_61 ?_
    refine lv_iload_n hx hb dX0_laysInjuries_64 rfl (lv_at hl 3 rfl) ?_
    obtain ⟨hi, hw⟩ := hw
    refine x_iald cx hR hr4 hk4 (j := x3.toNatClampNeg) rfl hi dX0_laysInjuries_65 ?_
    refine lv_icmp_eq (tgt := 116) hx hb dX0_laysInjuries_66 (by decide) (fun hc => ?_) (fun hc => ?_)
    · have hw := mm_ip hc hw
      exact BX0_laysInjuries_116 cx hK28 hK36 hK49 _ _ _ _ _ _ _ hw _ _ _ _ _ hR hS (lv_sub hl [0, 1, 2, 3] rfl) hcb hsb
    · have hw := mm_in hc hw
      refine x_aload_n cx dX0_laysInjuries_69 rfl (lv_at hl 0 rfl) ?_
      refine lv_iload_n hx hb dX0_laysInjuries_70 rfl (lv_at hl 2 rfl) ?_
      refine lv_iload_n hx hb dX0_laysInjuries_71 rfl (lv_at hl 3 rfl) ?_
      obtain ⟨k6, n6, hb1, hb2, hw⟩ := hw
      refine CX0_areSame_X0_274 cx hR hS rfl hk3 hw ⟨Nat.le_of_ble_eq_true rfl, Nat.le_of_ble_eq_true rfl⟩ (Nat.le_of_ble_eq_true rfl) hl.1 ⟨by dsimp only; omega, by dsimp only; omega⟩ dX0_laysInjuries_72 (fun r5 s5 H locs hw hR hS => ?_)
      have hcb := xadd hb1 hcb
      have hsb := xadd hb2 hsb
      refine lv_if_ne (tgt := 81) hx hb dX0_laysInjuries_75 (by decide) (fun hc => ?_) (fun hc => ?_)
      · have hw := mm_in hc hw
        refine x_aload_n cx dX0_laysInjuries_81 rfl (lv_at hl 0 rfl) ?_
        obtain ⟨hk7, hw⟩ := hw
        refine xg_X0_56_1 cx hR rfl hk7 dX0_laysInjuries_82 ?_
        refine lv_iload_n hx hb dX0_laysInjuries_85 rfl (lv_at hl 2 rfl) ?_
        obtain ⟨a8, hr8, hk8, hw⟩ := hw
        obtain ⟨hi, hw⟩ := hw
        refine x_iald cx hR hr8 hk8 (j := x2.toNatClampNeg) rfl hi dX0_laysInjuries_86 ?_
        refine x_aload_n cx dX0_laysInjuries_87 rfl (lv_at hl 0 rfl) ?_
        refine xg_X0_56_1 cx hR rfl hk7 dX0_laysInjuries_88 ?_
        refine lv_iload_n hx hb dX0_laysInjuries_91 rfl (lv_at hl 3 rfl) ?_
        obtain ⟨hi, hw⟩ := hw
        refine x_iald cx hR hr8 hk8 (j := x3.toNatClampNeg) rfl hi dX0_laysInjuries_92 ?_
        refine x_min cx hl.1 q1932 (by dsimp only; omega) (xroom13 (Nat.le_of_ble_eq_true rfl) (by dsimp only; omega)) (by dsimp only; omega) (by dsimp only; omega) dX0_laysInjuries_93 ?_
        refine lv_topi (fun v9 hv9 => ?_)
        have hw := hw v9 hv9
        refine lv_istore (i := 4) (lv' := [(4, .int v9), (0, xv E (some th)), (1, .int x1), (2, .int x2), (3, .int x3)]) hx hb dX0_laysInjuries_96 hl (by decide) rfl (fun ls hl => ?_)
        refine x_aload_n cx dX0_laysInjuries_98 rfl (lv_at hl 1 rfl) ?_
        refine xg_X0_56_1 cx hR rfl hk7 dX0_laysInjuries_99 ?_
        refine lv_iload_n hx hb dX0_laysInjuries_102 rfl (lv_at hl 3 rfl) ?_
        refine lv_iload hx hb dX0_laysInjuries_103 (lv_at hl 0 rfl) ?_
        obtain ⟨hge_a8, hw⟩ := hw
        obtain ⟨hi, hw⟩ := hw
        refine x_iast cx hR hS hr8 hge_a8 hk8 (j := x2.toNatClampNeg) rfl hi dX0_laysInjuries_105 (fun H locs hR hS => ?_)
        refine x_aload_n cx dX0_laysInjuries_106 rfl (lv_at hl 1 rfl) ?_
        refine xg_X0_56_1 cx hR rfl hk7 dX0_laysInjuries_107 ?_
        refine lv_iload_n hx hb dX0_laysInjuries_110 rfl (lv_at hl 4 rfl) ?_
        refine lv_iload hx hb dX0_laysInjuries_111 (lv_at hl 0 rfl) ?_
        obtain ⟨a10, hr10, hk10, hw⟩ := hw
        obtain ⟨hge_a10, hw⟩ := hw
        obtain ⟨hi, hw⟩ := hw
        refine x_iast cx hR hS hr10 hge_a10 hk10 (j := x3.toNatClampNeg) rfl hi dX0_laysInjuries_113 (fun H locs hR hS => ?_)
        refine lv_iconst (v := (1 : Int32)) hx hb dX0_laysInjuries_114 (by decide) ?_
        refine lv_istore_n (i := 1) (lv' := [(1, .int (1 : Int32)), (4, .int v9), (0, xv E (some th)), (2, .int x2), (3, .int x3)]) hx hb dX0_laysInjuries_115 rfl hl (by decide) (by simp [xv_cat]) (fun ls hl => ?_)
        exact BX0_laysInjuries_116 cx hK28 hK36 hK49 _ _ _ _ _ _ _ hw _ _ _ _ _ hR hS (lv_sub hl [2, 0, 3, 4] rfl) hcb hsb
      · have hw := mm_ip hc hw
        refine lv_goto (tgt := 116) hx hb dX0_laysInjuries_78 (by decide) ?_
        exact BX0_laysInjuries_116 cx hK28 hK36 hK49 _ _ _ _ _ _ _ hw _ _ _ _ _ hR hS (lv_sub hl [0, 1, 2, 3] rfl) hcb hsb
theorem LX0_laysInjuries_49 {l : Launch} {p : Program} {e : Env} {s : State} {m : MethodId} {args : Array Value} {below : List Frame} {meth : Method} {c : Code} {E : xx_E} {mc ms : Nat} {Q : XS → Prop} {K28 : Nat → Int32 → Nat → Nat → XS → Prop} {K36 : Nat → Int32 → Int32 → Nat → Nat → XS → Prop} (cx : xx_X "StruckCounts" cX0_laysInjuries 5 none E p s m args meth c) (hK28 : ∀ (th : Nat) (x1 : Int32) (bc : Nat) (bs : Nat) (σ : XS), K28 th x1 bc bs σ → x_T p l e ({ frames := 13, cells := mc, slots := ms, locals := 520 } : Room) s m args below meth c E (va_Qv Q (fun σ' t => xW E σ' t) (xA E)) mc ms 5 28 bc bs σ [(0, xv E (some th)), (1, .int x1)] []) (hK36 : ∀ (th : Nat) (x1 : Int32) (x2 : Int32) (bc : Nat) (bs : Nat) (σ : XS), K36 th x1 x2 bc bs σ → x_T p l e ({ frames := 13, cells := mc, slots := ms, locals := 520 } : Room) s m args below meth c E (va_Qv Q (fun σ' t => xW E σ' t) (xA E)) mc ms 5 36 bc bs σ [(0, xv E (some th)), (1, .int x1), (2, .int x2)] []) : ∀ (th : Nat) (x1 : Int32) (x2 : Int32) (x3 : Int32) (bc : Nat) (bs : Nat) (σ : XS), lp7F (wX0_laysInjuries_49 Q K28 K36) th x1 x2 x3 bc bs σ → x_T p l e ({ frames := 13, cells := mc, slots := ms, locals := 520 } : Room) s m args below meth c E (va_Qv Q (fun σ' t => xW E σ' t) (xA E)) mc ms 5 49 bc bs σ [(0, xv E (some th)), (1, .int x1), (2, .int x2), (3, .int x3)] [] :=
  lp7F_of (fun K hK => BX0_laysInjuries_49 cx hK28 hK36 hK)
def wX0_laysInjuries_36 (Q : XS → Prop) (K28 : Nat → Int32 → Nat → Nat → XS → Prop) (K36 : Nat → Int32 → Int32 → Nat → Nat → XS → Prop) (th : Nat) (x1 : Int32) (x2 : Int32) (bc : Nat) (bs : Nat) (σ : XS) : Prop :=
  kd σ th = 1 ∧ (oc σ (fr σ th 6) 3 (fun a12 => if (fi σ a12 9) ≤ x2 then (K28 th x1 bc bs σ) else (lp7F (wX0_laysInjuries_49 Q K28 K36) th x1 x2 (0 : Int32) bc bs σ)))
set_option maxHeartbeats 4000000 in
theorem BX0_laysInjuries_36 {l : Launch} {p : Program} {e : Env} {s : State} {m : MethodId} {args : Array Value} {below : List Frame} {meth : Method} {c : Code} {E : xx_E} {mc ms : Nat} {Q : XS → Prop} {K28 : Nat → Int32 → Nat → Nat → XS → Prop} {K36 : Nat → Int32 → Int32 → Nat → Nat → XS → Prop} (cx : xx_X "StruckCounts" cX0_laysInjuries 5 none E p s m args meth c) (hK28 : ∀ (th : Nat) (x1 : Int32) (bc : Nat) (bs : Nat) (σ : XS), K28 th x1 bc bs σ → x_T p l e ({ frames := 13, cells := mc, slots := ms, locals := 520 } : Room) s m args below meth c E (va_Qv Q (fun σ' t => xW E σ' t) (xA E)) mc ms 5 28 bc bs σ [(0, xv E (some th)), (1, .int x1)] []) (hK36 : ∀ (th : Nat) (x1 : Int32) (x2 : Int32) (bc : Nat) (bs : Nat) (σ : XS), K36 th x1 x2 bc bs σ → x_T p l e ({ frames := 13, cells := mc, slots := ms, locals := 520 } : Room) s m args below meth c E (va_Qv Q (fun σ' t => xW E σ' t) (xA E)) mc ms 5 36 bc bs σ [(0, xv E (some th)), (1, .int x1), (2, .int x2)] []) : ∀ (th : Nat) (x1 : Int32) (x2 : Int32) (bc : Nat) (bs : Nat) (σ : XS), wX0_laysInjuries_36 Q K28 K36 th x1 x2 bc bs σ → x_T p l e ({ frames := 13, cells := mc, slots := ms, locals := 520 } : Room) s m args below meth c E (va_Qv Q (fun σ' t => xW E σ' t) (xA E)) mc ms 5 36 bc bs σ [(0, xv E (some th)), (1, .int x1), (2, .int x2)] [] := by
  intro th x1 x2 bc bs σ hw H locs ls cells slots hR hS hl hcb hsb
  unfold wX0_laysInjuries_36 at hw
  obtain ⟨hx, hb, hml, hown, hts, hrt, hlk, hMK, hZ⟩ := id cx
  refine lv_iload_n hx hb dX0_laysInjuries_36 rfl (lv_at hl 2 rfl) ?_
  refine x_aload_n cx dX0_laysInjuries_37 rfl (lv_at hl 0 rfl) ?_
  obtain ⟨hk11, hw⟩ := hw
  refine xg_X0_31_1 cx hR rfl hk11 dX0_laysInjuries_38 ?_
  obtain ⟨a12, hr12, hk12, hw⟩ := hw
  refine xg_X0_136_3 cx hR hr12 hk12 dX0_laysInjuries_41 ?_
  refine lv_icmp_ge (tgt := 128) hx hb dX0_laysInjuries_44 (by decide) (fun hc => ?_) (fun hc => ?_)
  · have hw := mm_ip hc hw
    refine lv_goto (tgt := 28) hx hb dX0_laysInjuries_128 (by decide) ?_
    exact hK28 _ _ _ _ _ hw _ _ _ _ _ hR hS (lv_sub hl [0, 1] rfl) hcb hsb
  · have hw := mm_in hc hw
    refine lv_iconst (v := (0 : Int32)) hx hb dX0_laysInjuries_47 (by decide) ?_
    refine lv_istore_n (i := 3) (lv' := [(3, .int (0 : Int32)), (0, xv E (some th)), (1, .int x1), (2, .int x2)]) hx hb dX0_laysInjuries_48 rfl hl (by decide) rfl (fun ls hl => ?_)
    exact LX0_laysInjuries_49 cx hK28 hK36 _ _ _ _ _ _ _ hw _ _ _ _ _ hR hS (lv_sub hl [1, 2, 3, 0] rfl) hcb hsb
theorem LX0_laysInjuries_36 {l : Launch} {p : Program} {e : Env} {s : State} {m : MethodId} {args : Array Value} {below : List Frame} {meth : Method} {c : Code} {E : xx_E} {mc ms : Nat} {Q : XS → Prop} {K28 : Nat → Int32 → Nat → Nat → XS → Prop} (cx : xx_X "StruckCounts" cX0_laysInjuries 5 none E p s m args meth c) (hK28 : ∀ (th : Nat) (x1 : Int32) (bc : Nat) (bs : Nat) (σ : XS), K28 th x1 bc bs σ → x_T p l e ({ frames := 13, cells := mc, slots := ms, locals := 520 } : Room) s m args below meth c E (va_Qv Q (fun σ' t => xW E σ' t) (xA E)) mc ms 5 28 bc bs σ [(0, xv E (some th)), (1, .int x1)] []) : ∀ (th : Nat) (x1 : Int32) (x2 : Int32) (bc : Nat) (bs : Nat) (σ : XS), lp6F (wX0_laysInjuries_36 Q K28) th x1 x2 bc bs σ → x_T p l e ({ frames := 13, cells := mc, slots := ms, locals := 520 } : Room) s m args below meth c E (va_Qv Q (fun σ' t => xW E σ' t) (xA E)) mc ms 5 36 bc bs σ [(0, xv E (some th)), (1, .int x1), (2, .int x2)] [] :=
  lp6F_of (fun K hK => BX0_laysInjuries_36 cx hK28 hK)
def wX0_laysInjuries_28 (Q : XS → Prop) (K28 : Nat → Int32 → Nat → Nat → XS → Prop) (th : Nat) (x1 : Int32) (bc : Nat) (bs : Nat) (σ : XS) : Prop :=
  if x1 = 0 then (Q σ) else (lp6F (wX0_laysInjuries_36 Q K28) th (0 : Int32) (0 : Int32) bc bs σ)
set_option maxHeartbeats 4000000 in
theorem BX0_laysInjuries_28 {l : Launch} {p : Program} {e : Env} {s : State} {m : MethodId} {args : Array Value} {below : List Frame} {meth : Method} {c : Code} {E : xx_E} {mc ms : Nat} {Q : XS → Prop} {K28 : Nat → Int32 → Nat → Nat → XS → Prop} (cx : xx_X "StruckCounts" cX0_laysInjuries 5 none E p s m args meth c) (hK28 : ∀ (th : Nat) (x1 : Int32) (bc : Nat) (bs : Nat) (σ : XS), K28 th x1 bc bs σ → x_T p l e ({ frames := 13, cells := mc, slots := ms, locals := 520 } : Room) s m args below meth c E (va_Qv Q (fun σ' t => xW E σ' t) (xA E)) mc ms 5 28 bc bs σ [(0, xv E (some th)), (1, .int x1)] []) : ∀ (th : Nat) (x1 : Int32) (bc : Nat) (bs : Nat) (σ : XS), wX0_laysInjuries_28 Q K28 th x1 bc bs σ → x_T p l e ({ frames := 13, cells := mc, slots := ms, locals := 520 } : Room) s m args below meth c E (va_Qv Q (fun σ' t => xW E σ' t) (xA E)) mc ms 5 28 bc bs σ [(0, xv E (some th)), (1, .int x1)] [] := by
  intro th x1 bc bs σ hw H locs ls cells slots hR hS hl hcb hsb
  unfold wX0_laysInjuries_28 at hw
  obtain ⟨hx, hb, hml, hown, hts, hrt, hlk, hMK, hZ⟩ := id cx
  refine lv_iload_n hx hb dX0_laysInjuries_28 rfl (lv_at hl 1 rfl) ?_
  refine lv_if_eq (tgt := 131) hx hb dX0_laysInjuries_29 (by decide) (fun hc => ?_) (fun hc => ?_)
  · have hw := mm_ip hc hw
    exact x_vret cx hR hS (xle hcb) (xle hsb) hw dX0_laysInjuries_131
  · have hw := mm_in hc hw
    refine lv_iconst (v := (0 : Int32)) hx hb dX0_laysInjuries_32 (by decide) ?_
    refine lv_istore_n (i := 1) (lv' := [(1, .int (0 : Int32)), (0, xv E (some th))]) hx hb dX0_laysInjuries_33 rfl hl (by decide) (by simp [xv_cat]) (fun ls hl => ?_)
    refine lv_iconst (v := (0 : Int32)) hx hb dX0_laysInjuries_34 (by decide) ?_
    refine lv_istore_n (i := 2) (lv' := [(2, .int (0 : Int32)), (1, .int (0 : Int32)), (0, xv E (some th))]) hx hb dX0_laysInjuries_35 rfl hl (by decide) rfl (fun ls hl => ?_)
    exact LX0_laysInjuries_36 cx hK28 _ _ _ _ _ _ hw _ _ _ _ _ hR hS (lv_sub hl [2, 1, 0] rfl) hcb hsb
theorem LX0_laysInjuries_28 {l : Launch} {p : Program} {e : Env} {s : State} {m : MethodId} {args : Array Value} {below : List Frame} {meth : Method} {c : Code} {E : xx_E} {mc ms : Nat} {Q : XS → Prop} (cx : xx_X "StruckCounts" cX0_laysInjuries 5 none E p s m args meth c) : ∀ (th : Nat) (x1 : Int32) (bc : Nat) (bs : Nat) (σ : XS), lp5F (wX0_laysInjuries_28 Q) th x1 bc bs σ → x_T p l e ({ frames := 13, cells := mc, slots := ms, locals := 520 } : Room) s m args below meth c E (va_Qv Q (fun σ' t => xW E σ' t) (xA E)) mc ms 5 28 bc bs σ [(0, xv E (some th)), (1, .int x1)] [] :=
  lp5F_of (fun K hK => BX0_laysInjuries_28 cx hK)
def wX0_laysInjuries_2 (Q : XS → Prop) (K2 : Nat → Int32 → Nat → Nat → XS → Prop) (th : Nat) (x1 : Int32) (bc : Nat) (bs : Nat) (σ : XS) : Prop :=
  kd σ th = 1 ∧ (oc σ (fr σ th 6) 3 (fun a14 => if (fi σ a14 9) ≤ x1 then (lp5F (wX0_laysInjuries_28 Q) th (1 : Int32) bc bs σ) else (oc σ (fr σ th 12) 100 (fun a15 => xK ≤ a15 ∧ (vp_in x1 (ln σ a15) ∧ (∀ v16 : Int32, v16 = x1 + (1 : Int32) → K2 th v16 bc bs (pai σ a15 x1.toNatClampNeg x1)))))))
set_option maxHeartbeats 4000000 in
theorem BX0_laysInjuries_2 {l : Launch} {p : Program} {e : Env} {s : State} {m : MethodId} {args : Array Value} {below : List Frame} {meth : Method} {c : Code} {E : xx_E} {mc ms : Nat} {Q : XS → Prop} {K2 : Nat → Int32 → Nat → Nat → XS → Prop} (cx : xx_X "StruckCounts" cX0_laysInjuries 5 none E p s m args meth c) (hK2 : ∀ (th : Nat) (x1 : Int32) (bc : Nat) (bs : Nat) (σ : XS), K2 th x1 bc bs σ → x_T p l e ({ frames := 13, cells := mc, slots := ms, locals := 520 } : Room) s m args below meth c E (va_Qv Q (fun σ' t => xW E σ' t) (xA E)) mc ms 5 2 bc bs σ [(0, xv E (some th)), (1, .int x1)] []) : ∀ (th : Nat) (x1 : Int32) (bc : Nat) (bs : Nat) (σ : XS), wX0_laysInjuries_2 Q K2 th x1 bc bs σ → x_T p l e ({ frames := 13, cells := mc, slots := ms, locals := 520 } : Room) s m args below meth c E (va_Qv Q (fun σ' t => xW E σ' t) (xA E)) mc ms 5 2 bc bs σ [(0, xv E (some th)), (1, .int x1)] [] := by
  intro th x1 bc bs σ hw H locs ls cells slots hR hS hl hcb hsb
  unfold wX0_laysInjuries_2 at hw
  obtain ⟨hx, hb, hml, hown, hts, hrt, hlk, hMK, hZ⟩ := id cx
  refine lv_iload_n hx hb dX0_laysInjuries_2 rfl (lv_at hl 1 rfl) ?_
  refine x_aload_n cx dX0_laysInjuries_3 rfl (lv_at hl 0 rfl) ?_
  obtain ⟨hk13, hw⟩ := hw
  refine xg_X0_31_1 cx hR rfl hk13 dX0_laysInjuries_4 ?_
  obtain ⟨a14, hr14, hk14, hw⟩ := hw
  refine xg_X0_136_3 cx hR hr14 hk14 dX0_laysInjuries_7 ?_
  refine lv_icmp_ge (tgt := 26) hx hb dX0_laysInjuries_10 (by decide) (fun hc => ?_) (fun hc => ?_)
  · have hw := mm_ip hc hw
    refine lv_iconst (v := (1 : Int32)) hx hb dX0_laysInjuries_26 (by decide) ?_
    refine lv_istore_n (i := 1) (lv' := [(1, .int (1 : Int32)), (0, xv E (some th))]) hx hb dX0_laysInjuries_27 rfl hl (by decide) (by simp [xv_cat]) (fun ls hl => ?_)
    exact LX0_laysInjuries_28 cx _ _ _ _ _ hw _ _ _ _ _ hR hS (lv_sub hl [1, 0] rfl) hcb hsb
  · have hw := mm_in hc hw
    refine x_aload_n cx dX0_laysInjuries_13 rfl (lv_at hl 0 rfl) ?_
    refine xg_X0_56_1 cx hR rfl hk13 dX0_laysInjuries_14 ?_
    refine lv_iload_n hx hb dX0_laysInjuries_17 rfl (lv_at hl 1 rfl) ?_
    refine lv_iload_n hx hb dX0_laysInjuries_18 rfl (lv_at hl 1 rfl) ?_
    obtain ⟨a15, hr15, hk15, hw⟩ := hw
    obtain ⟨hge_a15, hw⟩ := hw
    obtain ⟨hi, hw⟩ := hw
    refine x_iast cx hR hS hr15 hge_a15 hk15 (j := x1.toNatClampNeg) rfl hi dX0_laysInjuries_19 (fun H locs hR hS => ?_)
    obtain ⟨v16, hv16⟩ : ∃ v : Int32, v = x1 + (1 : Int32) := ⟨_, rfl⟩
    have hw := hw v16 hv16
    refine lv_iinc (v := v16) (lv' := [(1, .int v16), (0, xv E (some th))]) hx hb dX0_laysInjuries_20 hl (k := 1) rfl (by rw [hv16]; rfl) (by decide) (by simp [xv_cat]) (fun ls hl => ?_)
    refine lv_goto (tgt := 2) hx hb dX0_laysInjuries_23 (by decide) ?_
    exact hK2 _ _ _ _ _ hw _ _ _ _ _ hR hS (lv_sub hl [1, 0] rfl) hcb hsb
theorem LX0_laysInjuries_2 {l : Launch} {p : Program} {e : Env} {s : State} {m : MethodId} {args : Array Value} {below : List Frame} {meth : Method} {c : Code} {E : xx_E} {mc ms : Nat} {Q : XS → Prop} (cx : xx_X "StruckCounts" cX0_laysInjuries 5 none E p s m args meth c) : ∀ (th : Nat) (x1 : Int32) (bc : Nat) (bs : Nat) (σ : XS), lp5F (wX0_laysInjuries_2 Q) th x1 bc bs σ → x_T p l e ({ frames := 13, cells := mc, slots := ms, locals := 520 } : Room) s m args below meth c E (va_Qv Q (fun σ' t => xW E σ' t) (xA E)) mc ms 5 2 bc bs σ [(0, xv E (some th)), (1, .int x1)] [] :=
  lp5F_of (fun K hK => BX0_laysInjuries_2 cx hK)
def wX0_laysInjuries (th : Nat) (bc : Nat) (bs : Nat) (σ : XS) (Q : XS → Prop) : Prop :=
  lp5F (wX0_laysInjuries_2 Q) th (0 : Int32) bc bs σ
set_option maxHeartbeats 4000000 in
theorem MX0_laysInjuries (l : Launch) (E : xx_E) (th : Nat) (bc : Nat) (bs : Nat) (σ : XS) (Q : XS → Prop) (hw : wX0_laysInjuries th bc bs σ Q) : xx_Mv l yX0_laysInjuries (ws_ yX0_laysInjuries cX0_laysInjuries 5 none) ({ frames := 13, cells := bc, slots := bs, locals := 520 } : Room) E [xv E (some th)] σ Q bc bs := by
  refine x_of (own := "StruckCounts") (by decide +kernel) rfl ?_
  intro p e s m args below meth c cx hR ha hnm
  refine x_entry [xv E (some th)] 5 [(0, xv E (some th))] ha (by simp [lg_sl, xv_cat, vc_i, vc_j, vc_f]) (by simp [lv_args, xv_cat, vc_i, vc_j, vc_f]) (fun ls hl => ?_)
  have hS : va_S (xA E) s.heap s.heap [] := va_S.rf
  have hcb : 0 + bc ≤ bc := Nat.le_of_eq (Nat.zero_add _)
  have hsb : 0 + bs ≤ bs := Nat.le_of_eq (Nat.zero_add _)
  unfold wX0_laysInjuries at hw
  obtain ⟨hx, hb, hml, hown, hts, hrt, hlk, hMK, hZ⟩ := id cx
  refine lv_iconst (v := (0 : Int32)) hx hb dX0_laysInjuries_0 (by decide) ?_
  refine lv_istore_n (i := 1) (lv' := [(1, .int (0 : Int32)), (0, xv E (some th))]) hx hb dX0_laysInjuries_1 rfl hl (by decide) (by simp [xv_cat]) (fun ls hl => ?_)
  exact LX0_laysInjuries_2 cx _ _ _ _ _ hw _ _ _ _ _ hR hS (lv_sub hl [1, 0] rfl) hcb hsb
-- X0_told
theorem CJ7_get_X0_167 {l : Launch} {p : Program} {e : Env} {R : Room} {s : State} {m : MethodId} {args : Array Value} {below : List Frame} {meth : Method} {c : Code} {H : Heap} {locs : List Loc} {cells slots : Nat} {Qz : State → Prop} {cc : ByteArray} {nL : Nat} {ret : Option FieldType} {E : xx_E} {σ : XS} {pc : Nat} {ls : Array Slot} {rest : List Value} {th : Nat} {x1 : Int32} (cx : xx_X "StruckCounts" cc nL ret E p s m args meth c) (hR0 : xR E σ H) (hS0 : va_S (xA E) s.heap H locs) {r0 : Option Nat} (hr : r0 = some th) (hk : kd σ th = 16) {Qf : Option Nat → XS → Prop} (hw : wJ7_get th x1 σ Qf) (hR : (({ frames := 2, cells := 0, slots := 0, locals := 80 } : Room)).frames + 1 ≤ R.frames ∧ 8 + (2 + 11) + (({ frames := 2, cells := 0, slots := 0, locals := 80 } : Room)).locals ≤ R.locals) (hrest : rest.length ≤ 4) (hsize : ls.size = nL) (hf : cells + 0 ≤ R.cells ∧ slots + 0 ≤ R.slots) (hdg : decode cc pc = .ok (.invokevirtual 167, 3))
    (kk : ∀ (r : Option Nat) (σ1 : XS) (H1 : Heap) (locs1 : List Loc), Qf r σ1 → xR E σ1 H1 → va_S (xA E) s.heap H1 locs1 → W p l e R s m args below meth c H1 locs1 (cells + 0) (slots + 0) Qz (F0 m (pc + 3) ls (xv E r :: rest))) : W p l e R s m args below meth c H locs cells slots Qz (F0 m pc ls (.int x1 :: xv E r0 :: rest)) := by
  subst hr
  obtain ⟨hx, hb, hml, hown, hts, hrt, hlk, hK, hZ⟩ := id cx
  exact x_gor (va_runV (As := [.int x1]) (rest := rest) (x_fix cx) (MJ7_get l E th x1 σ Qf hw) (cwV 1 hts (lw_V q1942 q395 q396 q165 q397) rfl rfl rfl (by decide +kernel) hR) (x_preV cx hR0 hS0 hk (by decide) (q := (RJ7, TJ7, 3)) rfl rfl [.int x1]) rfl rfl hsize rfl (lv_room (xroom hrest)) hdg hf) hS0 kk
def wX0_told_2 (Q : Option Nat → XS → Prop) (K2 : Nat → Int32 → XS → Prop) (th : Nat) (x2 : Int32) (σ : XS) : Prop :=
  kd σ th = 1 ∧ (oc σ (fr σ th 5) 2 (fun a2 => oc σ (fr σ a2 2) 16 (fun a4 => wJ7_size a4 σ (fun r3 s3 => if x2 < r3 then (kd s3 th = 1 ∧ (oc s3 (fr s3 th 5) 2 (fun a6 => oc s3 (fr s3 a6 2) 16 (fun a8 => wJ7_get a8 x2 s3 (fun r7 s7 => xck [12] s7 r7 ∧ (Q r7 s7)))))) else (kd s3 th = 1 ∧ (oc s3 (fr s3 th 6) 3 (fun a10 => oc s3 (fr s3 a10 1) 100 (fun a11 => vp_in x2 (ln s3 a11) ∧ (∀ v12 : Int32, v12 = (ai s3 a11 x2.toNatClampNeg) → K2 th v12 s3)))))))))
set_option maxHeartbeats 4000000 in
theorem BX0_told_2 {l : Launch} {p : Program} {e : Env} {s : State} {m : MethodId} {args : Array Value} {below : List Frame} {meth : Method} {c : Code} {E : xx_E} {Q : Option Nat → XS → Prop} {K2 : Nat → Int32 → XS → Prop} (cx : xx_X "StruckCounts" cX0_told 3 (some (.object "StruckCounts$Told")) E p s m args meth c) (hK2 : ∀ (th : Nat) (x2 : Int32) (σ : XS), K2 th x2 σ → x_T p l e ({ frames := 3, cells := 0, slots := 0, locals := 120 } : Room) s m args below meth c E (va_Qe (xr E) Q (fun σ' t => xW E σ' t) (xA E)) 0 0 3 2 0 0 σ [(0, xv E (some th)), (2, .int x2)] []) : ∀ (th : Nat) (x2 : Int32) (σ : XS), wX0_told_2 Q K2 th x2 σ → x_T p l e ({ frames := 3, cells := 0, slots := 0, locals := 120 } : Room) s m args below meth c E (va_Qe (xr E) Q (fun σ' t => xW E σ' t) (xA E)) 0 0 3 2 0 0 σ [(0, xv E (some th)), (2, .int x2)] [] := by
  intro th x2 σ hw H locs ls cells slots hR hS hl hcb hsb
  unfold wX0_told_2 at hw
  obtain ⟨hx, hb, hml, hown, hts, hrt, hlk, hMK, hZ⟩ := id cx
  refine lv_iload_n hx hb dX0_told_2 rfl (lv_at hl 1 rfl) ?_
  refine x_aload_n cx dX0_told_3 rfl (lv_at hl 0 rfl) ?_
  obtain ⟨hk1, hw⟩ := hw
  refine xg_X0_24_1 cx hR rfl hk1 dX0_told_4 ?_
  obtain ⟨a2, hr2, hk2, hw⟩ := hw
  refine xg_X0_155_2 cx hR hr2 hk2 dX0_told_7 ?_
  obtain ⟨a4, hr4, hk4, hw⟩ := hw
  refine CJ7_size_X0_159 cx hR hS hr4 hk4 hw ⟨Nat.le_of_ble_eq_true rfl, Nat.le_of_ble_eq_true rfl⟩ (Nat.le_of_ble_eq_true rfl) hl.1 ⟨by dsimp only; omega, by dsimp only; omega⟩ dX0_told_10 (fun r3 s3 H locs hw hR hS => ?_)
  refine lv_icmp_lt (tgt := 29) hx hb dX0_told_13 (by decide) (fun hc => ?_) (fun hc => ?_)
  · have hw := mm_ip hc hw
    refine x_aload_n cx dX0_told_29 rfl (lv_at hl 0 rfl) ?_
    obtain ⟨hk5, hw⟩ := hw
    refine xg_X0_24_1 cx hR rfl hk5 dX0_told_30 ?_
    obtain ⟨a6, hr6, hk6, hw⟩ := hw
    refine xg_X0_155_2 cx hR hr6 hk6 dX0_told_33 ?_
    refine lv_iload_n hx hb dX0_told_36 rfl (lv_at hl 1 rfl) ?_
    obtain ⟨a8, hr8, hk8, hw⟩ := hw
    refine CJ7_get_X0_167 cx hR hS hr8 hk8 hw ⟨Nat.le_of_ble_eq_true rfl, Nat.le_of_ble_eq_true rfl⟩ (Nat.le_of_ble_eq_true rfl) hl.1 ⟨by dsimp only; omega, by dsimp only; omega⟩ dX0_told_37 (fun r7 s7 H locs hw hR hS => ?_)
    obtain ⟨hv, hw⟩ := hw
    refine x_cast cx hR q1943 (xcc_2 hv) dX0_told_40 ?_
    exact x_aret cx (by first | exact Or.inl ⟨_, rfl⟩ | exact Or.inr ⟨_, rfl⟩) hR hS (xle hcb) (xle hsb) hw dX0_told_43
  · have hw := mm_in hc hw
    refine x_aload_n cx dX0_told_16 rfl (lv_at hl 0 rfl) ?_
    obtain ⟨hk9, hw⟩ := hw
    refine xg_X0_31_1 cx hR rfl hk9 dX0_told_17 ?_
    obtain ⟨a10, hr10, hk10, hw⟩ := hw
    refine xg_X0_164_3 cx hR hr10 hk10 dX0_told_20 ?_
    refine lv_iload_n hx hb dX0_told_23 rfl (lv_at hl 1 rfl) ?_
    obtain ⟨a11, hr11, hk11, hw⟩ := hw
    obtain ⟨hi, hw⟩ := hw
    refine x_iald cx hR hr11 hk11 (j := x2.toNatClampNeg) rfl hi dX0_told_24 ?_
    refine lv_topi (fun v12 hv12 => ?_)
    have hw := hw v12 hv12
    refine lv_istore_n (i := 2) (lv' := [(2, .int v12), (0, xv E (some th))]) hx hb dX0_told_25 rfl hl (by decide) rfl (fun ls hl => ?_)
    refine lv_goto (tgt := 2) hx hb dX0_told_26 (by decide) ?_
    exact hK2 _ _ _ hw _ _ _ _ _ hR hS (lv_sub hl [1, 0] rfl) hcb hsb
theorem LX0_told_2 {l : Launch} {p : Program} {e : Env} {s : State} {m : MethodId} {args : Array Value} {below : List Frame} {meth : Method} {c : Code} {E : xx_E} {Q : Option Nat → XS → Prop} (cx : xx_X "StruckCounts" cX0_told 3 (some (.object "StruckCounts$Told")) E p s m args meth c) : ∀ (th : Nat) (x2 : Int32) (σ : XS), lp3F (wX0_told_2 Q) th x2 σ → x_T p l e ({ frames := 3, cells := 0, slots := 0, locals := 120 } : Room) s m args below meth c E (va_Qe (xr E) Q (fun σ' t => xW E σ' t) (xA E)) 0 0 3 2 0 0 σ [(0, xv E (some th)), (2, .int x2)] [] :=
  lp3F_of (fun K hK => BX0_told_2 cx hK)
def wX0_told (th : Nat) (x1 : Int32) (σ : XS) (Q : Option Nat → XS → Prop) : Prop :=
  lp3F (wX0_told_2 Q) th x1 σ
set_option maxHeartbeats 4000000 in
theorem MX0_told (l : Launch) (E : xx_E) (th : Nat) (x1 : Int32) (σ : XS) (Q : Option Nat → XS → Prop) (hw : wX0_told th x1 σ Q) : xx_Mr l yX0_told (ws_ yX0_told cX0_told 3 (some (.object "StruckCounts$Told"))) ({ frames := 3, cells := 0, slots := 0, locals := 120 } : Room) E [xv E (some th), .int x1] σ Q 0 0 := by
  refine x_of (own := "StruckCounts") (by decide +kernel) rfl ?_
  intro p e s m args below meth c cx hR ha hnm
  refine x_entry [xv E (some th), .int x1] 3 [(0, xv E (some th)), (1, .int x1)] ha (by simp [lg_sl, xv_cat, vc_i, vc_j, vc_f]) (by simp [lv_args, xv_cat, vc_i, vc_j, vc_f]) (fun ls hl => ?_)
  have hS : va_S (xA E) s.heap s.heap [] := va_S.rf
  have hcb : 0 + 0 ≤ 0 := Nat.le_of_eq (Nat.zero_add _)
  have hsb : 0 + 0 ≤ 0 := Nat.le_of_eq (Nat.zero_add _)
  unfold wX0_told at hw
  obtain ⟨hx, hb, hml, hown, hts, hrt, hlk, hMK, hZ⟩ := id cx
  refine lv_iload_n hx hb dX0_told_0 rfl (lv_at hl 1 rfl) ?_
  refine lv_istore_n (i := 2) (lv' := [(2, .int x1), (0, xv E (some th)), (1, .int x1)]) hx hb dX0_told_1 rfl hl (by decide) rfl (fun ls hl => ?_)
  exact LX0_told_2 cx _ _ _ hw _ _ _ _ _ hR hS (lv_sub hl [1, 0] rfl) hcb hsb
-- X0_agrees
theorem xg_X0_139_2 {l : Launch} {p : Program} {e : Env} {R : Room} {s : State} {m : MethodId} {args : Array Value} {below : List Frame} {meth : Method} {c : Code} {H : Heap} {locs : List Loc} {cells slots : Nat} {Qz : State → Prop} {cc : ByteArray} {nL : Nat} {ret : Option FieldType} {E : xx_E} {σ : XS} {pc : Nat} {ls : Array Slot} {rest : List Value} (cx : xx_X "StruckCounts" cc nL ret E p s m args meth c) (hR : xR E σ H) {a : Nat} {r : Option Nat} (hr : r = some a) (hk : kd σ a = 2) (hdg : decode cc pc = .ok (.getfield 139, 3)) (kk : W p l e R s m args below meth c H locs cells slots Qz (F0 m (pc + 3) ls (xv E (fr σ a 10) :: rest))) : W p l e R s m args below meth c H locs cells slots Qz (F0 m pc ls (xv E r :: rest)) :=
  x_getN (ci := 1) cx hR hr hk (by decide) rfl in_X1 10 (by decide) (xx_nf_mem (i := 6) rfl) (fun _ h => h) (v := xv E (fr σ a 10)) rfl hdg kk
def wX0_agrees (th : Nat) (x1 : Int32) (x2 : Int32) (x3 : Int32) (σ : XS) (Q : Int32 → XS → Prop) : Prop :=
  kd σ th = 1 ∧ (oc σ (fr σ th 5) 2 (fun a2 => oc σ (fr σ a2 10) 101 (fun a3 => vp_in x1 (ln σ a3) ∧ (if (ai σ a3 x1.toNatClampNeg) = 0 then (Q (0 : Int32) σ) else (if ((x1 ^^^ x3) &&& x2) = 0 then (Q (1 : Int32) σ) else (Q (0 : Int32) σ))))))
set_option maxHeartbeats 4000000 in
theorem MX0_agrees (l : Launch) (E : xx_E) (th : Nat) (x1 : Int32) (x2 : Int32) (x3 : Int32) (σ : XS) (Q : Int32 → XS → Prop) (hw : wX0_agrees th x1 x2 x3 σ Q) : xx_Mi l yX0_agrees (ws_ yX0_agrees cX0_agrees 4 (some .boolean)) ({ frames := 0, cells := 0, slots := 0, locals := 0 } : Room) E [xv E (some th), .int x1, .int x2, .int x3] σ Q 0 0 := by
  refine x_of (own := "StruckCounts") (by decide +kernel) rfl ?_
  intro p e s m args below meth c cx hR ha hnm
  refine x_entry [xv E (some th), .int x1, .int x2, .int x3] 4 [(0, xv E (some th)), (1, .int x1), (2, .int x2), (3, .int x3)] ha (by simp [lg_sl, xv_cat, vc_i, vc_j, vc_f]) (by simp [lv_args, xv_cat, vc_i, vc_j, vc_f]) (fun ls hl => ?_)
  have hS : va_S (xA E) s.heap s.heap [] := va_S.rf
  have hcb : 0 + 0 ≤ 0 := Nat.le_of_eq (Nat.zero_add _)
  have hsb : 0 + 0 ≤ 0 := Nat.le_of_eq (Nat.zero_add _)
  unfold wX0_agrees at hw
  obtain ⟨hx, hb, hml, hown, hts, hrt, hlk, hMK, hZ⟩ := id cx
  refine x_aload_n cx dX0_agrees_0 rfl (lv_at hl 0 rfl) ?_
  obtain ⟨hk1, hw⟩ := hw
  refine xg_X0_24_1 cx hR rfl hk1 dX0_agrees_1 ?_
  obtain ⟨a2, hr2, hk2, hw⟩ := hw
  refine xg_X0_139_2 cx hR hr2 hk2 dX0_agrees_4 ?_
  refine lv_iload_n hx hb dX0_agrees_7 rfl (lv_at hl 1 rfl) ?_
  obtain ⟨a3, hr3, hk3, hw⟩ := hw
  obtain ⟨hi, hw⟩ := hw
  refine x_zald cx hR hr3 hk3 (j := x1.toNatClampNeg) rfl hi dX0_agrees_8 ?_
  refine lv_if_eq (tgt := 24) hx hb dX0_agrees_9 (by decide) (fun hc => ?_) (fun hc => ?_)
  · have hw := mm_ip hc hw
    refine lv_iconst (v := (0 : Int32)) hx hb dX0_agrees_24 (by decide) ?_
    exact x_nret cx hR hS (xle hcb) (xle hsb) (zb_nar (Or.inl rfl)) hw dX0_agrees_25
  · have hw := mm_in hc hw
    refine lv_iload_n hx hb dX0_agrees_12 rfl (lv_at hl 1 rfl) ?_
    refine lv_iload_n hx hb dX0_agrees_13 rfl (lv_at hl 3 rfl) ?_
    refine lv_ixor hx hb dX0_agrees_14 ?_
    refine lv_iload_n hx hb dX0_agrees_15 rfl (lv_at hl 2 rfl) ?_
    refine lv_iand hx hb dX0_agrees_16 ?_
    refine lv_if_ne (tgt := 24) hx hb dX0_agrees_17 (by decide) (fun hc => ?_) (fun hc => ?_)
    · have hw := mm_in hc hw
      refine lv_iconst (v := (0 : Int32)) hx hb dX0_agrees_24 (by decide) ?_
      exact x_nret cx hR hS (xle hcb) (xle hsb) (zb_nar (Or.inl rfl)) hw dX0_agrees_25
    · have hw := mm_ip hc hw
      refine lv_iconst (v := (1 : Int32)) hx hb dX0_agrees_20 (by decide) ?_
      refine lv_goto (tgt := 25) hx hb dX0_agrees_21 (by decide) ?_
      exact x_nret cx hR hS (xle hcb) (xle hsb) (zb_nar (Or.inr rfl)) hw dX0_agrees_25
-- X0_isLeft
theorem CX1_sets_X0_142 {l : Launch} {p : Program} {e : Env} {R : Room} {s : State} {m : MethodId} {args : Array Value} {below : List Frame} {meth : Method} {c : Code} {H : Heap} {locs : List Loc} {cells slots : Nat} {Qz : State → Prop} {cc : ByteArray} {nL : Nat} {ret : Option FieldType} {E : xx_E} {σ : XS} {pc : Nat} {ls : Array Slot} {rest : List Value} {th : Nat} (cx : xx_X "StruckCounts" cc nL ret E p s m args meth c) (hR0 : xR E σ H) (hS0 : va_S (xA E) s.heap H locs) {r0 : Option Nat} (hr : r0 = some th) (hk : kd σ th = 2) {Qf : Int32 → XS → Prop} (hw : wX1_sets th σ Qf) (hR : (({ frames := 0, cells := 0, slots := 0, locals := 0 } : Room)).frames + 1 ≤ R.frames ∧ 8 + (1 + 11) + (({ frames := 0, cells := 0, slots := 0, locals := 0 } : Room)).locals ≤ R.locals) (hrest : rest.length ≤ 4) (hsize : ls.size = nL) (hf : cells + 0 ≤ R.cells ∧ slots + 0 ≤ R.slots) (hdg : decode cc pc = .ok (.invokevirtual 142, 3))
    (kk : ∀ (r : Int32) (σ1 : XS) (H1 : Heap) (locs1 : List Loc), Qf r σ1 → xR E σ1 H1 → va_S (xA E) s.heap H1 locs1 → W p l e R s m args below meth c H1 locs1 (cells + 0) (slots + 0) Qz (F0 m (pc + 3) ls (.int r :: rest))) : W p l e R s m args below meth c H locs cells slots Qz (F0 m pc ls (xv E r0 :: rest)) := by
  subst hr
  obtain ⟨hx, hb, hml, hown, hts, hrt, hlk, hK, hZ⟩ := id cx
  exact x_goi (va_runV (As := []) (rest := rest) (x_fix cx) (MX1_sets l E th σ Qf hw) (cwV 0 hts (lw_V q1956 q383 q384 q157 q385) rfl rfl rfl (by decide +kernel) hR) (x_preV cx hR0 hS0 hk (by decide) (q := (RX1, TX1, 12)) rfl rfl []) rfl rfl hsize rfl (lv_room (xroom hrest)) hdg hf) hS0 kk
theorem CX0_agrees_X0_146 {l : Launch} {p : Program} {e : Env} {R : Room} {s : State} {m : MethodId} {args : Array Value} {below : List Frame} {meth : Method} {c : Code} {H : Heap} {locs : List Loc} {cells slots : Nat} {Qz : State → Prop} {cc : ByteArray} {nL : Nat} {ret : Option FieldType} {E : xx_E} {σ : XS} {pc : Nat} {ls : Array Slot} {rest : List Value} {th : Nat} {x1 : Int32} {x2 : Int32} {x3 : Int32} (cx : xx_X "StruckCounts" cc nL ret E p s m args meth c) (hR0 : xR E σ H) (hS0 : va_S (xA E) s.heap H locs) {r0 : Option Nat} (hr : r0 = some th) (hk : kd σ th = 1) {Qf : Int32 → XS → Prop} (hw : wX0_agrees th x1 x2 x3 σ Qf) (hR : (({ frames := 0, cells := 0, slots := 0, locals := 0 } : Room)).frames + 1 ≤ R.frames ∧ 8 + (4 + 11) + (({ frames := 0, cells := 0, slots := 0, locals := 0 } : Room)).locals ≤ R.locals) (hrest : rest.length ≤ 4) (hsize : ls.size = nL) (hf : cells + 0 ≤ R.cells ∧ slots + 0 ≤ R.slots) (hdg : decode cc pc = .ok (.invokevirtual 146, 3))
    (kk : ∀ (r : Int32) (σ1 : XS) (H1 : Heap) (locs1 : List Loc), Qf r σ1 → xR E σ1 H1 → va_S (xA E) s.heap H1 locs1 → W p l e R s m args below meth c H1 locs1 (cells + 0) (slots + 0) Qz (F0 m (pc + 3) ls (.int r :: rest))) : W p l e R s m args below meth c H locs cells slots Qz (F0 m pc ls (.int x3 :: .int x2 :: .int x1 :: xv E r0 :: rest)) := by
  subst hr
  obtain ⟨hx, hb, hml, hown, hts, hrt, hlk, hK, hZ⟩ := id cx
  exact x_goi (va_runV (As := [.int x1, .int x2, .int x3]) (rest := rest) (x_fix cx) (MX0_agrees l E th x1 x2 x3 σ Qf hw) (cwV 3 hts (lw_V q1957 q1959 qs42 q156 q1960) rfl rfl rfl (by decide +kernel) hR) (x_preV cx hR0 hS0 hk (by decide) (q := (RX0, TX0, 24)) rfl rfl [.int x1, .int x2, .int x3]) rfl rfl hsize rfl (lv_room (xroom hrest)) hdg hf) hS0 kk
def wX0_isLeft_2 (Q : Int32 → XS → Prop) (K2 : Nat → Int32 → Int32 → Int32 → XS → Prop) (th : Nat) (x1 : Int32) (x2 : Int32) (x3 : Int32) (σ : XS) : Prop :=
  kd σ th = 1 ∧ (oc σ (fr σ th 5) 2 (fun a3 => wX1_sets a3 σ (fun r2 s2 => if r2 ≤ x3 then (Q (0 : Int32) s2) else (kd s2 th = 1 ∧ (wX0_agrees th x3 x1 x2 s2 (fun r4 s4 => if r4 = 0 then (∀ v6 : Int32, v6 = x3 + (1 : Int32) → K2 th x1 x2 v6 s4) else (Q (1 : Int32) s4)))))))
set_option maxHeartbeats 4000000 in
theorem BX0_isLeft_2 {l : Launch} {p : Program} {e : Env} {s : State} {m : MethodId} {args : Array Value} {below : List Frame} {meth : Method} {c : Code} {E : xx_E} {Q : Int32 → XS → Prop} {K2 : Nat → Int32 → Int32 → Int32 → XS → Prop} (cx : xx_X "StruckCounts" cX0_isLeft 4 (some .boolean) E p s m args meth c) (hK2 : ∀ (th : Nat) (x1 : Int32) (x2 : Int32) (x3 : Int32) (σ : XS), K2 th x1 x2 x3 σ → x_T p l e ({ frames := 1, cells := 0, slots := 0, locals := 40 } : Room) s m args below meth c E (va_Qi Q (fun σ' t => xW E σ' t) (xA E)) 0 0 4 2 0 0 σ [(0, xv E (some th)), (1, .int x1), (2, .int x2), (3, .int x3)] []) : ∀ (th : Nat) (x1 : Int32) (x2 : Int32) (x3 : Int32) (σ : XS), wX0_isLeft_2 Q K2 th x1 x2 x3 σ → x_T p l e ({ frames := 1, cells := 0, slots := 0, locals := 40 } : Room) s m args below meth c E (va_Qi Q (fun σ' t => xW E σ' t) (xA E)) 0 0 4 2 0 0 σ [(0, xv E (some th)), (1, .int x1), (2, .int x2), (3, .int x3)] [] := by
  intro th x1 x2 x3 σ hw H locs ls cells slots hR hS hl hcb hsb
  unfold wX0_isLeft_2 at hw
  obtain ⟨hx, hb, hml, hown, hts, hrt, hlk, hMK, hZ⟩ := id cx
  refine lv_iload_n hx hb dX0_isLeft_2 rfl (lv_at hl 3 rfl) ?_
  refine x_aload_n cx dX0_isLeft_3 rfl (lv_at hl 0 rfl) ?_
  obtain ⟨hk1, hw⟩ := hw
  refine xg_X0_24_1 cx hR rfl hk1 dX0_isLeft_4 ?_
  obtain ⟨a3, hr3, hk3, hw⟩ := hw
  refine CX1_sets_X0_142 cx hR hS hr3 hk3 hw ⟨Nat.le_of_ble_eq_true rfl, Nat.le_of_ble_eq_true rfl⟩ (Nat.le_of_ble_eq_true rfl) hl.1 ⟨by dsimp only; omega, by dsimp only; omega⟩ dX0_isLeft_7 (fun r2 s2 H locs hw hR hS => ?_)
  refine lv_icmp_ge (tgt := 31) hx hb dX0_isLeft_10 (by decide) (fun hc => ?_) (fun hc => ?_)
  · have hw := mm_ip hc hw
    refine lv_iconst (v := (0 : Int32)) hx hb dX0_isLeft_31 (by decide) ?_
    exact x_nret cx hR hS (xle hcb) (xle hsb) (zb_nar (Or.inl rfl)) hw dX0_isLeft_32
  · have hw := mm_in hc hw
    refine x_aload_n cx dX0_isLeft_13 rfl (lv_at hl 0 rfl) ?_
    refine lv_iload_n hx hb dX0_isLeft_14 rfl (lv_at hl 3 rfl) ?_
    refine lv_iload_n hx hb dX0_isLeft_15 rfl (lv_at hl 1 rfl) ?_
    refine lv_iload_n hx hb dX0_isLeft_16 rfl (lv_at hl 2 rfl) ?_
    obtain ⟨hk5, hw⟩ := hw
    refine CX0_agrees_X0_146 cx hR hS rfl hk5 hw ⟨Nat.le_of_ble_eq_true rfl, Nat.le_of_ble_eq_true rfl⟩ (Nat.le_of_ble_eq_true rfl) hl.1 ⟨by dsimp only; omega, by dsimp only; omega⟩ dX0_isLeft_17 (fun r4 s4 H locs hw hR hS => ?_)
    refine lv_if_eq (tgt := 25) hx hb dX0_isLeft_20 (by decide) (fun hc => ?_) (fun hc => ?_)
    · have hw := mm_ip hc hw
      obtain ⟨v6, hv6⟩ : ∃ v : Int32, v = x3 + (1 : Int32) := ⟨_, rfl⟩
      have hw := hw v6 hv6
      refine lv_iinc (v := v6) (lv' := [(3, .int v6), (0, xv E (some th)), (1, .int x1), (2, .int x2)]) hx hb dX0_isLeft_25 hl (k := 3) rfl (by rw [hv6]; rfl) (by decide) rfl (fun ls hl => ?_)
      refine lv_goto (tgt := 2) hx hb dX0_isLeft_28 (by decide) ?_
      exact hK2 _ _ _ _ _ hw _ _ _ _ _ hR hS (lv_sub hl [1, 2, 3, 0] rfl) hcb hsb
    · have hw := mm_in hc hw
      refine lv_iconst (v := (1 : Int32)) hx hb dX0_isLeft_23 (by decide) ?_
      exact x_nret cx hR hS (xle hcb) (xle hsb) (zb_nar (Or.inr rfl)) hw dX0_isLeft_24
theorem LX0_isLeft_2 {l : Launch} {p : Program} {e : Env} {s : State} {m : MethodId} {args : Array Value} {below : List Frame} {meth : Method} {c : Code} {E : xx_E} {Q : Int32 → XS → Prop} (cx : xx_X "StruckCounts" cX0_isLeft 4 (some .boolean) E p s m args meth c) : ∀ (th : Nat) (x1 : Int32) (x2 : Int32) (x3 : Int32) (σ : XS), lp5F (wX0_isLeft_2 Q) th x1 x2 x3 σ → x_T p l e ({ frames := 1, cells := 0, slots := 0, locals := 40 } : Room) s m args below meth c E (va_Qi Q (fun σ' t => xW E σ' t) (xA E)) 0 0 4 2 0 0 σ [(0, xv E (some th)), (1, .int x1), (2, .int x2), (3, .int x3)] [] :=
  lp5F_of (fun K hK => BX0_isLeft_2 cx hK)
def wX0_isLeft (th : Nat) (x1 : Int32) (x2 : Int32) (σ : XS) (Q : Int32 → XS → Prop) : Prop :=
  lp5F (wX0_isLeft_2 Q) th x1 x2 (0 : Int32) σ
set_option maxHeartbeats 4000000 in
theorem MX0_isLeft (l : Launch) (E : xx_E) (th : Nat) (x1 : Int32) (x2 : Int32) (σ : XS) (Q : Int32 → XS → Prop) (hw : wX0_isLeft th x1 x2 σ Q) : xx_Mi l yX0_isLeft (ws_ yX0_isLeft cX0_isLeft 4 (some .boolean)) ({ frames := 1, cells := 0, slots := 0, locals := 40 } : Room) E [xv E (some th), .int x1, .int x2] σ Q 0 0 := by
  refine x_of (own := "StruckCounts") (by decide +kernel) rfl ?_
  intro p e s m args below meth c cx hR ha hnm
  refine x_entry [xv E (some th), .int x1, .int x2] 4 [(0, xv E (some th)), (1, .int x1), (2, .int x2)] ha (by simp [lg_sl, xv_cat, vc_i, vc_j, vc_f]) (by simp [lv_args, xv_cat, vc_i, vc_j, vc_f]) (fun ls hl => ?_)
  have hS : va_S (xA E) s.heap s.heap [] := va_S.rf
  have hcb : 0 + 0 ≤ 0 := Nat.le_of_eq (Nat.zero_add _)
  have hsb : 0 + 0 ≤ 0 := Nat.le_of_eq (Nat.zero_add _)
  unfold wX0_isLeft at hw
  obtain ⟨hx, hb, hml, hown, hts, hrt, hlk, hMK, hZ⟩ := id cx
  refine lv_iconst (v := (0 : Int32)) hx hb dX0_isLeft_0 (by decide) ?_
  refine lv_istore_n (i := 3) (lv' := [(3, .int (0 : Int32)), (0, xv E (some th)), (1, .int x1), (2, .int x2)]) hx hb dX0_isLeft_1 rfl hl (by decide) rfl (fun ls hl => ?_)
  exact LX0_isLeft_2 cx _ _ _ _ _ hw _ _ _ _ _ hR hS (lv_sub hl [1, 2, 3, 0] rfl) hcb hsb
