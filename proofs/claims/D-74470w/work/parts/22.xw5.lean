set_option maxRecDepth 100000
-- J2_afterNodeAccessL
theorem xp_J2_7_18 {l : Launch} {p : Program} {e : Env} {R : Room} {s : State} {m : MethodId} {args : Array Value} {below : List Frame} {meth : Method} {c : Code} {H : Heap} {locs : List Loc} {cells slots : Nat} {Qz : State → Prop} {cc : ByteArray} {nL : Nat} {ret : Option FieldType} {E : xx_E} {σ : XS} {pc : Nat} {ls : Array Slot} {rest : List Value} (cx : xx_X "java/util/LinkedHashMap" cc nL ret E p s m args meth c) (hR : xR E σ H) (hS0 : va_S (xA E) s.heap H locs) {a : Nat} {r : Option Nat} {v : Option Nat} (hr : r = some a) (ha : xK ≤ a) (hk : kd σ a = 18) (hdg : decode cc pc = .ok (.putfield 7, 3)) (kk : ∀ (H1 : Heap) (locs1 : List Loc), xR E (pfr σ a 8 v) H1 → va_S (xA E) s.heap H1 locs1 → W p l e R s m args below meth c H1 locs1 cells slots Qz (F0 m (pc + 3) ls rest)) : W p l e R s m args below meth c H locs cells slots Qz (F0 m pc ls (xv E v :: xv E r :: rest)) :=
  x_put (ci := 17) cx hR hS0 hr ha hk (by decide) rfl in_J2 tyJ2 tyJ2_ok nmJ2 8 (by decide) (Or.inl ⟨q233, rfl⟩) (fun _ h => h) (by cases v <;> rfl) (by cases v <;> rfl) (xput_r rfl) hdg kk
theorem xg_J2_68_18 {l : Launch} {p : Program} {e : Env} {R : Room} {s : State} {m : MethodId} {args : Array Value} {below : List Frame} {meth : Method} {c : Code} {H : Heap} {locs : List Loc} {cells slots : Nat} {Qz : State → Prop} {cc : ByteArray} {nL : Nat} {ret : Option FieldType} {E : xx_E} {σ : XS} {pc : Nat} {ls : Array Slot} {rest : List Value} (cx : xx_X "java/util/LinkedHashMap" cc nL ret E p s m args meth c) (hR : xR E σ H) {a : Nat} {r : Option Nat} (hr : r = some a) (hk : kd σ a = 18) (hdg : decode cc pc = .ok (.getfield 68, 3)) (kk : W p l e R s m args below meth c H locs cells slots Qz (F0 m (pc + 3) ls (.int (fi σ a 5) :: rest))) : W p l e R s m args below meth c H locs cells slots Qz (F0 m pc ls (xv E r :: rest)) :=
  x_get (ci := 17) cx hR hr hk (by decide) rfl in_J2 5 (by decide) q239 (u_same (cx.2.2.2.2.1 _ q240)) (v := .int (fi σ a 5)) rfl hdg kk
theorem xp_J2_68_18 {l : Launch} {p : Program} {e : Env} {R : Room} {s : State} {m : MethodId} {args : Array Value} {below : List Frame} {meth : Method} {c : Code} {H : Heap} {locs : List Loc} {cells slots : Nat} {Qz : State → Prop} {cc : ByteArray} {nL : Nat} {ret : Option FieldType} {E : xx_E} {σ : XS} {pc : Nat} {ls : Array Slot} {rest : List Value} (cx : xx_X "java/util/LinkedHashMap" cc nL ret E p s m args meth c) (hR : xR E σ H) (hS0 : va_S (xA E) s.heap H locs) {a : Nat} {r : Option Nat} {v : Int32} (hr : r = some a) (ha : xK ≤ a) (hk : kd σ a = 18) (hdg : decode cc pc = .ok (.putfield 68, 3)) (kk : ∀ (H1 : Heap) (locs1 : List Loc), xR E (pfi σ a 5 v) H1 → va_S (xA E) s.heap H1 locs1 → W p l e R s m args below meth c H1 locs1 cells slots Qz (F0 m (pc + 3) ls rest)) : W p l e R s m args below meth c H locs cells slots Qz (F0 m pc ls (.int v :: xv E r :: rest)) :=
  x_put (ci := 17) cx hR hS0 hr ha hk (by decide) rfl in_J2 tyJ2 tyJ2_ok nmJ2 5 (by decide) (Or.inl ⟨q239, rfl⟩) (u_same (cx.2.2.2.2.1 _ q240)) rfl rfl (xput_i rfl) hdg kk
theorem xp_J2_14_21 {l : Launch} {p : Program} {e : Env} {R : Room} {s : State} {m : MethodId} {args : Array Value} {below : List Frame} {meth : Method} {c : Code} {H : Heap} {locs : List Loc} {cells slots : Nat} {Qz : State → Prop} {cc : ByteArray} {nL : Nat} {ret : Option FieldType} {E : xx_E} {σ : XS} {pc : Nat} {ls : Array Slot} {rest : List Value} (cx : xx_X "java/util/LinkedHashMap" cc nL ret E p s m args meth c) (hR : xR E σ H) (hS0 : va_S (xA E) s.heap H locs) {a : Nat} {r : Option Nat} {v : Option Nat} (hr : r = some a) (ha : xK ≤ a) (hk : kd σ a = 21) (hdg : decode cc pc = .ok (.putfield 14, 3)) (kk : ∀ (H1 : Heap) (locs1 : List Loc), xR E (pfr σ a 5 v) H1 → va_S (xA E) s.heap H1 locs1 → W p l e R s m args below meth c H1 locs1 cells slots Qz (F0 m (pc + 3) ls rest)) : W p l e R s m args below meth c H locs cells slots Qz (F0 m pc ls (xv E v :: xv E r :: rest)) :=
  x_put (ci := 20) cx hR hS0 hr ha hk (by decide) rfl in_J26 tyJ26 tyJ26_ok nmJ26 5 (by decide) (Or.inl ⟨q1498, rfl⟩) (fun _ h => h) (by cases v <;> rfl) (by cases v <;> rfl) (xput_r rfl) hdg kk
theorem xp_J2_19_21 {l : Launch} {p : Program} {e : Env} {R : Room} {s : State} {m : MethodId} {args : Array Value} {below : List Frame} {meth : Method} {c : Code} {H : Heap} {locs : List Loc} {cells slots : Nat} {Qz : State → Prop} {cc : ByteArray} {nL : Nat} {ret : Option FieldType} {E : xx_E} {σ : XS} {pc : Nat} {ls : Array Slot} {rest : List Value} (cx : xx_X "java/util/LinkedHashMap" cc nL ret E p s m args meth c) (hR : xR E σ H) (hS0 : va_S (xA E) s.heap H locs) {a : Nat} {r : Option Nat} {v : Option Nat} (hr : r = some a) (ha : xK ≤ a) (hk : kd σ a = 21) (hdg : decode cc pc = .ok (.putfield 19, 3)) (kk : ∀ (H1 : Heap) (locs1 : List Loc), xR E (pfr σ a 4 v) H1 → va_S (xA E) s.heap H1 locs1 → W p l e R s m args below meth c H1 locs1 cells slots Qz (F0 m (pc + 3) ls rest)) : W p l e R s m args below meth c H locs cells slots Qz (F0 m pc ls (xv E v :: xv E r :: rest)) :=
  x_put (ci := 20) cx hR hS0 hr ha hk (by decide) rfl in_J26 tyJ26 tyJ26_ok nmJ26 4 (by decide) (Or.inl ⟨q1497, rfl⟩) (fun _ h => h) (by cases v <;> rfl) (by cases v <;> rfl) (xput_r rfl) hdg kk
theorem xp_J2_11_18 {l : Launch} {p : Program} {e : Env} {R : Room} {s : State} {m : MethodId} {args : Array Value} {below : List Frame} {meth : Method} {c : Code} {H : Heap} {locs : List Loc} {cells slots : Nat} {Qz : State → Prop} {cc : ByteArray} {nL : Nat} {ret : Option FieldType} {E : xx_E} {σ : XS} {pc : Nat} {ls : Array Slot} {rest : List Value} (cx : xx_X "java/util/LinkedHashMap" cc nL ret E p s m args meth c) (hR : xR E σ H) (hS0 : va_S (xA E) s.heap H locs) {a : Nat} {r : Option Nat} {v : Option Nat} (hr : r = some a) (ha : xK ≤ a) (hk : kd σ a = 18) (hdg : decode cc pc = .ok (.putfield 11, 3)) (kk : ∀ (H1 : Heap) (locs1 : List Loc), xR E (pfr σ a 9 v) H1 → va_S (xA E) s.heap H1 locs1 → W p l e R s m args below meth c H1 locs1 cells slots Qz (F0 m (pc + 3) ls rest)) : W p l e R s m args below meth c H locs cells slots Qz (F0 m pc ls (xv E v :: xv E r :: rest)) :=
  x_put (ci := 17) cx hR hS0 hr ha hk (by decide) rfl in_J2 tyJ2 tyJ2_ok nmJ2 9 (by decide) (Or.inl ⟨q234, rfl⟩) (fun _ h => h) (by cases v <;> rfl) (by cases v <;> rfl) (xput_r rfl) hdg kk
theorem xg_J2_1_18 {l : Launch} {p : Program} {e : Env} {R : Room} {s : State} {m : MethodId} {args : Array Value} {below : List Frame} {meth : Method} {c : Code} {H : Heap} {locs : List Loc} {cells slots : Nat} {Qz : State → Prop} {cc : ByteArray} {nL : Nat} {ret : Option FieldType} {E : xx_E} {σ : XS} {pc : Nat} {ls : Array Slot} {rest : List Value} (cx : xx_X "java/util/LinkedHashMap" cc nL ret E p s m args meth c) (hR : xR E σ H) {a : Nat} {r : Option Nat} (hr : r = some a) (hk : kd σ a = 18) (hdg : decode cc pc = .ok (.getfield 1, 3)) (kk : W p l e R s m args below meth c H locs cells slots Qz (F0 m (pc + 3) ls (.int (fi σ a 11) :: rest))) : W p l e R s m args below meth c H locs cells slots Qz (F0 m pc ls (xv E r :: rest)) :=
  x_get (ci := 17) cx hR hr hk (by decide) rfl in_J2 11 (by decide) q236 (fun _ h => h) (v := .int (fi σ a 11)) rfl hdg kk
theorem xg_J2_7_18 {l : Launch} {p : Program} {e : Env} {R : Room} {s : State} {m : MethodId} {args : Array Value} {below : List Frame} {meth : Method} {c : Code} {H : Heap} {locs : List Loc} {cells slots : Nat} {Qz : State → Prop} {cc : ByteArray} {nL : Nat} {ret : Option FieldType} {E : xx_E} {σ : XS} {pc : Nat} {ls : Array Slot} {rest : List Value} (cx : xx_X "java/util/LinkedHashMap" cc nL ret E p s m args meth c) (hR : xR E σ H) {a : Nat} {r : Option Nat} (hr : r = some a) (hk : kd σ a = 18) (hdg : decode cc pc = .ok (.getfield 7, 3)) (kk : W p l e R s m args below meth c H locs cells slots Qz (F0 m (pc + 3) ls (xv E (fr σ a 8) :: rest))) : W p l e R s m args below meth c H locs cells slots Qz (F0 m pc ls (xv E r :: rest)) :=
  x_get (ci := 17) cx hR hr hk (by decide) rfl in_J2 8 (by decide) q233 (fun _ h => h) (v := xv E (fr σ a 8)) rfl hdg kk
theorem xg_J2_19_21 {l : Launch} {p : Program} {e : Env} {R : Room} {s : State} {m : MethodId} {args : Array Value} {below : List Frame} {meth : Method} {c : Code} {H : Heap} {locs : List Loc} {cells slots : Nat} {Qz : State → Prop} {cc : ByteArray} {nL : Nat} {ret : Option FieldType} {E : xx_E} {σ : XS} {pc : Nat} {ls : Array Slot} {rest : List Value} (cx : xx_X "java/util/LinkedHashMap" cc nL ret E p s m args meth c) (hR : xR E σ H) {a : Nat} {r : Option Nat} (hr : r = some a) (hk : kd σ a = 21) (hdg : decode cc pc = .ok (.getfield 19, 3)) (kk : W p l e R s m args below meth c H locs cells slots Qz (F0 m (pc + 3) ls (xv E (fr σ a 4) :: rest))) : W p l e R s m args below meth c H locs cells slots Qz (F0 m pc ls (xv E r :: rest)) :=
  x_get (ci := 20) cx hR hr hk (by decide) rfl in_J26 4 (by decide) q1497 (fun _ h => h) (v := xv E (fr σ a 4)) rfl hdg kk
theorem xg_J2_14_21 {l : Launch} {p : Program} {e : Env} {R : Room} {s : State} {m : MethodId} {args : Array Value} {below : List Frame} {meth : Method} {c : Code} {H : Heap} {locs : List Loc} {cells slots : Nat} {Qz : State → Prop} {cc : ByteArray} {nL : Nat} {ret : Option FieldType} {E : xx_E} {σ : XS} {pc : Nat} {ls : Array Slot} {rest : List Value} (cx : xx_X "java/util/LinkedHashMap" cc nL ret E p s m args meth c) (hR : xR E σ H) {a : Nat} {r : Option Nat} (hr : r = some a) (hk : kd σ a = 21) (hdg : decode cc pc = .ok (.getfield 14, 3)) (kk : W p l e R s m args below meth c H locs cells slots Qz (F0 m (pc + 3) ls (xv E (fr σ a 5) :: rest))) : W p l e R s m args below meth c H locs cells slots Qz (F0 m pc ls (xv E r :: rest)) :=
  x_get (ci := 20) cx hR hr hk (by decide) rfl in_J26 5 (by decide) q1498 (fun _ h => h) (v := xv E (fr σ a 5)) rfl hdg kk
theorem xg_J2_11_18 {l : Launch} {p : Program} {e : Env} {R : Room} {s : State} {m : MethodId} {args : Array Value} {below : List Frame} {meth : Method} {c : Code} {H : Heap} {locs : List Loc} {cells slots : Nat} {Qz : State → Prop} {cc : ByteArray} {nL : Nat} {ret : Option FieldType} {E : xx_E} {σ : XS} {pc : Nat} {ls : Array Slot} {rest : List Value} (cx : xx_X "java/util/LinkedHashMap" cc nL ret E p s m args meth c) (hR : xR E σ H) {a : Nat} {r : Option Nat} (hr : r = some a) (hk : kd σ a = 18) (hdg : decode cc pc = .ok (.getfield 11, 3)) (kk : W p l e R s m args below meth c H locs cells slots Qz (F0 m (pc + 3) ls (xv E (fr σ a 9) :: rest))) : W p l e R s m args below meth c H locs cells slots Qz (F0 m pc ls (xv E r :: rest)) :=
  x_get (ci := 17) cx hR hr hk (by decide) rfl in_J2 9 (by decide) q234 (fun _ h => h) (v := xv E (fr σ a 9)) rfl hdg kk
theorem xg_J2_64_18 {l : Launch} {p : Program} {e : Env} {R : Room} {s : State} {m : MethodId} {args : Array Value} {below : List Frame} {meth : Method} {c : Code} {H : Heap} {locs : List Loc} {cells slots : Nat} {Qz : State → Prop} {cc : ByteArray} {nL : Nat} {ret : Option FieldType} {E : xx_E} {σ : XS} {pc : Nat} {ls : Array Slot} {rest : List Value} (cx : xx_X "java/util/LinkedHashMap" cc nL ret E p s m args meth c) (hR : xR E σ H) {a : Nat} {r : Option Nat} (hr : r = some a) (hk : kd σ a = 18) (hdg : decode cc pc = .ok (.getfield 64, 3)) (kk : W p l e R s m args below meth c H locs cells slots Qz (F0 m (pc + 3) ls (.int (fi σ a 10) :: rest))) : W p l e R s m args below meth c H locs cells slots Qz (F0 m pc ls (xv E r :: rest)) :=
  x_get (ci := 17) cx hR hr hk (by decide) rfl in_J2 10 (by decide) q235 (fun _ h => h) (v := .int (fi σ a 10)) rfl hdg kk
theorem xcc_6 {σ : XS} {r : Option Nat} (h : xck [21] σ r) : ∀ a, r = some a → xcl σ "java/util/LinkedHashMap$Entry" a := by
  intro a ha
  have h := h a ha
  have h : kd σ a = 21 := by simpa using h
  rcases h with h
  · exact ⟨20, _, h, by decide, rfl, by decide⟩
def wJ2_afterNodeAccessL_249 (Q : XS → Prop) (th : Nat) (x4 : Option Nat) (σ : XS) : Prop :=
  kd σ th = 18 ∧ (xK ≤ th ∧ (Q (pfi (pfr σ th 8 x4) th 5 ((fi (pfr σ th 8 x4) th 5) + (1 : Int32)))))
set_option maxHeartbeats 4000000 in
theorem BJ2_afterNodeAccessL_249 {l : Launch} {p : Program} {e : Env} {s : State} {m : MethodId} {args : Array Value} {below : List Frame} {meth : Method} {c : Code} {E : xx_E} {Q : XS → Prop} (cx : xx_X "java/util/LinkedHashMap" cJ2_afterNodeAccess 7 none E p s m args meth c) : ∀ (th : Nat) (x4 : Option Nat) (σ : XS), wJ2_afterNodeAccessL_249 Q th x4 σ → x_T p l e ({ frames := 0, cells := 0, slots := 0, locals := 0 } : Room) s m args below meth c E (va_Qv Q (fun σ' t => xW E σ' t) (xA E)) 0 0 7 249 0 0 σ [(0, xv E (some th)), (4, xv E x4)] [] := by
  intro th x4 σ hw H locs ls cells slots hR hS hl hcb hsb
  unfold wJ2_afterNodeAccessL_249 at hw
  obtain ⟨hx, hb, hml, hown, hts, hrt, hlk, hMK, hZ⟩ := id cx
  refine x_aload_n cx dJ2_afterNodeAccess_249 rfl (lv_at hl 0 rfl) ?_
  refine x_aload cx dJ2_afterNodeAccess_250 (lv_at hl 1 rfl) ?_
  obtain ⟨hk1, hw⟩ := hw
  obtain ⟨hge_th, hw⟩ := hw
  refine xp_J2_7_18 (v := x4) cx hR hS rfl hge_th hk1 dJ2_afterNodeAccess_252 (fun H locs hR hS => ?_)
  refine x_aload_n cx dJ2_afterNodeAccess_255 rfl (lv_at hl 0 rfl) ?_
  refine lv_dup hx hb dJ2_afterNodeAccess_256 (xv_cat _ _) ?_
  refine xg_J2_68_18 cx hR rfl hk1 dJ2_afterNodeAccess_257 ?_
  refine lv_iconst (v := (1 : Int32)) hx hb dJ2_afterNodeAccess_260 (by decide) ?_
  refine lv_iadd hx hb dJ2_afterNodeAccess_261 ?_
  refine xp_J2_68_18 (v := ((fi (pfr σ th 8 x4) th 5) + (1 : Int32))) cx hR hS rfl hge_th hk1 dJ2_afterNodeAccess_262 (fun H locs hR hS => ?_)
  exact x_vret cx hR hS (xle hcb) (xle hsb) hw dJ2_afterNodeAccess_265
def wJ2_afterNodeAccessL_224 (Q : XS → Prop) (th : Nat) (x3 : Option Nat) (x4 : Option Nat) (σ : XS) : Prop :=
  if x3 = none then (kd σ th = 18 ∧ (xK ≤ th ∧ (wJ2_afterNodeAccessL_249 Q th x4 (pfr σ th 9 x4)))) else (oc σ x4 21 (fun a2 => xK ≤ a2 ∧ (oc (pfr σ a2 5 x3) x3 21 (fun a3 => xK ≤ a3 ∧ (wJ2_afterNodeAccessL_249 Q th x4 (pfr (pfr σ a2 5 x3) a3 4 x4))))))
set_option maxHeartbeats 4000000 in
theorem BJ2_afterNodeAccessL_224 {l : Launch} {p : Program} {e : Env} {s : State} {m : MethodId} {args : Array Value} {below : List Frame} {meth : Method} {c : Code} {E : xx_E} {Q : XS → Prop} (cx : xx_X "java/util/LinkedHashMap" cJ2_afterNodeAccess 7 none E p s m args meth c) : ∀ (th : Nat) (x3 : Option Nat) (x4 : Option Nat) (σ : XS), wJ2_afterNodeAccessL_224 Q th x3 x4 σ → x_T p l e ({ frames := 0, cells := 0, slots := 0, locals := 0 } : Room) s m args below meth c E (va_Qv Q (fun σ' t => xW E σ' t) (xA E)) 0 0 7 224 0 0 σ [(0, xv E (some th)), (3, xv E x3), (4, xv E x4)] [] := by
  intro th x3 x4 σ hw H locs ls cells slots hR hS hl hcb hsb
  unfold wJ2_afterNodeAccessL_224 at hw
  obtain ⟨hx, hb, hml, hown, hts, hrt, hlk, hMK, hZ⟩ := id cx
  refine x_aload_n cx dJ2_afterNodeAccess_224 rfl (lv_at hl 1 rfl) ?_
  refine x_ifnonnull (tgt := 237) cx dJ2_afterNodeAccess_225 (by decide) (fun hc => ?_) (fun hc => ?_)
  · have hw := mm_in hc hw
    refine x_aload cx dJ2_afterNodeAccess_237 (lv_at hl 2 rfl) ?_
    refine x_aload_n cx dJ2_afterNodeAccess_239 rfl (lv_at hl 1 rfl) ?_
    obtain ⟨a2, hr2, hk2, hw⟩ := hw
    obtain ⟨hge_a2, hw⟩ := hw
    refine xp_J2_14_21 (v := x3) cx hR hS hr2 hge_a2 hk2 dJ2_afterNodeAccess_240 (fun H locs hR hS => ?_)
    refine x_aload_n cx dJ2_afterNodeAccess_243 rfl (lv_at hl 1 rfl) ?_
    refine x_aload cx dJ2_afterNodeAccess_244 (lv_at hl 2 rfl) ?_
    obtain ⟨a3, hr3, hk3, hw⟩ := hw
    obtain ⟨hge_a3, hw⟩ := hw
    refine xp_J2_19_21 (v := x4) cx hR hS hr3 hge_a3 hk3 dJ2_afterNodeAccess_246 (fun H locs hR hS => ?_)
    exact BJ2_afterNodeAccessL_249 cx _ _ _ hw _ _ _ _ _ hR hS (lv_sub hl [0, 2] rfl) hcb hsb
  · have hw := mm_ip hc hw
    refine x_aload_n cx dJ2_afterNodeAccess_228 rfl (lv_at hl 0 rfl) ?_
    refine x_aload cx dJ2_afterNodeAccess_229 (lv_at hl 2 rfl) ?_
    obtain ⟨hk4, hw⟩ := hw
    obtain ⟨hge_th, hw⟩ := hw
    refine xp_J2_11_18 (v := x4) cx hR hS rfl hge_th hk4 dJ2_afterNodeAccess_231 (fun H locs hR hS => ?_)
    refine lv_goto (tgt := 249) hx hb dJ2_afterNodeAccess_234 (by decide) ?_
    exact BJ2_afterNodeAccessL_249 cx _ _ _ hw _ _ _ _ _ hR hS (lv_sub hl [0, 2] rfl) hcb hsb
def wJ2_afterNodeAccessL_206 (Q : XS → Prop) (th : Nat) (x3 : Option Nat) (x4 : Option Nat) (x5 : Option Nat) (x6 : Option Nat) (σ : XS) : Prop :=
  if x5 = none then (wJ2_afterNodeAccessL_224 Q th x6 x4 σ) else (oc σ x5 21 (fun a5 => xK ≤ a5 ∧ (wJ2_afterNodeAccessL_224 Q th x3 x4 (pfr σ a5 5 x6))))
set_option maxHeartbeats 4000000 in
theorem BJ2_afterNodeAccessL_206 {l : Launch} {p : Program} {e : Env} {s : State} {m : MethodId} {args : Array Value} {below : List Frame} {meth : Method} {c : Code} {E : xx_E} {Q : XS → Prop} (cx : xx_X "java/util/LinkedHashMap" cJ2_afterNodeAccess 7 none E p s m args meth c) : ∀ (th : Nat) (x3 : Option Nat) (x4 : Option Nat) (x5 : Option Nat) (x6 : Option Nat) (σ : XS), wJ2_afterNodeAccessL_206 Q th x3 x4 x5 x6 σ → x_T p l e ({ frames := 0, cells := 0, slots := 0, locals := 0 } : Room) s m args below meth c E (va_Qv Q (fun σ' t => xW E σ' t) (xA E)) 0 0 7 206 0 0 σ [(0, xv E (some th)), (3, xv E x3), (4, xv E x4), (5, xv E x5), (6, xv E x6)] [] := by
  intro th x3 x4 x5 x6 σ hw H locs ls cells slots hR hS hl hcb hsb
  unfold wJ2_afterNodeAccessL_206 at hw
  obtain ⟨hx, hb, hml, hown, hts, hrt, hlk, hMK, hZ⟩ := id cx
  refine x_aload cx dJ2_afterNodeAccess_206 (lv_at hl 3 rfl) ?_
  refine x_ifnull (tgt := 221) cx dJ2_afterNodeAccess_208 (by decide) (fun hc => ?_) (fun hc => ?_)
  · have hw := mm_ip hc hw
    refine x_aload cx dJ2_afterNodeAccess_221 (lv_at hl 4 rfl) ?_
    refine x_astore_n (i := 3) (r := x6) (lv' := [(3, xv E x6), (0, xv E (some th)), (4, xv E x4), (5, xv E x5), (6, xv E x6)]) cx dJ2_afterNodeAccess_223 rfl hl (by decide) rfl (fun ls hl => ?_)
    exact BJ2_afterNodeAccessL_224 cx _ _ _ _ hw _ _ _ _ _ hR hS (lv_sub hl [1, 0, 2] rfl) hcb hsb
  · have hw := mm_in hc hw
    refine x_aload cx dJ2_afterNodeAccess_211 (lv_at hl 3 rfl) ?_
    refine x_aload cx dJ2_afterNodeAccess_213 (lv_at hl 4 rfl) ?_
    obtain ⟨a5, hr5, hk5, hw⟩ := hw
    obtain ⟨hge_a5, hw⟩ := hw
    refine xp_J2_14_21 (v := x6) cx hR hS hr5 hge_a5 hk5 dJ2_afterNodeAccess_215 (fun H locs hR hS => ?_)
    refine lv_goto (tgt := 224) hx hb dJ2_afterNodeAccess_218 (by decide) ?_
    exact BJ2_afterNodeAccessL_224 cx _ _ _ _ hw _ _ _ _ _ hR hS (lv_sub hl [0, 1, 2] rfl) hcb hsb
def wJ2_afterNodeAccessL_141 (Q : XS → Prop) (th : Nat) (x1 : Option Nat) (σ : XS) : Prop :=
  kd σ th = 18 ∧ (if (fi σ th 11) = (1 : Int32) then (xok (fr σ th 8) x1 ∧ (if (fr σ th 8) = x1 then (Q σ) else (xck [21] σ x1 ∧ (oc σ x1 21 (fun a7 => xK ≤ a7 ∧ (if (fr σ a7 5) = none then (xK ≤ th ∧ (wJ2_afterNodeAccessL_206 Q th (fr σ th 8) x1 (fr σ a7 4) (fr σ a7 5) (pfr (pfr σ a7 4 none) th 9 (fr σ a7 4)))) else (oc (pfr σ a7 4 none) (fr σ a7 5) 21 (fun a8 => xK ≤ a8 ∧ (wJ2_afterNodeAccessL_206 Q th (fr σ th 8) x1 (fr σ a7 4) (fr σ a7 5) (pfr (pfr σ a7 4 none) a8 4 (fr σ a7 4))))))))))) else (Q σ))
set_option maxHeartbeats 4000000 in
theorem BJ2_afterNodeAccessL_141 {l : Launch} {p : Program} {e : Env} {s : State} {m : MethodId} {args : Array Value} {below : List Frame} {meth : Method} {c : Code} {E : xx_E} {Q : XS → Prop} (cx : xx_X "java/util/LinkedHashMap" cJ2_afterNodeAccess 7 none E p s m args meth c) : ∀ (th : Nat) (x1 : Option Nat) (σ : XS), wJ2_afterNodeAccessL_141 Q th x1 σ → x_T p l e ({ frames := 0, cells := 0, slots := 0, locals := 0 } : Room) s m args below meth c E (va_Qv Q (fun σ' t => xW E σ' t) (xA E)) 0 0 7 141 0 0 σ [(0, xv E (some th)), (1, xv E x1)] [] := by
  intro th x1 σ hw H locs ls cells slots hR hS hl hcb hsb
  unfold wJ2_afterNodeAccessL_141 at hw
  obtain ⟨hx, hb, hml, hown, hts, hrt, hlk, hMK, hZ⟩ := id cx
  refine x_aload_n cx dJ2_afterNodeAccess_141 rfl (lv_at hl 0 rfl) ?_
  obtain ⟨hk6, hw⟩ := hw
  refine xg_J2_1_18 cx hR rfl hk6 dJ2_afterNodeAccess_142 ?_
  refine lv_iconst (v := (1 : Int32)) hx hb dJ2_afterNodeAccess_145 (by decide) ?_
  refine lv_icmp_ne (tgt := 265) hx hb dJ2_afterNodeAccess_146 (by decide) (fun hc => ?_) (fun hc => ?_)
  · have hw := mm_in hc hw
    exact x_vret cx hR hS (xle hcb) (xle hsb) hw dJ2_afterNodeAccess_265
  · have hw := mm_ip hc hw
    refine x_aload_n cx dJ2_afterNodeAccess_149 rfl (lv_at hl 0 rfl) ?_
    refine xg_J2_7_18 cx hR rfl hk6 dJ2_afterNodeAccess_150 ?_
    refine lv_dup hx hb dJ2_afterNodeAccess_153 (xv_cat _ _) ?_
    refine x_astore_n (i := 3) (r := (fr σ th 8)) (lv' := [(3, xv E (fr σ th 8)), (0, xv E (some th)), (1, xv E x1)]) cx dJ2_afterNodeAccess_154 rfl hl (by decide) rfl (fun ls hl => ?_)
    refine x_aload_n cx dJ2_afterNodeAccess_155 rfl (lv_at hl 2 rfl) ?_
    obtain ⟨hok, hw⟩ := hw
    refine x_acmp_eq (tgt := 265) cx hok dJ2_afterNodeAccess_156 (by decide) (fun hc => ?_) (fun hc => ?_)
    · have hw := mm_ip hc hw
      exact x_vret cx hR hS (xle hcb) (xle hsb) hw dJ2_afterNodeAccess_265
    · have hw := mm_in hc hw
      refine x_aload_n cx dJ2_afterNodeAccess_159 rfl (lv_at hl 2 rfl) ?_
      obtain ⟨hv, hw⟩ := hw
      refine x_cast cx hR q1488 (xcc_6 hv) dJ2_afterNodeAccess_160 ?_
      refine x_astore (i := 4) (r := x1) (lv' := [(4, xv E x1), (3, xv E (fr σ th 8)), (0, xv E (some th)), (1, xv E x1)]) cx dJ2_afterNodeAccess_163 hl (by decide) (by simp [xv_cat]) (fun ls hl => ?_)
      refine x_aload cx dJ2_afterNodeAccess_165 (lv_at hl 0 rfl) ?_
      obtain ⟨a7, hr7, hk7, hw⟩ := hw
      refine xg_J2_19_21 cx hR hr7 hk7 dJ2_afterNodeAccess_167 ?_
      refine x_astore (i := 5) (r := (fr σ a7 4)) (lv' := [(5, xv E (fr σ a7 4)), (4, xv E x1), (3, xv E (fr σ th 8)), (0, xv E (some th)), (1, xv E x1)]) cx dJ2_afterNodeAccess_170 hl (by decide) (by simp [xv_cat]) (fun ls hl => ?_)
      refine x_aload cx dJ2_afterNodeAccess_172 (lv_at hl 1 rfl) ?_
      refine xg_J2_14_21 cx hR hr7 hk7 dJ2_afterNodeAccess_174 ?_
      refine x_astore (i := 6) (r := (fr σ a7 5)) (lv' := [(6, xv E (fr σ a7 5)), (5, xv E (fr σ a7 4)), (4, xv E x1), (3, xv E (fr σ th 8)), (0, xv E (some th)), (1, xv E x1)]) cx dJ2_afterNodeAccess_177 hl (by decide) (by simp [xv_cat]) (fun ls hl => ?_)
      refine x_aload cx dJ2_afterNodeAccess_179 (lv_at hl 2 rfl) ?_
      refine lv_null hx hb dJ2_afterNodeAccess_181 ?_
      obtain ⟨hge_a7, hw⟩ := hw
      refine xp_J2_19_21 (v := none) cx hR hS hr7 hge_a7 hk7 dJ2_afterNodeAccess_182 (fun H locs hR hS => ?_)
      refine x_aload cx dJ2_afterNodeAccess_185 (lv_at hl 0 rfl) ?_
      refine x_ifnonnull (tgt := 199) cx dJ2_afterNodeAccess_187 (by decide) (fun hc => ?_) (fun hc => ?_)
      · have hw := mm_in hc hw
        refine x_aload cx dJ2_afterNodeAccess_199 (lv_at hl 0 rfl) ?_
        refine x_aload cx dJ2_afterNodeAccess_201 (lv_at hl 1 rfl) ?_
        obtain ⟨a8, hr8, hk8, hw⟩ := hw
        obtain ⟨hge_a8, hw⟩ := hw
        refine xp_J2_19_21 (v := (fr σ a7 4)) cx hR hS hr8 hge_a8 hk8 dJ2_afterNodeAccess_203 (fun H locs hR hS => ?_)
        exact BJ2_afterNodeAccessL_206 cx _ _ _ _ _ _ hw _ _ _ _ _ hR hS (lv_sub hl [4, 3, 2, 1, 0] rfl) hcb hsb
      · have hw := mm_ip hc hw
        refine x_aload_n cx dJ2_afterNodeAccess_190 rfl (lv_at hl 4 rfl) ?_
        refine x_aload cx dJ2_afterNodeAccess_191 (lv_at hl 1 rfl) ?_
        obtain ⟨hge_th, hw⟩ := hw
        refine xp_J2_11_18 (v := (fr σ a7 4)) cx hR hS rfl hge_th hk6 dJ2_afterNodeAccess_193 (fun H locs hR hS => ?_)
        refine lv_goto (tgt := 206) hx hb dJ2_afterNodeAccess_196 (by decide) ?_
        exact BJ2_afterNodeAccessL_206 cx _ _ _ _ _ _ hw _ _ _ _ _ hR hS (lv_sub hl [4, 3, 2, 1, 0] rfl) hcb hsb
def wJ2_afterNodeAccessL_122 (Q : XS → Prop) (th : Nat) (x4 : Option Nat) (σ : XS) : Prop :=
  kd σ th = 18 ∧ (xK ≤ th ∧ (Q (pfi (pfr σ th 9 x4) th 5 ((fi (pfr σ th 9 x4) th 5) + (1 : Int32)))))
set_option maxHeartbeats 4000000 in
theorem BJ2_afterNodeAccessL_122 {l : Launch} {p : Program} {e : Env} {s : State} {m : MethodId} {args : Array Value} {below : List Frame} {meth : Method} {c : Code} {E : xx_E} {Q : XS → Prop} (cx : xx_X "java/util/LinkedHashMap" cJ2_afterNodeAccess 7 none E p s m args meth c) : ∀ (th : Nat) (x4 : Option Nat) (σ : XS), wJ2_afterNodeAccessL_122 Q th x4 σ → x_T p l e ({ frames := 0, cells := 0, slots := 0, locals := 0 } : Room) s m args below meth c E (va_Qv Q (fun σ' t => xW E σ' t) (xA E)) 0 0 7 122 0 0 σ [(0, xv E (some th)), (4, xv E x4)] [] := by
  intro th x4 σ hw H locs ls cells slots hR hS hl hcb hsb
  unfold wJ2_afterNodeAccessL_122 at hw
  obtain ⟨hx, hb, hml, hown, hts, hrt, hlk, hMK, hZ⟩ := id cx
  refine x_aload_n cx dJ2_afterNodeAccess_122 rfl (lv_at hl 0 rfl) ?_
  refine x_aload cx dJ2_afterNodeAccess_123 (lv_at hl 1 rfl) ?_
  obtain ⟨hk9, hw⟩ := hw
  obtain ⟨hge_th, hw⟩ := hw
  refine xp_J2_11_18 (v := x4) cx hR hS rfl hge_th hk9 dJ2_afterNodeAccess_125 (fun H locs hR hS => ?_)
  refine x_aload_n cx dJ2_afterNodeAccess_128 rfl (lv_at hl 0 rfl) ?_
  refine lv_dup hx hb dJ2_afterNodeAccess_129 (xv_cat _ _) ?_
  refine xg_J2_68_18 cx hR rfl hk9 dJ2_afterNodeAccess_130 ?_
  refine lv_iconst (v := (1 : Int32)) hx hb dJ2_afterNodeAccess_133 (by decide) ?_
  refine lv_iadd hx hb dJ2_afterNodeAccess_134 ?_
  refine xp_J2_68_18 (v := ((fi (pfr σ th 9 x4) th 5) + (1 : Int32))) cx hR hS rfl hge_th hk9 dJ2_afterNodeAccess_135 (fun H locs hR hS => ?_)
  refine lv_goto (tgt := 265) hx hb dJ2_afterNodeAccess_138 (by decide) ?_
  exact x_vret cx hR hS (xle hcb) (xle hsb) hw dJ2_afterNodeAccess_265
def wJ2_afterNodeAccessL_97 (Q : XS → Prop) (th : Nat) (x2 : Option Nat) (x4 : Option Nat) (σ : XS) : Prop :=
  if x2 = none then (kd σ th = 18 ∧ (xK ≤ th ∧ (wJ2_afterNodeAccessL_122 Q th x4 (pfr σ th 8 x4)))) else (oc σ x4 21 (fun a10 => xK ≤ a10 ∧ (oc (pfr σ a10 4 x2) x2 21 (fun a11 => xK ≤ a11 ∧ (wJ2_afterNodeAccessL_122 Q th x4 (pfr (pfr σ a10 4 x2) a11 5 x4))))))
set_option maxHeartbeats 4000000 in
theorem BJ2_afterNodeAccessL_97 {l : Launch} {p : Program} {e : Env} {s : State} {m : MethodId} {args : Array Value} {below : List Frame} {meth : Method} {c : Code} {E : xx_E} {Q : XS → Prop} (cx : xx_X "java/util/LinkedHashMap" cJ2_afterNodeAccess 7 none E p s m args meth c) : ∀ (th : Nat) (x2 : Option Nat) (x4 : Option Nat) (σ : XS), wJ2_afterNodeAccessL_97 Q th x2 x4 σ → x_T p l e ({ frames := 0, cells := 0, slots := 0, locals := 0 } : Room) s m args below meth c E (va_Qv Q (fun σ' t => xW E σ' t) (xA E)) 0 0 7 97 0 0 σ [(0, xv E (some th)), (2, xv E x2), (4, xv E x4)] [] := by
  intro th x2 x4 σ hw H locs ls cells slots hR hS hl hcb hsb
  unfold wJ2_afterNodeAccessL_97 at hw
  obtain ⟨hx, hb, hml, hown, hts, hrt, hlk, hMK, hZ⟩ := id cx
  refine x_aload_n cx dJ2_afterNodeAccess_97 rfl (lv_at hl 1 rfl) ?_
  refine x_ifnonnull (tgt := 110) cx dJ2_afterNodeAccess_98 (by decide) (fun hc => ?_) (fun hc => ?_)
  · have hw := mm_in hc hw
    refine x_aload cx dJ2_afterNodeAccess_110 (lv_at hl 2 rfl) ?_
    refine x_aload_n cx dJ2_afterNodeAccess_112 rfl (lv_at hl 1 rfl) ?_
    obtain ⟨a10, hr10, hk10, hw⟩ := hw
    obtain ⟨hge_a10, hw⟩ := hw
    refine xp_J2_19_21 (v := x2) cx hR hS hr10 hge_a10 hk10 dJ2_afterNodeAccess_113 (fun H locs hR hS => ?_)
    refine x_aload_n cx dJ2_afterNodeAccess_116 rfl (lv_at hl 1 rfl) ?_
    refine x_aload cx dJ2_afterNodeAccess_117 (lv_at hl 2 rfl) ?_
    obtain ⟨a11, hr11, hk11, hw⟩ := hw
    obtain ⟨hge_a11, hw⟩ := hw
    refine xp_J2_14_21 (v := x4) cx hR hS hr11 hge_a11 hk11 dJ2_afterNodeAccess_119 (fun H locs hR hS => ?_)
    exact BJ2_afterNodeAccessL_122 cx _ _ _ hw _ _ _ _ _ hR hS (lv_sub hl [0, 2] rfl) hcb hsb
  · have hw := mm_ip hc hw
    refine x_aload_n cx dJ2_afterNodeAccess_101 rfl (lv_at hl 0 rfl) ?_
    refine x_aload cx dJ2_afterNodeAccess_102 (lv_at hl 2 rfl) ?_
    obtain ⟨hk12, hw⟩ := hw
    obtain ⟨hge_th, hw⟩ := hw
    refine xp_J2_7_18 (v := x4) cx hR hS rfl hge_th hk12 dJ2_afterNodeAccess_104 (fun H locs hR hS => ?_)
    refine lv_goto (tgt := 122) hx hb dJ2_afterNodeAccess_107 (by decide) ?_
    exact BJ2_afterNodeAccessL_122 cx _ _ _ hw _ _ _ _ _ hR hS (lv_sub hl [0, 2] rfl) hcb hsb
def wJ2_afterNodeAccessL_79 (Q : XS → Prop) (th : Nat) (x2 : Option Nat) (x4 : Option Nat) (x5 : Option Nat) (x6 : Option Nat) (σ : XS) : Prop :=
  if x6 = none then (wJ2_afterNodeAccessL_97 Q th x5 x4 σ) else (oc σ x6 21 (fun a13 => xK ≤ a13 ∧ (wJ2_afterNodeAccessL_97 Q th x2 x4 (pfr σ a13 4 x5))))
set_option maxHeartbeats 4000000 in
theorem BJ2_afterNodeAccessL_79 {l : Launch} {p : Program} {e : Env} {s : State} {m : MethodId} {args : Array Value} {below : List Frame} {meth : Method} {c : Code} {E : xx_E} {Q : XS → Prop} (cx : xx_X "java/util/LinkedHashMap" cJ2_afterNodeAccess 7 none E p s m args meth c) : ∀ (th : Nat) (x2 : Option Nat) (x4 : Option Nat) (x5 : Option Nat) (x6 : Option Nat) (σ : XS), wJ2_afterNodeAccessL_79 Q th x2 x4 x5 x6 σ → x_T p l e ({ frames := 0, cells := 0, slots := 0, locals := 0 } : Room) s m args below meth c E (va_Qv Q (fun σ' t => xW E σ' t) (xA E)) 0 0 7 79 0 0 σ [(0, xv E (some th)), (2, xv E x2), (4, xv E x4), (5, xv E x5), (6, xv E x6)] [] := by
  intro th x2 x4 x5 x6 σ hw H locs ls cells slots hR hS hl hcb hsb
  unfold wJ2_afterNodeAccessL_79 at hw
  obtain ⟨hx, hb, hml, hown, hts, hrt, hlk, hMK, hZ⟩ := id cx
  refine x_aload cx dJ2_afterNodeAccess_79 (lv_at hl 4 rfl) ?_
  refine x_ifnull (tgt := 94) cx dJ2_afterNodeAccess_81 (by decide) (fun hc => ?_) (fun hc => ?_)
  · have hw := mm_ip hc hw
    refine x_aload cx dJ2_afterNodeAccess_94 (lv_at hl 3 rfl) ?_
    refine x_astore_n (i := 2) (r := x5) (lv' := [(2, xv E x5), (0, xv E (some th)), (4, xv E x4), (5, xv E x5), (6, xv E x6)]) cx dJ2_afterNodeAccess_96 rfl hl (by decide) rfl (fun ls hl => ?_)
    exact BJ2_afterNodeAccessL_97 cx _ _ _ _ hw _ _ _ _ _ hR hS (lv_sub hl [1, 0, 2] rfl) hcb hsb
  · have hw := mm_in hc hw
    refine x_aload cx dJ2_afterNodeAccess_84 (lv_at hl 4 rfl) ?_
    refine x_aload cx dJ2_afterNodeAccess_86 (lv_at hl 3 rfl) ?_
    obtain ⟨a13, hr13, hk13, hw⟩ := hw
    obtain ⟨hge_a13, hw⟩ := hw
    refine xp_J2_19_21 (v := x5) cx hR hS hr13 hge_a13 hk13 dJ2_afterNodeAccess_88 (fun H locs hR hS => ?_)
    refine lv_goto (tgt := 97) hx hb dJ2_afterNodeAccess_91 (by decide) ?_
    exact BJ2_afterNodeAccessL_97 cx _ _ _ _ hw _ _ _ _ _ hR hS (lv_sub hl [0, 1, 2] rfl) hcb hsb
def wJ2_afterNodeAccessL_22 (Q : XS → Prop) (th : Nat) (x1 : Option Nat) (σ : XS) : Prop :=
  kd σ th = 18 ∧ (xok (fr σ th 9) x1 ∧ (if (fr σ th 9) = x1 then (wJ2_afterNodeAccessL_141 Q th x1 σ) else (xck [21] σ x1 ∧ (oc σ x1 21 (fun a15 => xK ≤ a15 ∧ (if (fr σ a15 4) = none then (xK ≤ th ∧ (wJ2_afterNodeAccessL_79 Q th (fr σ th 9) x1 (fr σ a15 4) (fr σ a15 5) (pfr (pfr σ a15 5 none) th 8 (fr σ a15 5)))) else (oc (pfr σ a15 5 none) (fr σ a15 4) 21 (fun a16 => xK ≤ a16 ∧ (wJ2_afterNodeAccessL_79 Q th (fr σ th 9) x1 (fr σ a15 4) (fr σ a15 5) (pfr (pfr σ a15 5 none) a16 5 (fr σ a15 5)))))))))))
set_option maxHeartbeats 4000000 in
theorem BJ2_afterNodeAccessL_22 {l : Launch} {p : Program} {e : Env} {s : State} {m : MethodId} {args : Array Value} {below : List Frame} {meth : Method} {c : Code} {E : xx_E} {Q : XS → Prop} (cx : xx_X "java/util/LinkedHashMap" cJ2_afterNodeAccess 7 none E p s m args meth c) : ∀ (th : Nat) (x1 : Option Nat) (σ : XS), wJ2_afterNodeAccessL_22 Q th x1 σ → x_T p l e ({ frames := 0, cells := 0, slots := 0, locals := 0 } : Room) s m args below meth c E (va_Qv Q (fun σ' t => xW E σ' t) (xA E)) 0 0 7 22 0 0 σ [(0, xv E (some th)), (1, xv E x1)] [] := by
  intro th x1 σ hw H locs ls cells slots hR hS hl hcb hsb
  unfold wJ2_afterNodeAccessL_22 at hw
  obtain ⟨hx, hb, hml, hown, hts, hrt, hlk, hMK, hZ⟩ := id cx
  refine x_aload_n cx dJ2_afterNodeAccess_22 rfl (lv_at hl 0 rfl) ?_
  obtain ⟨hk14, hw⟩ := hw
  refine xg_J2_11_18 cx hR rfl hk14 dJ2_afterNodeAccess_23 ?_
  refine lv_dup hx hb dJ2_afterNodeAccess_26 (xv_cat _ _) ?_
  refine x_astore_n (i := 2) (r := (fr σ th 9)) (lv' := [(2, xv E (fr σ th 9)), (0, xv E (some th)), (1, xv E x1)]) cx dJ2_afterNodeAccess_27 rfl hl (by decide) (by simp [xv_cat]) (fun ls hl => ?_)
  refine x_aload_n cx dJ2_afterNodeAccess_28 rfl (lv_at hl 2 rfl) ?_
  obtain ⟨hok, hw⟩ := hw
  refine x_acmp_eq (tgt := 141) cx hok dJ2_afterNodeAccess_29 (by decide) (fun hc => ?_) (fun hc => ?_)
  · have hw := mm_ip hc hw
    exact BJ2_afterNodeAccessL_141 cx _ _ _ hw _ _ _ _ _ hR hS (lv_sub hl [1, 2] rfl) hcb hsb
  · have hw := mm_in hc hw
    refine x_aload_n cx dJ2_afterNodeAccess_32 rfl (lv_at hl 2 rfl) ?_
    obtain ⟨hv, hw⟩ := hw
    refine x_cast cx hR q1488 (xcc_6 hv) dJ2_afterNodeAccess_33 ?_
    refine x_astore (i := 4) (r := x1) (lv' := [(4, xv E x1), (2, xv E (fr σ th 9)), (0, xv E (some th)), (1, xv E x1)]) cx dJ2_afterNodeAccess_36 hl (by decide) rfl (fun ls hl => ?_)
    refine x_aload cx dJ2_afterNodeAccess_38 (lv_at hl 0 rfl) ?_
    obtain ⟨a15, hr15, hk15, hw⟩ := hw
    refine xg_J2_19_21 cx hR hr15 hk15 dJ2_afterNodeAccess_40 ?_
    refine x_astore (i := 5) (r := (fr σ a15 4)) (lv' := [(5, xv E (fr σ a15 4)), (4, xv E x1), (2, xv E (fr σ th 9)), (0, xv E (some th)), (1, xv E x1)]) cx dJ2_afterNodeAccess_43 hl (by decide) (by simp [xv_cat]) (fun ls hl => ?_)
    refine x_aload cx dJ2_afterNodeAccess_45 (lv_at hl 1 rfl) ?_
    refine xg_J2_14_21 cx hR hr15 hk15 dJ2_afterNodeAccess_47 ?_
    refine x_astore (i := 6) (r := (fr σ a15 5)) (lv' := [(6, xv E (fr σ a15 5)), (5, xv E (fr σ a15 4)), (4, xv E x1), (2, xv E (fr σ th 9)), (0, xv E (some th)), (1, xv E x1)]) cx dJ2_afterNodeAccess_50 hl (by decide) (by simp [xv_cat]) (fun ls hl => ?_)
    refine x_aload cx dJ2_afterNodeAccess_52 (lv_at hl 2 rfl) ?_
    refine lv_null hx hb dJ2_afterNodeAccess_54 ?_
    obtain ⟨hge_a15, hw⟩ := hw
    refine xp_J2_14_21 (v := none) cx hR hS hr15 hge_a15 hk15 dJ2_afterNodeAccess_55 (fun H locs hR hS => ?_)
    refine x_aload cx dJ2_afterNodeAccess_58 (lv_at hl 1 rfl) ?_
    refine x_ifnonnull (tgt := 72) cx dJ2_afterNodeAccess_60 (by decide) (fun hc => ?_) (fun hc => ?_)
    · have hw := mm_in hc hw
      refine x_aload cx dJ2_afterNodeAccess_72 (lv_at hl 1 rfl) ?_
      refine x_aload cx dJ2_afterNodeAccess_74 (lv_at hl 0 rfl) ?_
      obtain ⟨a16, hr16, hk16, hw⟩ := hw
      obtain ⟨hge_a16, hw⟩ := hw
      refine xp_J2_14_21 (v := (fr σ a15 5)) cx hR hS hr16 hge_a16 hk16 dJ2_afterNodeAccess_76 (fun H locs hR hS => ?_)
      exact BJ2_afterNodeAccessL_79 cx _ _ _ _ _ _ hw _ _ _ _ _ hR hS (lv_sub hl [4, 3, 2, 1, 0] rfl) hcb hsb
    · have hw := mm_ip hc hw
      refine x_aload_n cx dJ2_afterNodeAccess_63 rfl (lv_at hl 4 rfl) ?_
      refine x_aload cx dJ2_afterNodeAccess_64 (lv_at hl 0 rfl) ?_
      obtain ⟨hge_th, hw⟩ := hw
      refine xp_J2_7_18 (v := (fr σ a15 5)) cx hR hS rfl hge_th hk14 dJ2_afterNodeAccess_66 (fun H locs hR hS => ?_)
      refine lv_goto (tgt := 79) hx hb dJ2_afterNodeAccess_69 (by decide) ?_
      exact BJ2_afterNodeAccessL_79 cx _ _ _ _ _ _ hw _ _ _ _ _ hR hS (lv_sub hl [4, 3, 2, 1, 0] rfl) hcb hsb
def wJ2_afterNodeAccessL (th : Nat) (x1 : Option Nat) (σ : XS) (Q : XS → Prop) : Prop :=
  kd σ th = 18 ∧ (if (fi σ th 11) = (2 : Int32) then (wJ2_afterNodeAccessL_22 Q th x1 σ) else (if (fi σ th 11) = 0 then (if (fi σ th 10) = 0 then (wJ2_afterNodeAccessL_141 Q th x1 σ) else (wJ2_afterNodeAccessL_22 Q th x1 σ)) else (wJ2_afterNodeAccessL_141 Q th x1 σ)))
set_option maxHeartbeats 4000000 in
theorem MJ2_afterNodeAccessL (l : Launch) (E : xx_E) (th : Nat) (x1 : Option Nat) (σ : XS) (Q : XS → Prop) (hw : wJ2_afterNodeAccessL th x1 σ Q) : xx_Mv l yJ2_afterNodeAccess (ws_ yJ2_afterNodeAccess cJ2_afterNodeAccess 7 none) ({ frames := 0, cells := 0, slots := 0, locals := 0 } : Room) E [xv E (some th), xv E x1] σ Q 0 0 := by
  refine x_of (own := "java/util/LinkedHashMap") (by decide +kernel) rfl ?_
  intro p e s m args below meth c cx hR ha hnm
  refine x_entry [xv E (some th), xv E x1] 7 [(0, xv E (some th)), (1, xv E x1)] ha (by simp [lg_sl, xv_cat, vc_i, vc_j, vc_f]) (by simp [lv_args, xv_cat, vc_i, vc_j, vc_f]) (fun ls hl => ?_)
  have hS : va_S (xA E) s.heap s.heap [] := va_S.rf
  have hcb : 0 + 0 ≤ 0 := Nat.le_of_eq (Nat.zero_add _)
  have hsb : 0 + 0 ≤ 0 := Nat.le_of_eq (Nat.zero_add _)
  unfold wJ2_afterNodeAccessL at hw
  obtain ⟨hx, hb, hml, hown, hts, hrt, hlk, hMK, hZ⟩ := id cx
  refine x_aload_n cx dJ2_afterNodeAccess_0 rfl (lv_at hl 0 rfl) ?_
  obtain ⟨hk17, hw⟩ := hw
  refine xg_J2_1_18 cx hR rfl hk17 dJ2_afterNodeAccess_1 ?_
  refine lv_iconst (v := (2 : Int32)) hx hb dJ2_afterNodeAccess_4 (by decide) ?_
  refine lv_icmp_eq (tgt := 22) hx hb dJ2_afterNodeAccess_5 (by decide) (fun hc => ?_) (fun hc => ?_)
  · have hw := mm_ip hc hw
    exact BJ2_afterNodeAccessL_22 cx _ _ _ hw _ _ _ _ _ hR hS (lv_sub hl [0, 1] rfl) hcb hsb
  · have hw := mm_in hc hw
    refine x_aload_n cx dJ2_afterNodeAccess_8 rfl (lv_at hl 0 rfl) ?_
    refine xg_J2_1_18 cx hR rfl hk17 dJ2_afterNodeAccess_9 ?_
    refine lv_if_ne (tgt := 141) hx hb dJ2_afterNodeAccess_12 (by decide) (fun hc => ?_) (fun hc => ?_)
    · have hw := mm_in hc hw
      exact BJ2_afterNodeAccessL_141 cx _ _ _ hw _ _ _ _ _ hR hS (lv_sub hl [0, 1] rfl) hcb hsb
    · have hw := mm_ip hc hw
      refine x_aload_n cx dJ2_afterNodeAccess_15 rfl (lv_at hl 0 rfl) ?_
      refine xg_J2_64_18 cx hR rfl hk17 dJ2_afterNodeAccess_16 ?_
      refine lv_if_eq (tgt := 141) hx hb dJ2_afterNodeAccess_19 (by decide) (fun hc => ?_) (fun hc => ?_)
      · have hw := mm_ip hc hw
        exact BJ2_afterNodeAccessL_141 cx _ _ _ hw _ _ _ _ _ hR hS (lv_sub hl [0, 1] rfl) hcb hsb
      · have hw := mm_in hc hw
        exact BJ2_afterNodeAccessL_22 cx _ _ _ hw _ _ _ _ _ hR hS (lv_sub hl [0, 1] rfl) hcb hsb
-- J2_getL
theorem xg_J2_107_21 {l : Launch} {p : Program} {e : Env} {R : Room} {s : State} {m : MethodId} {args : Array Value} {below : List Frame} {meth : Method} {c : Code} {H : Heap} {locs : List Loc} {cells slots : Nat} {Qz : State → Prop} {cc : ByteArray} {nL : Nat} {ret : Option FieldType} {E : xx_E} {σ : XS} {pc : Nat} {ls : Array Slot} {rest : List Value} (cx : xx_X "java/util/LinkedHashMap" cc nL ret E p s m args meth c) (hR : xR E σ H) {a : Nat} {r : Option Nat} (hr : r = some a) (hk : kd σ a = 21) (hdg : decode cc pc = .ok (.getfield 107, 3)) (kk : W p l e R s m args below meth c H locs cells slots Qz (F0 m (pc + 3) ls (xv E (fr σ a 2) :: rest))) : W p l e R s m args below meth c H locs cells slots Qz (F0 m pc ls (xv E r :: rest)) :=
  x_get (ci := 20) cx hR hr hk (by decide) rfl in_J26 2 (by decide) q1515 (fun _ h => h) (v := xv E (fr σ a 2)) rfl hdg kk
theorem CJ1_getNodeL_J2_99 {l : Launch} {p : Program} {e : Env} {R : Room} {s : State} {m : MethodId} {args : Array Value} {below : List Frame} {meth : Method} {c : Code} {H : Heap} {locs : List Loc} {cells slots : Nat} {Qz : State → Prop} {cc : ByteArray} {nL : Nat} {ret : Option FieldType} {E : xx_E} {σ : XS} {pc : Nat} {ls : Array Slot} {rest : List Value} {th : Nat} {x1 : Option Nat} (cx : xx_X "java/util/LinkedHashMap" cc nL ret E p s m args meth c) (hR0 : xR E σ H) (hS0 : va_S (xA E) s.heap H locs) {r0 : Option Nat} (hr : r0 = some th) (hk : kd σ th = 18) {Qf : Option Nat → XS → Prop} (hw : wJ1_getNodeL th x1 σ Qf) (hR : (({ frames := 9, cells := 0, slots := 0, locals := 360 } : Room)).frames + 1 ≤ R.frames ∧ 8 + (8 + 11) + (({ frames := 9, cells := 0, slots := 0, locals := 360 } : Room)).locals ≤ R.locals) (hrest : rest.length ≤ 4) (hsize : ls.size = nL) (hf : cells + 0 ≤ R.cells ∧ slots + 0 ≤ R.slots) (hdg : decode cc pc = .ok (.invokevirtual 99, 3))
    (kk : ∀ (r : Option Nat) (σ1 : XS) (H1 : Heap) (locs1 : List Loc), Qf r σ1 → xR E σ1 H1 → va_S (xA E) s.heap H1 locs1 → W p l e R s m args below meth c H1 locs1 (cells + 0) (slots + 0) Qz (F0 m (pc + 3) ls (xv E r :: rest))) : W p l e R s m args below meth c H locs cells slots Qz (F0 m pc ls (xv E x1 :: xv E r0 :: rest)) := by
  subst hr
  obtain ⟨hx, hb, hml, hown, hts, hrt, hlk, hK, hZ⟩ := id cx
  exact x_gor (va_runU (C := "java/util/LinkedHashMap") (owner := "java/util/HashMap") (As := [xv E x1]) (rest := rest) (x_fix cx) (MJ1_getNodeL l E th x1 σ Qf hw) (va_cwU (C := "java/util/LinkedHashMap") (owner := "java/util/HashMap") (x := ⟨"java/util/LinkedHashMap", "getNode", "(Ljava/lang/Object;)Ljava/util/HashMap$Node;"⟩) 1 hts (lw_app (xin5 q1748 q1749 q1751 q1134 q159) (lw_meth q1138)) rfl rfl rfl rfl (by decide +kernel) hR) (x_preV cx hR0 hS0 hk (by decide) (q := (RJ2, TJ2, 12)) rfl rfl [xv E x1]) rfl rfl hsize rfl (lv_room (xroom hrest)) hdg hf) hS0 kk
theorem CJ2_afterNodeAccessL_J2_103 {l : Launch} {p : Program} {e : Env} {R : Room} {s : State} {m : MethodId} {args : Array Value} {below : List Frame} {meth : Method} {c : Code} {H : Heap} {locs : List Loc} {cells slots : Nat} {Qz : State → Prop} {cc : ByteArray} {nL : Nat} {ret : Option FieldType} {E : xx_E} {σ : XS} {pc : Nat} {ls : Array Slot} {rest : List Value} {th : Nat} {x1 : Option Nat} (cx : xx_X "java/util/LinkedHashMap" cc nL ret E p s m args meth c) (hR0 : xR E σ H) (hS0 : va_S (xA E) s.heap H locs) {r0 : Option Nat} (hr : r0 = some th) (hk : kd σ th = 18) {Qf : XS → Prop} (hw : wJ2_afterNodeAccessL th x1 σ Qf) (hR : (({ frames := 0, cells := 0, slots := 0, locals := 0 } : Room)).frames + 1 ≤ R.frames ∧ 8 + (7 + 11) + (({ frames := 0, cells := 0, slots := 0, locals := 0 } : Room)).locals ≤ R.locals) (hrest : rest.length ≤ 4) (hsize : ls.size = nL) (hf : cells + 0 ≤ R.cells ∧ slots + 0 ≤ R.slots) (hdg : decode cc pc = .ok (.invokevirtual 103, 3))
    (kk : ∀ (σ1 : XS) (H1 : Heap) (locs1 : List Loc), Qf σ1 → xR E σ1 H1 → va_S (xA E) s.heap H1 locs1 → W p l e R s m args below meth c H1 locs1 (cells + 0) (slots + 0) Qz (F0 m (pc + 3) ls rest)) : W p l e R s m args below meth c H locs cells slots Qz (F0 m pc ls (xv E x1 :: xv E r0 :: rest)) := by
  subst hr
  obtain ⟨hx, hb, hml, hown, hts, hrt, hlk, hK, hZ⟩ := id cx
  exact x_gov (va_runV (As := [xv E x1]) (rest := rest) (x_fix cx) (MJ2_afterNodeAccessL l E th x1 σ Qf hw) (cwV 1 hts (lw_V q1752 q1639 q3068 q160 q1640) rfl rfl rfl (by decide +kernel) hR) (x_preV cx hR0 hS0 hk (by decide) (q := (RJ2, TJ2, 12)) rfl rfl [xv E x1]) rfl rfl hsize rfl (lv_room (xroom hrest)) hdg hf) hS0 kk
def wJ2_getL_24 (Q : Option Nat → XS → Prop) (th : Nat) (x2 : Option Nat) (σ : XS) : Prop :=
  oc σ x2 21 (fun a1 => Q (fr σ a1 2) σ)
set_option maxHeartbeats 4000000 in
theorem BJ2_getL_24 {l : Launch} {p : Program} {e : Env} {s : State} {m : MethodId} {args : Array Value} {below : List Frame} {meth : Method} {c : Code} {E : xx_E} {Q : Option Nat → XS → Prop} (cx : xx_X "java/util/LinkedHashMap" cJ2_get 3 (some (.object "java/lang/Object")) E p s m args meth c) : ∀ (th : Nat) (x2 : Option Nat) (σ : XS), wJ2_getL_24 Q th x2 σ → x_T p l e ({ frames := 10, cells := 0, slots := 0, locals := 400 } : Room) s m args below meth c E (va_Qe (xr E) Q (fun σ' t => xW E σ' t) (xA E)) 0 0 3 24 0 0 σ [(0, xv E (some th)), (2, xv E x2)] [] := by
  intro th x2 σ hw H locs ls cells slots hR hS hl hcb hsb
  unfold wJ2_getL_24 at hw
  obtain ⟨hx, hb, hml, hown, hts, hrt, hlk, hMK, hZ⟩ := id cx
  refine x_aload_n cx dJ2_get_24 rfl (lv_at hl 1 rfl) ?_
  obtain ⟨a1, hr1, hk1, hw⟩ := hw
  refine xg_J2_107_21 cx hR hr1 hk1 dJ2_get_25 ?_
  exact x_aret cx (by first | exact Or.inl ⟨_, rfl⟩ | exact Or.inr ⟨_, rfl⟩) hR hS (xle hcb) (xle hsb) hw dJ2_get_28
def wJ2_getL (th : Nat) (x1 : Option Nat) (σ : XS) (Q : Option Nat → XS → Prop) : Prop :=
  kd σ th = 18 ∧ (wJ1_getNodeL th x1 σ (fun r2 s2 => if r2 = none then (Q none s2) else (kd s2 th = 18 ∧ (if (fi s2 th 10) = 0 then (wJ2_getL_24 Q th r2 s2) else (wJ2_afterNodeAccessL th r2 s2 (fun s5 => wJ2_getL_24 Q th r2 s5))))))
set_option maxHeartbeats 4000000 in
theorem MJ2_getL (l : Launch) (E : xx_E) (th : Nat) (x1 : Option Nat) (σ : XS) (Q : Option Nat → XS → Prop) (hw : wJ2_getL th x1 σ Q) : xx_Mr l yJ2_get (ws_ yJ2_get cJ2_get 3 (some (.object "java/lang/Object"))) ({ frames := 10, cells := 0, slots := 0, locals := 400 } : Room) E [xv E (some th), xv E x1] σ Q 0 0 := by
  refine x_of (own := "java/util/LinkedHashMap") (by decide +kernel) rfl ?_
  intro p e s m args below meth c cx hR ha hnm
  refine x_entry [xv E (some th), xv E x1] 3 [(0, xv E (some th)), (1, xv E x1)] ha (by simp [lg_sl, xv_cat, vc_i, vc_j, vc_f]) (by simp [lv_args, xv_cat, vc_i, vc_j, vc_f]) (fun ls hl => ?_)
  have hS : va_S (xA E) s.heap s.heap [] := va_S.rf
  have hcb : 0 + 0 ≤ 0 := Nat.le_of_eq (Nat.zero_add _)
  have hsb : 0 + 0 ≤ 0 := Nat.le_of_eq (Nat.zero_add _)
  unfold wJ2_getL at hw
  obtain ⟨hx, hb, hml, hown, hts, hrt, hlk, hMK, hZ⟩ := id cx
  refine x_aload_n cx dJ2_get_0 rfl (lv_at hl 0 rfl) ?_
  refine x_aload_n cx dJ2_get_1 rfl (lv_at hl 1 rfl) ?_
  obtain ⟨hk3, hw⟩ := hw
  refine CJ1_getNodeL_J2_99 cx hR hS rfl hk3 hw ⟨Nat.le_of_ble_eq_true rfl, Nat.le_of_ble_eq_true rfl⟩ (Nat.le_of_ble_eq_true rfl) hl.1 ⟨by dsimp only; omega, by dsimp only; omega⟩ dJ2_get_2 (fun r2 s2 H locs hw hR hS => ?_)
  refine lv_dup hx hb dJ2_get_5 (xv_cat _ _) ?_
  refine x_astore_n (i := 2) (r := r2) (lv' := [(2, xv E r2), (0, xv E (some th)), (1, xv E x1)]) cx dJ2_get_6 rfl hl (by decide) (by simp [xv_cat]) (fun ls hl => ?_)
  refine x_ifnonnull (tgt := 12) cx dJ2_get_7 (by decide) (fun hc => ?_) (fun hc => ?_)
  · have hw := mm_in hc hw
    refine x_aload_n cx dJ2_get_12 rfl (lv_at hl 1 rfl) ?_
    obtain ⟨hk4, hw⟩ := hw
    refine xg_J2_64_18 cx hR rfl hk4 dJ2_get_13 ?_
    refine lv_if_eq (tgt := 24) hx hb dJ2_get_16 (by decide) (fun hc => ?_) (fun hc => ?_)
    · have hw := mm_ip hc hw
      exact BJ2_getL_24 cx _ _ _ hw _ _ _ _ _ hR hS (lv_sub hl [1, 0] rfl) hcb hsb
    · have hw := mm_in hc hw
      refine x_aload_n cx dJ2_get_19 rfl (lv_at hl 1 rfl) ?_
      refine x_aload_n cx dJ2_get_20 rfl (lv_at hl 0 rfl) ?_
      refine CJ2_afterNodeAccessL_J2_103 cx hR hS rfl hk4 hw ⟨Nat.le_of_ble_eq_true rfl, Nat.le_of_ble_eq_true rfl⟩ (Nat.le_of_ble_eq_true rfl) hl.1 ⟨by dsimp only; omega, by dsimp only; omega⟩ dJ2_get_21 (fun s5 H locs hw hR hS => ?_)
      exact BJ2_getL_24 cx _ _ _ hw _ _ _ _ _ hR hS (lv_sub hl [1, 0] rfl) hcb hsb
  · have hw := mm_ip hc hw
    refine lv_null hx hb dJ2_get_10 ?_
    exact x_aret cx (by first | exact Or.inl ⟨_, rfl⟩ | exact Or.inr ⟨_, rfl⟩) hR hS (xle hcb) (xle hsb) hw dJ2_get_11
-- X14_init
theorem xp_X14_7_14 {l : Launch} {p : Program} {e : Env} {R : Room} {s : State} {m : MethodId} {args : Array Value} {below : List Frame} {meth : Method} {c : Code} {H : Heap} {locs : List Loc} {cells slots : Nat} {Qz : State → Prop} {cc : ByteArray} {nL : Nat} {ret : Option FieldType} {E : xx_E} {σ : XS} {pc : Nat} {ls : Array Slot} {rest : List Value} (cx : xx_X "StruckCounts$Couple" cc nL ret E p s m args meth c) (hR : xR E σ H) (hS0 : va_S (xA E) s.heap H locs) {a : Nat} {r : Option Nat} {v : Int32} (hr : r = some a) (ha : xK ≤ a) (hk : kd σ a = 14) (hini : meth.name = "<init>") (hdg : decode cc pc = .ok (.putfield 7, 3)) (kk : ∀ (H1 : Heap) (locs1 : List Loc), xR E (pfi σ a 0 v) H1 → va_S (xA E) s.heap H1 locs1 → W p l e R s m args below meth c H1 locs1 cells slots Qz (F0 m (pc + 3) ls rest)) : W p l e R s m args below meth c H locs cells slots Qz (F0 m pc ls (.int v :: xv E r :: rest)) :=
  x_put (ci := 13) cx hR hS0 hr ha hk (by decide) rfl in_X14 tyX14 tyX14_ok nmX14 0 (by decide) (Or.inr (Or.inl ⟨q1869, rfl, hini, rfl⟩)) (fun _ h => h) rfl rfl (xput_i rfl) hdg kk
theorem xp_X14_13_14 {l : Launch} {p : Program} {e : Env} {R : Room} {s : State} {m : MethodId} {args : Array Value} {below : List Frame} {meth : Method} {c : Code} {H : Heap} {locs : List Loc} {cells slots : Nat} {Qz : State → Prop} {cc : ByteArray} {nL : Nat} {ret : Option FieldType} {E : xx_E} {σ : XS} {pc : Nat} {ls : Array Slot} {rest : List Value} (cx : xx_X "StruckCounts$Couple" cc nL ret E p s m args meth c) (hR : xR E σ H) (hS0 : va_S (xA E) s.heap H locs) {a : Nat} {r : Option Nat} {v : Int32} (hr : r = some a) (ha : xK ≤ a) (hk : kd σ a = 14) (hini : meth.name = "<init>") (hdg : decode cc pc = .ok (.putfield 13, 3)) (kk : ∀ (H1 : Heap) (locs1 : List Loc), xR E (pfi σ a 1 v) H1 → va_S (xA E) s.heap H1 locs1 → W p l e R s m args below meth c H1 locs1 cells slots Qz (F0 m (pc + 3) ls rest)) : W p l e R s m args below meth c H locs cells slots Qz (F0 m pc ls (.int v :: xv E r :: rest)) :=
  x_put (ci := 13) cx hR hS0 hr ha hk (by decide) rfl in_X14 tyX14 tyX14_ok nmX14 1 (by decide) (Or.inr (Or.inl ⟨q1870, rfl, hini, rfl⟩)) (fun _ h => h) rfl rfl (xput_i rfl) hdg kk
def wX14_init (th : Nat) (x1 : Int32) (x2 : Int32) (σ : XS) (Q : XS → Prop) : Prop :=
  kd σ th = 14 ∧ (xK ≤ th ∧ (Q (pfi (pfi σ th 0 x1) th 1 x2)))
set_option maxHeartbeats 4000000 in
theorem MX14_init (l : Launch) (E : xx_E) (th : Nat) (x1 : Int32) (x2 : Int32) (σ : XS) (Q : XS → Prop) (hw : wX14_init th x1 x2 σ Q) : xx_Mv l yX14_init (ws_ yX14_init cX14_init 3 none) ({ frames := 1, cells := 0, slots := 0, locals := 40 } : Room) E [xv E (some th), .int x1, .int x2] σ Q 0 0 := by
  refine x_of (own := "StruckCounts$Couple") (by decide +kernel) rfl ?_
  intro p e s m args below meth c cx hR ha hnm
  refine x_entry [xv E (some th), .int x1, .int x2] 3 [(0, xv E (some th)), (1, .int x1), (2, .int x2)] ha (by simp [lg_sl, xv_cat, vc_i, vc_j, vc_f]) (by simp [lv_args, xv_cat, vc_i, vc_j, vc_f]) (fun ls hl => ?_)
  have hS : va_S (xA E) s.heap s.heap [] := va_S.rf
  have hcb : 0 + 0 ≤ 0 := Nat.le_of_eq (Nat.zero_add _)
  have hsb : 0 + 0 ≤ 0 := Nat.le_of_eq (Nat.zero_add _)
  have hini : meth.name = "<init>" := hnm
  unfold wX14_init at hw
  obtain ⟨hx, hb, hml, hown, hts, hrt, hlk, hMK, hZ⟩ := id cx
  refine x_aload_n cx dX14_init_0 rfl (lv_at hl 0 rfl) ?_
  refine x_objinit cx hl.1 rfl q1868 (xroom12 (Nat.le_of_ble_eq_true rfl) (by dsimp only; omega)) (by dsimp only; omega) dX14_init_1 ?_
  refine x_aload_n cx dX14_init_4 rfl (lv_at hl 0 rfl) ?_
  refine lv_iload_n hx hb dX14_init_5 rfl (lv_at hl 1 rfl) ?_
  obtain ⟨hk1, hw⟩ := hw
  obtain ⟨hge_th, hw⟩ := hw
  refine xp_X14_7_14 (v := x1) cx hR hS rfl hge_th hk1 hini dX14_init_6 (fun H locs hR hS => ?_)
  refine x_aload_n cx dX14_init_9 rfl (lv_at hl 0 rfl) ?_
  refine lv_iload_n hx hb dX14_init_10 rfl (lv_at hl 2 rfl) ?_
  refine xp_X14_13_14 (v := x2) cx hR hS rfl hge_th hk1 hini dX14_init_11 (fun H locs hR hS => ?_)
  exact x_vret cx hR hS (xle hcb) (xle hsb) hw dX14_init_14
-- J1_getNodeH
theorem xg_J1_177_20 {l : Launch} {p : Program} {e : Env} {R : Room} {s : State} {m : MethodId} {args : Array Value} {below : List Frame} {meth : Method} {c : Code} {H : Heap} {locs : List Loc} {cells slots : Nat} {Qz : State → Prop} {cc : ByteArray} {nL : Nat} {ret : Option FieldType} {E : xx_E} {σ : XS} {pc : Nat} {ls : Array Slot} {rest : List Value} (cx : xx_X "java/util/HashMap" cc nL ret E p s m args meth c) (hR : xR E σ H) {a : Nat} {r : Option Nat} (hr : r = some a) (hk : kd σ a = 20) (hdg : decode cc pc = .ok (.getfield 177, 3)) (kk : W p l e R s m args below meth c H locs cells slots Qz (F0 m (pc + 3) ls (xv E (fr σ a 3) :: rest))) : W p l e R s m args below meth c H locs cells slots Qz (F0 m pc ls (xv E r :: rest)) :=
  x_get (ci := 19) cx hR hr hk (by decide) rfl in_J25 3 (by decide) q1520 (fun _ h => h) (v := xv E (fr σ a 3)) rfl hdg kk
theorem xg_J1_168_20 {l : Launch} {p : Program} {e : Env} {R : Room} {s : State} {m : MethodId} {args : Array Value} {below : List Frame} {meth : Method} {c : Code} {H : Heap} {locs : List Loc} {cells slots : Nat} {Qz : State → Prop} {cc : ByteArray} {nL : Nat} {ret : Option FieldType} {E : xx_E} {σ : XS} {pc : Nat} {ls : Array Slot} {rest : List Value} (cx : xx_X "java/util/HashMap" cc nL ret E p s m args meth c) (hR : xR E σ H) {a : Nat} {r : Option Nat} (hr : r = some a) (hk : kd σ a = 20) (hdg : decode cc pc = .ok (.getfield 168, 3)) (kk : W p l e R s m args below meth c H locs cells slots Qz (F0 m (pc + 3) ls (.int (fi σ a 0) :: rest))) : W p l e R s m args below meth c H locs cells slots Qz (F0 m pc ls (xv E r :: rest)) :=
  x_get (ci := 19) cx hR hr hk (by decide) rfl in_J25 0 (by decide) q1504 (fun _ h => h) (v := .int (fi σ a 0)) rfl hdg kk
theorem xg_J1_170_20 {l : Launch} {p : Program} {e : Env} {R : Room} {s : State} {m : MethodId} {args : Array Value} {below : List Frame} {meth : Method} {c : Code} {H : Heap} {locs : List Loc} {cells slots : Nat} {Qz : State → Prop} {cc : ByteArray} {nL : Nat} {ret : Option FieldType} {E : xx_E} {σ : XS} {pc : Nat} {ls : Array Slot} {rest : List Value} (cx : xx_X "java/util/HashMap" cc nL ret E p s m args meth c) (hR : xR E σ H) {a : Nat} {r : Option Nat} (hr : r = some a) (hk : kd σ a = 20) (hdg : decode cc pc = .ok (.getfield 170, 3)) (kk : W p l e R s m args below meth c H locs cells slots Qz (F0 m (pc + 3) ls (xv E (fr σ a 1) :: rest))) : W p l e R s m args below meth c H locs cells slots Qz (F0 m pc ls (xv E r :: rest)) :=
  x_get (ci := 19) cx hR hr hk (by decide) rfl in_J25 1 (by decide) q1510 (fun _ h => h) (v := xv E (fr σ a 1)) rfl hdg kk
theorem xg_J1_105_17 {l : Launch} {p : Program} {e : Env} {R : Room} {s : State} {m : MethodId} {args : Array Value} {below : List Frame} {meth : Method} {c : Code} {H : Heap} {locs : List Loc} {cells slots : Nat} {Qz : State → Prop} {cc : ByteArray} {nL : Nat} {ret : Option FieldType} {E : xx_E} {σ : XS} {pc : Nat} {ls : Array Slot} {rest : List Value} (cx : xx_X "java/util/HashMap" cc nL ret E p s m args meth c) (hR : xR E σ H) {a : Nat} {r : Option Nat} (hr : r = some a) (hk : kd σ a = 17) (hdg : decode cc pc = .ok (.getfield 105, 3)) (kk : W p l e R s m args below meth c H locs cells slots Qz (F0 m (pc + 3) ls (xv E (fr σ a 2) :: rest))) : W p l e R s m args below meth c H locs cells slots Qz (F0 m pc ls (xv E r :: rest)) :=
  x_get (ci := 16) cx hR hr hk (by decide) rfl in_J1 2 (by decide) q237 (fun _ h => h) (v := xv E (fr σ a 2)) rfl hdg kk
def wJ1_getNodeH_137 (Q : Option Nat → XS → Prop) (K99 : Nat → Option Nat → Option Nat → Int32 → XS → Prop) (th : Nat) (x1 : Option Nat) (x4 : Option Nat) (x6 : Int32) (σ : XS) : Prop :=
  oc σ x4 20 (fun a1 => if (fr σ a1 3) = none then (Q none σ) else (K99 th x1 (fr σ a1 3) x6 σ))
set_option maxHeartbeats 4000000 in
theorem BJ1_getNodeH_137 {l : Launch} {p : Program} {e : Env} {s : State} {m : MethodId} {args : Array Value} {below : List Frame} {meth : Method} {c : Code} {E : xx_E} {Q : Option Nat → XS → Prop} {K99 : Nat → Option Nat → Option Nat → Int32 → XS → Prop} (cx : xx_X "java/util/HashMap" cJ1_getNode 8 (some (.object "java/util/HashMap$Node")) E p s m args meth c) (hK99 : ∀ (th : Nat) (x1 : Option Nat) (x4 : Option Nat) (x6 : Int32) (σ : XS), K99 th x1 x4 x6 σ → x_T p l e ({ frames := 9, cells := 0, slots := 0, locals := 360 } : Room) s m args below meth c E (va_Qe (xr E) Q (fun σ' t => xW E σ' t) (xA E)) 0 0 8 99 0 0 σ [(0, xv E (some th)), (1, xv E x1), (4, xv E x4), (6, .int x6)] []) : ∀ (th : Nat) (x1 : Option Nat) (x4 : Option Nat) (x6 : Int32) (σ : XS), wJ1_getNodeH_137 Q K99 th x1 x4 x6 σ → x_T p l e ({ frames := 9, cells := 0, slots := 0, locals := 360 } : Room) s m args below meth c E (va_Qe (xr E) Q (fun σ' t => xW E σ' t) (xA E)) 0 0 8 137 0 0 σ [(0, xv E (some th)), (1, xv E x1), (4, xv E x4), (6, .int x6)] [] := by
  intro th x1 x4 x6 σ hw H locs ls cells slots hR hS hl hcb hsb
  unfold wJ1_getNodeH_137 at hw
  obtain ⟨hx, hb, hml, hown, hts, hrt, hlk, hMK, hZ⟩ := id cx
  refine x_aload cx dJ1_getNode_137 (lv_at hl 2 rfl) ?_
  obtain ⟨a1, hr1, hk1, hw⟩ := hw
  refine xg_J1_177_20 cx hR hr1 hk1 dJ1_getNode_139 ?_
  refine lv_dup hx hb dJ1_getNode_142 (xv_cat _ _) ?_
  refine x_astore (i := 4) (r := (fr σ a1 3)) (lv' := [(4, xv E (fr σ a1 3)), (0, xv E (some th)), (1, xv E x1), (6, .int x6)]) cx dJ1_getNode_143 hl (by decide) rfl (fun ls hl => ?_)
  refine x_ifnonnull (tgt := 99) cx dJ1_getNode_145 (by decide) (fun hc => ?_) (fun hc => ?_)
  · have hw := mm_in hc hw
    exact hK99 _ _ _ _ _ hw _ _ _ _ _ hR hS (lv_sub hl [1, 2, 0, 3] rfl) hcb hsb
  · have hw := mm_ip hc hw
    refine lv_null hx hb dJ1_getNode_148 ?_
    exact x_aret cx (by first | exact Or.inl ⟨_, rfl⟩ | exact Or.inr ⟨_, rfl⟩) hR hS (xle hcb) (xle hsb) hw dJ1_getNode_149
def wJ1_getNodeH_99 (Q : Option Nat → XS → Prop) (K99 : Nat → Option Nat → Option Nat → Int32 → XS → Prop) (th : Nat) (x1 : Option Nat) (x4 : Option Nat) (x6 : Int32) (σ : XS) : Prop :=
  oc σ x4 20 (fun a2 => if (fi σ a2 0) = x6 then (xok (fr σ a2 1) x1 ∧ (if (fr σ a2 1) = x1 then (Q x4 σ) else (if x1 = none then (wJ1_getNodeH_137 Q K99 th x1 x4 x6 σ) else (oe x1 (fun a4 => wO_equals a4 (fr σ a2 1) σ (fun r3 s3 => if r3 = 0 then (wJ1_getNodeH_137 Q K99 th x1 x4 x6 s3) else (Q x4 s3))))))) else (wJ1_getNodeH_137 Q K99 th x1 x4 x6 σ))
set_option maxHeartbeats 4000000 in
theorem BJ1_getNodeH_99 {l : Launch} {p : Program} {e : Env} {s : State} {m : MethodId} {args : Array Value} {below : List Frame} {meth : Method} {c : Code} {E : xx_E} {Q : Option Nat → XS → Prop} {K99 : Nat → Option Nat → Option Nat → Int32 → XS → Prop} (cx : xx_X "java/util/HashMap" cJ1_getNode 8 (some (.object "java/util/HashMap$Node")) E p s m args meth c) (hK99 : ∀ (th : Nat) (x1 : Option Nat) (x4 : Option Nat) (x6 : Int32) (σ : XS), K99 th x1 x4 x6 σ → x_T p l e ({ frames := 9, cells := 0, slots := 0, locals := 360 } : Room) s m args below meth c E (va_Qe (xr E) Q (fun σ' t => xW E σ' t) (xA E)) 0 0 8 99 0 0 σ [(0, xv E (some th)), (1, xv E x1), (4, xv E x4), (6, .int x6)] []) : ∀ (th : Nat) (x1 : Option Nat) (x4 : Option Nat) (x6 : Int32) (σ : XS), wJ1_getNodeH_99 Q K99 th x1 x4 x6 σ → x_T p l e ({ frames := 9, cells := 0, slots := 0, locals := 360 } : Room) s m args below meth c E (va_Qe (xr E) Q (fun σ' t => xW E σ' t) (xA E)) 0 0 8 99 0 0 σ [(0, xv E (some th)), (1, xv E x1), (4, xv E x4), (6, .int x6)] [] := by
  intro th x1 x4 x6 σ hw H locs ls cells slots hR hS hl hcb hsb
  unfold wJ1_getNodeH_99 at hw
  obtain ⟨hx, hb, hml, hown, hts, hrt, hlk, hMK, hZ⟩ := id cx
  refine x_aload cx dJ1_getNode_99 (lv_at hl 2 rfl) ?_
  obtain ⟨a2, hr2, hk2, hw⟩ := hw
  refine xg_J1_168_20 cx hR hr2 hk2 dJ1_getNode_101 ?_
  refine lv_iload hx hb dJ1_getNode_104 (lv_at hl 3 rfl) ?_
  refine lv_icmp_ne (tgt := 137) hx hb dJ1_getNode_106 (by decide) (fun hc => ?_) (fun hc => ?_)
  · have hw := mm_in hc hw
    exact BJ1_getNodeH_137 cx hK99 _ _ _ _ _ hw _ _ _ _ _ hR hS (lv_sub hl [0, 1, 2, 3] rfl) hcb hsb
  · have hw := mm_ip hc hw
    refine x_aload cx dJ1_getNode_109 (lv_at hl 2 rfl) ?_
    refine xg_J1_170_20 cx hR hr2 hk2 dJ1_getNode_111 ?_
    refine lv_dup hx hb dJ1_getNode_114 (xv_cat _ _) ?_
    refine x_astore (i := 7) (r := (fr σ a2 1)) (lv' := [(7, xv E (fr σ a2 1)), (0, xv E (some th)), (1, xv E x1), (4, xv E x4), (6, .int x6)]) cx dJ1_getNode_115 hl (by decide) rfl (fun ls hl => ?_)
    refine x_aload_n cx dJ1_getNode_117 rfl (lv_at hl 2 rfl) ?_
    obtain ⟨hok, hw⟩ := hw
    refine x_acmp_eq (tgt := 134) cx hok dJ1_getNode_118 (by decide) (fun hc => ?_) (fun hc => ?_)
    · have hw := mm_ip hc hw
      refine x_aload cx dJ1_getNode_134 (lv_at hl 3 rfl) ?_
      exact x_aret cx (by first | exact Or.inl ⟨_, rfl⟩ | exact Or.inr ⟨_, rfl⟩) hR hS (xle hcb) (xle hsb) hw dJ1_getNode_136
    · have hw := mm_in hc hw
      refine x_aload_n cx dJ1_getNode_121 rfl (lv_at hl 2 rfl) ?_
      refine x_ifnull (tgt := 137) cx dJ1_getNode_122 (by decide) (fun hc => ?_) (fun hc => ?_)
      · have hw := mm_ip hc hw
        exact BJ1_getNodeH_137 cx hK99 _ _ _ _ _ hw _ _ _ _ _ hR hS (lv_sub hl [1, 2, 3, 4] rfl) hcb hsb
      · have hw := mm_in hc hw
        refine x_aload_n cx dJ1_getNode_125 rfl (lv_at hl 2 rfl) ?_
        refine x_aload cx dJ1_getNode_126 (lv_at hl 0 rfl) ?_
        obtain ⟨a4, hr4, hw⟩ := hw
        refine CO_equals_J1_173 cx hR hS hr4 hw ⟨Nat.le_of_ble_eq_true rfl, Nat.le_of_ble_eq_true rfl⟩ (Nat.le_of_ble_eq_true rfl) hl.1 ⟨by dsimp only; omega, by dsimp only; omega⟩ dJ1_getNode_128 (fun r3 s3 H locs hw hR hS => ?_)
        refine lv_if_eq (tgt := 137) hx hb dJ1_getNode_131 (by decide) (fun hc => ?_) (fun hc => ?_)
        · have hw := mm_ip hc hw
          exact BJ1_getNodeH_137 cx hK99 _ _ _ _ _ hw _ _ _ _ _ hR hS (lv_sub hl [1, 2, 3, 4] rfl) hcb hsb
        · have hw := mm_in hc hw
          refine x_aload cx dJ1_getNode_134 (lv_at hl 3 rfl) ?_
          exact x_aret cx (by first | exact Or.inl ⟨_, rfl⟩ | exact Or.inr ⟨_, rfl⟩) hR hS (xle hcb) (xle hsb) hw dJ1_getNode_136
theorem LJ1_getNodeH_99 {l : Launch} {p : Program} {e : Env} {s : State} {m : MethodId} {args : Array Value} {below : List Frame} {meth : Method} {c : Code} {E : xx_E} {Q : Option Nat → XS → Prop} (cx : xx_X "java/util/HashMap" cJ1_getNode 8 (some (.object "java/util/HashMap$Node")) E p s m args meth c) : ∀ (th : Nat) (x1 : Option Nat) (x4 : Option Nat) (x6 : Int32) (σ : XS), lp5F (wJ1_getNodeH_99 Q) th x1 x4 x6 σ → x_T p l e ({ frames := 9, cells := 0, slots := 0, locals := 360 } : Room) s m args below meth c E (va_Qe (xr E) Q (fun σ' t => xW E σ' t) (xA E)) 0 0 8 99 0 0 σ [(0, xv E (some th)), (1, xv E x1), (4, xv E x4), (6, .int x6)] [] :=
  lp5F_of (fun K hK => BJ1_getNodeH_99 cx hK)
def wJ1_getNodeH_71 (Q : Option Nat → XS → Prop) (th : Nat) (x1 : Option Nat) (x3 : Option Nat) (x6 : Int32) (σ : XS) : Prop :=
  oc σ x3 20 (fun a5 => if (fr σ a5 3) = none then (Q none σ) else (lp5F (wJ1_getNodeH_99 Q) th x1 (fr σ a5 3) x6 σ))
set_option maxHeartbeats 4000000 in
theorem BJ1_getNodeH_71 {l : Launch} {p : Program} {e : Env} {s : State} {m : MethodId} {args : Array Value} {below : List Frame} {meth : Method} {c : Code} {E : xx_E} {Q : Option Nat → XS → Prop} (cx : xx_X "java/util/HashMap" cJ1_getNode 8 (some (.object "java/util/HashMap$Node")) E p s m args meth c) : ∀ (th : Nat) (x1 : Option Nat) (x3 : Option Nat) (x6 : Int32) (σ : XS), wJ1_getNodeH_71 Q th x1 x3 x6 σ → x_T p l e ({ frames := 9, cells := 0, slots := 0, locals := 360 } : Room) s m args below meth c E (va_Qe (xr E) Q (fun σ' t => xW E σ' t) (xA E)) 0 0 8 71 0 0 σ [(0, xv E (some th)), (1, xv E x1), (3, xv E x3), (6, .int x6)] [] := by
  intro th x1 x3 x6 σ hw H locs ls cells slots hR hS hl hcb hsb
  unfold wJ1_getNodeH_71 at hw
  obtain ⟨hx, hb, hml, hown, hts, hrt, hlk, hMK, hZ⟩ := id cx
  refine x_aload_n cx dJ1_getNode_71 rfl (lv_at hl 2 rfl) ?_
  obtain ⟨a5, hr5, hk5, hw⟩ := hw
  refine xg_J1_177_20 cx hR hr5 hk5 dJ1_getNode_72 ?_
  refine lv_dup hx hb dJ1_getNode_75 (xv_cat _ _) ?_
  refine x_astore (i := 4) (r := (fr σ a5 3)) (lv' := [(4, xv E (fr σ a5 3)), (0, xv E (some th)), (1, xv E x1), (3, xv E x3), (6, .int x6)]) cx dJ1_getNode_76 hl (by decide) (by simp [xv_cat]) (fun ls hl => ?_)
  refine x_ifnull (tgt := 148) cx dJ1_getNode_78 (by decide) (fun hc => ?_) (fun hc => ?_)
  · have hw := mm_ip hc hw
    refine lv_null hx hb dJ1_getNode_148 ?_
    exact x_aret cx (by first | exact Or.inl ⟨_, rfl⟩ | exact Or.inr ⟨_, rfl⟩) hR hS (xle hcb) (xle hsb) hw dJ1_getNode_149
  · have hw := mm_in hc hw
    refine x_aload_n cx dJ1_getNode_81 rfl (lv_at hl 3 rfl) ?_
    refine x_instN cx hR hr5 hk5 (by decide) rfl q1204 (by decide) dJ1_getNode_82 ?_
    refine lv_if_eq (tgt := 99) hx hb dJ1_getNode_85 (by decide) (fun hc => ?_) (fun hc => ?_)
    rotate_left
    · exact absurd hc (by decide)
    exact LJ1_getNodeH_99 cx _ _ _ _ _ hw _ _ _ _ _ hR hS (lv_sub hl [1, 2, 0, 4] rfl) hcb hsb
def wJ1_getNodeH (th : Nat) (x1 : Option Nat) (σ : XS) (Q : Option Nat → XS → Prop) : Prop :=
  kd σ th = 17 ∧ (if (fr σ th 2) = none then (Q none σ) else (oc σ (fr σ th 2) 106 (fun a7 => ∀ v8 : Int32, v8 = (nI (ln σ a7)) → if (nI (ln σ a7)) ≤ 0 then (Q none σ) else (wJ1_hash x1 σ (fun r9 s9 => oc s9 (fr σ th 2) 106 (fun a10 => vp_in ((v8 - (1 : Int32)) &&& r9) (ln s9 a10) ∧ (if (ar s9 a10 (((v8 - (1 : Int32)) &&& r9).toNatClampNeg)) = none then (Q none s9) else (oc s9 (ar s9 a10 (((v8 - (1 : Int32)) &&& r9).toNatClampNeg)) 20 (fun a11 => if (fi s9 a11 0) = r9 then (xok (fr s9 a11 1) x1 ∧ (if (fr s9 a11 1) = x1 then (Q (ar s9 a10 (((v8 - (1 : Int32)) &&& r9).toNatClampNeg)) s9) else (if x1 = none then (wJ1_getNodeH_71 Q th x1 (ar s9 a10 (((v8 - (1 : Int32)) &&& r9).toNatClampNeg)) r9 s9) else (oe x1 (fun a13 => wO_equals a13 (fr s9 a11 1) s9 (fun r12 s12 => if r12 = 0 then (wJ1_getNodeH_71 Q th x1 (ar s9 a10 (((v8 - (1 : Int32)) &&& r9).toNatClampNeg)) r9 s12) else (Q (ar s9 a10 (((v8 - (1 : Int32)) &&& r9).toNatClampNeg)) s12))))))) else (wJ1_getNodeH_71 Q th x1 (ar s9 a10 (((v8 - (1 : Int32)) &&& r9).toNatClampNeg)) r9 s9))))))))))
set_option maxHeartbeats 4000000 in
theorem MJ1_getNodeH (l : Launch) (E : xx_E) (th : Nat) (x1 : Option Nat) (σ : XS) (Q : Option Nat → XS → Prop) (hw : wJ1_getNodeH th x1 σ Q) : xx_Mr l yJ1_getNode (ws_ yJ1_getNode cJ1_getNode 8 (some (.object "java/util/HashMap$Node"))) ({ frames := 9, cells := 0, slots := 0, locals := 360 } : Room) E [xv E (some th), xv E x1] σ Q 0 0 := by
  refine x_of (own := "java/util/HashMap") (by decide +kernel) rfl ?_
  intro p e s m args below meth c cx hR ha hnm
  refine x_entry [xv E (some th), xv E x1] 8 [(0, xv E (some th)), (1, xv E x1)] ha (by simp [lg_sl, xv_cat, vc_i, vc_j, vc_f]) (by simp [lv_args, xv_cat, vc_i, vc_j, vc_f]) (fun ls hl => ?_)
  have hS : va_S (xA E) s.heap s.heap [] := va_S.rf
  have hcb : 0 + 0 ≤ 0 := Nat.le_of_eq (Nat.zero_add _)
  have hsb : 0 + 0 ≤ 0 := Nat.le_of_eq (Nat.zero_add _)
  unfold wJ1_getNodeH at hw
  obtain ⟨hx, hb, hml, hown, hts, hrt, hlk, hMK, hZ⟩ := id cx
  refine x_aload_n cx dJ1_getNode_0 rfl (lv_at hl 0 rfl) ?_
  obtain ⟨hk6, hw⟩ := hw
  refine xg_J1_105_17 cx hR rfl hk6 dJ1_getNode_1 ?_
  refine lv_dup hx hb dJ1_getNode_4 (xv_cat _ _) ?_
  refine x_astore_n (i := 2) (r := (fr σ th 2)) (lv' := [(2, xv E (fr σ th 2)), (0, xv E (some th)), (1, xv E x1)]) cx dJ1_getNode_5 rfl hl (by decide) (by simp [xv_cat]) (fun ls hl => ?_)
  refine x_ifnull (tgt := 148) cx dJ1_getNode_6 (by decide) (fun hc => ?_) (fun hc => ?_)
  · have hw := mm_ip hc hw
    refine lv_null hx hb dJ1_getNode_148 ?_
    exact x_aret cx (by first | exact Or.inl ⟨_, rfl⟩ | exact Or.inr ⟨_, rfl⟩) hR hS (xle hcb) (xle hsb) hw dJ1_getNode_149
  · have hw := mm_in hc hw
    refine x_aload_n cx dJ1_getNode_9 rfl (lv_at hl 0 rfl) ?_
    obtain ⟨a7, hr7, hk7, hw⟩ := hw
    refine x_alen cx hR hr7 6 hk7 (by decide) dJ1_getNode_10 ?_
    refine lv_dup hx hb dJ1_getNode_11 rfl ?_
    refine lv_topi (fun v8 hv8 => ?_)
    have hw := hw v8 hv8
    refine lv_istore (i := 5) (lv' := [(5, .int v8), (2, xv E (fr σ th 2)), (0, xv E (some th)), (1, xv E x1)]) hx hb dJ1_getNode_12 hl (by decide) rfl (fun ls hl => ?_)
    refine lv_if_le (tgt := 148) hx hb dJ1_getNode_14 (by decide) (fun hc => ?_) (fun hc => ?_)
    · have hw := mm_ip hc hw
      refine lv_null hx hb dJ1_getNode_148 ?_
      exact x_aret cx (by first | exact Or.inl ⟨_, rfl⟩ | exact Or.inr ⟨_, rfl⟩) hR hS (xle hcb) (xle hsb) hw dJ1_getNode_149
    · have hw := mm_in hc hw
      refine x_aload_n cx dJ1_getNode_17 rfl (lv_at hl 1 rfl) ?_
      refine lv_iload hx hb dJ1_getNode_18 (lv_at hl 0 rfl) ?_
      refine lv_iconst (v := (1 : Int32)) hx hb dJ1_getNode_20 (by decide) ?_
      refine lv_isub hx hb dJ1_getNode_21 ?_
      refine x_aload_n cx dJ1_getNode_22 rfl (lv_at hl 3 rfl) ?_
      refine CJ1_hash_J1_149 cx hR hS  hw ⟨Nat.le_of_ble_eq_true rfl, Nat.le_of_ble_eq_true rfl⟩ (Nat.le_of_ble_eq_true rfl) hl.1 ⟨by dsimp only; omega, by dsimp only; omega⟩ dJ1_getNode_23 (fun r9 s9 H locs hw hR hS => ?_)
      refine lv_dup hx hb dJ1_getNode_26 rfl ?_
      refine lv_istore (i := 6) (lv' := [(6, .int r9), (5, .int v8), (2, xv E (fr σ th 2)), (0, xv E (some th)), (1, xv E x1)]) hx hb dJ1_getNode_27 hl (by decide) rfl (fun ls hl => ?_)
      refine lv_iand hx hb dJ1_getNode_29 ?_
      obtain ⟨a10, hr10, hk10, hw⟩ := hw
      obtain ⟨hi, hw⟩ := hw
      refine x_aald cx hR hr10 6 hk10 (by decide) (by decide) (j := ((v8 - (1 : Int32)) &&& r9).toNatClampNeg) rfl hi dJ1_getNode_30 ?_
      refine lv_dup hx hb dJ1_getNode_31 (xv_cat _ _) ?_
      refine x_astore_n (i := 3) (r := (ar s9 a10 (((v8 - (1 : Int32)) &&& r9).toNatClampNeg))) (lv' := [(3, xv E (ar s9 a10 (((v8 - (1 : Int32)) &&& r9).toNatClampNeg))), (6, .int r9), (5, .int v8), (2, xv E (fr σ th 2)), (0, xv E (some th)), (1, xv E x1)]) cx dJ1_getNode_32 rfl hl (by decide) (by simp [xv_cat]) (fun ls hl => ?_)
      refine x_ifnull (tgt := 148) cx dJ1_getNode_33 (by decide) (fun hc => ?_) (fun hc => ?_)
      · have hw := mm_ip hc hw
        refine lv_null hx hb dJ1_getNode_148 ?_
        exact x_aret cx (by first | exact Or.inl ⟨_, rfl⟩ | exact Or.inr ⟨_, rfl⟩) hR hS (xle hcb) (xle hsb) hw dJ1_getNode_149
      · have hw := mm_in hc hw
        refine x_aload_n cx dJ1_getNode_36 rfl (lv_at hl 0 rfl) ?_
        obtain ⟨a11, hr11, hk11, hw⟩ := hw
        refine xg_J1_168_20 cx hR hr11 hk11 dJ1_getNode_37 ?_
        refine lv_iload hx hb dJ1_getNode_40 (lv_at hl 1 rfl) ?_
        refine lv_icmp_ne (tgt := 71) hx hb dJ1_getNode_42 (by decide) (fun hc => ?_) (fun hc => ?_)
        · have hw := mm_in hc hw
          exact BJ1_getNodeH_71 cx _ _ _ _ _ hw _ _ _ _ _ hR hS (lv_sub hl [4, 5, 0, 1] rfl) hcb hsb
        · have hw := mm_ip hc hw
          refine x_aload_n cx dJ1_getNode_45 rfl (lv_at hl 0 rfl) ?_
          refine xg_J1_170_20 cx hR hr11 hk11 dJ1_getNode_46 ?_
          refine lv_dup hx hb dJ1_getNode_49 (xv_cat _ _) ?_
          refine x_astore (i := 7) (r := (fr s9 a11 1)) (lv' := [(7, xv E (fr s9 a11 1)), (3, xv E (ar s9 a10 (((v8 - (1 : Int32)) &&& r9).toNatClampNeg))), (6, .int r9), (5, .int v8), (2, xv E (fr σ th 2)), (0, xv E (some th)), (1, xv E x1)]) cx dJ1_getNode_50 hl (by decide) rfl (fun ls hl => ?_)
          refine x_aload_n cx dJ1_getNode_52 rfl (lv_at hl 6 rfl) ?_
          obtain ⟨hok, hw⟩ := hw
          refine x_acmp_eq (tgt := 69) cx hok dJ1_getNode_53 (by decide) (fun hc => ?_) (fun hc => ?_)
          · have hw := mm_ip hc hw
            refine x_aload_n cx dJ1_getNode_69 rfl (lv_at hl 1 rfl) ?_
            exact x_aret cx (by first | exact Or.inl ⟨_, rfl⟩ | exact Or.inr ⟨_, rfl⟩) hR hS (xle hcb) (xle hsb) hw dJ1_getNode_70
          · have hw := mm_in hc hw
            refine x_aload_n cx dJ1_getNode_56 rfl (lv_at hl 6 rfl) ?_
            refine x_ifnull (tgt := 71) cx dJ1_getNode_57 (by decide) (fun hc => ?_) (fun hc => ?_)
            · have hw := mm_ip hc hw
              exact BJ1_getNodeH_71 cx _ _ _ _ _ hw _ _ _ _ _ hR hS (lv_sub hl [5, 6, 1, 2] rfl) hcb hsb
            · have hw := mm_in hc hw
              refine x_aload_n cx dJ1_getNode_60 rfl (lv_at hl 6 rfl) ?_
              refine x_aload cx dJ1_getNode_61 (lv_at hl 0 rfl) ?_
              obtain ⟨a13, hr13, hw⟩ := hw
              refine CO_equals_J1_173 cx hR hS hr13 hw ⟨Nat.le_of_ble_eq_true rfl, Nat.le_of_ble_eq_true rfl⟩ (Nat.le_of_ble_eq_true rfl) hl.1 ⟨by dsimp only; omega, by dsimp only; omega⟩ dJ1_getNode_63 (fun r12 s12 H locs hw hR hS => ?_)
              refine lv_if_eq (tgt := 71) hx hb dJ1_getNode_66 (by decide) (fun hc => ?_) (fun hc => ?_)
              · have hw := mm_ip hc hw
                exact BJ1_getNodeH_71 cx _ _ _ _ _ hw _ _ _ _ _ hR hS (lv_sub hl [5, 6, 1, 2] rfl) hcb hsb
              · have hw := mm_in hc hw
                refine x_aload_n cx dJ1_getNode_69 rfl (lv_at hl 1 rfl) ?_
                exact x_aret cx (by first | exact Or.inl ⟨_, rfl⟩ | exact Or.inr ⟨_, rfl⟩) hR hS (xle hcb) (xle hsb) hw dJ1_getNode_70
-- J1_containsKeyH
theorem CJ1_getNodeH_J1_158 {l : Launch} {p : Program} {e : Env} {R : Room} {s : State} {m : MethodId} {args : Array Value} {below : List Frame} {meth : Method} {c : Code} {H : Heap} {locs : List Loc} {cells slots : Nat} {Qz : State → Prop} {cc : ByteArray} {nL : Nat} {ret : Option FieldType} {E : xx_E} {σ : XS} {pc : Nat} {ls : Array Slot} {rest : List Value} {th : Nat} {x1 : Option Nat} (cx : xx_X "java/util/HashMap" cc nL ret E p s m args meth c) (hR0 : xR E σ H) (hS0 : va_S (xA E) s.heap H locs) {r0 : Option Nat} (hr : r0 = some th) (hk : kd σ th = 17) {Qf : Option Nat → XS → Prop} (hw : wJ1_getNodeH th x1 σ Qf) (hR : (({ frames := 9, cells := 0, slots := 0, locals := 360 } : Room)).frames + 1 ≤ R.frames ∧ 8 + (8 + 11) + (({ frames := 9, cells := 0, slots := 0, locals := 360 } : Room)).locals ≤ R.locals) (hrest : rest.length ≤ 4) (hsize : ls.size = nL) (hf : cells + 0 ≤ R.cells ∧ slots + 0 ≤ R.slots) (hdg : decode cc pc = .ok (.invokevirtual 158, 3))
    (kk : ∀ (r : Option Nat) (σ1 : XS) (H1 : Heap) (locs1 : List Loc), Qf r σ1 → xR E σ1 H1 → va_S (xA E) s.heap H1 locs1 → W p l e R s m args below meth c H1 locs1 (cells + 0) (slots + 0) Qz (F0 m (pc + 3) ls (xv E r :: rest))) : W p l e R s m args below meth c H locs cells slots Qz (F0 m pc ls (xv E x1 :: xv E r0 :: rest)) := by
  subst hr
  obtain ⟨hx, hb, hml, hown, hts, hrt, hlk, hK, hZ⟩ := id cx
  exact x_gor (va_runV (As := [xv E x1]) (rest := rest) (x_fix cx) (MJ1_getNodeH l E th x1 σ Qf hw) (cwV 1 hts (lw_V q1133 q1134 q1135 q159 q1138) rfl rfl rfl (by decide +kernel) hR) (x_preV cx hR0 hS0 hk (by decide) (q := (RJ1, TJ1, 8)) rfl rfl [xv E x1]) rfl rfl hsize rfl (lv_room (xroom hrest)) hdg hf) hS0 kk
def wJ1_containsKeyH (th : Nat) (x1 : Option Nat) (σ : XS) (Q : Int32 → XS → Prop) : Prop :=
  kd σ th = 17 ∧ (wJ1_getNodeH th x1 σ (fun r1 s1 => if r1 = none then (Q (0 : Int32) s1) else (Q (1 : Int32) s1)))
set_option maxHeartbeats 4000000 in
theorem MJ1_containsKeyH (l : Launch) (E : xx_E) (th : Nat) (x1 : Option Nat) (σ : XS) (Q : Int32 → XS → Prop) (hw : wJ1_containsKeyH th x1 σ Q) : xx_Mi l yJ1_containsKey (ws_ yJ1_containsKey cJ1_containsKey 2 (some .boolean)) ({ frames := 10, cells := 0, slots := 0, locals := 400 } : Room) E [xv E (some th), xv E x1] σ Q 0 0 := by
  refine x_of (own := "java/util/HashMap") (by decide +kernel) rfl ?_
  intro p e s m args below meth c cx hR ha hnm
  refine x_entry [xv E (some th), xv E x1] 2 [(0, xv E (some th)), (1, xv E x1)] ha (by simp [lg_sl, xv_cat, vc_i, vc_j, vc_f]) (by simp [lv_args, xv_cat, vc_i, vc_j, vc_f]) (fun ls hl => ?_)
  have hS : va_S (xA E) s.heap s.heap [] := va_S.rf
  have hcb : 0 + 0 ≤ 0 := Nat.le_of_eq (Nat.zero_add _)
  have hsb : 0 + 0 ≤ 0 := Nat.le_of_eq (Nat.zero_add _)
  unfold wJ1_containsKeyH at hw
  obtain ⟨hx, hb, hml, hown, hts, hrt, hlk, hMK, hZ⟩ := id cx
  refine x_aload_n cx dJ1_containsKey_0 rfl (lv_at hl 0 rfl) ?_
  refine x_aload_n cx dJ1_containsKey_1 rfl (lv_at hl 1 rfl) ?_
  obtain ⟨hk2, hw⟩ := hw
  refine CJ1_getNodeH_J1_158 cx hR hS rfl hk2 hw ⟨Nat.le_of_ble_eq_true rfl, Nat.le_of_ble_eq_true rfl⟩ (Nat.le_of_ble_eq_true rfl) hl.1 ⟨by dsimp only; omega, by dsimp only; omega⟩ dJ1_containsKey_2 (fun r1 s1 H locs hw hR hS => ?_)
  refine x_ifnull (tgt := 12) cx dJ1_containsKey_5 (by decide) (fun hc => ?_) (fun hc => ?_)
  · have hw := mm_ip hc hw
    refine lv_iconst (v := (0 : Int32)) hx hb dJ1_containsKey_12 (by decide) ?_
    exact x_nret cx hR hS (xle hcb) (xle hsb) (zb_nar (Or.inl rfl)) hw dJ1_containsKey_13
  · have hw := mm_in hc hw
    refine lv_iconst (v := (1 : Int32)) hx hb dJ1_containsKey_8 (by decide) ?_
    refine lv_goto (tgt := 13) hx hb dJ1_containsKey_9 (by decide) ?_
    exact x_nret cx hR hS (xle hcb) (xle hsb) (zb_nar (Or.inr rfl)) hw dJ1_containsKey_13
-- J5_contains
theorem xg_J5_10_19 {l : Launch} {p : Program} {e : Env} {R : Room} {s : State} {m : MethodId} {args : Array Value} {below : List Frame} {meth : Method} {c : Code} {H : Heap} {locs : List Loc} {cells slots : Nat} {Qz : State → Prop} {cc : ByteArray} {nL : Nat} {ret : Option FieldType} {E : xx_E} {σ : XS} {pc : Nat} {ls : Array Slot} {rest : List Value} (cx : xx_X "java/util/HashSet" cc nL ret E p s m args meth c) (hR : xR E σ H) {a : Nat} {r : Option Nat} (hr : r = some a) (hk : kd σ a = 19) (hdg : decode cc pc = .ok (.getfield 10, 3)) (kk : W p l e R s m args below meth c H locs cells slots Qz (F0 m (pc + 3) ls (xv E (fr σ a 0) :: rest))) : W p l e R s m args below meth c H locs cells slots Qz (F0 m pc ls (xv E r :: rest)) :=
  x_get (ci := 18) cx hR hr hk (by decide) rfl in_J5 0 (by decide) q294 (fun _ h => h) (v := xv E (fr σ a 0)) rfl hdg kk
theorem CJ1_containsKeyH_J5_60 {l : Launch} {p : Program} {e : Env} {R : Room} {s : State} {m : MethodId} {args : Array Value} {below : List Frame} {meth : Method} {c : Code} {H : Heap} {locs : List Loc} {cells slots : Nat} {Qz : State → Prop} {cc : ByteArray} {nL : Nat} {ret : Option FieldType} {E : xx_E} {σ : XS} {pc : Nat} {ls : Array Slot} {rest : List Value} {th : Nat} {x1 : Option Nat} (cx : xx_X "java/util/HashSet" cc nL ret E p s m args meth c) (hR0 : xR E σ H) (hS0 : va_S (xA E) s.heap H locs) {r0 : Option Nat} (hr : r0 = some th) (hk : kd σ th = 17) {Qf : Int32 → XS → Prop} (hw : wJ1_containsKeyH th x1 σ Qf) (hR : (({ frames := 10, cells := 0, slots := 0, locals := 400 } : Room)).frames + 1 ≤ R.frames ∧ 8 + (2 + 11) + (({ frames := 10, cells := 0, slots := 0, locals := 400 } : Room)).locals ≤ R.locals) (hrest : rest.length ≤ 4) (hsize : ls.size = nL) (hf : cells + 0 ≤ R.cells ∧ slots + 0 ≤ R.slots) (hdg : decode cc pc = .ok (.invokevirtual 60, 3))
    (kk : ∀ (r : Int32) (σ1 : XS) (H1 : Heap) (locs1 : List Loc), Qf r σ1 → xR E σ1 H1 → va_S (xA E) s.heap H1 locs1 → W p l e R s m args below meth c H1 locs1 (cells + 0) (slots + 0) Qz (F0 m (pc + 3) ls (.int r :: rest))) : W p l e R s m args below meth c H locs cells slots Qz (F0 m pc ls (xv E x1 :: xv E r0 :: rest)) := by
  subst hr
  obtain ⟨hx, hb, hml, hown, hts, hrt, hlk, hK, hZ⟩ := id cx
  exact x_goi (va_runV (As := [xv E x1]) (rest := rest) (x_fix cx) (MJ1_containsKeyH l E th x1 σ Qf hw) (cwV 1 hts (lw_V q1880 q1131 q3070 q159 q1132) rfl rfl rfl (by decide +kernel) hR) (x_preV cx hR0 hS0 hk (by decide) (q := (RJ1, TJ1, 8)) rfl rfl [xv E x1]) rfl rfl hsize rfl (lv_room (xroom hrest)) hdg hf) hS0 kk
def wJ5_contains (th : Nat) (x1 : Option Nat) (σ : XS) (Q : Int32 → XS → Prop) : Prop :=
  kd σ th = 19 ∧ (oc σ (fr σ th 0) 17 (fun a3 => wJ1_containsKeyH a3 x1 σ (fun r2 s2 => zb r2 ∧ Q r2 s2)))
set_option maxHeartbeats 4000000 in
theorem MJ5_contains (l : Launch) (E : xx_E) (th : Nat) (x1 : Option Nat) (σ : XS) (Q : Int32 → XS → Prop) (hw : wJ5_contains th x1 σ Q) : xx_Mi l yJ5_contains (ws_ yJ5_contains cJ5_contains 2 (some .boolean)) ({ frames := 11, cells := 0, slots := 0, locals := 440 } : Room) E [xv E (some th), xv E x1] σ Q 0 0 := by
  refine x_of (own := "java/util/HashSet") (by decide +kernel) rfl ?_
  intro p e s m args below meth c cx hR ha hnm
  refine x_entry [xv E (some th), xv E x1] 2 [(0, xv E (some th)), (1, xv E x1)] ha (by simp [lg_sl, xv_cat, vc_i, vc_j, vc_f]) (by simp [lv_args, xv_cat, vc_i, vc_j, vc_f]) (fun ls hl => ?_)
  have hS : va_S (xA E) s.heap s.heap [] := va_S.rf
  have hcb : 0 + 0 ≤ 0 := Nat.le_of_eq (Nat.zero_add _)
  have hsb : 0 + 0 ≤ 0 := Nat.le_of_eq (Nat.zero_add _)
  unfold wJ5_contains at hw
  obtain ⟨hx, hb, hml, hown, hts, hrt, hlk, hMK, hZ⟩ := id cx
  refine x_aload_n cx dJ5_contains_0 rfl (lv_at hl 0 rfl) ?_
  obtain ⟨hk1, hw⟩ := hw
  refine xg_J5_10_19 cx hR rfl hk1 dJ5_contains_1 ?_
  refine x_aload_n cx dJ5_contains_4 rfl (lv_at hl 1 rfl) ?_
  obtain ⟨a3, hr3, hk3, hw⟩ := hw
  refine CJ1_containsKeyH_J5_60 cx hR hS hr3 hk3 hw ⟨Nat.le_of_ble_eq_true rfl, Nat.le_of_ble_eq_true rfl⟩ (Nat.le_of_ble_eq_true rfl) hl.1 ⟨by dsimp only; omega, by dsimp only; omega⟩ dJ5_contains_5 (fun r2 s2 H locs hw hR hS => ?_)
  obtain ⟨hz, hw⟩ := hw
  exact x_nret cx hR hS (xle hcb) (xle hsb) (zb_nar hz) hw dJ5_contains_8
-- J1_resizeH
theorem xp_J1_177_20 {l : Launch} {p : Program} {e : Env} {R : Room} {s : State} {m : MethodId} {args : Array Value} {below : List Frame} {meth : Method} {c : Code} {H : Heap} {locs : List Loc} {cells slots : Nat} {Qz : State → Prop} {cc : ByteArray} {nL : Nat} {ret : Option FieldType} {E : xx_E} {σ : XS} {pc : Nat} {ls : Array Slot} {rest : List Value} (cx : xx_X "java/util/HashMap" cc nL ret E p s m args meth c) (hR : xR E σ H) (hS0 : va_S (xA E) s.heap H locs) {a : Nat} {r : Option Nat} {v : Option Nat} (hr : r = some a) (ha : xK ≤ a) (hk : kd σ a = 20) (hdg : decode cc pc = .ok (.putfield 177, 3)) (kk : ∀ (H1 : Heap) (locs1 : List Loc), xR E (pfr σ a 3 v) H1 → va_S (xA E) s.heap H1 locs1 → W p l e R s m args below meth c H1 locs1 cells slots Qz (F0 m (pc + 3) ls rest)) : W p l e R s m args below meth c H locs cells slots Qz (F0 m pc ls (xv E v :: xv E r :: rest)) :=
  x_put (ci := 19) cx hR hS0 hr ha hk (by decide) rfl in_J25 tyJ25 tyJ25_ok nmJ25 3 (by decide) (Or.inl ⟨q1520, rfl⟩) (fun _ h => h) (by cases v <;> rfl) (by cases v <;> rfl) (xput_r rfl) hdg kk
theorem xp_J1_88_17 {l : Launch} {p : Program} {e : Env} {R : Room} {s : State} {m : MethodId} {args : Array Value} {below : List Frame} {meth : Method} {c : Code} {H : Heap} {locs : List Loc} {cells slots : Nat} {Qz : State → Prop} {cc : ByteArray} {nL : Nat} {ret : Option FieldType} {E : xx_E} {σ : XS} {pc : Nat} {ls : Array Slot} {rest : List Value} (cx : xx_X "java/util/HashMap" cc nL ret E p s m args meth c) (hR : xR E σ H) (hS0 : va_S (xA E) s.heap H locs) {a : Nat} {r : Option Nat} {v : Int32} (hr : r = some a) (ha : xK ≤ a) (hk : kd σ a = 17) (hdg : decode cc pc = .ok (.putfield 88, 3)) (kk : ∀ (H1 : Heap) (locs1 : List Loc), xR E (pfi σ a 6 v) H1 → va_S (xA E) s.heap H1 locs1 → W p l e R s m args below meth c H1 locs1 cells slots Qz (F0 m (pc + 3) ls rest)) : W p l e R s m args below meth c H locs cells slots Qz (F0 m pc ls (.int v :: xv E r :: rest)) :=
  x_put (ci := 16) cx hR hS0 hr ha hk (by decide) rfl in_J1 tyJ1 tyJ1_ok nmJ1 6 (by decide) (Or.inl ⟨q242, rfl⟩) (fun _ h => h) rfl rfl (xput_i rfl) hdg kk
theorem xp_J1_105_17 {l : Launch} {p : Program} {e : Env} {R : Room} {s : State} {m : MethodId} {args : Array Value} {below : List Frame} {meth : Method} {c : Code} {H : Heap} {locs : List Loc} {cells slots : Nat} {Qz : State → Prop} {cc : ByteArray} {nL : Nat} {ret : Option FieldType} {E : xx_E} {σ : XS} {pc : Nat} {ls : Array Slot} {rest : List Value} (cx : xx_X "java/util/HashMap" cc nL ret E p s m args meth c) (hR : xR E σ H) (hS0 : va_S (xA E) s.heap H locs) {a : Nat} {r : Option Nat} {v : Option Nat} (hr : r = some a) (ha : xK ≤ a) (hk : kd σ a = 17) (hdg : decode cc pc = .ok (.putfield 105, 3)) (kk : ∀ (H1 : Heap) (locs1 : List Loc), xR E (pfr σ a 2 v) H1 → va_S (xA E) s.heap H1 locs1 → W p l e R s m args below meth c H1 locs1 cells slots Qz (F0 m (pc + 3) ls rest)) : W p l e R s m args below meth c H locs cells slots Qz (F0 m pc ls (xv E v :: xv E r :: rest)) :=
  x_put (ci := 16) cx hR hS0 hr ha hk (by decide) rfl in_J1 tyJ1 tyJ1_ok nmJ1 2 (by decide) (Or.inl ⟨q237, rfl⟩) (fun _ h => h) (by cases v <;> rfl) (by cases v <;> rfl) (xput_r rfl) hdg kk
theorem xg_J1_81_17 {l : Launch} {p : Program} {e : Env} {R : Room} {s : State} {m : MethodId} {args : Array Value} {below : List Frame} {meth : Method} {c : Code} {H : Heap} {locs : List Loc} {cells slots : Nat} {Qz : State → Prop} {cc : ByteArray} {nL : Nat} {ret : Option FieldType} {E : xx_E} {σ : XS} {pc : Nat} {ls : Array Slot} {rest : List Value} (cx : xx_X "java/util/HashMap" cc nL ret E p s m args meth c) (hR : xR E σ H) {a : Nat} {r : Option Nat} (hr : r = some a) (hk : kd σ a = 17) (hdg : decode cc pc = .ok (.getfield 81, 3)) (kk : W p l e R s m args below meth c H locs cells slots Qz (F0 m (pc + 3) ls (.float (ff σ a 7) :: rest))) : W p l e R s m args below meth c H locs cells slots Qz (F0 m pc ls (xv E r :: rest)) :=
  x_get (ci := 16) cx hR hr hk (by decide) rfl in_J1 7 (by decide) q243 (fun _ h => h) (v := .float (ff σ a 7)) rfl hdg kk
theorem xg_J1_88_17 {l : Launch} {p : Program} {e : Env} {R : Room} {s : State} {m : MethodId} {args : Array Value} {below : List Frame} {meth : Method} {c : Code} {H : Heap} {locs : List Loc} {cells slots : Nat} {Qz : State → Prop} {cc : ByteArray} {nL : Nat} {ret : Option FieldType} {E : xx_E} {σ : XS} {pc : Nat} {ls : Array Slot} {rest : List Value} (cx : xx_X "java/util/HashMap" cc nL ret E p s m args meth c) (hR : xR E σ H) {a : Nat} {r : Option Nat} (hr : r = some a) (hk : kd σ a = 17) (hdg : decode cc pc = .ok (.getfield 88, 3)) (kk : W p l e R s m args below meth c H locs cells slots Qz (F0 m (pc + 3) ls (.int (fi σ a 6) :: rest))) : W p l e R s m args below meth c H locs cells slots Qz (F0 m pc ls (xv E r :: rest)) :=
  x_get (ci := 16) cx hR hr hk (by decide) rfl in_J1 6 (by decide) q242 (fun _ h => h) (v := .int (fi σ a 6)) rfl hdg kk
def wJ1_resizeH_347 (Q : Option Nat → XS → Prop) (K151 : Nat → Option Nat → Int32 → Int32 → Option Nat → Int32 → Nat → Nat → XS → Prop) (th : Nat) (x1 : Option Nat) (x2 : Int32) (x4 : Int32) (x6 : Option Nat) (x7 : Int32) (bc : Nat) (bs : Nat) (σ : XS) : Prop :=
  ∀ v1 : Int32, v1 = x7 + (1 : Int32) → K151 th x1 x2 x4 x6 v1 bc bs σ
set_option maxHeartbeats 4000000 in
theorem BJ1_resizeH_347 {l : Launch} {p : Program} {e : Env} {s : State} {m : MethodId} {args : Array Value} {below : List Frame} {meth : Method} {c : Code} {E : xx_E} {mc ms : Nat} {Q : Option Nat → XS → Prop} {K151 : Nat → Option Nat → Int32 → Int32 → Option Nat → Int32 → Nat → Nat → XS → Prop} (cx : xx_X "java/util/HashMap" cJ1_resize 14 (some (.array (.object "java/util/HashMap$Node"))) E p s m args meth c) (hK151 : ∀ (th : Nat) (x1 : Option Nat) (x2 : Int32) (x4 : Int32) (x6 : Option Nat) (x7 : Int32) (bc : Nat) (bs : Nat) (σ : XS), K151 th x1 x2 x4 x6 x7 bc bs σ → x_T p l e ({ frames := 0, cells := mc, slots := ms, locals := 0 } : Room) s m args below meth c E (va_Qe (xr E) Q (fun σ' t => xW E σ' t) (xA E)) mc ms 14 151 bc bs σ [(0, xv E (some th)), (1, xv E x1), (2, .int x2), (4, .int x4), (6, xv E x6), (7, .int x7)] []) : ∀ (th : Nat) (x1 : Option Nat) (x2 : Int32) (x4 : Int32) (x6 : Option Nat) (x7 : Int32) (bc : Nat) (bs : Nat) (σ : XS), wJ1_resizeH_347 Q K151 th x1 x2 x4 x6 x7 bc bs σ → x_T p l e ({ frames := 0, cells := mc, slots := ms, locals := 0 } : Room) s m args below meth c E (va_Qe (xr E) Q (fun σ' t => xW E σ' t) (xA E)) mc ms 14 347 bc bs σ [(0, xv E (some th)), (1, xv E x1), (2, .int x2), (4, .int x4), (6, xv E x6), (7, .int x7)] [] := by
  intro th x1 x2 x4 x6 x7 bc bs σ hw H locs ls cells slots hR hS hl hcb hsb
  unfold wJ1_resizeH_347 at hw
  obtain ⟨hx, hb, hml, hown, hts, hrt, hlk, hMK, hZ⟩ := id cx
  obtain ⟨v1, hv1⟩ : ∃ v : Int32, v = x7 + (1 : Int32) := ⟨_, rfl⟩
  have hw := hw v1 hv1
  refine lv_iinc (v := v1) (lv' := [(7, .int v1), (0, xv E (some th)), (1, xv E x1), (2, .int x2), (4, .int x4), (6, xv E x6)]) hx hb dJ1_resize_347 hl (k := 5) rfl (by rw [hv1]; rfl) (by decide) (by simp [xv_cat]) (fun ls hl => ?_)
  refine lv_goto (tgt := 151) hx hb dJ1_resize_350 (by decide) ?_
  exact hK151 _ _ _ _ _ _ _ _ _ hw _ _ _ _ _ hR hS (lv_sub hl [1, 2, 3, 4, 5, 0] rfl) hcb hsb
def wJ1_resizeH_327 (Q : Option Nat → XS → Prop) (K151 : Nat → Option Nat → Int32 → Int32 → Option Nat → Int32 → Nat → Nat → XS → Prop) (th : Nat) (x1 : Option Nat) (x2 : Int32) (x4 : Int32) (x6 : Option Nat) (x7 : Int32) (x11 : Option Nat) (x12 : Option Nat) (bc : Nat) (bs : Nat) (σ : XS) : Prop :=
  if x12 = none then (wJ1_resizeH_347 Q K151 th x1 x2 x4 x6 x7 bc bs σ) else (oc σ x12 20 (fun a2 => xK ≤ a2 ∧ (oc (pfr σ a2 3 none) x6 106 (fun a3 => xK ≤ a3 ∧ (vp_in (x7 + x2) (ln (pfr σ a2 3 none) a3) ∧ (xck [20, 21] (pfr σ a2 3 none) x11 ∧ (wJ1_resizeH_347 Q K151 th x1 x2 x4 x6 x7 bc bs (par (pfr σ a2 3 none) a3 ((x7 + x2).toNatClampNeg) x11))))))))
set_option maxHeartbeats 4000000 in
theorem BJ1_resizeH_327 {l : Launch} {p : Program} {e : Env} {s : State} {m : MethodId} {args : Array Value} {below : List Frame} {meth : Method} {c : Code} {E : xx_E} {mc ms : Nat} {Q : Option Nat → XS → Prop} {K151 : Nat → Option Nat → Int32 → Int32 → Option Nat → Int32 → Nat → Nat → XS → Prop} (cx : xx_X "java/util/HashMap" cJ1_resize 14 (some (.array (.object "java/util/HashMap$Node"))) E p s m args meth c) (hK151 : ∀ (th : Nat) (x1 : Option Nat) (x2 : Int32) (x4 : Int32) (x6 : Option Nat) (x7 : Int32) (bc : Nat) (bs : Nat) (σ : XS), K151 th x1 x2 x4 x6 x7 bc bs σ → x_T p l e ({ frames := 0, cells := mc, slots := ms, locals := 0 } : Room) s m args below meth c E (va_Qe (xr E) Q (fun σ' t => xW E σ' t) (xA E)) mc ms 14 151 bc bs σ [(0, xv E (some th)), (1, xv E x1), (2, .int x2), (4, .int x4), (6, xv E x6), (7, .int x7)] []) : ∀ (th : Nat) (x1 : Option Nat) (x2 : Int32) (x4 : Int32) (x6 : Option Nat) (x7 : Int32) (x11 : Option Nat) (x12 : Option Nat) (bc : Nat) (bs : Nat) (σ : XS), wJ1_resizeH_327 Q K151 th x1 x2 x4 x6 x7 x11 x12 bc bs σ → x_T p l e ({ frames := 0, cells := mc, slots := ms, locals := 0 } : Room) s m args below meth c E (va_Qe (xr E) Q (fun σ' t => xW E σ' t) (xA E)) mc ms 14 327 bc bs σ [(0, xv E (some th)), (1, xv E x1), (2, .int x2), (4, .int x4), (6, xv E x6), (7, .int x7), (11, xv E x11), (12, xv E x12)] [] := by
  intro th x1 x2 x4 x6 x7 x11 x12 bc bs σ hw H locs ls cells slots hR hS hl hcb hsb
  unfold wJ1_resizeH_327 at hw
  obtain ⟨hx, hb, hml, hown, hts, hrt, hlk, hMK, hZ⟩ := id cx
  refine x_aload cx dJ1_resize_327 (lv_at hl 7 rfl) ?_
  refine x_ifnull (tgt := 347) cx dJ1_resize_329 (by decide) (fun hc => ?_) (fun hc => ?_)
  · have hw := mm_ip hc hw
    exact BJ1_resizeH_347 cx hK151 _ _ _ _ _ _ _ _ _ hw _ _ _ _ _ hR hS (lv_sub hl [0, 1, 2, 3, 4, 5] rfl) hcb hsb
  · have hw := mm_in hc hw
    refine x_aload cx dJ1_resize_332 (lv_at hl 7 rfl) ?_
    refine lv_null hx hb dJ1_resize_334 ?_
    obtain ⟨a2, hr2, hk2, hw⟩ := hw
    obtain ⟨hge_a2, hw⟩ := hw
    refine xp_J1_177_20 (v := none) cx hR hS hr2 hge_a2 hk2 dJ1_resize_335 (fun H locs hR hS => ?_)
    refine x_aload cx dJ1_resize_338 (lv_at hl 4 rfl) ?_
    refine lv_iload hx hb dJ1_resize_340 (lv_at hl 5 rfl) ?_
    refine lv_iload_n hx hb dJ1_resize_342 rfl (lv_at hl 2 rfl) ?_
    refine lv_iadd hx hb dJ1_resize_343 ?_
    refine x_aload cx dJ1_resize_344 (lv_at hl 6 rfl) ?_
    obtain ⟨a3, hr3, hk3, hw⟩ := hw
    obtain ⟨hge_a3, hw⟩ := hw
    obtain ⟨hi, hw⟩ := hw
    obtain ⟨hv, hw⟩ := hw
    refine x_ast cx hR hS hr3 hge_a3 6 (C := "java/util/HashMap$Node") rfl hk3 (by decide) (by decide) (j := (x7 + x2).toNatClampNeg) rfl hi (xcs_106 cx hv) dJ1_resize_346 (fun H locs hR hS => ?_)
    exact BJ1_resizeH_347 cx hK151 _ _ _ _ _ _ _ _ _ hw _ _ _ _ _ hR hS (lv_sub hl [0, 1, 2, 3, 4, 5] rfl) hcb hsb
def wJ1_resizeH_301 (Q : Option Nat → XS → Prop) (K151 : Nat → Option Nat → Int32 → Int32 → Option Nat → Int32 → Nat → Nat → XS → Prop) (K235 : Nat → Option Nat → Int32 → Int32 → Option Nat → Int32 → Option Nat → Option Nat → Option Nat → Option Nat → Option Nat → Nat → Nat → XS → Prop) (th : Nat) (x1 : Option Nat) (x2 : Int32) (x4 : Int32) (x6 : Option Nat) (x7 : Int32) (x9 : Option Nat) (x10 : Option Nat) (x11 : Option Nat) (x12 : Option Nat) (x13 : Option Nat) (bc : Nat) (bs : Nat) (σ : XS) : Prop :=
  if x13 = none then (if x10 = none then (wJ1_resizeH_327 Q K151 th x1 x2 x4 x6 x7 x11 x12 bc bs σ) else (oc σ x10 20 (fun a4 => xK ≤ a4 ∧ (oc (pfr σ a4 3 none) x6 106 (fun a5 => xK ≤ a5 ∧ (vp_in x7 (ln (pfr σ a4 3 none) a5) ∧ (xck [20, 21] (pfr σ a4 3 none) x9 ∧ (wJ1_resizeH_327 Q K151 th x1 x2 x4 x6 x7 x11 x12 bc bs (par (pfr σ a4 3 none) a5 x7.toNatClampNeg x9))))))))) else (K235 th x1 x2 x4 x6 x7 x13 x9 x10 x11 x12 bc bs σ)
set_option maxHeartbeats 4000000 in
theorem BJ1_resizeH_301 {l : Launch} {p : Program} {e : Env} {s : State} {m : MethodId} {args : Array Value} {below : List Frame} {meth : Method} {c : Code} {E : xx_E} {mc ms : Nat} {Q : Option Nat → XS → Prop} {K151 : Nat → Option Nat → Int32 → Int32 → Option Nat → Int32 → Nat → Nat → XS → Prop} {K235 : Nat → Option Nat → Int32 → Int32 → Option Nat → Int32 → Option Nat → Option Nat → Option Nat → Option Nat → Option Nat → Nat → Nat → XS → Prop} (cx : xx_X "java/util/HashMap" cJ1_resize 14 (some (.array (.object "java/util/HashMap$Node"))) E p s m args meth c) (hK151 : ∀ (th : Nat) (x1 : Option Nat) (x2 : Int32) (x4 : Int32) (x6 : Option Nat) (x7 : Int32) (bc : Nat) (bs : Nat) (σ : XS), K151 th x1 x2 x4 x6 x7 bc bs σ → x_T p l e ({ frames := 0, cells := mc, slots := ms, locals := 0 } : Room) s m args below meth c E (va_Qe (xr E) Q (fun σ' t => xW E σ' t) (xA E)) mc ms 14 151 bc bs σ [(0, xv E (some th)), (1, xv E x1), (2, .int x2), (4, .int x4), (6, xv E x6), (7, .int x7)] []) (hK235 : ∀ (th : Nat) (x1 : Option Nat) (x2 : Int32) (x4 : Int32) (x6 : Option Nat) (x7 : Int32) (x8 : Option Nat) (x9 : Option Nat) (x10 : Option Nat) (x11 : Option Nat) (x12 : Option Nat) (bc : Nat) (bs : Nat) (σ : XS), K235 th x1 x2 x4 x6 x7 x8 x9 x10 x11 x12 bc bs σ → x_T p l e ({ frames := 0, cells := mc, slots := ms, locals := 0 } : Room) s m args below meth c E (va_Qe (xr E) Q (fun σ' t => xW E σ' t) (xA E)) mc ms 14 235 bc bs σ [(0, xv E (some th)), (1, xv E x1), (2, .int x2), (4, .int x4), (6, xv E x6), (7, .int x7), (8, xv E x8), (9, xv E x9), (10, xv E x10), (11, xv E x11), (12, xv E x12)] []) : ∀ (th : Nat) (x1 : Option Nat) (x2 : Int32) (x4 : Int32) (x6 : Option Nat) (x7 : Int32) (x9 : Option Nat) (x10 : Option Nat) (x11 : Option Nat) (x12 : Option Nat) (x13 : Option Nat) (bc : Nat) (bs : Nat) (σ : XS), wJ1_resizeH_301 Q K151 K235 th x1 x2 x4 x6 x7 x9 x10 x11 x12 x13 bc bs σ → x_T p l e ({ frames := 0, cells := mc, slots := ms, locals := 0 } : Room) s m args below meth c E (va_Qe (xr E) Q (fun σ' t => xW E σ' t) (xA E)) mc ms 14 301 bc bs σ [(0, xv E (some th)), (1, xv E x1), (2, .int x2), (4, .int x4), (6, xv E x6), (7, .int x7), (9, xv E x9), (10, xv E x10), (11, xv E x11), (12, xv E x12), (13, xv E x13)] [] := by
  intro th x1 x2 x4 x6 x7 x9 x10 x11 x12 x13 bc bs σ hw H locs ls cells slots hR hS hl hcb hsb
  unfold wJ1_resizeH_301 at hw
  obtain ⟨hx, hb, hml, hown, hts, hrt, hlk, hMK, hZ⟩ := id cx
  refine x_aload cx dJ1_resize_301 (lv_at hl 10 rfl) ?_
  refine lv_dup hx hb dJ1_resize_303 (xv_cat _ _) ?_
  refine x_astore (i := 8) (r := x13) (lv' := [(8, xv E x13), (0, xv E (some th)), (1, xv E x1), (2, .int x2), (4, .int x4), (6, xv E x6), (7, .int x7), (9, xv E x9), (10, xv E x10), (11, xv E x11), (12, xv E x12), (13, xv E x13)]) cx dJ1_resize_304 hl (by decide) rfl (fun ls hl => ?_)
  refine x_ifnonnull (tgt := 235) cx dJ1_resize_306 (by decide) (fun hc => ?_) (fun hc => ?_)
  · have hw := mm_in hc hw
    exact hK235 _ _ _ _ _ _ _ _ _ _ _ _ _ _ hw _ _ _ _ _ hR hS (lv_sub hl [1, 2, 3, 4, 5, 6, 0, 7, 8, 9, 10] rfl) hcb hsb
  · have hw := mm_ip hc hw
    refine x_aload cx dJ1_resize_309 (lv_at hl 8 rfl) ?_
    refine x_ifnull (tgt := 327) cx dJ1_resize_311 (by decide) (fun hc => ?_) (fun hc => ?_)
    · have hw := mm_ip hc hw
      exact BJ1_resizeH_327 cx hK151 _ _ _ _ _ _ _ _ _ _ _ hw _ _ _ _ _ hR hS (lv_sub hl [1, 2, 3, 4, 5, 6, 9, 10] rfl) hcb hsb
    · have hw := mm_in hc hw
      refine x_aload cx dJ1_resize_314 (lv_at hl 8 rfl) ?_
      refine lv_null hx hb dJ1_resize_316 ?_
      obtain ⟨a4, hr4, hk4, hw⟩ := hw
      obtain ⟨hge_a4, hw⟩ := hw
      refine xp_J1_177_20 (v := none) cx hR hS hr4 hge_a4 hk4 dJ1_resize_317 (fun H locs hR hS => ?_)
      refine x_aload cx dJ1_resize_320 (lv_at hl 5 rfl) ?_
      refine lv_iload hx hb dJ1_resize_322 (lv_at hl 6 rfl) ?_
      refine x_aload cx dJ1_resize_324 (lv_at hl 7 rfl) ?_
      obtain ⟨a5, hr5, hk5, hw⟩ := hw
      obtain ⟨hge_a5, hw⟩ := hw
      obtain ⟨hi, hw⟩ := hw
      obtain ⟨hv, hw⟩ := hw
      refine x_ast cx hR hS hr5 hge_a5 6 (C := "java/util/HashMap$Node") rfl hk5 (by decide) (by decide) (j := x7.toNatClampNeg) rfl hi (xcs_106 cx hv) dJ1_resize_326 (fun H locs hR hS => ?_)
      exact BJ1_resizeH_327 cx hK151 _ _ _ _ _ _ _ _ _ _ _ hw _ _ _ _ _ hR hS (lv_sub hl [1, 2, 3, 4, 5, 6, 9, 10] rfl) hcb hsb
def wJ1_resizeH_297 (Q : Option Nat → XS → Prop) (K151 : Nat → Option Nat → Int32 → Int32 → Option Nat → Int32 → Nat → Nat → XS → Prop) (K235 : Nat → Option Nat → Int32 → Int32 → Option Nat → Int32 → Option Nat → Option Nat → Option Nat → Option Nat → Option Nat → Nat → Nat → XS → Prop) (th : Nat) (x1 : Option Nat) (x2 : Int32) (x4 : Int32) (x6 : Option Nat) (x7 : Int32) (x8 : Option Nat) (x9 : Option Nat) (x10 : Option Nat) (x11 : Option Nat) (x13 : Option Nat) (bc : Nat) (bs : Nat) (σ : XS) : Prop :=
  wJ1_resizeH_301 Q K151 K235 th x1 x2 x4 x6 x7 x9 x10 x11 x8 x13 bc bs σ
set_option maxHeartbeats 4000000 in
theorem BJ1_resizeH_297 {l : Launch} {p : Program} {e : Env} {s : State} {m : MethodId} {args : Array Value} {below : List Frame} {meth : Method} {c : Code} {E : xx_E} {mc ms : Nat} {Q : Option Nat → XS → Prop} {K151 : Nat → Option Nat → Int32 → Int32 → Option Nat → Int32 → Nat → Nat → XS → Prop} {K235 : Nat → Option Nat → Int32 → Int32 → Option Nat → Int32 → Option Nat → Option Nat → Option Nat → Option Nat → Option Nat → Nat → Nat → XS → Prop} (cx : xx_X "java/util/HashMap" cJ1_resize 14 (some (.array (.object "java/util/HashMap$Node"))) E p s m args meth c) (hK151 : ∀ (th : Nat) (x1 : Option Nat) (x2 : Int32) (x4 : Int32) (x6 : Option Nat) (x7 : Int32) (bc : Nat) (bs : Nat) (σ : XS), K151 th x1 x2 x4 x6 x7 bc bs σ → x_T p l e ({ frames := 0, cells := mc, slots := ms, locals := 0 } : Room) s m args below meth c E (va_Qe (xr E) Q (fun σ' t => xW E σ' t) (xA E)) mc ms 14 151 bc bs σ [(0, xv E (some th)), (1, xv E x1), (2, .int x2), (4, .int x4), (6, xv E x6), (7, .int x7)] []) (hK235 : ∀ (th : Nat) (x1 : Option Nat) (x2 : Int32) (x4 : Int32) (x6 : Option Nat) (x7 : Int32) (x8 : Option Nat) (x9 : Option Nat) (x10 : Option Nat) (x11 : Option Nat) (x12 : Option Nat) (bc : Nat) (bs : Nat) (σ : XS), K235 th x1 x2 x4 x6 x7 x8 x9 x10 x11 x12 bc bs σ → x_T p l e ({ frames := 0, cells := mc, slots := ms, locals := 0 } : Room) s m args below meth c E (va_Qe (xr E) Q (fun σ' t => xW E σ' t) (xA E)) mc ms 14 235 bc bs σ [(0, xv E (some th)), (1, xv E x1), (2, .int x2), (4, .int x4), (6, xv E x6), (7, .int x7), (8, xv E x8), (9, xv E x9), (10, xv E x10), (11, xv E x11), (12, xv E x12)] []) : ∀ (th : Nat) (x1 : Option Nat) (x2 : Int32) (x4 : Int32) (x6 : Option Nat) (x7 : Int32) (x8 : Option Nat) (x9 : Option Nat) (x10 : Option Nat) (x11 : Option Nat) (x13 : Option Nat) (bc : Nat) (bs : Nat) (σ : XS), wJ1_resizeH_297 Q K151 K235 th x1 x2 x4 x6 x7 x8 x9 x10 x11 x13 bc bs σ → x_T p l e ({ frames := 0, cells := mc, slots := ms, locals := 0 } : Room) s m args below meth c E (va_Qe (xr E) Q (fun σ' t => xW E σ' t) (xA E)) mc ms 14 297 bc bs σ [(0, xv E (some th)), (1, xv E x1), (2, .int x2), (4, .int x4), (6, xv E x6), (7, .int x7), (8, xv E x8), (9, xv E x9), (10, xv E x10), (11, xv E x11), (13, xv E x13)] [] := by
  intro th x1 x2 x4 x6 x7 x8 x9 x10 x11 x13 bc bs σ hw H locs ls cells slots hR hS hl hcb hsb
  unfold wJ1_resizeH_297 at hw
  obtain ⟨hx, hb, hml, hown, hts, hrt, hlk, hMK, hZ⟩ := id cx
  refine x_aload cx dJ1_resize_297 (lv_at hl 6 rfl) ?_
  refine x_astore (i := 12) (r := x8) (lv' := [(12, xv E x8), (0, xv E (some th)), (1, xv E x1), (2, .int x2), (4, .int x4), (6, xv E x6), (7, .int x7), (8, xv E x8), (9, xv E x9), (10, xv E x10), (11, xv E x11), (13, xv E x13)]) cx dJ1_resize_299 hl (by decide) (by simp [xv_cat]) (fun ls hl => ?_)
  exact BJ1_resizeH_301 cx hK151 hK235 _ _ _ _ _ _ _ _ _ _ _ _ _ _ hw _ _ _ _ _ hR hS (lv_sub hl [1, 2, 3, 4, 5, 6, 8, 9, 10, 0, 11] rfl) hcb hsb
def wJ1_resizeH_271 (Q : Option Nat → XS → Prop) (K151 : Nat → Option Nat → Int32 → Int32 → Option Nat → Int32 → Nat → Nat → XS → Prop) (K235 : Nat → Option Nat → Int32 → Int32 → Option Nat → Int32 → Option Nat → Option Nat → Option Nat → Option Nat → Option Nat → Nat → Nat → XS → Prop) (th : Nat) (x1 : Option Nat) (x2 : Int32) (x4 : Int32) (x6 : Option Nat) (x7 : Int32) (x8 : Option Nat) (x9 : Option Nat) (x11 : Option Nat) (x12 : Option Nat) (x13 : Option Nat) (bc : Nat) (bs : Nat) (σ : XS) : Prop :=
  wJ1_resizeH_301 Q K151 K235 th x1 x2 x4 x6 x7 x9 x8 x11 x12 x13 bc bs σ
set_option maxHeartbeats 4000000 in
theorem BJ1_resizeH_271 {l : Launch} {p : Program} {e : Env} {s : State} {m : MethodId} {args : Array Value} {below : List Frame} {meth : Method} {c : Code} {E : xx_E} {mc ms : Nat} {Q : Option Nat → XS → Prop} {K151 : Nat → Option Nat → Int32 → Int32 → Option Nat → Int32 → Nat → Nat → XS → Prop} {K235 : Nat → Option Nat → Int32 → Int32 → Option Nat → Int32 → Option Nat → Option Nat → Option Nat → Option Nat → Option Nat → Nat → Nat → XS → Prop} (cx : xx_X "java/util/HashMap" cJ1_resize 14 (some (.array (.object "java/util/HashMap$Node"))) E p s m args meth c) (hK151 : ∀ (th : Nat) (x1 : Option Nat) (x2 : Int32) (x4 : Int32) (x6 : Option Nat) (x7 : Int32) (bc : Nat) (bs : Nat) (σ : XS), K151 th x1 x2 x4 x6 x7 bc bs σ → x_T p l e ({ frames := 0, cells := mc, slots := ms, locals := 0 } : Room) s m args below meth c E (va_Qe (xr E) Q (fun σ' t => xW E σ' t) (xA E)) mc ms 14 151 bc bs σ [(0, xv E (some th)), (1, xv E x1), (2, .int x2), (4, .int x4), (6, xv E x6), (7, .int x7)] []) (hK235 : ∀ (th : Nat) (x1 : Option Nat) (x2 : Int32) (x4 : Int32) (x6 : Option Nat) (x7 : Int32) (x8 : Option Nat) (x9 : Option Nat) (x10 : Option Nat) (x11 : Option Nat) (x12 : Option Nat) (bc : Nat) (bs : Nat) (σ : XS), K235 th x1 x2 x4 x6 x7 x8 x9 x10 x11 x12 bc bs σ → x_T p l e ({ frames := 0, cells := mc, slots := ms, locals := 0 } : Room) s m args below meth c E (va_Qe (xr E) Q (fun σ' t => xW E σ' t) (xA E)) mc ms 14 235 bc bs σ [(0, xv E (some th)), (1, xv E x1), (2, .int x2), (4, .int x4), (6, xv E x6), (7, .int x7), (8, xv E x8), (9, xv E x9), (10, xv E x10), (11, xv E x11), (12, xv E x12)] []) : ∀ (th : Nat) (x1 : Option Nat) (x2 : Int32) (x4 : Int32) (x6 : Option Nat) (x7 : Int32) (x8 : Option Nat) (x9 : Option Nat) (x11 : Option Nat) (x12 : Option Nat) (x13 : Option Nat) (bc : Nat) (bs : Nat) (σ : XS), wJ1_resizeH_271 Q K151 K235 th x1 x2 x4 x6 x7 x8 x9 x11 x12 x13 bc bs σ → x_T p l e ({ frames := 0, cells := mc, slots := ms, locals := 0 } : Room) s m args below meth c E (va_Qe (xr E) Q (fun σ' t => xW E σ' t) (xA E)) mc ms 14 271 bc bs σ [(0, xv E (some th)), (1, xv E x1), (2, .int x2), (4, .int x4), (6, xv E x6), (7, .int x7), (8, xv E x8), (9, xv E x9), (11, xv E x11), (12, xv E x12), (13, xv E x13)] [] := by
  intro th x1 x2 x4 x6 x7 x8 x9 x11 x12 x13 bc bs σ hw H locs ls cells slots hR hS hl hcb hsb
  unfold wJ1_resizeH_271 at hw
  obtain ⟨hx, hb, hml, hown, hts, hrt, hlk, hMK, hZ⟩ := id cx
  refine x_aload cx dJ1_resize_271 (lv_at hl 6 rfl) ?_
  refine x_astore (i := 10) (r := x8) (lv' := [(10, xv E x8), (0, xv E (some th)), (1, xv E x1), (2, .int x2), (4, .int x4), (6, xv E x6), (7, .int x7), (8, xv E x8), (9, xv E x9), (11, xv E x11), (12, xv E x12), (13, xv E x13)]) cx dJ1_resize_273 hl (by decide) (by simp [xv_cat]) (fun ls hl => ?_)
  refine lv_goto (tgt := 301) hx hb dJ1_resize_275 (by decide) ?_
  exact BJ1_resizeH_301 cx hK151 hK235 _ _ _ _ _ _ _ _ _ _ _ _ _ _ hw _ _ _ _ _ hR hS (lv_sub hl [1, 2, 3, 4, 5, 6, 8, 0, 9, 10, 11] rfl) hcb hsb
def wJ1_resizeH_235 (Q : Option Nat → XS → Prop) (K151 : Nat → Option Nat → Int32 → Int32 → Option Nat → Int32 → Nat → Nat → XS → Prop) (K235 : Nat → Option Nat → Int32 → Int32 → Option Nat → Int32 → Option Nat → Option Nat → Option Nat → Option Nat → Option Nat → Nat → Nat → XS → Prop) (th : Nat) (x1 : Option Nat) (x2 : Int32) (x4 : Int32) (x6 : Option Nat) (x7 : Int32) (x8 : Option Nat) (x9 : Option Nat) (x10 : Option Nat) (x11 : Option Nat) (x12 : Option Nat) (bc : Nat) (bs : Nat) (σ : XS) : Prop :=
  oc σ x8 20 (fun a6 => if ((fi σ a6 0) &&& x2) = 0 then (if x10 = none then (wJ1_resizeH_271 Q K151 K235 th x1 x2 x4 x6 x7 x8 x8 x11 x12 (fr σ a6 3) bc bs σ) else (oc σ x10 20 (fun a8 => xK ≤ a8 ∧ (wJ1_resizeH_271 Q K151 K235 th x1 x2 x4 x6 x7 x8 x9 x11 x12 (fr σ a6 3) bc bs (pfr σ a8 3 x8))))) else (if x12 = none then (wJ1_resizeH_297 Q K151 K235 th x1 x2 x4 x6 x7 x8 x9 x10 x8 (fr σ a6 3) bc bs σ) else (oc σ x12 20 (fun a7 => xK ≤ a7 ∧ (wJ1_resizeH_297 Q K151 K235 th x1 x2 x4 x6 x7 x8 x9 x10 x11 (fr σ a6 3) bc bs (pfr σ a7 3 x8))))))
set_option maxHeartbeats 4000000 in
theorem BJ1_resizeH_235 {l : Launch} {p : Program} {e : Env} {s : State} {m : MethodId} {args : Array Value} {below : List Frame} {meth : Method} {c : Code} {E : xx_E} {mc ms : Nat} {Q : Option Nat → XS → Prop} {K151 : Nat → Option Nat → Int32 → Int32 → Option Nat → Int32 → Nat → Nat → XS → Prop} {K235 : Nat → Option Nat → Int32 → Int32 → Option Nat → Int32 → Option Nat → Option Nat → Option Nat → Option Nat → Option Nat → Nat → Nat → XS → Prop} (cx : xx_X "java/util/HashMap" cJ1_resize 14 (some (.array (.object "java/util/HashMap$Node"))) E p s m args meth c) (hK151 : ∀ (th : Nat) (x1 : Option Nat) (x2 : Int32) (x4 : Int32) (x6 : Option Nat) (x7 : Int32) (bc : Nat) (bs : Nat) (σ : XS), K151 th x1 x2 x4 x6 x7 bc bs σ → x_T p l e ({ frames := 0, cells := mc, slots := ms, locals := 0 } : Room) s m args below meth c E (va_Qe (xr E) Q (fun σ' t => xW E σ' t) (xA E)) mc ms 14 151 bc bs σ [(0, xv E (some th)), (1, xv E x1), (2, .int x2), (4, .int x4), (6, xv E x6), (7, .int x7)] []) (hK235 : ∀ (th : Nat) (x1 : Option Nat) (x2 : Int32) (x4 : Int32) (x6 : Option Nat) (x7 : Int32) (x8 : Option Nat) (x9 : Option Nat) (x10 : Option Nat) (x11 : Option Nat) (x12 : Option Nat) (bc : Nat) (bs : Nat) (σ : XS), K235 th x1 x2 x4 x6 x7 x8 x9 x10 x11 x12 bc bs σ → x_T p l e ({ frames := 0, cells := mc, slots := ms, locals := 0 } : Room) s m args below meth c E (va_Qe (xr E) Q (fun σ' t => xW E σ' t) (xA E)) mc ms 14 235 bc bs σ [(0, xv E (some th)), (1, xv E x1), (2, .int x2), (4, .int x4), (6, xv E x6), (7, .int x7), (8, xv E x8), (9, xv E x9), (10, xv E x10), (11, xv E x11), (12, xv E x12)] []) : ∀ (th : Nat) (x1 : Option Nat) (x2 : Int32) (x4 : Int32) (x6 : Option Nat) (x7 : Int32) (x8 : Option Nat) (x9 : Option Nat) (x10 : Option Nat) (x11 : Option Nat) (x12 : Option Nat) (bc : Nat) (bs : Nat) (σ : XS), wJ1_resizeH_235 Q K151 K235 th x1 x2 x4 x6 x7 x8 x9 x10 x11 x12 bc bs σ → x_T p l e ({ frames := 0, cells := mc, slots := ms, locals := 0 } : Room) s m args below meth c E (va_Qe (xr E) Q (fun σ' t => xW E σ' t) (xA E)) mc ms 14 235 bc bs σ [(0, xv E (some th)), (1, xv E x1), (2, .int x2), (4, .int x4), (6, xv E x6), (7, .int x7), (8, xv E x8), (9, xv E x9), (10, xv E x10), (11, xv E x11), (12, xv E x12)] [] := by
  intro th x1 x2 x4 x6 x7 x8 x9 x10 x11 x12 bc bs σ hw H locs ls cells slots hR hS hl hcb hsb
  unfold wJ1_resizeH_235 at hw
  obtain ⟨hx, hb, hml, hown, hts, hrt, hlk, hMK, hZ⟩ := id cx
  refine x_aload cx dJ1_resize_235 (lv_at hl 6 rfl) ?_
  obtain ⟨a6, hr6, hk6, hw⟩ := hw
  refine xg_J1_177_20 cx hR hr6 hk6 dJ1_resize_237 ?_
  refine x_astore (i := 13) (r := (fr σ a6 3)) (lv' := [(13, xv E (fr σ a6 3)), (0, xv E (some th)), (1, xv E x1), (2, .int x2), (4, .int x4), (6, xv E x6), (7, .int x7), (8, xv E x8), (9, xv E x9), (10, xv E x10), (11, xv E x11), (12, xv E x12)]) cx dJ1_resize_240 hl (by decide) (by simp [xv_cat]) (fun ls hl => ?_)
  refine x_aload cx dJ1_resize_242 (lv_at hl 7 rfl) ?_
  refine xg_J1_168_20 cx hR hr6 hk6 dJ1_resize_244 ?_
  refine lv_iload_n hx hb dJ1_resize_247 rfl (lv_at hl 3 rfl) ?_
  refine lv_iand hx hb dJ1_resize_248 ?_
  refine lv_if_ne (tgt := 278) hx hb dJ1_resize_249 (by decide) (fun hc => ?_) (fun hc => ?_)
  · have hw := mm_in hc hw
    refine x_aload cx dJ1_resize_278 (lv_at hl 11 rfl) ?_
    refine x_ifnonnull (tgt := 290) cx dJ1_resize_280 (by decide) (fun hc => ?_) (fun hc => ?_)
    · have hw := mm_in hc hw
      refine x_aload cx dJ1_resize_290 (lv_at hl 11 rfl) ?_
      refine x_aload cx dJ1_resize_292 (lv_at hl 7 rfl) ?_
      obtain ⟨a7, hr7, hk7, hw⟩ := hw
      obtain ⟨hge_a7, hw⟩ := hw
      refine xp_J1_177_20 (v := x8) cx hR hS hr7 hge_a7 hk7 dJ1_resize_294 (fun H locs hR hS => ?_)
      exact BJ1_resizeH_297 cx hK151 hK235 _ _ _ _ _ _ _ _ _ _ _ _ _ _ hw _ _ _ _ _ hR hS (lv_sub hl [1, 2, 3, 4, 5, 6, 7, 8, 9, 10, 0] rfl) hcb hsb
    · have hw := mm_ip hc hw
      refine x_aload cx dJ1_resize_283 (lv_at hl 7 rfl) ?_
      refine x_astore (i := 11) (r := x8) (lv' := [(11, xv E x8), (13, xv E (fr σ a6 3)), (0, xv E (some th)), (1, xv E x1), (2, .int x2), (4, .int x4), (6, xv E x6), (7, .int x7), (8, xv E x8), (9, xv E x9), (10, xv E x10), (12, xv E x12)]) cx dJ1_resize_285 hl (by decide) (by simp [xv_cat]) (fun ls hl => ?_)
      refine lv_goto (tgt := 297) hx hb dJ1_resize_287 (by decide) ?_
      exact BJ1_resizeH_297 cx hK151 hK235 _ _ _ _ _ _ _ _ _ _ _ _ _ _ hw _ _ _ _ _ hR hS (lv_sub hl [2, 3, 4, 5, 6, 7, 8, 9, 10, 0, 1] rfl) hcb hsb
  · have hw := mm_ip hc hw
    refine x_aload cx dJ1_resize_252 (lv_at hl 9 rfl) ?_
    refine x_ifnonnull (tgt := 264) cx dJ1_resize_254 (by decide) (fun hc => ?_) (fun hc => ?_)
    · have hw := mm_in hc hw
      refine x_aload cx dJ1_resize_264 (lv_at hl 9 rfl) ?_
      refine x_aload cx dJ1_resize_266 (lv_at hl 7 rfl) ?_
      obtain ⟨a8, hr8, hk8, hw⟩ := hw
      obtain ⟨hge_a8, hw⟩ := hw
      refine xp_J1_177_20 (v := x8) cx hR hS hr8 hge_a8 hk8 dJ1_resize_268 (fun H locs hR hS => ?_)
      exact BJ1_resizeH_271 cx hK151 hK235 _ _ _ _ _ _ _ _ _ _ _ _ _ _ hw _ _ _ _ _ hR hS (lv_sub hl [1, 2, 3, 4, 5, 6, 7, 8, 10, 11, 0] rfl) hcb hsb
    · have hw := mm_ip hc hw
      refine x_aload cx dJ1_resize_257 (lv_at hl 7 rfl) ?_
      refine x_astore (i := 9) (r := x8) (lv' := [(9, xv E x8), (13, xv E (fr σ a6 3)), (0, xv E (some th)), (1, xv E x1), (2, .int x2), (4, .int x4), (6, xv E x6), (7, .int x7), (8, xv E x8), (10, xv E x10), (11, xv E x11), (12, xv E x12)]) cx dJ1_resize_259 hl (by decide) (by simp [xv_cat]) (fun ls hl => ?_)
      refine lv_goto (tgt := 271) hx hb dJ1_resize_261 (by decide) ?_
      exact BJ1_resizeH_271 cx hK151 hK235 _ _ _ _ _ _ _ _ _ _ _ _ _ _ hw _ _ _ _ _ hR hS (lv_sub hl [2, 3, 4, 5, 6, 7, 8, 0, 10, 11, 1] rfl) hcb hsb
theorem LJ1_resizeH_235 {l : Launch} {p : Program} {e : Env} {s : State} {m : MethodId} {args : Array Value} {below : List Frame} {meth : Method} {c : Code} {E : xx_E} {mc ms : Nat} {Q : Option Nat → XS → Prop} {K151 : Nat → Option Nat → Int32 → Int32 → Option Nat → Int32 → Nat → Nat → XS → Prop} (cx : xx_X "java/util/HashMap" cJ1_resize 14 (some (.array (.object "java/util/HashMap$Node"))) E p s m args meth c) (hK151 : ∀ (th : Nat) (x1 : Option Nat) (x2 : Int32) (x4 : Int32) (x6 : Option Nat) (x7 : Int32) (bc : Nat) (bs : Nat) (σ : XS), K151 th x1 x2 x4 x6 x7 bc bs σ → x_T p l e ({ frames := 0, cells := mc, slots := ms, locals := 0 } : Room) s m args below meth c E (va_Qe (xr E) Q (fun σ' t => xW E σ' t) (xA E)) mc ms 14 151 bc bs σ [(0, xv E (some th)), (1, xv E x1), (2, .int x2), (4, .int x4), (6, xv E x6), (7, .int x7)] []) : ∀ (th : Nat) (x1 : Option Nat) (x2 : Int32) (x4 : Int32) (x6 : Option Nat) (x7 : Int32) (x8 : Option Nat) (x9 : Option Nat) (x10 : Option Nat) (x11 : Option Nat) (x12 : Option Nat) (bc : Nat) (bs : Nat) (σ : XS), lp14F (wJ1_resizeH_235 Q K151) th x1 x2 x4 x6 x7 x8 x9 x10 x11 x12 bc bs σ → x_T p l e ({ frames := 0, cells := mc, slots := ms, locals := 0 } : Room) s m args below meth c E (va_Qe (xr E) Q (fun σ' t => xW E σ' t) (xA E)) mc ms 14 235 bc bs σ [(0, xv E (some th)), (1, xv E x1), (2, .int x2), (4, .int x4), (6, xv E x6), (7, .int x7), (8, xv E x8), (9, xv E x9), (10, xv E x10), (11, xv E x11), (12, xv E x12)] [] :=
  lp14F_of (fun K hK => BJ1_resizeH_235 cx hK151 hK)
def wJ1_resizeH_151 (Q : Option Nat → XS → Prop) (K151 : Nat → Option Nat → Int32 → Int32 → Option Nat → Int32 → Nat → Nat → XS → Prop) (th : Nat) (x1 : Option Nat) (x2 : Int32) (x4 : Int32) (x6 : Option Nat) (x7 : Int32) (bc : Nat) (bs : Nat) (σ : XS) : Prop :=
  if x2 ≤ x7 then (Q x6 σ) else (oc σ x1 106 (fun a9 => vp_in x7 (ln σ a9) ∧ (if (ar σ a9 x7.toNatClampNeg) = none then (wJ1_resizeH_347 Q K151 th x1 x2 x4 x6 x7 bc bs σ) else (xK ≤ a9 ∧ (vp_in x7 (ln σ a9) ∧ (xck [20, 21] σ none ∧ (oc (par σ a9 x7.toNatClampNeg none) (ar σ a9 x7.toNatClampNeg) 20 (fun a10 => if (fr (par σ a9 x7.toNatClampNeg none) a10 3) = none then (oc (par σ a9 x7.toNatClampNeg none) x6 106 (fun a11 => xK ≤ a11 ∧ (vp_in ((fi (par σ a9 x7.toNatClampNeg none) a10 0) &&& (x4 - (1 : Int32))) (ln (par σ a9 x7.toNatClampNeg none) a11) ∧ (xck [20, 21] (par σ a9 x7.toNatClampNeg none) (ar σ a9 x7.toNatClampNeg) ∧ (wJ1_resizeH_347 Q K151 th x1 x2 x4 x6 x7 bc bs (par (par σ a9 x7.toNatClampNeg none) a11 (((fi (par σ a9 x7.toNatClampNeg none) a10 0) &&& (x4 - (1 : Int32))).toNatClampNeg) (ar σ a9 x7.toNatClampNeg))))))) else (lp14F (wJ1_resizeH_235 Q K151) th x1 x2 x4 x6 x7 (ar σ a9 x7.toNatClampNeg) none none none none bc bs (par σ a9 x7.toNatClampNeg none))))))))))
set_option maxHeartbeats 4000000 in
theorem BJ1_resizeH_151 {l : Launch} {p : Program} {e : Env} {s : State} {m : MethodId} {args : Array Value} {below : List Frame} {meth : Method} {c : Code} {E : xx_E} {mc ms : Nat} {Q : Option Nat → XS → Prop} {K151 : Nat → Option Nat → Int32 → Int32 → Option Nat → Int32 → Nat → Nat → XS → Prop} (cx : xx_X "java/util/HashMap" cJ1_resize 14 (some (.array (.object "java/util/HashMap$Node"))) E p s m args meth c) (hK151 : ∀ (th : Nat) (x1 : Option Nat) (x2 : Int32) (x4 : Int32) (x6 : Option Nat) (x7 : Int32) (bc : Nat) (bs : Nat) (σ : XS), K151 th x1 x2 x4 x6 x7 bc bs σ → x_T p l e ({ frames := 0, cells := mc, slots := ms, locals := 0 } : Room) s m args below meth c E (va_Qe (xr E) Q (fun σ' t => xW E σ' t) (xA E)) mc ms 14 151 bc bs σ [(0, xv E (some th)), (1, xv E x1), (2, .int x2), (4, .int x4), (6, xv E x6), (7, .int x7)] []) : ∀ (th : Nat) (x1 : Option Nat) (x2 : Int32) (x4 : Int32) (x6 : Option Nat) (x7 : Int32) (bc : Nat) (bs : Nat) (σ : XS), wJ1_resizeH_151 Q K151 th x1 x2 x4 x6 x7 bc bs σ → x_T p l e ({ frames := 0, cells := mc, slots := ms, locals := 0 } : Room) s m args below meth c E (va_Qe (xr E) Q (fun σ' t => xW E σ' t) (xA E)) mc ms 14 151 bc bs σ [(0, xv E (some th)), (1, xv E x1), (2, .int x2), (4, .int x4), (6, xv E x6), (7, .int x7)] [] := by
  intro th x1 x2 x4 x6 x7 bc bs σ hw H locs ls cells slots hR hS hl hcb hsb
  unfold wJ1_resizeH_151 at hw
  obtain ⟨hx, hb, hml, hown, hts, hrt, hlk, hMK, hZ⟩ := id cx
  refine lv_iload hx hb dJ1_resize_151 (lv_at hl 5 rfl) ?_
  refine lv_iload_n hx hb dJ1_resize_153 rfl (lv_at hl 2 rfl) ?_
  refine lv_icmp_ge (tgt := 353) hx hb dJ1_resize_154 (by decide) (fun hc => ?_) (fun hc => ?_)
  · have hw := mm_ip hc hw
    refine x_aload cx dJ1_resize_353 (lv_at hl 4 rfl) ?_
    exact x_aret cx (by first | exact Or.inl ⟨_, rfl⟩ | exact Or.inr ⟨_, rfl⟩) hR hS (xle hcb) (xle hsb) hw dJ1_resize_355
  · have hw := mm_in hc hw
    refine x_aload_n cx dJ1_resize_157 rfl (lv_at hl 1 rfl) ?_
    refine lv_iload hx hb dJ1_resize_158 (lv_at hl 5 rfl) ?_
    obtain ⟨a9, hr9, hk9, hw⟩ := hw
    obtain ⟨hi, hw⟩ := hw
    refine x_aald cx hR hr9 6 hk9 (by decide) (by decide) (j := x7.toNatClampNeg) rfl hi dJ1_resize_160 ?_
    refine lv_dup hx hb dJ1_resize_161 (xv_cat _ _) ?_
    refine x_astore (i := 8) (r := (ar σ a9 x7.toNatClampNeg)) (lv' := [(8, xv E (ar σ a9 x7.toNatClampNeg)), (0, xv E (some th)), (1, xv E x1), (2, .int x2), (4, .int x4), (6, xv E x6), (7, .int x7)]) cx dJ1_resize_162 hl (by decide) rfl (fun ls hl => ?_)
    refine x_ifnull (tgt := 347) cx dJ1_resize_164 (by decide) (fun hc => ?_) (fun hc => ?_)
    · have hw := mm_ip hc hw
      exact BJ1_resizeH_347 cx hK151 _ _ _ _ _ _ _ _ _ hw _ _ _ _ _ hR hS (lv_sub hl [1, 2, 3, 4, 5, 6] rfl) hcb hsb
    · have hw := mm_in hc hw
      refine x_aload_n cx dJ1_resize_167 rfl (lv_at hl 2 rfl) ?_
      refine lv_iload hx hb dJ1_resize_168 (lv_at hl 6 rfl) ?_
      refine lv_null hx hb dJ1_resize_170 ?_
      obtain ⟨hge_a9, hw⟩ := hw
      obtain ⟨hi, hw⟩ := hw
      obtain ⟨hv, hw⟩ := hw
      refine x_ast cx hR hS hr9 hge_a9 6 (C := "java/util/HashMap$Node") rfl hk9 (by decide) (by decide) (j := x7.toNatClampNeg) rfl hi (xcs_106 cx hv) dJ1_resize_171 (fun H locs hR hS => ?_)
      refine x_aload cx dJ1_resize_172 (lv_at hl 0 rfl) ?_
      obtain ⟨a10, hr10, hk10, hw⟩ := hw
      refine xg_J1_177_20 cx hR hr10 hk10 dJ1_resize_174 ?_
      refine x_ifnonnull (tgt := 198) cx dJ1_resize_177 (by decide) (fun hc => ?_) (fun hc => ?_)
      · have hw := mm_in hc hw
        refine x_aload cx dJ1_resize_198 (lv_at hl 0 rfl) ?_
        refine x_instN cx hR hr10 hk10 (by decide) rfl q1204 (by decide) dJ1_resize_200 ?_
        refine lv_if_eq (tgt := 223) hx hb dJ1_resize_203 (by decide) (fun hc => ?_) (fun hc => ?_)
        rotate_left
        · exact absurd hc (by decide)
        refine lv_null hx hb dJ1_resize_223 ?_
        refine x_astore (i := 9) (r := none) (lv' := [(9, xv E none), (8, xv E (ar σ a9 x7.toNatClampNeg)), (0, xv E (some th)), (1, xv E x1), (2, .int x2), (4, .int x4), (6, xv E x6), (7, .int x7)]) cx dJ1_resize_224 hl (by decide) (by simp [xv_cat]) (fun ls hl => ?_)
        refine lv_null hx hb dJ1_resize_226 ?_
        refine x_astore (i := 10) (r := none) (lv' := [(10, xv E none), (9, xv E none), (8, xv E (ar σ a9 x7.toNatClampNeg)), (0, xv E (some th)), (1, xv E x1), (2, .int x2), (4, .int x4), (6, xv E x6), (7, .int x7)]) cx dJ1_resize_227 hl (by decide) (by simp [xv_cat]) (fun ls hl => ?_)
        refine lv_null hx hb dJ1_resize_229 ?_
        refine x_astore (i := 11) (r := none) (lv' := [(11, xv E none), (10, xv E none), (9, xv E none), (8, xv E (ar σ a9 x7.toNatClampNeg)), (0, xv E (some th)), (1, xv E x1), (2, .int x2), (4, .int x4), (6, xv E x6), (7, .int x7)]) cx dJ1_resize_230 hl (by decide) (by simp [xv_cat]) (fun ls hl => ?_)
        refine lv_null hx hb dJ1_resize_232 ?_
        refine x_astore (i := 12) (r := none) (lv' := [(12, xv E none), (11, xv E none), (10, xv E none), (9, xv E none), (8, xv E (ar σ a9 x7.toNatClampNeg)), (0, xv E (some th)), (1, xv E x1), (2, .int x2), (4, .int x4), (6, xv E x6), (7, .int x7)]) cx dJ1_resize_233 hl (by decide) (by simp [xv_cat]) (fun ls hl => ?_)
        exact LJ1_resizeH_235 cx hK151 _ _ _ _ _ _ _ _ _ _ _ _ _ _ hw _ _ _ _ _ hR hS (lv_sub hl [5, 6, 7, 8, 9, 10, 4, 3, 2, 1, 0] rfl) hcb hsb
      · have hw := mm_ip hc hw
        refine x_aload cx dJ1_resize_180 (lv_at hl 5 rfl) ?_
        refine x_aload cx dJ1_resize_182 (lv_at hl 0 rfl) ?_
        refine xg_J1_168_20 cx hR hr10 hk10 dJ1_resize_184 ?_
        refine lv_iload hx hb dJ1_resize_187 (lv_at hl 4 rfl) ?_
        refine lv_iconst (v := (1 : Int32)) hx hb dJ1_resize_189 (by decide) ?_
        refine lv_isub hx hb dJ1_resize_190 ?_
        refine lv_iand hx hb dJ1_resize_191 ?_
        refine x_aload cx dJ1_resize_192 (lv_at hl 0 rfl) ?_
        obtain ⟨a11, hr11, hk11, hw⟩ := hw
        obtain ⟨hge_a11, hw⟩ := hw
        obtain ⟨hi, hw⟩ := hw
        obtain ⟨hv, hw⟩ := hw
        refine x_ast cx hR hS hr11 hge_a11 6 (C := "java/util/HashMap$Node") rfl hk11 (by decide) (by decide) (j := ((fi (par σ a9 x7.toNatClampNeg none) a10 0) &&& (x4 - (1 : Int32))).toNatClampNeg) rfl hi (xcs_106 cx hv) dJ1_resize_194 (fun H locs hR hS => ?_)
        refine lv_goto (tgt := 347) hx hb dJ1_resize_195 (by decide) ?_
        exact BJ1_resizeH_347 cx hK151 _ _ _ _ _ _ _ _ _ hw _ _ _ _ _ hR hS (lv_sub hl [1, 2, 3, 4, 5, 6] rfl) hcb hsb
theorem LJ1_resizeH_151 {l : Launch} {p : Program} {e : Env} {s : State} {m : MethodId} {args : Array Value} {below : List Frame} {meth : Method} {c : Code} {E : xx_E} {mc ms : Nat} {Q : Option Nat → XS → Prop} (cx : xx_X "java/util/HashMap" cJ1_resize 14 (some (.array (.object "java/util/HashMap$Node"))) E p s m args meth c) : ∀ (th : Nat) (x1 : Option Nat) (x2 : Int32) (x4 : Int32) (x6 : Option Nat) (x7 : Int32) (bc : Nat) (bs : Nat) (σ : XS), lp9F (wJ1_resizeH_151 Q) th x1 x2 x4 x6 x7 bc bs σ → x_T p l e ({ frames := 0, cells := mc, slots := ms, locals := 0 } : Room) s m args below meth c E (va_Qe (xr E) Q (fun σ' t => xW E σ' t) (xA E)) mc ms 14 151 bc bs σ [(0, xv E (some th)), (1, xv E x1), (2, .int x2), (4, .int x4), (6, xv E x6), (7, .int x7)] [] :=
  lp9F_of (fun K hK => BJ1_resizeH_151 cx hK)
def wJ1_resizeH_125 (Q : Option Nat → XS → Prop) (th : Nat) (x1 : Option Nat) (x2 : Int32) (x4 : Int32) (x5 : Int32) (bc : Nat) (bs : Nat) (σ : XS) : Prop :=
  kd σ th = 17 ∧ (xK ≤ th ∧ (¬ x4 < 0 ∧ x4.toNatClampNeg ≤ 67108864 ∧ (1 ≤ bc ∧ x4.toNatClampNeg ≤ bs ∧ (kd (xal (pfi σ th 6 x5) 106 x4.toNatClampNeg) th = 17 ∧ (if x1 = none then (Q (some (xn (pfi σ th 6 x5))) (pfr (xal (pfi σ th 6 x5) 106 x4.toNatClampNeg) th 2 (some (xn (pfi σ th 6 x5))))) else (lp9F (wJ1_resizeH_151 Q) th x1 x2 x4 (some (xn (pfi σ th 6 x5))) (0 : Int32) (bc - 1) (bs - x4.toNatClampNeg) (pfr (xal (pfi σ th 6 x5) 106 x4.toNatClampNeg) th 2 (some (xn (pfi σ th 6 x5))))))))))
set_option maxHeartbeats 4000000 in
theorem BJ1_resizeH_125 {l : Launch} {p : Program} {e : Env} {s : State} {m : MethodId} {args : Array Value} {below : List Frame} {meth : Method} {c : Code} {E : xx_E} {mc ms : Nat} {Q : Option Nat → XS → Prop} (cx : xx_X "java/util/HashMap" cJ1_resize 14 (some (.array (.object "java/util/HashMap$Node"))) E p s m args meth c) : ∀ (th : Nat) (x1 : Option Nat) (x2 : Int32) (x4 : Int32) (x5 : Int32) (bc : Nat) (bs : Nat) (σ : XS), wJ1_resizeH_125 Q th x1 x2 x4 x5 bc bs σ → x_T p l e ({ frames := 0, cells := mc, slots := ms, locals := 0 } : Room) s m args below meth c E (va_Qe (xr E) Q (fun σ' t => xW E σ' t) (xA E)) mc ms 14 125 bc bs σ [(0, xv E (some th)), (1, xv E x1), (2, .int x2), (4, .int x4), (5, .int x5)] [] := by
  intro th x1 x2 x4 x5 bc bs σ hw H locs ls cells slots hR hS hl hcb hsb
  unfold wJ1_resizeH_125 at hw
  obtain ⟨hx, hb, hml, hown, hts, hrt, hlk, hMK, hZ⟩ := id cx
  refine x_aload_n cx dJ1_resize_125 rfl (lv_at hl 0 rfl) ?_
  refine lv_iload hx hb dJ1_resize_126 (lv_at hl 4 rfl) ?_
  obtain ⟨hk12, hw⟩ := hw
  obtain ⟨hge_th, hw⟩ := hw
  refine xp_J1_88_17 (v := x5) cx hR hS rfl hge_th hk12 dJ1_resize_128 (fun H locs hR hS => ?_)
  refine lv_iload hx hb dJ1_resize_131 (lv_at hl 3 rfl) ?_
  obtain ⟨hn0, hn8, hw⟩ := hw
  obtain ⟨hb1, hb2, hw⟩ := hw
  refine x_anew cx hR hS 6 (by decide) (by decide) rfl (q1470) (by decide) (N := x4.toNatClampNeg) hn0 rfl (xbytes4 hn8) (by dsimp only; omega) (by dsimp only; omega) dJ1_resize_133 (fun H hR hS => ?_)
  have hcb := xadd hb1 hcb
  have hsb := xadd hb2 hsb
  refine x_astore (i := 6) (r := (some (xn (pfi σ th 6 x5)))) (lv' := [(6, xv E (some (xn (pfi σ th 6 x5)))), (0, xv E (some th)), (1, xv E x1), (2, .int x2), (4, .int x4), (5, .int x5)]) cx dJ1_resize_136 hl (by decide) rfl (fun ls hl => ?_)
  refine x_aload_n cx dJ1_resize_138 rfl (lv_at hl 1 rfl) ?_
  refine x_aload cx dJ1_resize_139 (lv_at hl 0 rfl) ?_
  obtain ⟨hk13, hw⟩ := hw
  refine xp_J1_105_17 (v := (some (xn (pfi σ th 6 x5)))) cx hR hS rfl hge_th hk13 dJ1_resize_141 (fun H locs hR hS => ?_)
  refine x_aload_n cx dJ1_resize_144 rfl (lv_at hl 2 rfl) ?_
  refine x_ifnull (tgt := 353) cx dJ1_resize_145 (by decide) (fun hc => ?_) (fun hc => ?_)
  · have hw := mm_ip hc hw
    refine x_aload cx dJ1_resize_353 (lv_at hl 0 rfl) ?_
    exact x_aret cx (by first | exact Or.inl ⟨_, rfl⟩ | exact Or.inr ⟨_, rfl⟩) hR hS (xle hcb) (xle hsb) hw dJ1_resize_355
  · have hw := mm_in hc hw
    refine lv_iconst (v := (0 : Int32)) hx hb dJ1_resize_148 (by decide) ?_
    refine lv_istore (i := 7) (lv' := [(7, .int (0 : Int32)), (6, xv E (some (xn (pfi σ th 6 x5)))), (0, xv E (some th)), (1, xv E x1), (2, .int x2), (4, .int x4), (5, .int x5)]) hx hb dJ1_resize_149 hl (by decide) (by simp [xv_cat]) (fun ls hl => ?_)
    exact LJ1_resizeH_151 cx _ _ _ _ _ _ _ _ _ hw _ _ _ _ _ hR hS (lv_sub hl [2, 3, 4, 5, 1, 0] rfl) hcb hsb
def wJ1_resizeH_123 (Q : Option Nat → XS → Prop) (th : Nat) (x1 : Option Nat) (x2 : Int32) (x4 : Int32) (t0 : Int32) (bc : Nat) (bs : Nat) (σ : XS) : Prop :=
  wJ1_resizeH_125 Q th x1 x2 x4 t0 bc bs σ
set_option maxHeartbeats 4000000 in
theorem BJ1_resizeH_123 {l : Launch} {p : Program} {e : Env} {s : State} {m : MethodId} {args : Array Value} {below : List Frame} {meth : Method} {c : Code} {E : xx_E} {mc ms : Nat} {Q : Option Nat → XS → Prop} (cx : xx_X "java/util/HashMap" cJ1_resize 14 (some (.array (.object "java/util/HashMap$Node"))) E p s m args meth c) : ∀ (th : Nat) (x1 : Option Nat) (x2 : Int32) (x4 : Int32) (t0 : Int32) (bc : Nat) (bs : Nat) (σ : XS), wJ1_resizeH_123 Q th x1 x2 x4 t0 bc bs σ → x_T p l e ({ frames := 0, cells := mc, slots := ms, locals := 0 } : Room) s m args below meth c E (va_Qe (xr E) Q (fun σ' t => xW E σ' t) (xA E)) mc ms 14 123 bc bs σ [(0, xv E (some th)), (1, xv E x1), (2, .int x2), (4, .int x4)] [.int t0] := by
  intro th x1 x2 x4 t0 bc bs σ hw H locs ls cells slots hR hS hl hcb hsb
  unfold wJ1_resizeH_123 at hw
  obtain ⟨hx, hb, hml, hown, hts, hrt, hlk, hMK, hZ⟩ := id cx
  refine lv_istore (i := 5) (lv' := [(5, .int t0), (0, xv E (some th)), (1, xv E x1), (2, .int x2), (4, .int x4)]) hx hb dJ1_resize_123 hl (by decide) rfl (fun ls hl => ?_)
  exact BJ1_resizeH_125 cx _ _ _ _ _ _ _ _ hw _ _ _ _ _ hR hS (lv_sub hl [1, 2, 3, 4, 0] rfl) hcb hsb
def wJ1_resizeH_121 (Q : Option Nat → XS → Prop) (th : Nat) (x1 : Option Nat) (x2 : Int32) (x4 : Int32) (bc : Nat) (bs : Nat) (σ : XS) : Prop :=
  wJ1_resizeH_123 Q th x1 x2 x4 (2147483647 : Int32) bc bs σ
set_option maxHeartbeats 4000000 in
theorem BJ1_resizeH_121 {l : Launch} {p : Program} {e : Env} {s : State} {m : MethodId} {args : Array Value} {below : List Frame} {meth : Method} {c : Code} {E : xx_E} {mc ms : Nat} {Q : Option Nat → XS → Prop} (cx : xx_X "java/util/HashMap" cJ1_resize 14 (some (.array (.object "java/util/HashMap$Node"))) E p s m args meth c) : ∀ (th : Nat) (x1 : Option Nat) (x2 : Int32) (x4 : Int32) (bc : Nat) (bs : Nat) (σ : XS), wJ1_resizeH_121 Q th x1 x2 x4 bc bs σ → x_T p l e ({ frames := 0, cells := mc, slots := ms, locals := 0 } : Room) s m args below meth c E (va_Qe (xr E) Q (fun σ' t => xW E σ' t) (xA E)) mc ms 14 121 bc bs σ [(0, xv E (some th)), (1, xv E x1), (2, .int x2), (4, .int x4)] [] := by
  intro th x1 x2 x4 bc bs σ hw H locs ls cells slots hR hS hl hcb hsb
  unfold wJ1_resizeH_121 at hw
  obtain ⟨hx, hb, hml, hown, hts, hrt, hlk, hMK, hZ⟩ := id cx
  refine lv_ldc (v := (2147483647 : Int32)) hx hb hown (hts _ q1468) dJ1_resize_121 ?_
  exact BJ1_resizeH_123 cx _ _ _ _ _ _ _ _ hw _ _ _ _ _ hR hS (lv_sub hl [0, 1, 2, 3] rfl) hcb hsb
def wJ1_resizeH_85 (Q : Option Nat → XS → Prop) (th : Nat) (x1 : Option Nat) (x2 : Int32) (x4 : Int32) (x5 : Int32) (bc : Nat) (bs : Nat) (σ : XS) : Prop :=
  if x5 = 0 then (kd σ th = 17 ∧ (vf_n32 (FP.fmul (FP.i2f x4) (ff σ th 7)) ∧ (if (1073741824 : Int32) ≤ x4 then (wJ1_resizeH_121 Q th x1 x2 x4 bc bs σ) else (if 0 ≤ (Op.cmpValue (FP.fcmp (FP.fmul (FP.i2f x4) (ff σ th 7)) (1317011456 : UInt32)) .g) then (wJ1_resizeH_121 Q th x1 x2 x4 bc bs σ) else (wJ1_resizeH_123 Q th x1 x2 x4 (FP.f2i (FP.fmul (FP.i2f x4) (ff σ th 7))) bc bs σ))))) else (wJ1_resizeH_125 Q th x1 x2 x4 x5 bc bs σ)
set_option maxHeartbeats 4000000 in
theorem BJ1_resizeH_85 {l : Launch} {p : Program} {e : Env} {s : State} {m : MethodId} {args : Array Value} {below : List Frame} {meth : Method} {c : Code} {E : xx_E} {mc ms : Nat} {Q : Option Nat → XS → Prop} (cx : xx_X "java/util/HashMap" cJ1_resize 14 (some (.array (.object "java/util/HashMap$Node"))) E p s m args meth c) : ∀ (th : Nat) (x1 : Option Nat) (x2 : Int32) (x4 : Int32) (x5 : Int32) (bc : Nat) (bs : Nat) (σ : XS), wJ1_resizeH_85 Q th x1 x2 x4 x5 bc bs σ → x_T p l e ({ frames := 0, cells := mc, slots := ms, locals := 0 } : Room) s m args below meth c E (va_Qe (xr E) Q (fun σ' t => xW E σ' t) (xA E)) mc ms 14 85 bc bs σ [(0, xv E (some th)), (1, xv E x1), (2, .int x2), (4, .int x4), (5, .int x5)] [] := by
  intro th x1 x2 x4 x5 bc bs σ hw H locs ls cells slots hR hS hl hcb hsb
  unfold wJ1_resizeH_85 at hw
  obtain ⟨hx, hb, hml, hown, hts, hrt, hlk, hMK, hZ⟩ := id cx
  refine lv_iload hx hb dJ1_resize_85 (lv_at hl 4 rfl) ?_
  refine lv_if_ne (tgt := 125) hx hb dJ1_resize_87 (by decide) (fun hc => ?_) (fun hc => ?_)
  · have hw := mm_in hc hw
    exact BJ1_resizeH_125 cx _ _ _ _ _ _ _ _ hw _ _ _ _ _ hR hS (lv_sub hl [0, 1, 2, 3, 4] rfl) hcb hsb
  · have hw := mm_ip hc hw
    refine lv_iload hx hb dJ1_resize_90 (lv_at hl 3 rfl) ?_
    refine lv_i2f hx hb dJ1_resize_92 ?_
    refine x_aload_n cx dJ1_resize_93 rfl (lv_at hl 0 rfl) ?_
    obtain ⟨hk14, hw⟩ := hw
    refine xg_J1_81_17 cx hR rfl hk14 dJ1_resize_94 ?_
    obtain ⟨hz, hw⟩ := hw
    refine lv_fmul hx hb dJ1_resize_97 hz ?_
    refine lv_fstore (i := 6) (lv' := [(6, .float (FP.fmul (FP.i2f x4) (ff σ th 7))), (0, xv E (some th)), (1, xv E x1), (2, .int x2), (4, .int x4), (5, .int x5)]) hx hb dJ1_resize_98 hl (by decide) rfl (fun ls hl => ?_)
    refine lv_iload hx hb dJ1_resize_100 (lv_at hl 4 rfl) ?_
    refine lv_ldc (v := (1073741824 : Int32)) hx hb hown (hts _ q558) dJ1_resize_102 ?_
    refine lv_icmp_ge (tgt := 121) hx hb dJ1_resize_104 (by decide) (fun hc => ?_) (fun hc => ?_)
    · have hw := mm_ip hc hw
      exact BJ1_resizeH_121 cx _ _ _ _ _ _ _ hw _ _ _ _ _ hR hS (lv_sub hl [1, 2, 3, 4] rfl) hcb hsb
    · have hw := mm_in hc hw
      refine lv_fload hx hb dJ1_resize_107 (lv_at hl 0 rfl) ?_
      refine lv_ldcf (v := 1317011456) hx hb hown (hts _ q1469) dJ1_resize_109 ?_
      refine lv_fcmp hx hb dJ1_resize_111 ?_
      refine lv_if_ge (tgt := 121) hx hb dJ1_resize_112 (by decide) (fun hc => ?_) (fun hc => ?_)
      · have hw := mm_ip hc hw
        exact BJ1_resizeH_121 cx _ _ _ _ _ _ _ hw _ _ _ _ _ hR hS (lv_sub hl [1, 2, 3, 4] rfl) hcb hsb
      · have hw := mm_in hc hw
        refine lv_fload hx hb dJ1_resize_115 (lv_at hl 0 rfl) ?_
        refine lv_f2i hx hb dJ1_resize_117 ?_
        refine lv_goto (tgt := 123) hx hb dJ1_resize_118 (by decide) ?_
        exact BJ1_resizeH_123 cx _ _ _ _ _ _ _ _ hw _ _ _ _ _ hR hS (lv_sub hl [1, 2, 3, 4] rfl) hcb hsb
def wJ1_resizeH_15 (Q : Option Nat → XS → Prop) (th : Nat) (x1 : Option Nat) (t0 : Int32) (bc : Nat) (bs : Nat) (σ : XS) : Prop :=
  kd σ th = 17 ∧ (∀ v16 : Int32, v16 = (fi σ th 6) → if t0 ≤ 0 then (if v16 ≤ 0 then (wJ1_resizeH_85 Q th x1 t0 (16 : Int32) (12 : Int32) bc bs σ) else (wJ1_resizeH_85 Q th x1 t0 v16 (0 : Int32) bc bs σ)) else (if t0 < (1073741824 : Int32) then (∀ v17 : Int32, v17 = (t0 <<< ((1 : Int32) &&& 31)) → if (1073741824 : Int32) ≤ (t0 <<< ((1 : Int32) &&& 31)) then (wJ1_resizeH_85 Q th x1 t0 v17 (0 : Int32) bc bs σ) else (if t0 < (16 : Int32) then (wJ1_resizeH_85 Q th x1 t0 v17 (0 : Int32) bc bs σ) else (∀ v18 : Int32, v18 = (v16 <<< ((1 : Int32) &&& 31)) → wJ1_resizeH_85 Q th x1 t0 v17 v18 bc bs σ))) else (xK ≤ th ∧ (Q x1 (pfi σ th 6 (2147483647 : Int32))))))
set_option maxHeartbeats 4000000 in
theorem BJ1_resizeH_15 {l : Launch} {p : Program} {e : Env} {s : State} {m : MethodId} {args : Array Value} {below : List Frame} {meth : Method} {c : Code} {E : xx_E} {mc ms : Nat} {Q : Option Nat → XS → Prop} (cx : xx_X "java/util/HashMap" cJ1_resize 14 (some (.array (.object "java/util/HashMap$Node"))) E p s m args meth c) : ∀ (th : Nat) (x1 : Option Nat) (t0 : Int32) (bc : Nat) (bs : Nat) (σ : XS), wJ1_resizeH_15 Q th x1 t0 bc bs σ → x_T p l e ({ frames := 0, cells := mc, slots := ms, locals := 0 } : Room) s m args below meth c E (va_Qe (xr E) Q (fun σ' t => xW E σ' t) (xA E)) mc ms 14 15 bc bs σ [(0, xv E (some th)), (1, xv E x1)] [.int t0] := by
  intro th x1 t0 bc bs σ hw H locs ls cells slots hR hS hl hcb hsb
  unfold wJ1_resizeH_15 at hw
  obtain ⟨hx, hb, hml, hown, hts, hrt, hlk, hMK, hZ⟩ := id cx
  refine lv_istore_n (i := 2) (lv' := [(2, .int t0), (0, xv E (some th)), (1, xv E x1)]) hx hb dJ1_resize_15 rfl hl (by decide) (by simp [xv_cat]) (fun ls hl => ?_)
  refine x_aload_n cx dJ1_resize_16 rfl (lv_at hl 1 rfl) ?_
  obtain ⟨hk15, hw⟩ := hw
  refine xg_J1_88_17 cx hR rfl hk15 dJ1_resize_17 ?_
  refine lv_topi (fun v16 hv16 => ?_)
  have hw := hw v16 hv16
  refine lv_istore_n (i := 3) (lv' := [(3, .int v16), (2, .int t0), (0, xv E (some th)), (1, xv E x1)]) hx hb dJ1_resize_20 rfl hl (by decide) rfl (fun ls hl => ?_)
  refine lv_iconst (v := (0 : Int32)) hx hb dJ1_resize_21 (by decide) ?_
  refine lv_istore (i := 5) (lv' := [(5, .int (0 : Int32)), (3, .int v16), (2, .int t0), (0, xv E (some th)), (1, xv E x1)]) hx hb dJ1_resize_22 hl (by decide) rfl (fun ls hl => ?_)
  refine lv_iload_n hx hb dJ1_resize_24 rfl (lv_at hl 2 rfl) ?_
  refine lv_if_le (tgt := 67) hx hb dJ1_resize_25 (by decide) (fun hc => ?_) (fun hc => ?_)
  · have hw := mm_ip hc hw
    refine lv_iload_n hx hb dJ1_resize_67 rfl (lv_at hl 1 rfl) ?_
    refine lv_if_le (tgt := 77) hx hb dJ1_resize_68 (by decide) (fun hc => ?_) (fun hc => ?_)
    · have hw := mm_ip hc hw
      refine lv_bipush (v := (16 : Int32)) hx hb dJ1_resize_77 (by decide) ?_
      refine lv_istore (i := 4) (lv' := [(4, .int (16 : Int32)), (5, .int (0 : Int32)), (3, .int v16), (2, .int t0), (0, xv E (some th)), (1, xv E x1)]) hx hb dJ1_resize_79 hl (by decide) rfl (fun ls hl => ?_)
      refine lv_bipush (v := (12 : Int32)) hx hb dJ1_resize_81 (by decide) ?_
      refine lv_istore (i := 5) (lv' := [(5, .int (12 : Int32)), (4, .int (16 : Int32)), (3, .int v16), (2, .int t0), (0, xv E (some th)), (1, xv E x1)]) hx hb dJ1_resize_83 hl (by decide) rfl (fun ls hl => ?_)
      exact BJ1_resizeH_85 cx _ _ _ _ _ _ _ _ hw _ _ _ _ _ hR hS (lv_sub hl [4, 5, 3, 1, 0] rfl) hcb hsb
    · have hw := mm_in hc hw
      refine lv_iload_n hx hb dJ1_resize_71 rfl (lv_at hl 1 rfl) ?_
      refine lv_istore (i := 4) (lv' := [(4, .int v16), (5, .int (0 : Int32)), (3, .int v16), (2, .int t0), (0, xv E (some th)), (1, xv E x1)]) hx hb dJ1_resize_72 hl (by decide) rfl (fun ls hl => ?_)
      refine lv_goto (tgt := 85) hx hb dJ1_resize_74 (by decide) ?_
      exact BJ1_resizeH_85 cx _ _ _ _ _ _ _ _ hw _ _ _ _ _ hR hS (lv_sub hl [4, 5, 3, 0, 1] rfl) hcb hsb
  · have hw := mm_in hc hw
    refine lv_iload_n hx hb dJ1_resize_28 rfl (lv_at hl 2 rfl) ?_
    refine lv_ldc (v := (1073741824 : Int32)) hx hb hown (hts _ q558) dJ1_resize_29 ?_
    refine lv_icmp_lt (tgt := 42) hx hb dJ1_resize_31 (by decide) (fun hc => ?_) (fun hc => ?_)
    · have hw := mm_ip hc hw
      refine lv_iload_n hx hb dJ1_resize_42 rfl (lv_at hl 2 rfl) ?_
      refine lv_iconst (v := (1 : Int32)) hx hb dJ1_resize_43 (by decide) ?_
      refine lv_ishl hx hb dJ1_resize_44 ?_
      refine lv_dup hx hb dJ1_resize_45 rfl ?_
      refine lv_topi (fun v17 hv17 => ?_)
      have hw := hw v17 hv17
      refine lv_istore (i := 4) (lv' := [(4, .int v17), (5, .int (0 : Int32)), (3, .int v16), (2, .int t0), (0, xv E (some th)), (1, xv E x1)]) hx hb dJ1_resize_46 hl (by decide) rfl (fun ls hl => ?_)
      refine lv_ldc (v := (1073741824 : Int32)) hx hb hown (hts _ q558) dJ1_resize_48 ?_
      refine lv_icmp_ge (tgt := 85) hx hb dJ1_resize_50 (by decide) (fun hc => ?_) (fun hc => ?_)
      · have hw := mm_ip hc hw
        exact BJ1_resizeH_85 cx _ _ _ _ _ _ _ _ hw _ _ _ _ _ hR hS (lv_sub hl [4, 5, 3, 0, 1] rfl) hcb hsb
      · have hw := mm_in hc hw
        refine lv_iload_n hx hb dJ1_resize_53 rfl (lv_at hl 3 rfl) ?_
        refine lv_bipush (v := (16 : Int32)) hx hb dJ1_resize_54 (by decide) ?_
        refine lv_icmp_lt (tgt := 85) hx hb dJ1_resize_56 (by decide) (fun hc => ?_) (fun hc => ?_)
        · have hw := mm_ip hc hw
          exact BJ1_resizeH_85 cx _ _ _ _ _ _ _ _ hw _ _ _ _ _ hR hS (lv_sub hl [4, 5, 3, 0, 1] rfl) hcb hsb
        · have hw := mm_in hc hw
          refine lv_iload_n hx hb dJ1_resize_59 rfl (lv_at hl 2 rfl) ?_
          refine lv_iconst (v := (1 : Int32)) hx hb dJ1_resize_60 (by decide) ?_
          refine lv_ishl hx hb dJ1_resize_61 ?_
          refine lv_topi (fun v18 hv18 => ?_)
          have hw := hw v18 hv18
          refine lv_istore (i := 5) (lv' := [(5, .int v18), (4, .int v17), (3, .int v16), (2, .int t0), (0, xv E (some th)), (1, xv E x1)]) hx hb dJ1_resize_62 hl (by decide) rfl (fun ls hl => ?_)
          refine lv_goto (tgt := 85) hx hb dJ1_resize_64 (by decide) ?_
          exact BJ1_resizeH_85 cx _ _ _ _ _ _ _ _ hw _ _ _ _ _ hR hS (lv_sub hl [4, 5, 3, 1, 0] rfl) hcb hsb
    · have hw := mm_in hc hw
      refine x_aload_n cx dJ1_resize_34 rfl (lv_at hl 3 rfl) ?_
      refine lv_ldc (v := (2147483647 : Int32)) hx hb hown (hts _ q1468) dJ1_resize_35 ?_
      obtain ⟨hge_th, hw⟩ := hw
      refine xp_J1_88_17 (v := (2147483647 : Int32)) cx hR hS rfl hge_th hk15 dJ1_resize_37 (fun H locs hR hS => ?_)
      refine x_aload_n cx dJ1_resize_40 rfl (lv_at hl 4 rfl) ?_
      exact x_aret cx (by first | exact Or.inl ⟨_, rfl⟩ | exact Or.inr ⟨_, rfl⟩) hR hS (xle hcb) (xle hsb) hw dJ1_resize_41
def wJ1_resizeH (th : Nat) (bc : Nat) (bs : Nat) (σ : XS) (Q : Option Nat → XS → Prop) : Prop :=
  kd σ th = 17 ∧ (if (fr σ th 2) = none then (wJ1_resizeH_15 Q th (fr σ th 2) (0 : Int32) bc bs σ) else (oc σ (fr σ th 2) 106 (fun a20 => wJ1_resizeH_15 Q th (fr σ th 2) (nI (ln σ a20)) bc bs σ)))
set_option maxHeartbeats 4000000 in
theorem MJ1_resizeH (l : Launch) (E : xx_E) (th : Nat) (bc : Nat) (bs : Nat) (σ : XS) (Q : Option Nat → XS → Prop) (hw : wJ1_resizeH th bc bs σ Q) : xx_Mr l yJ1_resize (ws_ yJ1_resize cJ1_resize 14 (some (.array (.object "java/util/HashMap$Node")))) ({ frames := 0, cells := bc, slots := bs, locals := 0 } : Room) E [xv E (some th)] σ Q bc bs := by
  refine x_of (own := "java/util/HashMap") (by decide +kernel) rfl ?_
  intro p e s m args below meth c cx hR ha hnm
  refine x_entry [xv E (some th)] 14 [(0, xv E (some th))] ha (by simp [lg_sl, xv_cat, vc_i, vc_j, vc_f]) (by simp [lv_args, xv_cat, vc_i, vc_j, vc_f]) (fun ls hl => ?_)
  have hS : va_S (xA E) s.heap s.heap [] := va_S.rf
  have hcb : 0 + bc ≤ bc := Nat.le_of_eq (Nat.zero_add _)
  have hsb : 0 + bs ≤ bs := Nat.le_of_eq (Nat.zero_add _)
  unfold wJ1_resizeH at hw
  obtain ⟨hx, hb, hml, hown, hts, hrt, hlk, hMK, hZ⟩ := id cx
  refine x_aload_n cx dJ1_resize_0 rfl (lv_at hl 0 rfl) ?_
  obtain ⟨hk19, hw⟩ := hw
  refine xg_J1_105_17 cx hR rfl hk19 dJ1_resize_1 ?_
  refine x_astore_n (i := 1) (r := (fr σ th 2)) (lv' := [(1, xv E (fr σ th 2)), (0, xv E (some th))]) cx dJ1_resize_4 rfl hl (by decide) (by simp [xv_cat]) (fun ls hl => ?_)
  refine x_aload_n cx dJ1_resize_5 rfl (lv_at hl 0 rfl) ?_
  refine x_ifnonnull (tgt := 13) cx dJ1_resize_6 (by decide) (fun hc => ?_) (fun hc => ?_)
  · have hw := mm_in hc hw
    refine x_aload_n cx dJ1_resize_13 rfl (lv_at hl 0 rfl) ?_
    obtain ⟨a20, hr20, hk20, hw⟩ := hw
    refine x_alen cx hR hr20 6 hk20 (by decide) dJ1_resize_14 ?_
    exact BJ1_resizeH_15 cx _ _ _ _ _ _ hw _ _ _ _ _ hR hS (lv_sub hl [1, 0] rfl) hcb hsb
  · have hw := mm_ip hc hw
    refine lv_iconst (v := (0 : Int32)) hx hb dJ1_resize_9 (by decide) ?_
    refine lv_goto (tgt := 15) hx hb dJ1_resize_10 (by decide) ?_
    exact BJ1_resizeH_15 cx _ _ _ _ _ _ hw _ _ _ _ _ hR hS (lv_sub hl [1, 0] rfl) hcb hsb
-- J25_initN
theorem xp_J25_7_20 {l : Launch} {p : Program} {e : Env} {R : Room} {s : State} {m : MethodId} {args : Array Value} {below : List Frame} {meth : Method} {c : Code} {H : Heap} {locs : List Loc} {cells slots : Nat} {Qz : State → Prop} {cc : ByteArray} {nL : Nat} {ret : Option FieldType} {E : xx_E} {σ : XS} {pc : Nat} {ls : Array Slot} {rest : List Value} (cx : xx_X "java/util/HashMap$Node" cc nL ret E p s m args meth c) (hR : xR E σ H) (hS0 : va_S (xA E) s.heap H locs) {a : Nat} {r : Option Nat} {v : Int32} (hr : r = some a) (ha : xK ≤ a) (hk : kd σ a = 20) (hini : meth.name = "<init>") (hdg : decode cc pc = .ok (.putfield 7, 3)) (kk : ∀ (H1 : Heap) (locs1 : List Loc), xR E (pfi σ a 0 v) H1 → va_S (xA E) s.heap H1 locs1 → W p l e R s m args below meth c H1 locs1 cells slots Qz (F0 m (pc + 3) ls rest)) : W p l e R s m args below meth c H locs cells slots Qz (F0 m pc ls (.int v :: xv E r :: rest)) :=
  x_put (ci := 19) cx hR hS0 hr ha hk (by decide) rfl in_J25 tyJ25 tyJ25_ok nmJ25 0 (by decide) (Or.inr (Or.inl ⟨q1499, rfl, hini, rfl⟩)) (fun _ h => h) rfl rfl (xput_i rfl) hdg kk
theorem xp_J25_13_20 {l : Launch} {p : Program} {e : Env} {R : Room} {s : State} {m : MethodId} {args : Array Value} {below : List Frame} {meth : Method} {c : Code} {H : Heap} {locs : List Loc} {cells slots : Nat} {Qz : State → Prop} {cc : ByteArray} {nL : Nat} {ret : Option FieldType} {E : xx_E} {σ : XS} {pc : Nat} {ls : Array Slot} {rest : List Value} (cx : xx_X "java/util/HashMap$Node" cc nL ret E p s m args meth c) (hR : xR E σ H) (hS0 : va_S (xA E) s.heap H locs) {a : Nat} {r : Option Nat} {v : Option Nat} (hr : r = some a) (ha : xK ≤ a) (hk : kd σ a = 20) (hini : meth.name = "<init>") (hdg : decode cc pc = .ok (.putfield 13, 3)) (kk : ∀ (H1 : Heap) (locs1 : List Loc), xR E (pfr σ a 1 v) H1 → va_S (xA E) s.heap H1 locs1 → W p l e R s m args below meth c H1 locs1 cells slots Qz (F0 m (pc + 3) ls rest)) : W p l e R s m args below meth c H locs cells slots Qz (F0 m pc ls (xv E v :: xv E r :: rest)) :=
  x_put (ci := 19) cx hR hS0 hr ha hk (by decide) rfl in_J25 tyJ25 tyJ25_ok nmJ25 1 (by decide) (Or.inr (Or.inl ⟨q1505, rfl, hini, rfl⟩)) (fun _ h => h) (by cases v <;> rfl) (by cases v <;> rfl) (xput_r rfl) hdg kk
theorem xp_J25_17_20 {l : Launch} {p : Program} {e : Env} {R : Room} {s : State} {m : MethodId} {args : Array Value} {below : List Frame} {meth : Method} {c : Code} {H : Heap} {locs : List Loc} {cells slots : Nat} {Qz : State → Prop} {cc : ByteArray} {nL : Nat} {ret : Option FieldType} {E : xx_E} {σ : XS} {pc : Nat} {ls : Array Slot} {rest : List Value} (cx : xx_X "java/util/HashMap$Node" cc nL ret E p s m args meth c) (hR : xR E σ H) (hS0 : va_S (xA E) s.heap H locs) {a : Nat} {r : Option Nat} {v : Option Nat} (hr : r = some a) (ha : xK ≤ a) (hk : kd σ a = 20) (hdg : decode cc pc = .ok (.putfield 17, 3)) (kk : ∀ (H1 : Heap) (locs1 : List Loc), xR E (pfr σ a 2 v) H1 → va_S (xA E) s.heap H1 locs1 → W p l e R s m args below meth c H1 locs1 cells slots Qz (F0 m (pc + 3) ls rest)) : W p l e R s m args below meth c H locs cells slots Qz (F0 m pc ls (xv E v :: xv E r :: rest)) :=
  x_put (ci := 19) cx hR hS0 hr ha hk (by decide) rfl in_J25 tyJ25 tyJ25_ok nmJ25 2 (by decide) (Or.inl ⟨q1511, rfl⟩) (fun _ h => h) (by cases v <;> rfl) (by cases v <;> rfl) (xput_r rfl) hdg kk
theorem xp_J25_20_20 {l : Launch} {p : Program} {e : Env} {R : Room} {s : State} {m : MethodId} {args : Array Value} {below : List Frame} {meth : Method} {c : Code} {H : Heap} {locs : List Loc} {cells slots : Nat} {Qz : State → Prop} {cc : ByteArray} {nL : Nat} {ret : Option FieldType} {E : xx_E} {σ : XS} {pc : Nat} {ls : Array Slot} {rest : List Value} (cx : xx_X "java/util/HashMap$Node" cc nL ret E p s m args meth c) (hR : xR E σ H) (hS0 : va_S (xA E) s.heap H locs) {a : Nat} {r : Option Nat} {v : Option Nat} (hr : r = some a) (ha : xK ≤ a) (hk : kd σ a = 20) (hdg : decode cc pc = .ok (.putfield 20, 3)) (kk : ∀ (H1 : Heap) (locs1 : List Loc), xR E (pfr σ a 3 v) H1 → va_S (xA E) s.heap H1 locs1 → W p l e R s m args below meth c H1 locs1 cells slots Qz (F0 m (pc + 3) ls rest)) : W p l e R s m args below meth c H locs cells slots Qz (F0 m pc ls (xv E v :: xv E r :: rest)) :=
  x_put (ci := 19) cx hR hS0 hr ha hk (by decide) rfl in_J25 tyJ25 tyJ25_ok nmJ25 3 (by decide) (Or.inl ⟨q1516, rfl⟩) (fun _ h => h) (by cases v <;> rfl) (by cases v <;> rfl) (xput_r rfl) hdg kk
def wJ25_initN (th : Nat) (x1 : Int32) (x2 : Option Nat) (x3 : Option Nat) (x4 : Option Nat) (σ : XS) (Q : XS → Prop) : Prop :=
  kd σ th = 20 ∧ (xK ≤ th ∧ (Q (pfr (pfr (pfr (pfi σ th 0 x1) th 1 x2) th 2 x3) th 3 x4)))
set_option maxHeartbeats 4000000 in
theorem MJ25_initN (l : Launch) (E : xx_E) (th : Nat) (x1 : Int32) (x2 : Option Nat) (x3 : Option Nat) (x4 : Option Nat) (σ : XS) (Q : XS → Prop) (hw : wJ25_initN th x1 x2 x3 x4 σ Q) : xx_Mv l yJ25_init (ws_ yJ25_init cJ25_init 5 none) ({ frames := 1, cells := 0, slots := 0, locals := 40 } : Room) E [xv E (some th), .int x1, xv E x2, xv E x3, xv E x4] σ Q 0 0 := by
  refine x_of (own := "java/util/HashMap$Node") (by decide +kernel) rfl ?_
  intro p e s m args below meth c cx hR ha hnm
  refine x_entry [xv E (some th), .int x1, xv E x2, xv E x3, xv E x4] 5 [(0, xv E (some th)), (1, .int x1), (2, xv E x2), (3, xv E x3), (4, xv E x4)] ha (by simp [lg_sl, xv_cat, vc_i, vc_j, vc_f]) (by simp [lv_args, xv_cat, vc_i, vc_j, vc_f]) (fun ls hl => ?_)
  have hS : va_S (xA E) s.heap s.heap [] := va_S.rf
  have hcb : 0 + 0 ≤ 0 := Nat.le_of_eq (Nat.zero_add _)
  have hsb : 0 + 0 ≤ 0 := Nat.le_of_eq (Nat.zero_add _)
  have hini : meth.name = "<init>" := hnm
  unfold wJ25_initN at hw
  obtain ⟨hx, hb, hml, hown, hts, hrt, hlk, hMK, hZ⟩ := id cx
  refine x_aload_n cx dJ25_init_0 rfl (lv_at hl 0 rfl) ?_
  refine x_objinit cx hl.1 rfl q1496 (xroom12 (Nat.le_of_ble_eq_true rfl) (by dsimp only; omega)) (by dsimp only; omega) dJ25_init_1 ?_
  refine x_aload_n cx dJ25_init_4 rfl (lv_at hl 0 rfl) ?_
  refine lv_iload_n hx hb dJ25_init_5 rfl (lv_at hl 1 rfl) ?_
  obtain ⟨hk1, hw⟩ := hw
  obtain ⟨hge_th, hw⟩ := hw
  refine xp_J25_7_20 (v := x1) cx hR hS rfl hge_th hk1 hini dJ25_init_6 (fun H locs hR hS => ?_)
  refine x_aload_n cx dJ25_init_9 rfl (lv_at hl 0 rfl) ?_
  refine x_aload_n cx dJ25_init_10 rfl (lv_at hl 2 rfl) ?_
  refine xp_J25_13_20 (v := x2) cx hR hS rfl hge_th hk1 hini dJ25_init_11 (fun H locs hR hS => ?_)
  refine x_aload_n cx dJ25_init_14 rfl (lv_at hl 0 rfl) ?_
  refine x_aload_n cx dJ25_init_15 rfl (lv_at hl 3 rfl) ?_
  refine xp_J25_17_20 (v := x3) cx hR hS rfl hge_th hk1 dJ25_init_16 (fun H locs hR hS => ?_)
  refine x_aload_n cx dJ25_init_19 rfl (lv_at hl 0 rfl) ?_
  refine x_aload cx dJ25_init_20 (lv_at hl 4 rfl) ?_
  refine xp_J25_20_20 (v := x4) cx hR hS rfl hge_th hk1 dJ25_init_22 (fun H locs hR hS => ?_)
  exact x_vret cx hR hS (xle hcb) (xle hsb) hw dJ25_init_25
-- J1_newNodeH
theorem xn_J1_163 {l : Launch} {p : Program} {e : Env} {R : Room} {s : State} {m : MethodId} {args : Array Value} {below : List Frame} {meth : Method} {c : Code} {H : Heap} {locs : List Loc} {cells slots : Nat} {Qz : State → Prop} {cc : ByteArray} {nL : Nat} {ret : Option FieldType} {E : xx_E} {σ : XS} {pc : Nat} {ls : Array Slot} {rest : List Value} (cx : xx_X "java/util/HashMap" cc nL ret E p s m args meth c) (hR : xR E σ H) (hS0 : va_S (xA E) s.heap H locs) (hcells : cells + 1 ≤ R.cells) (hslots : slots + 4 ≤ R.slots) (hdg : decode cc pc = .ok (.new 163, 3)) (kk : ∀ (H1 : Heap), xR E (xal σ 20 0) H1 → va_S (xA E) s.heap H1 locs → W p l e R s m args below meth c H1 locs (cells + 1) (slots + 4) Qz (F0 m (pc + 3) ls (xv E (some (xn σ)) :: rest))) : W p l e R s m args below meth c H locs cells slots Qz (F0 m pc ls rest) :=
  x_new cx hR hS0 19 (by decide) rfl in_J25 tyJ25 tyJ25_ok q1470 q1540 q191 (fun j hj => by
    match j, hj with
    | 0, _ => exact xnew_i rfl
    | 1, _ => exact xnew_r rfl
    | 2, _ => exact xnew_r rfl
    | 3, _ => exact xnew_r rfl) hcells hslots hdg kk
theorem CJ25_initN_J1_375 {l : Launch} {p : Program} {e : Env} {R : Room} {s : State} {m : MethodId} {args : Array Value} {below : List Frame} {meth : Method} {c : Code} {H : Heap} {locs : List Loc} {cells slots : Nat} {Qz : State → Prop} {cc : ByteArray} {nL : Nat} {ret : Option FieldType} {E : xx_E} {σ : XS} {pc : Nat} {ls : Array Slot} {rest : List Value} {th : Nat} {x1 : Int32} {x2 : Option Nat} {x3 : Option Nat} {x4 : Option Nat} (cx : xx_X "java/util/HashMap" cc nL ret E p s m args meth c) (hR0 : xR E σ H) (hS0 : va_S (xA E) s.heap H locs) {r0 : Option Nat} (hr : r0 = some th) (hk : kd σ th = 20) {Qf : XS → Prop} (hw : wJ25_initN th x1 x2 x3 x4 σ Qf) (hR : (({ frames := 1, cells := 0, slots := 0, locals := 40 } : Room)).frames + 1 ≤ R.frames ∧ 8 + (5 + 11) + (({ frames := 1, cells := 0, slots := 0, locals := 40 } : Room)).locals ≤ R.locals) (hrest : rest.length ≤ 4) (hsize : ls.size = nL) (hf : cells + 0 ≤ R.cells ∧ slots + 0 ≤ R.slots) (hdg : decode cc pc = .ok (.invokespecial 375, 3))
    (kk : ∀ (σ1 : XS) (H1 : Heap) (locs1 : List Loc), Qf σ1 → xR E σ1 H1 → va_S (xA E) s.heap H1 locs1 → W p l e R s m args below meth c H1 locs1 (cells + 0) (slots + 0) Qz (F0 m (pc + 3) ls rest)) : W p l e R s m args below meth c H locs cells slots Qz (F0 m pc ls (xv E x4 :: xv E x3 :: xv E x2 :: .int x1 :: xv E r0 :: rest)) := by
  subst hr
  obtain ⟨hx, hb, hml, hown, hts, hrt, hlk, hK, hZ⟩ := id cx
  exact x_gov (va_runI (As := [.int x1, xv E x2, xv E x3, xv E x4]) (rest := rest) (x_fix cx) (MJ25_initN l E th x1 x2 x3 x4 σ Qf hw) (cwI 4 hts (lw_meth q1495) rfl rfl rfl (hts _ q191) (hts _ q1541) (hts _ q1494) rfl (by decide +kernel) hR) ⟨xblind, x_pre cx hR0 hS0 (.ref (xr E th) :: [.int x1, xv E x2, xv E x3, xv E x4])⟩ rfl rfl hsize rfl (lv_room (xroom hrest)) hdg hf) hS0 kk
def wJ1_newNodeH (th : Nat) (x1 : Int32) (x2 : Option Nat) (x3 : Option Nat) (x4 : Option Nat) (bc : Nat) (bs : Nat) (σ : XS) (Q : Option Nat → XS → Prop) : Prop :=
  1 ≤ bc ∧ 4 ≤ bs ∧ (kd (xal σ 20 0) (xn σ) = 20 ∧ (wJ25_initN (xn σ) x1 x2 x3 x4 (xal σ 20 0) (fun s1 => Q (some (xn σ)) s1)))
set_option maxHeartbeats 4000000 in
theorem MJ1_newNodeH (l : Launch) (E : xx_E) (th : Nat) (x1 : Int32) (x2 : Option Nat) (x3 : Option Nat) (x4 : Option Nat) (bc : Nat) (bs : Nat) (σ : XS) (Q : Option Nat → XS → Prop) (hw : wJ1_newNodeH th x1 x2 x3 x4 bc bs σ Q) : xx_Mr l yJ1_newNode (ws_ yJ1_newNode cJ1_newNode 5 (some (.object "java/util/HashMap$Node"))) ({ frames := 2, cells := bc, slots := bs, locals := 80 } : Room) E [xv E (some th), .int x1, xv E x2, xv E x3, xv E x4] σ Q bc bs := by
  refine x_of (own := "java/util/HashMap") (by decide +kernel) rfl ?_
  intro p e s m args below meth c cx hR ha hnm
  refine x_entry [xv E (some th), .int x1, xv E x2, xv E x3, xv E x4] 5 [(0, xv E (some th)), (1, .int x1), (2, xv E x2), (3, xv E x3), (4, xv E x4)] ha (by simp [lg_sl, xv_cat, vc_i, vc_j, vc_f]) (by simp [lv_args, xv_cat, vc_i, vc_j, vc_f]) (fun ls hl => ?_)
  have hS : va_S (xA E) s.heap s.heap [] := va_S.rf
  have hcb : 0 + bc ≤ bc := Nat.le_of_eq (Nat.zero_add _)
  have hsb : 0 + bs ≤ bs := Nat.le_of_eq (Nat.zero_add _)
  unfold wJ1_newNodeH at hw
  obtain ⟨hx, hb, hml, hown, hts, hrt, hlk, hMK, hZ⟩ := id cx
  obtain ⟨hb1, hb2, hw⟩ := hw
  refine xn_J1_163 cx hR hS (by dsimp only; omega) (by dsimp only; omega) dJ1_newNode_0 (fun H hR hS => ?_)
  have hcb := xadd hb1 hcb
  have hsb := xadd hb2 hsb
  refine lv_dup hx hb dJ1_newNode_3 (xv_cat _ _) ?_
  refine lv_iload_n hx hb dJ1_newNode_4 rfl (lv_at hl 1 rfl) ?_
  refine x_aload_n cx dJ1_newNode_5 rfl (lv_at hl 2 rfl) ?_
  refine x_aload_n cx dJ1_newNode_6 rfl (lv_at hl 3 rfl) ?_
  refine x_aload cx dJ1_newNode_7 (lv_at hl 4 rfl) ?_
  obtain ⟨hk2, hw⟩ := hw
  refine CJ25_initN_J1_375 cx hR hS rfl hk2 hw ⟨Nat.le_of_ble_eq_true rfl, Nat.le_of_ble_eq_true rfl⟩ (Nat.le_of_ble_eq_true rfl) hl.1 ⟨by dsimp only; omega, by dsimp only; omega⟩ dJ1_newNode_9 (fun s1 H locs hw hR hS => ?_)
  exact x_aret cx (by first | exact Or.inl ⟨_, rfl⟩ | exact Or.inr ⟨_, rfl⟩) hR hS (xle hcb) (xle hsb) hw dJ1_newNode_12
-- J1_afterNodeInsertionH
def wJ1_afterNodeInsertionH (th : Nat) (x1 : Int32) (σ : XS) (Q : XS → Prop) : Prop :=
  Q σ
set_option maxHeartbeats 4000000 in
theorem MJ1_afterNodeInsertionH (l : Launch) (E : xx_E) (th : Nat) (x1 : Int32) (σ : XS) (Q : XS → Prop) (hw : wJ1_afterNodeInsertionH th x1 σ Q) : xx_Mv l yJ1_afterNodeInsertion (ws_ yJ1_afterNodeInsertion cJ1_afterNodeInsertion 2 none) ({ frames := 0, cells := 0, slots := 0, locals := 0 } : Room) E [xv E (some th), .int x1] σ Q 0 0 := by
  refine x_of (own := "java/util/HashMap") (by decide +kernel) rfl ?_
  intro p e s m args below meth c cx hR ha hnm
  refine x_entry [xv E (some th), .int x1] 2 [(0, xv E (some th)), (1, .int x1)] ha (by simp [lg_sl, xv_cat, vc_i, vc_j, vc_f]) (by simp [lv_args, xv_cat, vc_i, vc_j, vc_f]) (fun ls hl => ?_)
  have hS : va_S (xA E) s.heap s.heap [] := va_S.rf
  have hcb : 0 + 0 ≤ 0 := Nat.le_of_eq (Nat.zero_add _)
  have hsb : 0 + 0 ≤ 0 := Nat.le_of_eq (Nat.zero_add _)
  unfold wJ1_afterNodeInsertionH at hw
  obtain ⟨hx, hb, hml, hown, hts, hrt, hlk, hMK, hZ⟩ := id cx
  exact x_vret cx hR hS (xle hcb) (xle hsb) hw dJ1_afterNodeInsertion_0
-- J1_afterNodeAccessH
def wJ1_afterNodeAccessH (th : Nat) (x1 : Option Nat) (σ : XS) (Q : XS → Prop) : Prop :=
  Q σ
set_option maxHeartbeats 4000000 in
theorem MJ1_afterNodeAccessH (l : Launch) (E : xx_E) (th : Nat) (x1 : Option Nat) (σ : XS) (Q : XS → Prop) (hw : wJ1_afterNodeAccessH th x1 σ Q) : xx_Mv l yJ1_afterNodeAccess (ws_ yJ1_afterNodeAccess cJ1_afterNodeAccess 2 none) ({ frames := 0, cells := 0, slots := 0, locals := 0 } : Room) E [xv E (some th), xv E x1] σ Q 0 0 := by
  refine x_of (own := "java/util/HashMap") (by decide +kernel) rfl ?_
  intro p e s m args below meth c cx hR ha hnm
  refine x_entry [xv E (some th), xv E x1] 2 [(0, xv E (some th)), (1, xv E x1)] ha (by simp [lg_sl, xv_cat, vc_i, vc_j, vc_f]) (by simp [lv_args, xv_cat, vc_i, vc_j, vc_f]) (fun ls hl => ?_)
  have hS : va_S (xA E) s.heap s.heap [] := va_S.rf
  have hcb : 0 + 0 ≤ 0 := Nat.le_of_eq (Nat.zero_add _)
  have hsb : 0 + 0 ≤ 0 := Nat.le_of_eq (Nat.zero_add _)
  unfold wJ1_afterNodeAccessH at hw
  obtain ⟨hx, hb, hml, hown, hts, hrt, hlk, hMK, hZ⟩ := id cx
  exact x_vret cx hR hS (xle hcb) (xle hsb) hw dJ1_afterNodeAccess_0
-- J1_treeifyBinH
theorem CJ1_resizeH_J1_117 {l : Launch} {p : Program} {e : Env} {R : Room} {s : State} {m : MethodId} {args : Array Value} {below : List Frame} {meth : Method} {c : Code} {H : Heap} {locs : List Loc} {cells slots : Nat} {Qz : State → Prop} {cc : ByteArray} {nL : Nat} {ret : Option FieldType} {E : xx_E} {σ : XS} {pc : Nat} {ls : Array Slot} {rest : List Value} {th : Nat} {k n : Nat} (cx : xx_X "java/util/HashMap" cc nL ret E p s m args meth c) (hR0 : xR E σ H) (hS0 : va_S (xA E) s.heap H locs) {r0 : Option Nat} (hr : r0 = some th) (hk : kd σ th = 17) {Qf : Option Nat → XS → Prop} (hw : wJ1_resizeH th k n σ Qf) (hR : (({ frames := 0, cells := k, slots := n, locals := 0 } : Room)).frames + 1 ≤ R.frames ∧ 8 + (14 + 11) + (({ frames := 0, cells := k, slots := n, locals := 0 } : Room)).locals ≤ R.locals) (hrest : rest.length ≤ 4) (hsize : ls.size = nL) (hf : cells + k ≤ R.cells ∧ slots + n ≤ R.slots) (hdg : decode cc pc = .ok (.invokevirtual 117, 3))
    (kk : ∀ (r : Option Nat) (σ1 : XS) (H1 : Heap) (locs1 : List Loc), Qf r σ1 → xR E σ1 H1 → va_S (xA E) s.heap H1 locs1 → W p l e R s m args below meth c H1 locs1 (cells + k) (slots + n) Qz (F0 m (pc + 3) ls (xv E r :: rest))) : W p l e R s m args below meth c H locs cells slots Qz (F0 m pc ls (xv E r0 :: rest)) := by
  subst hr
  obtain ⟨hx, hb, hml, hown, hts, hrt, hlk, hK, hZ⟩ := id cx
  exact x_gor (va_runV (As := []) (rest := rest) (x_fix cx) (MJ1_resizeH l E th k n σ Qf hw) (cwV 0 hts (lw_V q1462 q1463 q1464 q159 q1467) rfl rfl rfl (by decide +kernel) hR) (x_preV cx hR0 hS0 hk (by decide) (q := (RJ1, TJ1, 8)) rfl rfl []) rfl rfl hsize rfl (lv_room (xroom hrest)) hdg hf) hS0 kk
def wJ1_treeifyBinH_13 (Q : XS → Prop) (th : Nat) (bc : Nat) (bs : Nat) (σ : XS) : Prop :=
  kd σ th = 17 ∧ (∃ k3 n3 : Nat, k3 ≤ bc ∧ n3 ≤ bs ∧ (wJ1_resizeH th k3 n3 σ (fun r1 s1 => Q s1)))
set_option maxHeartbeats 4000000 in
theorem BJ1_treeifyBinH_13 {l : Launch} {p : Program} {e : Env} {s : State} {m : MethodId} {args : Array Value} {below : List Frame} {meth : Method} {c : Code} {E : xx_E} {mc ms : Nat} {Q : XS → Prop} (cx : xx_X "java/util/HashMap" cJ1_treeifyBin 9 none E p s m args meth c) : ∀ (th : Nat) (bc : Nat) (bs : Nat) (σ : XS), wJ1_treeifyBinH_13 Q th bc bs σ → x_T p l e ({ frames := 1, cells := mc, slots := ms, locals := 40 } : Room) s m args below meth c E (va_Qv Q (fun σ' t => xW E σ' t) (xA E)) mc ms 9 13 bc bs σ [(0, xv E (some th))] [] := by
  intro th bc bs σ hw H locs ls cells slots hR hS hl hcb hsb
  unfold wJ1_treeifyBinH_13 at hw
  obtain ⟨hx, hb, hml, hown, hts, hrt, hlk, hMK, hZ⟩ := id cx
  refine x_aload_n cx dJ1_treeifyBin_13 rfl (lv_at hl 0 rfl) ?_
  obtain ⟨hk2, hw⟩ := hw
  obtain ⟨k3, n3, hb1, hb2, hw⟩ := hw
  refine CJ1_resizeH_J1_117 cx hR hS rfl hk2 hw ⟨Nat.le_of_ble_eq_true rfl, Nat.le_of_ble_eq_true rfl⟩ (Nat.le_of_ble_eq_true rfl) hl.1 ⟨by dsimp only; omega, by dsimp only; omega⟩ dJ1_treeifyBin_14 (fun r1 s1 H locs hw hR hS => ?_)
  have hcb := xadd hb1 hcb
  have hsb := xadd hb2 hsb
  refine lv_pop hx hb dJ1_treeifyBin_17 (xv_cat _ _) ?_
  refine lv_goto (tgt := 109) hx hb dJ1_treeifyBin_18 (by decide) ?_
  exact x_vret cx hR hS (xle hcb) (xle hsb) hw dJ1_treeifyBin_109
def wJ1_treeifyBinH (th : Nat) (x1 : Option Nat) (x2 : Int32) (bc : Nat) (bs : Nat) (σ : XS) (Q : XS → Prop) : Prop :=
  if x1 = none then (wJ1_treeifyBinH_13 Q th bc bs σ) else (oc σ x1 106 (fun a4 => ∀ v5 : Int32, v5 = (nI (ln σ a4)) → if (64 : Int32) ≤ (nI (ln σ a4)) then (∀ v6 : Int32, v6 = ((v5 - (1 : Int32)) &&& x2) → vp_in ((v5 - (1 : Int32)) &&& x2) (ln σ a4) ∧ (if (ar σ a4 (((v5 - (1 : Int32)) &&& x2).toNatClampNeg)) = none then (Q σ) else False)) else (wJ1_treeifyBinH_13 Q th bc bs σ)))
set_option maxHeartbeats 4000000 in
theorem MJ1_treeifyBinH (l : Launch) (E : xx_E) (th : Nat) (x1 : Option Nat) (x2 : Int32) (bc : Nat) (bs : Nat) (σ : XS) (Q : XS → Prop) (hw : wJ1_treeifyBinH th x1 x2 bc bs σ Q) : xx_Mv l yJ1_treeifyBin (ws_ yJ1_treeifyBin cJ1_treeifyBin 9 none) ({ frames := 1, cells := bc, slots := bs, locals := 40 } : Room) E [xv E (some th), xv E x1, .int x2] σ Q bc bs := by
  refine x_of (own := "java/util/HashMap") (by decide +kernel) rfl ?_
  intro p e s m args below meth c cx hR ha hnm
  refine x_entry [xv E (some th), xv E x1, .int x2] 9 [(0, xv E (some th)), (1, xv E x1), (2, .int x2)] ha (by simp [lg_sl, xv_cat, vc_i, vc_j, vc_f]) (by simp [lv_args, xv_cat, vc_i, vc_j, vc_f]) (fun ls hl => ?_)
  have hS : va_S (xA E) s.heap s.heap [] := va_S.rf
  have hcb : 0 + bc ≤ bc := Nat.le_of_eq (Nat.zero_add _)
  have hsb : 0 + bs ≤ bs := Nat.le_of_eq (Nat.zero_add _)
  unfold wJ1_treeifyBinH at hw
  obtain ⟨hx, hb, hml, hown, hts, hrt, hlk, hMK, hZ⟩ := id cx
  refine x_aload_n cx dJ1_treeifyBin_0 rfl (lv_at hl 1 rfl) ?_
  refine x_ifnull (tgt := 13) cx dJ1_treeifyBin_1 (by decide) (fun hc => ?_) (fun hc => ?_)
  · have hw := mm_ip hc hw
    exact BJ1_treeifyBinH_13 cx _ _ _ _ hw _ _ _ _ _ hR hS (lv_sub hl [0] rfl) hcb hsb
  · have hw := mm_in hc hw
    refine x_aload_n cx dJ1_treeifyBin_4 rfl (lv_at hl 1 rfl) ?_
    obtain ⟨a4, hr4, hk4, hw⟩ := hw
    refine x_alen cx hR hr4 6 hk4 (by decide) dJ1_treeifyBin_5 ?_
    refine lv_dup hx hb dJ1_treeifyBin_6 rfl ?_
    refine lv_topi (fun v5 hv5 => ?_)
    have hw := hw v5 hv5
    refine lv_istore_n (i := 3) (lv' := [(3, .int v5), (0, xv E (some th)), (1, xv E x1), (2, .int x2)]) hx hb dJ1_treeifyBin_7 rfl hl (by decide) rfl (fun ls hl => ?_)
    refine lv_bipush (v := (64 : Int32)) hx hb dJ1_treeifyBin_8 (by decide) ?_
    refine lv_icmp_ge (tgt := 21) hx hb dJ1_treeifyBin_10 (by decide) (fun hc => ?_) (fun hc => ?_)
    · have hw := mm_ip hc hw
      refine x_aload_n cx dJ1_treeifyBin_21 rfl (lv_at hl 2 rfl) ?_
      refine lv_iload_n hx hb dJ1_treeifyBin_22 rfl (lv_at hl 0 rfl) ?_
      refine lv_iconst (v := (1 : Int32)) hx hb dJ1_treeifyBin_23 (by decide) ?_
      refine lv_isub hx hb dJ1_treeifyBin_24 ?_
      refine lv_iload_n hx hb dJ1_treeifyBin_25 rfl (lv_at hl 3 rfl) ?_
      refine lv_iand hx hb dJ1_treeifyBin_26 ?_
      refine lv_dup hx hb dJ1_treeifyBin_27 rfl ?_
      refine lv_topi (fun v6 hv6 => ?_)
      have hw := hw v6 hv6
      refine lv_istore (i := 4) (lv' := [(4, .int v6), (3, .int v5), (0, xv E (some th)), (1, xv E x1), (2, .int x2)]) hx hb dJ1_treeifyBin_28 hl (by decide) rfl (fun ls hl => ?_)
      obtain ⟨hi, hw⟩ := hw
      refine x_aald cx hR hr4 6 hk4 (by decide) (by decide) (j := ((v5 - (1 : Int32)) &&& x2).toNatClampNeg) rfl hi dJ1_treeifyBin_30 ?_
      refine lv_dup hx hb dJ1_treeifyBin_31 (xv_cat _ _) ?_
      refine x_astore (i := 5) (r := (ar σ a4 (((v5 - (1 : Int32)) &&& x2).toNatClampNeg))) (lv' := [(5, xv E (ar σ a4 (((v5 - (1 : Int32)) &&& x2).toNatClampNeg))), (4, .int v6), (3, .int v5), (0, xv E (some th)), (1, xv E x1), (2, .int x2)]) cx dJ1_treeifyBin_32 hl (by decide) rfl (fun ls hl => ?_)
      refine x_ifnull (tgt := 109) cx dJ1_treeifyBin_34 (by decide) (fun hc => ?_) (fun hc => ?_)
      · have hw := mm_ip hc hw
        exact x_vret cx hR hS (xle hcb) (xle hsb) hw dJ1_treeifyBin_109
      · have hw := mm_in hc hw
        refine lv_null hx hb dJ1_treeifyBin_37 ?_
        refine x_astore (i := 6) (r := none) (lv' := [(6, xv E none), (5, xv E (ar σ a4 (((v5 - (1 : Int32)) &&& x2).toNatClampNeg))), (4, .int v6), (3, .int v5), (0, xv E (some th)), (1, xv E x1), (2, .int x2)]) cx dJ1_treeifyBin_38 hl (by decide) (by simp [xv_cat]) (fun ls hl => ?_)
        refine lv_null hx hb dJ1_treeifyBin_40 ?_
        refine x_astore (i := 7) (r := none) (lv' := [(7, xv E none), (6, xv E none), (5, xv E (ar σ a4 (((v5 - (1 : Int32)) &&& x2).toNatClampNeg))), (4, .int v6), (3, .int v5), (0, xv E (some th)), (1, xv E x1), (2, .int x2)]) cx dJ1_treeifyBin_41 hl (by decide) (by simp [xv_cat]) (fun ls hl => ?_)
        refine x_aload_n cx dJ1_treeifyBin_43 rfl (lv_at hl 5 rfl) ?_
        refine x_aload cx dJ1_treeifyBin_44 (lv_at hl 2 rfl) ?_
        refine lv_null hx hb dJ1_treeifyBin_46 ?_
        exact hw.elim
    · have hw := mm_in hc hw
      exact BJ1_treeifyBinH_13 cx _ _ _ _ hw _ _ _ _ _ hR hS (lv_sub hl [1] rfl) hcb hsb
-- J1_putValH
theorem xg_J1_202_17 {l : Launch} {p : Program} {e : Env} {R : Room} {s : State} {m : MethodId} {args : Array Value} {below : List Frame} {meth : Method} {c : Code} {H : Heap} {locs : List Loc} {cells slots : Nat} {Qz : State → Prop} {cc : ByteArray} {nL : Nat} {ret : Option FieldType} {E : xx_E} {σ : XS} {pc : Nat} {ls : Array Slot} {rest : List Value} (cx : xx_X "java/util/HashMap" cc nL ret E p s m args meth c) (hR : xR E σ H) {a : Nat} {r : Option Nat} (hr : r = some a) (hk : kd σ a = 17) (hdg : decode cc pc = .ok (.getfield 202, 3)) (kk : W p l e R s m args below meth c H locs cells slots Qz (F0 m (pc + 3) ls (.int (fi σ a 5) :: rest))) : W p l e R s m args below meth c H locs cells slots Qz (F0 m pc ls (xv E r :: rest)) :=
  x_get (ci := 16) cx hR hr hk (by decide) rfl in_J1 5 (by decide) q241 (fun _ h => h) (v := .int (fi σ a 5)) rfl hdg kk
theorem xp_J1_202_17 {l : Launch} {p : Program} {e : Env} {R : Room} {s : State} {m : MethodId} {args : Array Value} {below : List Frame} {meth : Method} {c : Code} {H : Heap} {locs : List Loc} {cells slots : Nat} {Qz : State → Prop} {cc : ByteArray} {nL : Nat} {ret : Option FieldType} {E : xx_E} {σ : XS} {pc : Nat} {ls : Array Slot} {rest : List Value} (cx : xx_X "java/util/HashMap" cc nL ret E p s m args meth c) (hR : xR E σ H) (hS0 : va_S (xA E) s.heap H locs) {a : Nat} {r : Option Nat} {v : Int32} (hr : r = some a) (ha : xK ≤ a) (hk : kd σ a = 17) (hdg : decode cc pc = .ok (.putfield 202, 3)) (kk : ∀ (H1 : Heap) (locs1 : List Loc), xR E (pfi σ a 5 v) H1 → va_S (xA E) s.heap H1 locs1 → W p l e R s m args below meth c H1 locs1 cells slots Qz (F0 m (pc + 3) ls rest)) : W p l e R s m args below meth c H locs cells slots Qz (F0 m pc ls (.int v :: xv E r :: rest)) :=
  x_put (ci := 16) cx hR hS0 hr ha hk (by decide) rfl in_J1 tyJ1 tyJ1_ok nmJ1 5 (by decide) (Or.inl ⟨q241, rfl⟩) (fun _ h => h) rfl rfl (xput_i rfl) hdg kk
theorem xg_J1_156_17 {l : Launch} {p : Program} {e : Env} {R : Room} {s : State} {m : MethodId} {args : Array Value} {below : List Frame} {meth : Method} {c : Code} {H : Heap} {locs : List Loc} {cells slots : Nat} {Qz : State → Prop} {cc : ByteArray} {nL : Nat} {ret : Option FieldType} {E : xx_E} {σ : XS} {pc : Nat} {ls : Array Slot} {rest : List Value} (cx : xx_X "java/util/HashMap" cc nL ret E p s m args meth c) (hR : xR E σ H) {a : Nat} {r : Option Nat} (hr : r = some a) (hk : kd σ a = 17) (hdg : decode cc pc = .ok (.getfield 156, 3)) (kk : W p l e R s m args below meth c H locs cells slots Qz (F0 m (pc + 3) ls (.int (fi σ a 4) :: rest))) : W p l e R s m args below meth c H locs cells slots Qz (F0 m pc ls (xv E r :: rest)) :=
  x_get (ci := 16) cx hR hr hk (by decide) rfl in_J1 4 (by decide) q238 (fun _ h => h) (v := .int (fi σ a 4)) rfl hdg kk
theorem xp_J1_156_17 {l : Launch} {p : Program} {e : Env} {R : Room} {s : State} {m : MethodId} {args : Array Value} {below : List Frame} {meth : Method} {c : Code} {H : Heap} {locs : List Loc} {cells slots : Nat} {Qz : State → Prop} {cc : ByteArray} {nL : Nat} {ret : Option FieldType} {E : xx_E} {σ : XS} {pc : Nat} {ls : Array Slot} {rest : List Value} (cx : xx_X "java/util/HashMap" cc nL ret E p s m args meth c) (hR : xR E σ H) (hS0 : va_S (xA E) s.heap H locs) {a : Nat} {r : Option Nat} {v : Int32} (hr : r = some a) (ha : xK ≤ a) (hk : kd σ a = 17) (hdg : decode cc pc = .ok (.putfield 156, 3)) (kk : ∀ (H1 : Heap) (locs1 : List Loc), xR E (pfi σ a 4 v) H1 → va_S (xA E) s.heap H1 locs1 → W p l e R s m args below meth c H1 locs1 cells slots Qz (F0 m (pc + 3) ls rest)) : W p l e R s m args below meth c H locs cells slots Qz (F0 m pc ls (.int v :: xv E r :: rest)) :=
  x_put (ci := 16) cx hR hS0 hr ha hk (by decide) rfl in_J1 tyJ1 tyJ1_ok nmJ1 4 (by decide) (Or.inl ⟨q238, rfl⟩) (fun _ h => h) rfl rfl (xput_i rfl) hdg kk
theorem xp_J1_162_20 {l : Launch} {p : Program} {e : Env} {R : Room} {s : State} {m : MethodId} {args : Array Value} {below : List Frame} {meth : Method} {c : Code} {H : Heap} {locs : List Loc} {cells slots : Nat} {Qz : State → Prop} {cc : ByteArray} {nL : Nat} {ret : Option FieldType} {E : xx_E} {σ : XS} {pc : Nat} {ls : Array Slot} {rest : List Value} (cx : xx_X "java/util/HashMap" cc nL ret E p s m args meth c) (hR : xR E σ H) (hS0 : va_S (xA E) s.heap H locs) {a : Nat} {r : Option Nat} {v : Option Nat} (hr : r = some a) (ha : xK ≤ a) (hk : kd σ a = 20) (hdg : decode cc pc = .ok (.putfield 162, 3)) (kk : ∀ (H1 : Heap) (locs1 : List Loc), xR E (pfr σ a 2 v) H1 → va_S (xA E) s.heap H1 locs1 → W p l e R s m args below meth c H1 locs1 cells slots Qz (F0 m (pc + 3) ls rest)) : W p l e R s m args below meth c H locs cells slots Qz (F0 m pc ls (xv E v :: xv E r :: rest)) :=
  x_put (ci := 19) cx hR hS0 hr ha hk (by decide) rfl in_J25 tyJ25 tyJ25_ok nmJ25 2 (by decide) (Or.inl ⟨q1514, rfl⟩) (fun _ h => h) (by cases v <;> rfl) (by cases v <;> rfl) (xput_r rfl) hdg kk
theorem xg_J1_162_20 {l : Launch} {p : Program} {e : Env} {R : Room} {s : State} {m : MethodId} {args : Array Value} {below : List Frame} {meth : Method} {c : Code} {H : Heap} {locs : List Loc} {cells slots : Nat} {Qz : State → Prop} {cc : ByteArray} {nL : Nat} {ret : Option FieldType} {E : xx_E} {σ : XS} {pc : Nat} {ls : Array Slot} {rest : List Value} (cx : xx_X "java/util/HashMap" cc nL ret E p s m args meth c) (hR : xR E σ H) {a : Nat} {r : Option Nat} (hr : r = some a) (hk : kd σ a = 20) (hdg : decode cc pc = .ok (.getfield 162, 3)) (kk : W p l e R s m args below meth c H locs cells slots Qz (F0 m (pc + 3) ls (xv E (fr σ a 2) :: rest))) : W p l e R s m args below meth c H locs cells slots Qz (F0 m pc ls (xv E r :: rest)) :=
  x_get (ci := 19) cx hR hr hk (by decide) rfl in_J25 2 (by decide) q1514 (fun _ h => h) (v := xv E (fr σ a 2)) rfl hdg kk
theorem CJ1_newNodeH_J1_186 {l : Launch} {p : Program} {e : Env} {R : Room} {s : State} {m : MethodId} {args : Array Value} {below : List Frame} {meth : Method} {c : Code} {H : Heap} {locs : List Loc} {cells slots : Nat} {Qz : State → Prop} {cc : ByteArray} {nL : Nat} {ret : Option FieldType} {E : xx_E} {σ : XS} {pc : Nat} {ls : Array Slot} {rest : List Value} {th : Nat} {x1 : Int32} {x2 : Option Nat} {x3 : Option Nat} {x4 : Option Nat} {k n : Nat} (cx : xx_X "java/util/HashMap" cc nL ret E p s m args meth c) (hR0 : xR E σ H) (hS0 : va_S (xA E) s.heap H locs) {r0 : Option Nat} (hr : r0 = some th) (hk : kd σ th = 17) {Qf : Option Nat → XS → Prop} (hw : wJ1_newNodeH th x1 x2 x3 x4 k n σ Qf) (hR : (({ frames := 2, cells := k, slots := n, locals := 80 } : Room)).frames + 1 ≤ R.frames ∧ 8 + (5 + 11) + (({ frames := 2, cells := k, slots := n, locals := 80 } : Room)).locals ≤ R.locals) (hrest : rest.length ≤ 4) (hsize : ls.size = nL) (hf : cells + k ≤ R.cells ∧ slots + n ≤ R.slots) (hdg : decode cc pc = .ok (.invokevirtual 186, 3))
    (kk : ∀ (r : Option Nat) (σ1 : XS) (H1 : Heap) (locs1 : List Loc), Qf r σ1 → xR E σ1 H1 → va_S (xA E) s.heap H1 locs1 → W p l e R s m args below meth c H1 locs1 (cells + k) (slots + n) Qz (F0 m (pc + 3) ls (xv E r :: rest))) : W p l e R s m args below meth c H locs cells slots Qz (F0 m pc ls (xv E x4 :: xv E x3 :: xv E x2 :: .int x1 :: xv E r0 :: rest)) := by
  subst hr
  obtain ⟨hx, hb, hml, hown, hts, hrt, hlk, hK, hZ⟩ := id cx
  exact x_gor (va_runV (As := [.int x1, xv E x2, xv E x3, xv E x4]) (rest := rest) (x_fix cx) (MJ1_newNodeH l E th x1 x2 x3 x4 k n σ Qf hw) (cwV 4 hts (lw_V q1565 q1566 q1567 q159 q1576) rfl rfl rfl (by decide +kernel) hR) (x_preV cx hR0 hS0 hk (by decide) (q := (RJ1, TJ1, 8)) rfl rfl [.int x1, xv E x2, xv E x3, xv E x4]) rfl rfl hsize rfl (lv_room (xroom hrest)) hdg hf) hS0 kk
theorem CJ1_afterNodeInsertionH_J1_205 {l : Launch} {p : Program} {e : Env} {R : Room} {s : State} {m : MethodId} {args : Array Value} {below : List Frame} {meth : Method} {c : Code} {H : Heap} {locs : List Loc} {cells slots : Nat} {Qz : State → Prop} {cc : ByteArray} {nL : Nat} {ret : Option FieldType} {E : xx_E} {σ : XS} {pc : Nat} {ls : Array Slot} {rest : List Value} {th : Nat} {x1 : Int32} (cx : xx_X "java/util/HashMap" cc nL ret E p s m args meth c) (hR0 : xR E σ H) (hS0 : va_S (xA E) s.heap H locs) {r0 : Option Nat} (hr : r0 = some th) (hk : kd σ th = 17) {Qf : XS → Prop} (hw : wJ1_afterNodeInsertionH th x1 σ Qf) (hR : (({ frames := 0, cells := 0, slots := 0, locals := 0 } : Room)).frames + 1 ≤ R.frames ∧ 8 + (2 + 11) + (({ frames := 0, cells := 0, slots := 0, locals := 0 } : Room)).locals ≤ R.locals) (hrest : rest.length ≤ 4) (hsize : ls.size = nL) (hf : cells + 0 ≤ R.cells ∧ slots + 0 ≤ R.slots) (hdg : decode cc pc = .ok (.invokevirtual 205, 3))
    (kk : ∀ (σ1 : XS) (H1 : Heap) (locs1 : List Loc), Qf σ1 → xR E σ1 H1 → va_S (xA E) s.heap H1 locs1 → W p l e R s m args below meth c H1 locs1 (cells + 0) (slots + 0) Qz (F0 m (pc + 3) ls rest)) : W p l e R s m args below meth c H locs cells slots Qz (F0 m pc ls (.int x1 :: xv E r0 :: rest)) := by
  subst hr
  obtain ⟨hx, hb, hml, hown, hts, hrt, hlk, hK, hZ⟩ := id cx
  exact x_gov (va_runV (As := [.int x1]) (rest := rest) (x_fix cx) (MJ1_afterNodeInsertionH l E th x1 σ Qf hw) (cwV 1 hts (lw_V q1642 q1643 q1644 q159 q1653) rfl rfl rfl (by decide +kernel) hR) (x_preV cx hR0 hS0 hk (by decide) (q := (RJ1, TJ1, 8)) rfl rfl [.int x1]) rfl rfl hsize rfl (lv_room (xroom hrest)) hdg hf) hS0 kk
theorem CJ1_afterNodeAccessH_J1_198 {l : Launch} {p : Program} {e : Env} {R : Room} {s : State} {m : MethodId} {args : Array Value} {below : List Frame} {meth : Method} {c : Code} {H : Heap} {locs : List Loc} {cells slots : Nat} {Qz : State → Prop} {cc : ByteArray} {nL : Nat} {ret : Option FieldType} {E : xx_E} {σ : XS} {pc : Nat} {ls : Array Slot} {rest : List Value} {th : Nat} {x1 : Option Nat} (cx : xx_X "java/util/HashMap" cc nL ret E p s m args meth c) (hR0 : xR E σ H) (hS0 : va_S (xA E) s.heap H locs) {r0 : Option Nat} (hr : r0 = some th) (hk : kd σ th = 17) {Qf : XS → Prop} (hw : wJ1_afterNodeAccessH th x1 σ Qf) (hR : (({ frames := 0, cells := 0, slots := 0, locals := 0 } : Room)).frames + 1 ≤ R.frames ∧ 8 + (2 + 11) + (({ frames := 0, cells := 0, slots := 0, locals := 0 } : Room)).locals ≤ R.locals) (hrest : rest.length ≤ 4) (hsize : ls.size = nL) (hf : cells + 0 ≤ R.cells ∧ slots + 0 ≤ R.slots) (hdg : decode cc pc = .ok (.invokevirtual 198, 3))
    (kk : ∀ (σ1 : XS) (H1 : Heap) (locs1 : List Loc), Qf σ1 → xR E σ1 H1 → va_S (xA E) s.heap H1 locs1 → W p l e R s m args below meth c H1 locs1 (cells + 0) (slots + 0) Qz (F0 m (pc + 3) ls rest)) : W p l e R s m args below meth c H locs cells slots Qz (F0 m pc ls (xv E x1 :: xv E r0 :: rest)) := by
  subst hr
  obtain ⟨hx, hb, hml, hown, hts, hrt, hlk, hK, hZ⟩ := id cx
  exact x_gov (va_runV (As := [xv E x1]) (rest := rest) (x_fix cx) (MJ1_afterNodeAccessH l E th x1 σ Qf hw) (cwV 1 hts (lw_V q1634 q1635 q1636 q159 q1641) rfl rfl rfl (by decide +kernel) hR) (x_preV cx hR0 hS0 hk (by decide) (q := (RJ1, TJ1, 8)) rfl rfl [xv E x1]) rfl rfl hsize rfl (lv_room (xroom hrest)) hdg hf) hS0 kk
theorem CJ1_treeifyBinH_J1_194 {l : Launch} {p : Program} {e : Env} {R : Room} {s : State} {m : MethodId} {args : Array Value} {below : List Frame} {meth : Method} {c : Code} {H : Heap} {locs : List Loc} {cells slots : Nat} {Qz : State → Prop} {cc : ByteArray} {nL : Nat} {ret : Option FieldType} {E : xx_E} {σ : XS} {pc : Nat} {ls : Array Slot} {rest : List Value} {th : Nat} {x1 : Option Nat} {x2 : Int32} {k n : Nat} (cx : xx_X "java/util/HashMap" cc nL ret E p s m args meth c) (hR0 : xR E σ H) (hS0 : va_S (xA E) s.heap H locs) {r0 : Option Nat} (hr : r0 = some th) (hk : kd σ th = 17) {Qf : XS → Prop} (hw : wJ1_treeifyBinH th x1 x2 k n σ Qf) (hR : (({ frames := 1, cells := k, slots := n, locals := 40 } : Room)).frames + 1 ≤ R.frames ∧ 8 + (9 + 11) + (({ frames := 1, cells := k, slots := n, locals := 40 } : Room)).locals ≤ R.locals) (hrest : rest.length ≤ 4) (hsize : ls.size = nL) (hf : cells + k ≤ R.cells ∧ slots + n ≤ R.slots) (hdg : decode cc pc = .ok (.invokevirtual 194, 3))
    (kk : ∀ (σ1 : XS) (H1 : Heap) (locs1 : List Loc), Qf σ1 → xR E σ1 H1 → va_S (xA E) s.heap H1 locs1 → W p l e R s m args below meth c H1 locs1 (cells + k) (slots + n) Qz (F0 m (pc + 3) ls rest)) : W p l e R s m args below meth c H locs cells slots Qz (F0 m pc ls (.int x2 :: xv E x1 :: xv E r0 :: rest)) := by
  subst hr
  obtain ⟨hx, hb, hml, hown, hts, hrt, hlk, hK, hZ⟩ := id cx
  exact x_gov (va_runV (As := [xv E x1, .int x2]) (rest := rest) (x_fix cx) (MJ1_treeifyBinH l E th x1 x2 k n σ Qf hw) (cwV 2 hts (lw_V q1619 q1620 q1621 q159 q1624) rfl rfl rfl (by decide +kernel) hR) (x_preV cx hR0 hS0 hk (by decide) (q := (RJ1, TJ1, 8)) rfl rfl [xv E x1, .int x2]) rfl rfl hsize rfl (lv_room (xroom hrest)) hdg hf) hS0 kk
def wJ1_putValH_292 (Q : Option Nat → XS → Prop) (th : Nat) (x5 : Int32) (bc : Nat) (bs : Nat) (σ : XS) : Prop :=
  kd σ th = 17 ∧ (wJ1_afterNodeInsertionH th x5 σ (fun s1 => Q none s1))
set_option maxHeartbeats 4000000 in
theorem BJ1_putValH_292 {l : Launch} {p : Program} {e : Env} {s : State} {m : MethodId} {args : Array Value} {below : List Frame} {meth : Method} {c : Code} {E : xx_E} {mc ms : Nat} {Q : Option Nat → XS → Prop} (cx : xx_X "java/util/HashMap" cJ1_putVal 13 (some (.object "java/lang/Object")) E p s m args meth c) : ∀ (th : Nat) (x5 : Int32) (bc : Nat) (bs : Nat) (σ : XS), wJ1_putValH_292 Q th x5 bc bs σ → x_T p l e ({ frames := 5, cells := mc, slots := ms, locals := 200 } : Room) s m args below meth c E (va_Qe (xr E) Q (fun σ' t => xW E σ' t) (xA E)) mc ms 13 292 bc bs σ [(0, xv E (some th)), (5, .int x5)] [] := by
  intro th x5 bc bs σ hw H locs ls cells slots hR hS hl hcb hsb
  unfold wJ1_putValH_292 at hw
  obtain ⟨hx, hb, hml, hown, hts, hrt, hlk, hMK, hZ⟩ := id cx
  refine x_aload_n cx dJ1_putVal_292 rfl (lv_at hl 0 rfl) ?_
  refine lv_iload hx hb dJ1_putVal_293 (lv_at hl 1 rfl) ?_
  obtain ⟨hk2, hw⟩ := hw
  refine CJ1_afterNodeInsertionH_J1_205 cx hR hS rfl hk2 hw ⟨Nat.le_of_ble_eq_true rfl, Nat.le_of_ble_eq_true rfl⟩ (Nat.le_of_ble_eq_true rfl) hl.1 ⟨by dsimp only; omega, by dsimp only; omega⟩ dJ1_putVal_295 (fun s1 H locs hw hR hS => ?_)
  refine lv_null hx hb dJ1_putVal_298 ?_
  exact x_aret cx (by first | exact Or.inl ⟨_, rfl⟩ | exact Or.inr ⟨_, rfl⟩) hR hS (xle hcb) (xle hsb) hw dJ1_putVal_299
def wJ1_putValH_259 (Q : Option Nat → XS → Prop) (th : Nat) (x5 : Int32) (bc : Nat) (bs : Nat) (σ : XS) : Prop :=
  kd σ th = 17 ∧ (xK ≤ th ∧ (if ((fi (pfi σ th 5 ((fi σ th 5) + (1 : Int32))) th 4) + (1 : Int32)) ≤ (fi (pfi (pfi σ th 5 ((fi σ th 5) + (1 : Int32))) th 4 ((fi (pfi σ th 5 ((fi σ th 5) + (1 : Int32))) th 4) + (1 : Int32))) th 6) then (wJ1_putValH_292 Q th x5 bc bs (pfi (pfi σ th 5 ((fi σ th 5) + (1 : Int32))) th 4 ((fi (pfi σ th 5 ((fi σ th 5) + (1 : Int32))) th 4) + (1 : Int32)))) else (∃ k5 n5 : Nat, k5 ≤ bc ∧ n5 ≤ bs ∧ (wJ1_resizeH th k5 n5 (pfi (pfi σ th 5 ((fi σ th 5) + (1 : Int32))) th 4 ((fi (pfi σ th 5 ((fi σ th 5) + (1 : Int32))) th 4) + (1 : Int32))) (fun r4 s4 => wJ1_putValH_292 Q th x5 (bc - k5) (bs - n5) s4)))))
set_option maxHeartbeats 4000000 in
theorem BJ1_putValH_259 {l : Launch} {p : Program} {e : Env} {s : State} {m : MethodId} {args : Array Value} {below : List Frame} {meth : Method} {c : Code} {E : xx_E} {mc ms : Nat} {Q : Option Nat → XS → Prop} (cx : xx_X "java/util/HashMap" cJ1_putVal 13 (some (.object "java/lang/Object")) E p s m args meth c) : ∀ (th : Nat) (x5 : Int32) (bc : Nat) (bs : Nat) (σ : XS), wJ1_putValH_259 Q th x5 bc bs σ → x_T p l e ({ frames := 5, cells := mc, slots := ms, locals := 200 } : Room) s m args below meth c E (va_Qe (xr E) Q (fun σ' t => xW E σ' t) (xA E)) mc ms 13 259 bc bs σ [(0, xv E (some th)), (5, .int x5)] [] := by
  intro th x5 bc bs σ hw H locs ls cells slots hR hS hl hcb hsb
  unfold wJ1_putValH_259 at hw
  obtain ⟨hx, hb, hml, hown, hts, hrt, hlk, hMK, hZ⟩ := id cx
  refine x_aload_n cx dJ1_putVal_259 rfl (lv_at hl 0 rfl) ?_
  refine lv_dup hx hb dJ1_putVal_260 (xv_cat _ _) ?_
  obtain ⟨hk3, hw⟩ := hw
  refine xg_J1_202_17 cx hR rfl hk3 dJ1_putVal_261 ?_
  refine lv_iconst (v := (1 : Int32)) hx hb dJ1_putVal_264 (by decide) ?_
  refine lv_iadd hx hb dJ1_putVal_265 ?_
  obtain ⟨hge_th, hw⟩ := hw
  refine xp_J1_202_17 (v := ((fi σ th 5) + (1 : Int32))) cx hR hS rfl hge_th hk3 dJ1_putVal_266 (fun H locs hR hS => ?_)
  refine x_aload_n cx dJ1_putVal_269 rfl (lv_at hl 0 rfl) ?_
  refine lv_dup hx hb dJ1_putVal_270 (xv_cat _ _) ?_
  refine xg_J1_156_17 cx hR rfl hk3 dJ1_putVal_271 ?_
  refine lv_iconst (v := (1 : Int32)) hx hb dJ1_putVal_274 (by decide) ?_
  refine lv_iadd hx hb dJ1_putVal_275 ?_
  refine lv_dup_x1 hx hb dJ1_putVal_276 rfl (xv_cat _ _) ?_
  refine xp_J1_156_17 (v := ((fi (pfi σ th 5 ((fi σ th 5) + (1 : Int32))) th 4) + (1 : Int32))) cx hR hS rfl hge_th hk3 dJ1_putVal_277 (fun H locs hR hS => ?_)
  refine x_aload_n cx dJ1_putVal_280 rfl (lv_at hl 0 rfl) ?_
  refine xg_J1_88_17 cx hR rfl hk3 dJ1_putVal_281 ?_
  refine lv_icmp_le (tgt := 292) hx hb dJ1_putVal_284 (by decide) (fun hc => ?_) (fun hc => ?_)
  · have hw := mm_ip hc hw
    exact BJ1_putValH_292 cx _ _ _ _ _ hw _ _ _ _ _ hR hS (lv_sub hl [0, 1] rfl) hcb hsb
  · have hw := mm_in hc hw
    refine x_aload_n cx dJ1_putVal_287 rfl (lv_at hl 0 rfl) ?_
    obtain ⟨k5, n5, hb1, hb2, hw⟩ := hw
    refine CJ1_resizeH_J1_117 cx hR hS rfl hk3 hw ⟨Nat.le_of_ble_eq_true rfl, Nat.le_of_ble_eq_true rfl⟩ (Nat.le_of_ble_eq_true rfl) hl.1 ⟨by dsimp only; omega, by dsimp only; omega⟩ dJ1_putVal_288 (fun r4 s4 H locs hw hR hS => ?_)
    have hcb := xadd hb1 hcb
    have hsb := xadd hb2 hsb
    refine lv_pop hx hb dJ1_putVal_291 (xv_cat _ _) ?_
    exact BJ1_putValH_292 cx _ _ _ _ _ hw _ _ _ _ _ hR hS (lv_sub hl [0, 1] rfl) hcb hsb
def wJ1_putValH_250 (Q : Option Nat → XS → Prop) (th : Nat) (x10 : Option Nat) (x12 : Option Nat) (bc : Nat) (bs : Nat) (σ : XS) : Prop :=
  kd σ th = 17 ∧ (wJ1_afterNodeAccessH th x10 σ (fun s6 => Q x12 s6))
set_option maxHeartbeats 4000000 in
theorem BJ1_putValH_250 {l : Launch} {p : Program} {e : Env} {s : State} {m : MethodId} {args : Array Value} {below : List Frame} {meth : Method} {c : Code} {E : xx_E} {mc ms : Nat} {Q : Option Nat → XS → Prop} (cx : xx_X "java/util/HashMap" cJ1_putVal 13 (some (.object "java/lang/Object")) E p s m args meth c) : ∀ (th : Nat) (x10 : Option Nat) (x12 : Option Nat) (bc : Nat) (bs : Nat) (σ : XS), wJ1_putValH_250 Q th x10 x12 bc bs σ → x_T p l e ({ frames := 5, cells := mc, slots := ms, locals := 200 } : Room) s m args below meth c E (va_Qe (xr E) Q (fun σ' t => xW E σ' t) (xA E)) mc ms 13 250 bc bs σ [(0, xv E (some th)), (10, xv E x10), (12, xv E x12)] [] := by
  intro th x10 x12 bc bs σ hw H locs ls cells slots hR hS hl hcb hsb
  unfold wJ1_putValH_250 at hw
  obtain ⟨hx, hb, hml, hown, hts, hrt, hlk, hMK, hZ⟩ := id cx
  refine x_aload_n cx dJ1_putVal_250 rfl (lv_at hl 0 rfl) ?_
  refine x_aload cx dJ1_putVal_251 (lv_at hl 1 rfl) ?_
  obtain ⟨hk7, hw⟩ := hw
  refine CJ1_afterNodeAccessH_J1_198 cx hR hS rfl hk7 hw ⟨Nat.le_of_ble_eq_true rfl, Nat.le_of_ble_eq_true rfl⟩ (Nat.le_of_ble_eq_true rfl) hl.1 ⟨by dsimp only; omega, by dsimp only; omega⟩ dJ1_putVal_253 (fun s6 H locs hw hR hS => ?_)
  refine x_aload cx dJ1_putVal_256 (lv_at hl 2 rfl) ?_
  exact x_aret cx (by first | exact Or.inl ⟨_, rfl⟩ | exact Or.inr ⟨_, rfl⟩) hR hS (xle hcb) (xle hsb) hw dJ1_putVal_258
def wJ1_putValH_244 (Q : Option Nat → XS → Prop) (th : Nat) (x3 : Option Nat) (x10 : Option Nat) (x12 : Option Nat) (bc : Nat) (bs : Nat) (σ : XS) : Prop :=
  oc σ x10 20 (fun a8 => xK ≤ a8 ∧ (wJ1_putValH_250 Q th x10 x12 bc bs (pfr σ a8 2 x3)))
set_option maxHeartbeats 4000000 in
theorem BJ1_putValH_244 {l : Launch} {p : Program} {e : Env} {s : State} {m : MethodId} {args : Array Value} {below : List Frame} {meth : Method} {c : Code} {E : xx_E} {mc ms : Nat} {Q : Option Nat → XS → Prop} (cx : xx_X "java/util/HashMap" cJ1_putVal 13 (some (.object "java/lang/Object")) E p s m args meth c) : ∀ (th : Nat) (x3 : Option Nat) (x10 : Option Nat) (x12 : Option Nat) (bc : Nat) (bs : Nat) (σ : XS), wJ1_putValH_244 Q th x3 x10 x12 bc bs σ → x_T p l e ({ frames := 5, cells := mc, slots := ms, locals := 200 } : Room) s m args below meth c E (va_Qe (xr E) Q (fun σ' t => xW E σ' t) (xA E)) mc ms 13 244 bc bs σ [(0, xv E (some th)), (3, xv E x3), (10, xv E x10), (12, xv E x12)] [] := by
  intro th x3 x10 x12 bc bs σ hw H locs ls cells slots hR hS hl hcb hsb
  unfold wJ1_putValH_244 at hw
  obtain ⟨hx, hb, hml, hown, hts, hrt, hlk, hMK, hZ⟩ := id cx
  refine x_aload cx dJ1_putVal_244 (lv_at hl 2 rfl) ?_
  refine x_aload_n cx dJ1_putVal_246 rfl (lv_at hl 1 rfl) ?_
  obtain ⟨a8, hr8, hk8, hw⟩ := hw
  obtain ⟨hge_a8, hw⟩ := hw
  refine xp_J1_162_20 (v := x3) cx hR hS hr8 hge_a8 hk8 dJ1_putVal_247 (fun H locs hR hS => ?_)
  exact BJ1_putValH_250 cx _ _ _ _ _ _ hw _ _ _ _ _ hR hS (lv_sub hl [0, 2, 3] rfl) hcb hsb
def wJ1_putValH_222 (Q : Option Nat → XS → Prop) (th : Nat) (x3 : Option Nat) (x4 : Int32) (x5 : Int32) (x10 : Option Nat) (bc : Nat) (bs : Nat) (σ : XS) : Prop :=
  if x10 = none then (wJ1_putValH_259 Q th x5 bc bs σ) else (oc σ x10 20 (fun a9 => if x4 = 0 then (wJ1_putValH_244 Q th x3 x10 (fr σ a9 2) bc bs σ) else (if (fr σ a9 2) = none then (wJ1_putValH_244 Q th x3 x10 (fr σ a9 2) bc bs σ) else (wJ1_putValH_250 Q th x10 (fr σ a9 2) bc bs σ))))
set_option maxHeartbeats 4000000 in
theorem BJ1_putValH_222 {l : Launch} {p : Program} {e : Env} {s : State} {m : MethodId} {args : Array Value} {below : List Frame} {meth : Method} {c : Code} {E : xx_E} {mc ms : Nat} {Q : Option Nat → XS → Prop} (cx : xx_X "java/util/HashMap" cJ1_putVal 13 (some (.object "java/lang/Object")) E p s m args meth c) : ∀ (th : Nat) (x3 : Option Nat) (x4 : Int32) (x5 : Int32) (x10 : Option Nat) (bc : Nat) (bs : Nat) (σ : XS), wJ1_putValH_222 Q th x3 x4 x5 x10 bc bs σ → x_T p l e ({ frames := 5, cells := mc, slots := ms, locals := 200 } : Room) s m args below meth c E (va_Qe (xr E) Q (fun σ' t => xW E σ' t) (xA E)) mc ms 13 222 bc bs σ [(0, xv E (some th)), (3, xv E x3), (4, .int x4), (5, .int x5), (10, xv E x10)] [] := by
  intro th x3 x4 x5 x10 bc bs σ hw H locs ls cells slots hR hS hl hcb hsb
  unfold wJ1_putValH_222 at hw
  obtain ⟨hx, hb, hml, hown, hts, hrt, hlk, hMK, hZ⟩ := id cx
  refine x_aload cx dJ1_putVal_222 (lv_at hl 4 rfl) ?_
  refine x_ifnull (tgt := 259) cx dJ1_putVal_224 (by decide) (fun hc => ?_) (fun hc => ?_)
  · have hw := mm_ip hc hw
    exact BJ1_putValH_259 cx _ _ _ _ _ hw _ _ _ _ _ hR hS (lv_sub hl [0, 3] rfl) hcb hsb
  · have hw := mm_in hc hw
    refine x_aload cx dJ1_putVal_227 (lv_at hl 4 rfl) ?_
    obtain ⟨a9, hr9, hk9, hw⟩ := hw
    refine xg_J1_162_20 cx hR hr9 hk9 dJ1_putVal_229 ?_
    refine x_astore (i := 12) (r := (fr σ a9 2)) (lv' := [(12, xv E (fr σ a9 2)), (0, xv E (some th)), (3, xv E x3), (4, .int x4), (5, .int x5), (10, xv E x10)]) cx dJ1_putVal_232 hl (by decide) rfl (fun ls hl => ?_)
    refine lv_iload hx hb dJ1_putVal_234 (lv_at hl 3 rfl) ?_
    refine lv_if_eq (tgt := 244) hx hb dJ1_putVal_236 (by decide) (fun hc => ?_) (fun hc => ?_)
    · have hw := mm_ip hc hw
      exact BJ1_putValH_244 cx _ _ _ _ _ _ _ hw _ _ _ _ _ hR hS (lv_sub hl [1, 2, 5, 0] rfl) hcb hsb
    · have hw := mm_in hc hw
      refine x_aload cx dJ1_putVal_239 (lv_at hl 0 rfl) ?_
      refine x_ifnonnull (tgt := 250) cx dJ1_putVal_241 (by decide) (fun hc => ?_) (fun hc => ?_)
      · have hw := mm_in hc hw
        exact BJ1_putValH_250 cx _ _ _ _ _ _ hw _ _ _ _ _ hR hS (lv_sub hl [1, 5, 0] rfl) hcb hsb
      · have hw := mm_ip hc hw
        exact BJ1_putValH_244 cx _ _ _ _ _ _ _ hw _ _ _ _ _ hR hS (lv_sub hl [1, 2, 5, 0] rfl) hcb hsb
def wJ1_putValH_212 (Q : Option Nat → XS → Prop) (K134 : Nat → Int32 → Option Nat → Option Nat → Int32 → Int32 → Option Nat → Option Nat → Int32 → Nat → Nat → XS → Prop) (th : Nat) (x1 : Int32) (x2 : Option Nat) (x3 : Option Nat) (x4 : Int32) (x5 : Int32) (x6 : Option Nat) (x10 : Option Nat) (x12 : Int32) (bc : Nat) (bs : Nat) (σ : XS) : Prop :=
  ∀ v10 : Int32, v10 = x12 + (1 : Int32) → K134 th x1 x2 x3 x4 x5 x6 x10 v10 bc bs σ
set_option maxHeartbeats 4000000 in
theorem BJ1_putValH_212 {l : Launch} {p : Program} {e : Env} {s : State} {m : MethodId} {args : Array Value} {below : List Frame} {meth : Method} {c : Code} {E : xx_E} {mc ms : Nat} {Q : Option Nat → XS → Prop} {K134 : Nat → Int32 → Option Nat → Option Nat → Int32 → Int32 → Option Nat → Option Nat → Int32 → Nat → Nat → XS → Prop} (cx : xx_X "java/util/HashMap" cJ1_putVal 13 (some (.object "java/lang/Object")) E p s m args meth c) (hK134 : ∀ (th : Nat) (x1 : Int32) (x2 : Option Nat) (x3 : Option Nat) (x4 : Int32) (x5 : Int32) (x6 : Option Nat) (x7 : Option Nat) (x12 : Int32) (bc : Nat) (bs : Nat) (σ : XS), K134 th x1 x2 x3 x4 x5 x6 x7 x12 bc bs σ → x_T p l e ({ frames := 5, cells := mc, slots := ms, locals := 200 } : Room) s m args below meth c E (va_Qe (xr E) Q (fun σ' t => xW E σ' t) (xA E)) mc ms 13 134 bc bs σ [(0, xv E (some th)), (1, .int x1), (2, xv E x2), (3, xv E x3), (4, .int x4), (5, .int x5), (6, xv E x6), (7, xv E x7), (12, .int x12)] []) : ∀ (th : Nat) (x1 : Int32) (x2 : Option Nat) (x3 : Option Nat) (x4 : Int32) (x5 : Int32) (x6 : Option Nat) (x10 : Option Nat) (x12 : Int32) (bc : Nat) (bs : Nat) (σ : XS), wJ1_putValH_212 Q K134 th x1 x2 x3 x4 x5 x6 x10 x12 bc bs σ → x_T p l e ({ frames := 5, cells := mc, slots := ms, locals := 200 } : Room) s m args below meth c E (va_Qe (xr E) Q (fun σ' t => xW E σ' t) (xA E)) mc ms 13 212 bc bs σ [(0, xv E (some th)), (1, .int x1), (2, xv E x2), (3, xv E x3), (4, .int x4), (5, .int x5), (6, xv E x6), (10, xv E x10), (12, .int x12)] [] := by
  intro th x1 x2 x3 x4 x5 x6 x10 x12 bc bs σ hw H locs ls cells slots hR hS hl hcb hsb
  unfold wJ1_putValH_212 at hw
  obtain ⟨hx, hb, hml, hown, hts, hrt, hlk, hMK, hZ⟩ := id cx
  refine x_aload cx dJ1_putVal_212 (lv_at hl 7 rfl) ?_
  refine x_astore (i := 7) (r := x10) (lv' := [(7, xv E x10), (0, xv E (some th)), (1, .int x1), (2, xv E x2), (3, xv E x3), (4, .int x4), (5, .int x5), (6, xv E x6), (10, xv E x10), (12, .int x12)]) cx dJ1_putVal_214 hl (by decide) (by simp [xv_cat]) (fun ls hl => ?_)
  obtain ⟨v10, hv10⟩ : ∃ v : Int32, v = x12 + (1 : Int32) := ⟨_, rfl⟩
  have hw := hw v10 hv10
  refine lv_iinc (v := v10) (lv' := [(12, .int v10), (7, xv E x10), (0, xv E (some th)), (1, .int x1), (2, xv E x2), (3, xv E x3), (4, .int x4), (5, .int x5), (6, xv E x6), (10, xv E x10)]) hx hb dJ1_putVal_216 hl (k := 9) rfl (by rw [hv10]; rfl) (by decide) rfl (fun ls hl => ?_)
  refine lv_goto (tgt := 134) hx hb dJ1_putVal_219 (by decide) ?_
  exact hK134 _ _ _ _ _ _ _ _ _ _ _ _ hw _ _ _ _ _ hR hS (lv_sub hl [2, 3, 4, 5, 6, 7, 8, 1, 0] rfl) hcb hsb
def wJ1_putValH_134 (Q : Option Nat → XS → Prop) (K134 : Nat → Int32 → Option Nat → Option Nat → Int32 → Int32 → Option Nat → Option Nat → Int32 → Nat → Nat → XS → Prop) (th : Nat) (x1 : Int32) (x2 : Option Nat) (x3 : Option Nat) (x4 : Int32) (x5 : Int32) (x6 : Option Nat) (x7 : Option Nat) (x12 : Int32) (bc : Nat) (bs : Nat) (σ : XS) : Prop :=
  oc σ x7 20 (fun a11 => if (fr σ a11 3) = none then (kd σ th = 17 ∧ (∃ k17 n17 : Nat, k17 ≤ bc ∧ n17 ≤ bs ∧ (wJ1_newNodeH th x1 x2 x3 none k17 n17 σ (fun r15 s15 => oc s15 x7 20 (fun a18 => xK ≤ a18 ∧ (if x12 < (7 : Int32) then (wJ1_putValH_222 Q th x3 x4 x5 (fr σ a11 3) (bc - k17) (bs - n17) (pfr s15 a18 3 r15)) else (kd (pfr s15 a18 3 r15) th = 17 ∧ (∃ k21 n21 : Nat, k21 ≤ (bc - k17) ∧ n21 ≤ (bs - n17) ∧ (wJ1_treeifyBinH th x6 x1 k21 n21 (pfr s15 a18 3 r15) (fun s19 => wJ1_putValH_222 Q th x3 x4 x5 (fr σ a11 3) ((bc - k17) - k21) ((bs - n17) - n21) s19)))))))))) else (oc σ (fr σ a11 3) 20 (fun a12 => if (fi σ a12 0) = x1 then (xok (fr σ a12 1) x2 ∧ (if (fr σ a12 1) = x2 then (wJ1_putValH_222 Q th x3 x4 x5 (fr σ a11 3) bc bs σ) else (if x2 = none then (wJ1_putValH_212 Q K134 th x1 x2 x3 x4 x5 x6 (fr σ a11 3) x12 bc bs σ) else (oe x2 (fun a14 => wO_equals a14 (fr σ a12 1) σ (fun r13 s13 => if r13 = 0 then (wJ1_putValH_212 Q K134 th x1 x2 x3 x4 x5 x6 (fr σ a11 3) x12 bc bs s13) else (wJ1_putValH_222 Q th x3 x4 x5 (fr σ a11 3) bc bs s13))))))) else (wJ1_putValH_212 Q K134 th x1 x2 x3 x4 x5 x6 (fr σ a11 3) x12 bc bs σ))))
set_option maxHeartbeats 4000000 in
theorem BJ1_putValH_134 {l : Launch} {p : Program} {e : Env} {s : State} {m : MethodId} {args : Array Value} {below : List Frame} {meth : Method} {c : Code} {E : xx_E} {mc ms : Nat} {Q : Option Nat → XS → Prop} {K134 : Nat → Int32 → Option Nat → Option Nat → Int32 → Int32 → Option Nat → Option Nat → Int32 → Nat → Nat → XS → Prop} (cx : xx_X "java/util/HashMap" cJ1_putVal 13 (some (.object "java/lang/Object")) E p s m args meth c) (hK134 : ∀ (th : Nat) (x1 : Int32) (x2 : Option Nat) (x3 : Option Nat) (x4 : Int32) (x5 : Int32) (x6 : Option Nat) (x7 : Option Nat) (x12 : Int32) (bc : Nat) (bs : Nat) (σ : XS), K134 th x1 x2 x3 x4 x5 x6 x7 x12 bc bs σ → x_T p l e ({ frames := 5, cells := mc, slots := ms, locals := 200 } : Room) s m args below meth c E (va_Qe (xr E) Q (fun σ' t => xW E σ' t) (xA E)) mc ms 13 134 bc bs σ [(0, xv E (some th)), (1, .int x1), (2, xv E x2), (3, xv E x3), (4, .int x4), (5, .int x5), (6, xv E x6), (7, xv E x7), (12, .int x12)] []) : ∀ (th : Nat) (x1 : Int32) (x2 : Option Nat) (x3 : Option Nat) (x4 : Int32) (x5 : Int32) (x6 : Option Nat) (x7 : Option Nat) (x12 : Int32) (bc : Nat) (bs : Nat) (σ : XS), wJ1_putValH_134 Q K134 th x1 x2 x3 x4 x5 x6 x7 x12 bc bs σ → x_T p l e ({ frames := 5, cells := mc, slots := ms, locals := 200 } : Room) s m args below meth c E (va_Qe (xr E) Q (fun σ' t => xW E σ' t) (xA E)) mc ms 13 134 bc bs σ [(0, xv E (some th)), (1, .int x1), (2, xv E x2), (3, xv E x3), (4, .int x4), (5, .int x5), (6, xv E x6), (7, xv E x7), (12, .int x12)] [] := by
  intro th x1 x2 x3 x4 x5 x6 x7 x12 bc bs σ hw H locs ls cells slots hR hS hl hcb hsb
  unfold wJ1_putValH_134 at hw
  obtain ⟨hx, hb, hml, hown, hts, hrt, hlk, hMK, hZ⟩ := id cx
  refine x_aload cx dJ1_putVal_134 (lv_at hl 7 rfl) ?_
  obtain ⟨a11, hr11, hk11, hw⟩ := hw
  refine xg_J1_177_20 cx hR hr11 hk11 dJ1_putVal_136 ?_
  refine lv_dup hx hb dJ1_putVal_139 (xv_cat _ _) ?_
  refine x_astore (i := 10) (r := (fr σ a11 3)) (lv' := [(10, xv E (fr σ a11 3)), (0, xv E (some th)), (1, .int x1), (2, xv E x2), (3, xv E x3), (4, .int x4), (5, .int x5), (6, xv E x6), (7, xv E x7), (12, .int x12)]) cx dJ1_putVal_140 hl (by decide) rfl (fun ls hl => ?_)
  refine x_ifnonnull (tgt := 175) cx dJ1_putVal_142 (by decide) (fun hc => ?_) (fun hc => ?_)
  · have hw := mm_in hc hw
    refine x_aload cx dJ1_putVal_175 (lv_at hl 0 rfl) ?_
    obtain ⟨a12, hr12, hk12, hw⟩ := hw
    refine xg_J1_168_20 cx hR hr12 hk12 dJ1_putVal_177 ?_
    refine lv_iload_n hx hb dJ1_putVal_180 rfl (lv_at hl 2 rfl) ?_
    refine lv_icmp_ne (tgt := 212) hx hb dJ1_putVal_181 (by decide) (fun hc => ?_) (fun hc => ?_)
    · have hw := mm_in hc hw
      exact BJ1_putValH_212 cx hK134 _ _ _ _ _ _ _ _ _ _ _ _ hw _ _ _ _ _ hR hS (lv_sub hl [1, 2, 3, 4, 5, 6, 7, 0, 9] rfl) hcb hsb
    · have hw := mm_ip hc hw
      refine x_aload cx dJ1_putVal_184 (lv_at hl 0 rfl) ?_
      refine xg_J1_170_20 cx hR hr12 hk12 dJ1_putVal_186 ?_
      refine lv_dup hx hb dJ1_putVal_189 (xv_cat _ _) ?_
      refine x_astore (i := 11) (r := (fr σ a12 1)) (lv' := [(11, xv E (fr σ a12 1)), (10, xv E (fr σ a11 3)), (0, xv E (some th)), (1, .int x1), (2, xv E x2), (3, xv E x3), (4, .int x4), (5, .int x5), (6, xv E x6), (7, xv E x7), (12, .int x12)]) cx dJ1_putVal_190 hl (by decide) (by simp [xv_cat]) (fun ls hl => ?_)
      refine x_aload_n cx dJ1_putVal_192 rfl (lv_at hl 4 rfl) ?_
      obtain ⟨hok, hw⟩ := hw
      refine x_acmp_eq (tgt := 222) cx hok dJ1_putVal_193 (by decide) (fun hc => ?_) (fun hc => ?_)
      · have hw := mm_ip hc hw
        exact BJ1_putValH_222 cx _ _ _ _ _ _ _ _ hw _ _ _ _ _ hR hS (lv_sub hl [2, 5, 6, 7, 1] rfl) hcb hsb
      · have hw := mm_in hc hw
        refine x_aload_n cx dJ1_putVal_196 rfl (lv_at hl 4 rfl) ?_
        refine x_ifnull (tgt := 212) cx dJ1_putVal_197 (by decide) (fun hc => ?_) (fun hc => ?_)
        · have hw := mm_ip hc hw
          exact BJ1_putValH_212 cx hK134 _ _ _ _ _ _ _ _ _ _ _ _ hw _ _ _ _ _ hR hS (lv_sub hl [2, 3, 4, 5, 6, 7, 8, 1, 10] rfl) hcb hsb
        · have hw := mm_in hc hw
          refine x_aload_n cx dJ1_putVal_200 rfl (lv_at hl 4 rfl) ?_
          refine x_aload cx dJ1_putVal_201 (lv_at hl 0 rfl) ?_
          obtain ⟨a14, hr14, hw⟩ := hw
          refine CO_equals_J1_173 cx hR hS hr14 hw ⟨Nat.le_of_ble_eq_true rfl, Nat.le_of_ble_eq_true rfl⟩ (Nat.le_of_ble_eq_true rfl) hl.1 ⟨by dsimp only; omega, by dsimp only; omega⟩ dJ1_putVal_203 (fun r13 s13 H locs hw hR hS => ?_)
          refine lv_if_eq (tgt := 212) hx hb dJ1_putVal_206 (by decide) (fun hc => ?_) (fun hc => ?_)
          · have hw := mm_ip hc hw
            exact BJ1_putValH_212 cx hK134 _ _ _ _ _ _ _ _ _ _ _ _ hw _ _ _ _ _ hR hS (lv_sub hl [2, 3, 4, 5, 6, 7, 8, 1, 10] rfl) hcb hsb
          · have hw := mm_in hc hw
            refine lv_goto (tgt := 222) hx hb dJ1_putVal_209 (by decide) ?_
            exact BJ1_putValH_222 cx _ _ _ _ _ _ _ _ hw _ _ _ _ _ hR hS (lv_sub hl [2, 5, 6, 7, 1] rfl) hcb hsb
  · have hw := mm_ip hc hw
    refine x_aload cx dJ1_putVal_145 (lv_at hl 8 rfl) ?_
    refine x_aload_n cx dJ1_putVal_147 rfl (lv_at hl 1 rfl) ?_
    refine lv_iload_n hx hb dJ1_putVal_148 rfl (lv_at hl 2 rfl) ?_
    refine x_aload_n cx dJ1_putVal_149 rfl (lv_at hl 3 rfl) ?_
    refine x_aload_n cx dJ1_putVal_150 rfl (lv_at hl 4 rfl) ?_
    refine lv_null hx hb dJ1_putVal_151 ?_
    obtain ⟨hk16, hw⟩ := hw
    obtain ⟨k17, n17, hb1, hb2, hw⟩ := hw
    refine CJ1_newNodeH_J1_186 cx hR hS rfl hk16 hw ⟨Nat.le_of_ble_eq_true rfl, Nat.le_of_ble_eq_true rfl⟩ (Nat.le_of_ble_eq_true rfl) hl.1 ⟨by dsimp only; omega, by dsimp only; omega⟩ dJ1_putVal_152 (fun r15 s15 H locs hw hR hS => ?_)
    have hcb := xadd hb1 hcb
    have hsb := xadd hb2 hsb
    obtain ⟨a18, hr18, hk18, hw⟩ := hw
    obtain ⟨hge_a18, hw⟩ := hw
    refine xp_J1_177_20 (v := r15) cx hR hS hr18 hge_a18 hk18 dJ1_putVal_155 (fun H locs hR hS => ?_)
    refine lv_iload hx hb dJ1_putVal_158 (lv_at hl 9 rfl) ?_
    refine lv_bipush (v := (7 : Int32)) hx hb dJ1_putVal_160 (by decide) ?_
    refine lv_icmp_lt (tgt := 222) hx hb dJ1_putVal_162 (by decide) (fun hc => ?_) (fun hc => ?_)
    · have hw := mm_ip hc hw
      exact BJ1_putValH_222 cx _ _ _ _ _ _ _ _ hw _ _ _ _ _ hR hS (lv_sub hl [1, 4, 5, 6, 0] rfl) hcb hsb
    · have hw := mm_in hc hw
      refine x_aload_n cx dJ1_putVal_165 rfl (lv_at hl 1 rfl) ?_
      refine x_aload cx dJ1_putVal_166 (lv_at hl 7 rfl) ?_
      refine lv_iload_n hx hb dJ1_putVal_168 rfl (lv_at hl 2 rfl) ?_
      obtain ⟨hk20, hw⟩ := hw
      obtain ⟨k21, n21, hb1, hb2, hw⟩ := hw
      refine CJ1_treeifyBinH_J1_194 cx hR hS rfl hk20 hw ⟨Nat.le_of_ble_eq_true rfl, Nat.le_of_ble_eq_true rfl⟩ (Nat.le_of_ble_eq_true rfl) hl.1 ⟨by dsimp only; omega, by dsimp only; omega⟩ dJ1_putVal_169 (fun s19 H locs hw hR hS => ?_)
      have hcb := xadd hb1 hcb
      have hsb := xadd hb2 hsb
      refine lv_goto (tgt := 222) hx hb dJ1_putVal_172 (by decide) ?_
      exact BJ1_putValH_222 cx _ _ _ _ _ _ _ _ hw _ _ _ _ _ hR hS (lv_sub hl [1, 4, 5, 6, 0] rfl) hcb hsb
theorem LJ1_putValH_134 {l : Launch} {p : Program} {e : Env} {s : State} {m : MethodId} {args : Array Value} {below : List Frame} {meth : Method} {c : Code} {E : xx_E} {mc ms : Nat} {Q : Option Nat → XS → Prop} (cx : xx_X "java/util/HashMap" cJ1_putVal 13 (some (.object "java/lang/Object")) E p s m args meth c) : ∀ (th : Nat) (x1 : Int32) (x2 : Option Nat) (x3 : Option Nat) (x4 : Int32) (x5 : Int32) (x6 : Option Nat) (x7 : Option Nat) (x12 : Int32) (bc : Nat) (bs : Nat) (σ : XS), lp12F (wJ1_putValH_134 Q) th x1 x2 x3 x4 x5 x6 x7 x12 bc bs σ → x_T p l e ({ frames := 5, cells := mc, slots := ms, locals := 200 } : Room) s m args below meth c E (va_Qe (xr E) Q (fun σ' t => xW E σ' t) (xA E)) mc ms 13 134 bc bs σ [(0, xv E (some th)), (1, .int x1), (2, xv E x2), (3, xv E x3), (4, .int x4), (5, .int x5), (6, xv E x6), (7, xv E x7), (12, .int x12)] [] :=
  lp12F_of (fun K hK => BJ1_putValH_134 cx hK)
def wJ1_putValH_104 (Q : Option Nat → XS → Prop) (th : Nat) (x1 : Int32) (x2 : Option Nat) (x3 : Option Nat) (x4 : Int32) (x5 : Int32) (x6 : Option Nat) (x7 : Option Nat) (bc : Nat) (bs : Nat) (σ : XS) : Prop :=
  oc σ x7 20 (fun a22 => lp12F (wJ1_putValH_134 Q) th x1 x2 x3 x4 x5 x6 x7 (0 : Int32) bc bs σ)
set_option maxHeartbeats 4000000 in
theorem BJ1_putValH_104 {l : Launch} {p : Program} {e : Env} {s : State} {m : MethodId} {args : Array Value} {below : List Frame} {meth : Method} {c : Code} {E : xx_E} {mc ms : Nat} {Q : Option Nat → XS → Prop} (cx : xx_X "java/util/HashMap" cJ1_putVal 13 (some (.object "java/lang/Object")) E p s m args meth c) : ∀ (th : Nat) (x1 : Int32) (x2 : Option Nat) (x3 : Option Nat) (x4 : Int32) (x5 : Int32) (x6 : Option Nat) (x7 : Option Nat) (bc : Nat) (bs : Nat) (σ : XS), wJ1_putValH_104 Q th x1 x2 x3 x4 x5 x6 x7 bc bs σ → x_T p l e ({ frames := 5, cells := mc, slots := ms, locals := 200 } : Room) s m args below meth c E (va_Qe (xr E) Q (fun σ' t => xW E σ' t) (xA E)) mc ms 13 104 bc bs σ [(0, xv E (some th)), (1, .int x1), (2, xv E x2), (3, xv E x3), (4, .int x4), (5, .int x5), (6, xv E x6), (7, xv E x7)] [] := by
  intro th x1 x2 x3 x4 x5 x6 x7 bc bs σ hw H locs ls cells slots hR hS hl hcb hsb
  unfold wJ1_putValH_104 at hw
  obtain ⟨hx, hb, hml, hown, hts, hrt, hlk, hMK, hZ⟩ := id cx
  refine x_aload cx dJ1_putVal_104 (lv_at hl 7 rfl) ?_
  obtain ⟨a22, hr22, hk22, hw⟩ := hw
  refine x_instN cx hR hr22 hk22 (by decide) rfl q1204 (by decide) dJ1_putVal_106 ?_
  refine lv_if_eq (tgt := 131) hx hb dJ1_putVal_109 (by decide) (fun hc => ?_) (fun hc => ?_)
  rotate_left
  · exact absurd hc (by decide)
  refine lv_iconst (v := (0 : Int32)) hx hb dJ1_putVal_131 (by decide) ?_
  refine lv_istore (i := 12) (lv' := [(12, .int (0 : Int32)), (0, xv E (some th)), (1, .int x1), (2, xv E x2), (3, xv E x3), (4, .int x4), (5, .int x5), (6, xv E x6), (7, xv E x7)]) hx hb dJ1_putVal_132 hl (by decide) rfl (fun ls hl => ?_)
  exact LJ1_putValH_134 cx _ _ _ _ _ _ _ _ _ _ _ _ hw _ _ _ _ _ hR hS (lv_sub hl [1, 2, 3, 4, 5, 6, 7, 8, 0] rfl) hcb hsb
def wJ1_putValH_97 (Q : Option Nat → XS → Prop) (th : Nat) (x3 : Option Nat) (x4 : Int32) (x5 : Int32) (x7 : Option Nat) (bc : Nat) (bs : Nat) (σ : XS) : Prop :=
  wJ1_putValH_222 Q th x3 x4 x5 x7 bc bs σ
set_option maxHeartbeats 4000000 in
theorem BJ1_putValH_97 {l : Launch} {p : Program} {e : Env} {s : State} {m : MethodId} {args : Array Value} {below : List Frame} {meth : Method} {c : Code} {E : xx_E} {mc ms : Nat} {Q : Option Nat → XS → Prop} (cx : xx_X "java/util/HashMap" cJ1_putVal 13 (some (.object "java/lang/Object")) E p s m args meth c) : ∀ (th : Nat) (x3 : Option Nat) (x4 : Int32) (x5 : Int32) (x7 : Option Nat) (bc : Nat) (bs : Nat) (σ : XS), wJ1_putValH_97 Q th x3 x4 x5 x7 bc bs σ → x_T p l e ({ frames := 5, cells := mc, slots := ms, locals := 200 } : Room) s m args below meth c E (va_Qe (xr E) Q (fun σ' t => xW E σ' t) (xA E)) mc ms 13 97 bc bs σ [(0, xv E (some th)), (3, xv E x3), (4, .int x4), (5, .int x5), (7, xv E x7)] [] := by
  intro th x3 x4 x5 x7 bc bs σ hw H locs ls cells slots hR hS hl hcb hsb
  unfold wJ1_putValH_97 at hw
  obtain ⟨hx, hb, hml, hown, hts, hrt, hlk, hMK, hZ⟩ := id cx
  refine x_aload cx dJ1_putVal_97 (lv_at hl 4 rfl) ?_
  refine x_astore (i := 10) (r := x7) (lv' := [(10, xv E x7), (0, xv E (some th)), (3, xv E x3), (4, .int x4), (5, .int x5), (7, xv E x7)]) cx dJ1_putVal_99 hl (by decide) rfl (fun ls hl => ?_)
  refine lv_goto (tgt := 222) hx hb dJ1_putVal_101 (by decide) ?_
  exact BJ1_putValH_222 cx _ _ _ _ _ _ _ _ hw _ _ _ _ _ hR hS (lv_sub hl [1, 2, 3, 4, 0] rfl) hcb hsb
def wJ1_putValH_29 (Q : Option Nat → XS → Prop) (th : Nat) (x1 : Int32) (x2 : Option Nat) (x3 : Option Nat) (x4 : Int32) (x5 : Int32) (x6 : Option Nat) (x8 : Int32) (bc : Nat) (bs : Nat) (σ : XS) : Prop :=
  ∀ v23 : Int32, v23 = ((x8 - (1 : Int32)) &&& x1) → oc σ x6 106 (fun a24 => vp_in ((x8 - (1 : Int32)) &&& x1) (ln σ a24) ∧ (if (ar σ a24 (((x8 - (1 : Int32)) &&& x1).toNatClampNeg)) = none then (kd σ th = 17 ∧ (∃ k30 n30 : Nat, k30 ≤ bc ∧ n30 ≤ bs ∧ (wJ1_newNodeH th x1 x2 x3 none k30 n30 σ (fun r28 s28 => oc s28 x6 106 (fun a31 => xK ≤ a31 ∧ (vp_in v23 (ln s28 a31) ∧ (xck [20, 21] s28 r28 ∧ (wJ1_putValH_259 Q th x5 (bc - k30) (bs - n30) (par s28 a31 v23.toNatClampNeg r28))))))))) else (oc σ (ar σ a24 (((x8 - (1 : Int32)) &&& x1).toNatClampNeg)) 20 (fun a25 => if (fi σ a25 0) = x1 then (xok (fr σ a25 1) x2 ∧ (if (fr σ a25 1) = x2 then (wJ1_putValH_97 Q th x3 x4 x5 (ar σ a24 (((x8 - (1 : Int32)) &&& x1).toNatClampNeg)) bc bs σ) else (if x2 = none then (wJ1_putValH_104 Q th x1 x2 x3 x4 x5 x6 (ar σ a24 (((x8 - (1 : Int32)) &&& x1).toNatClampNeg)) bc bs σ) else (oe x2 (fun a27 => wO_equals a27 (fr σ a25 1) σ (fun r26 s26 => if r26 = 0 then (wJ1_putValH_104 Q th x1 x2 x3 x4 x5 x6 (ar σ a24 (((x8 - (1 : Int32)) &&& x1).toNatClampNeg)) bc bs s26) else (wJ1_putValH_97 Q th x3 x4 x5 (ar σ a24 (((x8 - (1 : Int32)) &&& x1).toNatClampNeg)) bc bs s26))))))) else (wJ1_putValH_104 Q th x1 x2 x3 x4 x5 x6 (ar σ a24 (((x8 - (1 : Int32)) &&& x1).toNatClampNeg)) bc bs σ)))))
set_option maxHeartbeats 4000000 in
theorem BJ1_putValH_29 {l : Launch} {p : Program} {e : Env} {s : State} {m : MethodId} {args : Array Value} {below : List Frame} {meth : Method} {c : Code} {E : xx_E} {mc ms : Nat} {Q : Option Nat → XS → Prop} (cx : xx_X "java/util/HashMap" cJ1_putVal 13 (some (.object "java/lang/Object")) E p s m args meth c) : ∀ (th : Nat) (x1 : Int32) (x2 : Option Nat) (x3 : Option Nat) (x4 : Int32) (x5 : Int32) (x6 : Option Nat) (x8 : Int32) (bc : Nat) (bs : Nat) (σ : XS), wJ1_putValH_29 Q th x1 x2 x3 x4 x5 x6 x8 bc bs σ → x_T p l e ({ frames := 5, cells := mc, slots := ms, locals := 200 } : Room) s m args below meth c E (va_Qe (xr E) Q (fun σ' t => xW E σ' t) (xA E)) mc ms 13 29 bc bs σ [(0, xv E (some th)), (1, .int x1), (2, xv E x2), (3, xv E x3), (4, .int x4), (5, .int x5), (6, xv E x6), (8, .int x8)] [] := by
  intro th x1 x2 x3 x4 x5 x6 x8 bc bs σ hw H locs ls cells slots hR hS hl hcb hsb
  unfold wJ1_putValH_29 at hw
  obtain ⟨hx, hb, hml, hown, hts, hrt, hlk, hMK, hZ⟩ := id cx
  refine x_aload cx dJ1_putVal_29 (lv_at hl 6 rfl) ?_
  refine lv_iload hx hb dJ1_putVal_31 (lv_at hl 7 rfl) ?_
  refine lv_iconst (v := (1 : Int32)) hx hb dJ1_putVal_33 (by decide) ?_
  refine lv_isub hx hb dJ1_putVal_34 ?_
  refine lv_iload_n hx hb dJ1_putVal_35 rfl (lv_at hl 1 rfl) ?_
  refine lv_iand hx hb dJ1_putVal_36 ?_
  refine lv_dup hx hb dJ1_putVal_37 rfl ?_
  refine lv_topi (fun v23 hv23 => ?_)
  have hw := hw v23 hv23
  refine lv_istore (i := 9) (lv' := [(9, .int v23), (0, xv E (some th)), (1, .int x1), (2, xv E x2), (3, xv E x3), (4, .int x4), (5, .int x5), (6, xv E x6), (8, .int x8)]) hx hb dJ1_putVal_38 hl (by decide) rfl (fun ls hl => ?_)
  obtain ⟨a24, hr24, hk24, hw⟩ := hw
  obtain ⟨hi, hw⟩ := hw
  refine x_aald cx hR hr24 6 hk24 (by decide) (by decide) (j := ((x8 - (1 : Int32)) &&& x1).toNatClampNeg) rfl hi dJ1_putVal_40 ?_
  refine lv_dup hx hb dJ1_putVal_41 (xv_cat _ _) ?_
  refine x_astore (i := 7) (r := (ar σ a24 (((x8 - (1 : Int32)) &&& x1).toNatClampNeg))) (lv' := [(7, xv E (ar σ a24 (((x8 - (1 : Int32)) &&& x1).toNatClampNeg))), (9, .int v23), (0, xv E (some th)), (1, .int x1), (2, xv E x2), (3, xv E x3), (4, .int x4), (5, .int x5), (6, xv E x6), (8, .int x8)]) cx dJ1_putVal_42 hl (by decide) (by simp [xv_cat]) (fun ls hl => ?_)
  refine x_ifnonnull (tgt := 63) cx dJ1_putVal_44 (by decide) (fun hc => ?_) (fun hc => ?_)
  · have hw := mm_in hc hw
    refine x_aload cx dJ1_putVal_63 (lv_at hl 0 rfl) ?_
    obtain ⟨a25, hr25, hk25, hw⟩ := hw
    refine xg_J1_168_20 cx hR hr25 hk25 dJ1_putVal_65 ?_
    refine lv_iload_n hx hb dJ1_putVal_68 rfl (lv_at hl 3 rfl) ?_
    refine lv_icmp_ne (tgt := 104) hx hb dJ1_putVal_69 (by decide) (fun hc => ?_) (fun hc => ?_)
    · have hw := mm_in hc hw
      exact BJ1_putValH_104 cx _ _ _ _ _ _ _ _ _ _ _ hw _ _ _ _ _ hR hS (lv_sub hl [2, 3, 4, 5, 6, 7, 8, 0] rfl) hcb hsb
    · have hw := mm_ip hc hw
      refine x_aload cx dJ1_putVal_72 (lv_at hl 0 rfl) ?_
      refine xg_J1_170_20 cx hR hr25 hk25 dJ1_putVal_74 ?_
      refine lv_dup hx hb dJ1_putVal_77 (xv_cat _ _) ?_
      refine x_astore (i := 11) (r := (fr σ a25 1)) (lv' := [(11, xv E (fr σ a25 1)), (7, xv E (ar σ a24 (((x8 - (1 : Int32)) &&& x1).toNatClampNeg))), (9, .int v23), (0, xv E (some th)), (1, .int x1), (2, xv E x2), (3, xv E x3), (4, .int x4), (5, .int x5), (6, xv E x6), (8, .int x8)]) cx dJ1_putVal_78 hl (by decide) rfl (fun ls hl => ?_)
      refine x_aload_n cx dJ1_putVal_80 rfl (lv_at hl 5 rfl) ?_
      obtain ⟨hok, hw⟩ := hw
      refine x_acmp_eq (tgt := 97) cx hok dJ1_putVal_81 (by decide) (fun hc => ?_) (fun hc => ?_)
      · have hw := mm_ip hc hw
        exact BJ1_putValH_97 cx _ _ _ _ _ _ _ _ hw _ _ _ _ _ hR hS (lv_sub hl [3, 6, 7, 8, 1] rfl) hcb hsb
      · have hw := mm_in hc hw
        refine x_aload_n cx dJ1_putVal_84 rfl (lv_at hl 5 rfl) ?_
        refine x_ifnull (tgt := 104) cx dJ1_putVal_85 (by decide) (fun hc => ?_) (fun hc => ?_)
        · have hw := mm_ip hc hw
          exact BJ1_putValH_104 cx _ _ _ _ _ _ _ _ _ _ _ hw _ _ _ _ _ hR hS (lv_sub hl [3, 4, 5, 6, 7, 8, 9, 1] rfl) hcb hsb
        · have hw := mm_in hc hw
          refine x_aload_n cx dJ1_putVal_88 rfl (lv_at hl 5 rfl) ?_
          refine x_aload cx dJ1_putVal_89 (lv_at hl 0 rfl) ?_
          obtain ⟨a27, hr27, hw⟩ := hw
          refine CO_equals_J1_173 cx hR hS hr27 hw ⟨Nat.le_of_ble_eq_true rfl, Nat.le_of_ble_eq_true rfl⟩ (Nat.le_of_ble_eq_true rfl) hl.1 ⟨by dsimp only; omega, by dsimp only; omega⟩ dJ1_putVal_91 (fun r26 s26 H locs hw hR hS => ?_)
          refine lv_if_eq (tgt := 104) hx hb dJ1_putVal_94 (by decide) (fun hc => ?_) (fun hc => ?_)
          · have hw := mm_ip hc hw
            exact BJ1_putValH_104 cx _ _ _ _ _ _ _ _ _ _ _ hw _ _ _ _ _ hR hS (lv_sub hl [3, 4, 5, 6, 7, 8, 9, 1] rfl) hcb hsb
          · have hw := mm_in hc hw
            exact BJ1_putValH_97 cx _ _ _ _ _ _ _ _ hw _ _ _ _ _ hR hS (lv_sub hl [3, 6, 7, 8, 1] rfl) hcb hsb
  · have hw := mm_ip hc hw
    refine x_aload cx dJ1_putVal_47 (lv_at hl 8 rfl) ?_
    refine lv_iload hx hb dJ1_putVal_49 (lv_at hl 1 rfl) ?_
    refine x_aload_n cx dJ1_putVal_51 rfl (lv_at hl 2 rfl) ?_
    refine lv_iload_n hx hb dJ1_putVal_52 rfl (lv_at hl 3 rfl) ?_
    refine x_aload_n cx dJ1_putVal_53 rfl (lv_at hl 4 rfl) ?_
    refine x_aload_n cx dJ1_putVal_54 rfl (lv_at hl 5 rfl) ?_
    refine lv_null hx hb dJ1_putVal_55 ?_
    obtain ⟨hk29, hw⟩ := hw
    obtain ⟨k30, n30, hb1, hb2, hw⟩ := hw
    refine CJ1_newNodeH_J1_186 cx hR hS rfl hk29 hw ⟨Nat.le_of_ble_eq_true rfl, Nat.le_of_ble_eq_true rfl⟩ (Nat.le_of_ble_eq_true rfl) hl.1 ⟨by dsimp only; omega, by dsimp only; omega⟩ dJ1_putVal_56 (fun r28 s28 H locs hw hR hS => ?_)
    have hcb := xadd hb1 hcb
    have hsb := xadd hb2 hsb
    obtain ⟨a31, hr31, hk31, hw⟩ := hw
    obtain ⟨hge_a31, hw⟩ := hw
    obtain ⟨hi, hw⟩ := hw
    obtain ⟨hv, hw⟩ := hw
    refine x_ast cx hR hS hr31 hge_a31 6 (C := "java/util/HashMap$Node") rfl hk31 (by decide) (by decide) (j := v23.toNatClampNeg) rfl hi (xcs_106 cx hv) dJ1_putVal_59 (fun H locs hR hS => ?_)
    refine lv_goto (tgt := 259) hx hb dJ1_putVal_60 (by decide) ?_
    exact BJ1_putValH_259 cx _ _ _ _ _ hw _ _ _ _ _ hR hS (lv_sub hl [2, 7] rfl) hcb hsb
def wJ1_putValH_19 (Q : Option Nat → XS → Prop) (th : Nat) (x1 : Int32) (x2 : Option Nat) (x3 : Option Nat) (x4 : Int32) (x5 : Int32) (bc : Nat) (bs : Nat) (σ : XS) : Prop :=
  kd σ th = 17 ∧ (∃ k34 n34 : Nat, k34 ≤ bc ∧ n34 ≤ bs ∧ (wJ1_resizeH th k34 n34 σ (fun r32 s32 => oc s32 r32 106 (fun a35 => ∀ v36 : Int32, v36 = (nI (ln s32 a35)) → wJ1_putValH_29 Q th x1 x2 x3 x4 x5 r32 v36 (bc - k34) (bs - n34) s32))))
set_option maxHeartbeats 4000000 in
theorem BJ1_putValH_19 {l : Launch} {p : Program} {e : Env} {s : State} {m : MethodId} {args : Array Value} {below : List Frame} {meth : Method} {c : Code} {E : xx_E} {mc ms : Nat} {Q : Option Nat → XS → Prop} (cx : xx_X "java/util/HashMap" cJ1_putVal 13 (some (.object "java/lang/Object")) E p s m args meth c) : ∀ (th : Nat) (x1 : Int32) (x2 : Option Nat) (x3 : Option Nat) (x4 : Int32) (x5 : Int32) (bc : Nat) (bs : Nat) (σ : XS), wJ1_putValH_19 Q th x1 x2 x3 x4 x5 bc bs σ → x_T p l e ({ frames := 5, cells := mc, slots := ms, locals := 200 } : Room) s m args below meth c E (va_Qe (xr E) Q (fun σ' t => xW E σ' t) (xA E)) mc ms 13 19 bc bs σ [(0, xv E (some th)), (1, .int x1), (2, xv E x2), (3, xv E x3), (4, .int x4), (5, .int x5)] [] := by
  intro th x1 x2 x3 x4 x5 bc bs σ hw H locs ls cells slots hR hS hl hcb hsb
  unfold wJ1_putValH_19 at hw
  obtain ⟨hx, hb, hml, hown, hts, hrt, hlk, hMK, hZ⟩ := id cx
  refine x_aload_n cx dJ1_putVal_19 rfl (lv_at hl 0 rfl) ?_
  obtain ⟨hk33, hw⟩ := hw
  obtain ⟨k34, n34, hb1, hb2, hw⟩ := hw
  refine CJ1_resizeH_J1_117 cx hR hS rfl hk33 hw ⟨Nat.le_of_ble_eq_true rfl, Nat.le_of_ble_eq_true rfl⟩ (Nat.le_of_ble_eq_true rfl) hl.1 ⟨by dsimp only; omega, by dsimp only; omega⟩ dJ1_putVal_20 (fun r32 s32 H locs hw hR hS => ?_)
  have hcb := xadd hb1 hcb
  have hsb := xadd hb2 hsb
  refine lv_dup hx hb dJ1_putVal_23 (xv_cat _ _) ?_
  refine x_astore (i := 6) (r := r32) (lv' := [(6, xv E r32), (0, xv E (some th)), (1, .int x1), (2, xv E x2), (3, xv E x3), (4, .int x4), (5, .int x5)]) cx dJ1_putVal_24 hl (by decide) rfl (fun ls hl => ?_)
  obtain ⟨a35, hr35, hk35, hw⟩ := hw
  refine x_alen cx hR hr35 6 hk35 (by decide) dJ1_putVal_26 ?_
  refine lv_topi (fun v36 hv36 => ?_)
  have hw := hw v36 hv36
  refine lv_istore (i := 8) (lv' := [(8, .int v36), (6, xv E r32), (0, xv E (some th)), (1, .int x1), (2, xv E x2), (3, xv E x3), (4, .int x4), (5, .int x5)]) hx hb dJ1_putVal_27 hl (by decide) rfl (fun ls hl => ?_)
  exact BJ1_putValH_29 cx _ _ _ _ _ _ _ _ _ _ _ hw _ _ _ _ _ hR hS (lv_sub hl [2, 3, 4, 5, 6, 7, 1, 0] rfl) hcb hsb
def wJ1_putValH (th : Nat) (x1 : Int32) (x2 : Option Nat) (x3 : Option Nat) (x4 : Int32) (x5 : Int32) (bc : Nat) (bs : Nat) (σ : XS) (Q : Option Nat → XS → Prop) : Prop :=
  kd σ th = 17 ∧ (if (fr σ th 2) = none then (wJ1_putValH_19 Q th x1 x2 x3 x4 x5 bc bs σ) else (oc σ (fr σ th 2) 106 (fun a38 => ∀ v39 : Int32, v39 = (nI (ln σ a38)) → if (nI (ln σ a38)) = 0 then (wJ1_putValH_19 Q th x1 x2 x3 x4 x5 bc bs σ) else (wJ1_putValH_29 Q th x1 x2 x3 x4 x5 (fr σ th 2) v39 bc bs σ))))
set_option maxHeartbeats 4000000 in
theorem MJ1_putValH (l : Launch) (E : xx_E) (th : Nat) (x1 : Int32) (x2 : Option Nat) (x3 : Option Nat) (x4 : Int32) (x5 : Int32) (bc : Nat) (bs : Nat) (σ : XS) (Q : Option Nat → XS → Prop) (hw : wJ1_putValH th x1 x2 x3 x4 x5 bc bs σ Q) : xx_Mr l yJ1_putVal (ws_ yJ1_putVal cJ1_putVal 13 (some (.object "java/lang/Object"))) ({ frames := 5, cells := bc, slots := bs, locals := 200 } : Room) E [xv E (some th), .int x1, xv E x2, xv E x3, .int x4, .int x5] σ Q bc bs := by
  refine x_of (own := "java/util/HashMap") (by decide +kernel) rfl ?_
  intro p e s m args below meth c cx hR ha hnm
  refine x_entry [xv E (some th), .int x1, xv E x2, xv E x3, .int x4, .int x5] 13 [(0, xv E (some th)), (1, .int x1), (2, xv E x2), (3, xv E x3), (4, .int x4), (5, .int x5)] ha (by simp [lg_sl, xv_cat, vc_i, vc_j, vc_f]) (by simp [lv_args, xv_cat, vc_i, vc_j, vc_f]) (fun ls hl => ?_)
  have hS : va_S (xA E) s.heap s.heap [] := va_S.rf
  have hcb : 0 + bc ≤ bc := Nat.le_of_eq (Nat.zero_add _)
  have hsb : 0 + bs ≤ bs := Nat.le_of_eq (Nat.zero_add _)
  unfold wJ1_putValH at hw
  obtain ⟨hx, hb, hml, hown, hts, hrt, hlk, hMK, hZ⟩ := id cx
  refine x_aload_n cx dJ1_putVal_0 rfl (lv_at hl 0 rfl) ?_
  obtain ⟨hk37, hw⟩ := hw
  refine xg_J1_105_17 cx hR rfl hk37 dJ1_putVal_1 ?_
  refine lv_dup hx hb dJ1_putVal_4 (xv_cat _ _) ?_
  refine x_astore (i := 6) (r := (fr σ th 2)) (lv' := [(6, xv E (fr σ th 2)), (0, xv E (some th)), (1, .int x1), (2, xv E x2), (3, xv E x3), (4, .int x4), (5, .int x5)]) cx dJ1_putVal_5 hl (by decide) rfl (fun ls hl => ?_)
  refine x_ifnull (tgt := 19) cx dJ1_putVal_7 (by decide) (fun hc => ?_) (fun hc => ?_)
  · have hw := mm_ip hc hw
    exact BJ1_putValH_19 cx _ _ _ _ _ _ _ _ _ hw _ _ _ _ _ hR hS (lv_sub hl [1, 2, 3, 4, 5, 6] rfl) hcb hsb
  · have hw := mm_in hc hw
    refine x_aload cx dJ1_putVal_10 (lv_at hl 0 rfl) ?_
    obtain ⟨a38, hr38, hk38, hw⟩ := hw
    refine x_alen cx hR hr38 6 hk38 (by decide) dJ1_putVal_12 ?_
    refine lv_dup hx hb dJ1_putVal_13 rfl ?_
    refine lv_topi (fun v39 hv39 => ?_)
    have hw := hw v39 hv39
    refine lv_istore (i := 8) (lv' := [(8, .int v39), (6, xv E (fr σ th 2)), (0, xv E (some th)), (1, .int x1), (2, xv E x2), (3, xv E x3), (4, .int x4), (5, .int x5)]) hx hb dJ1_putVal_14 hl (by decide) rfl (fun ls hl => ?_)
    refine lv_if_ne (tgt := 29) hx hb dJ1_putVal_16 (by decide) (fun hc => ?_) (fun hc => ?_)
    · have hw := mm_in hc hw
      exact BJ1_putValH_29 cx _ _ _ _ _ _ _ _ _ _ _ hw _ _ _ _ _ hR hS (lv_sub hl [2, 3, 4, 5, 6, 7, 1, 0] rfl) hcb hsb
    · have hw := mm_ip hc hw
      exact BJ1_putValH_19 cx _ _ _ _ _ _ _ _ _ hw _ _ _ _ _ hR hS (lv_sub hl [2, 3, 4, 5, 6, 7] rfl) hcb hsb
