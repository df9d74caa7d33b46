set_option maxRecDepth 100000
/-- a new array, put into field f of th -/
def xi_st (K N f th : Nat) (s : XS) : XS := pfr (xal s K N) th f (some (xn s))
theorem xi_k {K N f th : Nat} {s : XS} (h : kd s th = 25) (h2 : th < xn s) : kd (xi_st K N f th s) th = 25 ∧ th < xn (xi_st K N f th s) := by
  refine ⟨?_, Nat.lt_succ_of_lt h2⟩
  show (if th = s.1 then _ else _) = _
  rw [if_neg (show ¬ th = s.1 from fun e => by have : th = xn s := e; omega)]
  exact h
theorem xi_k2 {K N th : Nat} {s : XS} (h : kd s th = 25) (h2 : th < xn s) : kd (xal s K N) th = 25 := (xi_k (f := 0) (N := N) (K := K) h h2).1
theorem xp_X3_7_25 {l : Launch} {p : Program} {e : Env} {R : Room} {s : State} {m : MethodId} {args : Array Value} {below : List Frame} {meth : Method} {c : Code} {H : Heap} {locs : List Loc} {cells slots : Nat} {Qz : State → Prop} {cc : ByteArray} {nL : Nat} {ret : Option FieldType} {E : xx_E} {σ : XS} {pc : Nat} {ls : Array Slot} {rest : List Value} (cx : xx_X "StruckCountsModel" cc nL ret E p s m args meth c) (hR : xR E σ H) (hS0 : va_S (xA E) s.heap H locs) {a : Nat} {r : Option Nat} {v : Option Nat} (hr : r = some a) (ha : xK ≤ a) (hk : kd σ a = 25) (hini : meth.name = "<init>") (hdg : decode cc pc = .ok (.putfield 7, 3)) (kk : ∀ (H1 : Heap) (locs1 : List Loc), xR E (pfr σ a 0 v) H1 → va_S (xA E) s.heap H1 locs1 → W p l e R s m args below meth c H1 locs1 cells slots Qz (F0 m (pc + 3) ls rest)) : W p l e R s m args below meth c H locs cells slots Qz (F0 m pc ls (xv E v :: xv E r :: rest)) :=
  x_put (ci := 24) cx hR hS0 hr ha hk (by decide) rfl in_X3 tyX3 tyX3_ok nmX3 0 (by decide) (Or.inr (Or.inl ⟨q2414, rfl, hini, rfl⟩)) (fun _ h => h) (by cases v <;> rfl) (by cases v <;> rfl) (xput_r rfl) hdg kk
theorem xp_X3_13_25 {l : Launch} {p : Program} {e : Env} {R : Room} {s : State} {m : MethodId} {args : Array Value} {below : List Frame} {meth : Method} {c : Code} {H : Heap} {locs : List Loc} {cells slots : Nat} {Qz : State → Prop} {cc : ByteArray} {nL : Nat} {ret : Option FieldType} {E : xx_E} {σ : XS} {pc : Nat} {ls : Array Slot} {rest : List Value} (cx : xx_X "StruckCountsModel" cc nL ret E p s m args meth c) (hR : xR E σ H) (hS0 : va_S (xA E) s.heap H locs) {a : Nat} {r : Option Nat} {v : Option Nat} (hr : r = some a) (ha : xK ≤ a) (hk : kd σ a = 25) (hini : meth.name = "<init>") (hdg : decode cc pc = .ok (.putfield 13, 3)) (kk : ∀ (H1 : Heap) (locs1 : List Loc), xR E (pfr σ a 1 v) H1 → va_S (xA E) s.heap H1 locs1 → W p l e R s m args below meth c H1 locs1 cells slots Qz (F0 m (pc + 3) ls rest)) : W p l e R s m args below meth c H locs cells slots Qz (F0 m pc ls (xv E v :: xv E r :: rest)) :=
  x_put (ci := 24) cx hR hS0 hr ha hk (by decide) rfl in_X3 tyX3 tyX3_ok nmX3 1 (by decide) (Or.inr (Or.inl ⟨q2415, rfl, hini, rfl⟩)) (fun _ h => h) (by cases v <;> rfl) (by cases v <;> rfl) (xput_r rfl) hdg kk
theorem xp_X3_16_25 {l : Launch} {p : Program} {e : Env} {R : Room} {s : State} {m : MethodId} {args : Array Value} {below : List Frame} {meth : Method} {c : Code} {H : Heap} {locs : List Loc} {cells slots : Nat} {Qz : State → Prop} {cc : ByteArray} {nL : Nat} {ret : Option FieldType} {E : xx_E} {σ : XS} {pc : Nat} {ls : Array Slot} {rest : List Value} (cx : xx_X "StruckCountsModel" cc nL ret E p s m args meth c) (hR : xR E σ H) (hS0 : va_S (xA E) s.heap H locs) {a : Nat} {r : Option Nat} {v : Option Nat} (hr : r = some a) (ha : xK ≤ a) (hk : kd σ a = 25) (hini : meth.name = "<init>") (hdg : decode cc pc = .ok (.putfield 16, 3)) (kk : ∀ (H1 : Heap) (locs1 : List Loc), xR E (pfr σ a 2 v) H1 → va_S (xA E) s.heap H1 locs1 → W p l e R s m args below meth c H1 locs1 cells slots Qz (F0 m (pc + 3) ls rest)) : W p l e R s m args below meth c H locs cells slots Qz (F0 m pc ls (xv E v :: xv E r :: rest)) :=
  x_put (ci := 24) cx hR hS0 hr ha hk (by decide) rfl in_X3 tyX3 tyX3_ok nmX3 2 (by decide) (Or.inr (Or.inl ⟨q2416, rfl, hini, rfl⟩)) (fun _ h => h) (by cases v <;> rfl) (by cases v <;> rfl) (xput_r rfl) hdg kk
theorem xp_X3_20_25 {l : Launch} {p : Program} {e : Env} {R : Room} {s : State} {m : MethodId} {args : Array Value} {below : List Frame} {meth : Method} {c : Code} {H : Heap} {locs : List Loc} {cells slots : Nat} {Qz : State → Prop} {cc : ByteArray} {nL : Nat} {ret : Option FieldType} {E : xx_E} {σ : XS} {pc : Nat} {ls : Array Slot} {rest : List Value} (cx : xx_X "StruckCountsModel" cc nL ret E p s m args meth c) (hR : xR E σ H) (hS0 : va_S (xA E) s.heap H locs) {a : Nat} {r : Option Nat} {v : Option Nat} (hr : r = some a) (ha : xK ≤ a) (hk : kd σ a = 25) (hini : meth.name = "<init>") (hdg : decode cc pc = .ok (.putfield 20, 3)) (kk : ∀ (H1 : Heap) (locs1 : List Loc), xR E (pfr σ a 3 v) H1 → va_S (xA E) s.heap H1 locs1 → W p l e R s m args below meth c H1 locs1 cells slots Qz (F0 m (pc + 3) ls rest)) : W p l e R s m args below meth c H locs cells slots Qz (F0 m pc ls (xv E v :: xv E r :: rest)) :=
  x_put (ci := 24) cx hR hS0 hr ha hk (by decide) rfl in_X3 tyX3 tyX3_ok nmX3 3 (by decide) (Or.inr (Or.inl ⟨q2417, rfl, hini, rfl⟩)) (fun _ h => h) (by cases v <;> rfl) (by cases v <;> rfl) (xput_r rfl) hdg kk
theorem xp_X3_23_25 {l : Launch} {p : Program} {e : Env} {R : Room} {s : State} {m : MethodId} {args : Array Value} {below : List Frame} {meth : Method} {c : Code} {H : Heap} {locs : List Loc} {cells slots : Nat} {Qz : State → Prop} {cc : ByteArray} {nL : Nat} {ret : Option FieldType} {E : xx_E} {σ : XS} {pc : Nat} {ls : Array Slot} {rest : List Value} (cx : xx_X "StruckCountsModel" cc nL ret E p s m args meth c) (hR : xR E σ H) (hS0 : va_S (xA E) s.heap H locs) {a : Nat} {r : Option Nat} {v : Option Nat} (hr : r = some a) (ha : xK ≤ a) (hk : kd σ a = 25) (hini : meth.name = "<init>") (hdg : decode cc pc = .ok (.putfield 23, 3)) (kk : ∀ (H1 : Heap) (locs1 : List Loc), xR E (pfr σ a 4 v) H1 → va_S (xA E) s.heap H1 locs1 → W p l e R s m args below meth c H1 locs1 cells slots Qz (F0 m (pc + 3) ls rest)) : W p l e R s m args below meth c H locs cells slots Qz (F0 m pc ls (xv E v :: xv E r :: rest)) :=
  x_put (ci := 24) cx hR hS0 hr ha hk (by decide) rfl in_X3 tyX3 tyX3_ok nmX3 4 (by decide) (Or.inr (Or.inl ⟨q2418, rfl, hini, rfl⟩)) (fun _ h => h) (by cases v <;> rfl) (by cases v <;> rfl) (xput_r rfl) hdg kk
theorem xp_X3_26_25 {l : Launch} {p : Program} {e : Env} {R : Room} {s : State} {m : MethodId} {args : Array Value} {below : List Frame} {meth : Method} {c : Code} {H : Heap} {locs : List Loc} {cells slots : Nat} {Qz : State → Prop} {cc : ByteArray} {nL : Nat} {ret : Option FieldType} {E : xx_E} {σ : XS} {pc : Nat} {ls : Array Slot} {rest : List Value} (cx : xx_X "StruckCountsModel" cc nL ret E p s m args meth c) (hR : xR E σ H) (hS0 : va_S (xA E) s.heap H locs) {a : Nat} {r : Option Nat} {v : Option Nat} (hr : r = some a) (ha : xK ≤ a) (hk : kd σ a = 25) (hini : meth.name = "<init>") (hdg : decode cc pc = .ok (.putfield 26, 3)) (kk : ∀ (H1 : Heap) (locs1 : List Loc), xR E (pfr σ a 5 v) H1 → va_S (xA E) s.heap H1 locs1 → W p l e R s m args below meth c H1 locs1 cells slots Qz (F0 m (pc + 3) ls rest)) : W p l e R s m args below meth c H locs cells slots Qz (F0 m pc ls (xv E v :: xv E r :: rest)) :=
  x_put (ci := 24) cx hR hS0 hr ha hk (by decide) rfl in_X3 tyX3 tyX3_ok nmX3 5 (by decide) (Or.inr (Or.inl ⟨q2419, rfl, hini, rfl⟩)) (fun _ h => h) (by cases v <;> rfl) (by cases v <;> rfl) (xput_r rfl) hdg kk
theorem xp_X3_29_25 {l : Launch} {p : Program} {e : Env} {R : Room} {s : State} {m : MethodId} {args : Array Value} {below : List Frame} {meth : Method} {c : Code} {H : Heap} {locs : List Loc} {cells slots : Nat} {Qz : State → Prop} {cc : ByteArray} {nL : Nat} {ret : Option FieldType} {E : xx_E} {σ : XS} {pc : Nat} {ls : Array Slot} {rest : List Value} (cx : xx_X "StruckCountsModel" cc nL ret E p s m args meth c) (hR : xR E σ H) (hS0 : va_S (xA E) s.heap H locs) {a : Nat} {r : Option Nat} {v : Option Nat} (hr : r = some a) (ha : xK ≤ a) (hk : kd σ a = 25) (hini : meth.name = "<init>") (hdg : decode cc pc = .ok (.putfield 29, 3)) (kk : ∀ (H1 : Heap) (locs1 : List Loc), xR E (pfr σ a 6 v) H1 → va_S (xA E) s.heap H1 locs1 → W p l e R s m args below meth c H1 locs1 cells slots Qz (F0 m (pc + 3) ls rest)) : W p l e R s m args below meth c H locs cells slots Qz (F0 m pc ls (xv E v :: xv E r :: rest)) :=
  x_put (ci := 24) cx hR hS0 hr ha hk (by decide) rfl in_X3 tyX3 tyX3_ok nmX3 6 (by decide) (Or.inr (Or.inl ⟨q2420, rfl, hini, rfl⟩)) (fun _ h => h) (by cases v <;> rfl) (by cases v <;> rfl) (xput_r rfl) hdg kk
theorem xp_X3_32_25 {l : Launch} {p : Program} {e : Env} {R : Room} {s : State} {m : MethodId} {args : Array Value} {below : List Frame} {meth : Method} {c : Code} {H : Heap} {locs : List Loc} {cells slots : Nat} {Qz : State → Prop} {cc : ByteArray} {nL : Nat} {ret : Option FieldType} {E : xx_E} {σ : XS} {pc : Nat} {ls : Array Slot} {rest : List Value} (cx : xx_X "StruckCountsModel" cc nL ret E p s m args meth c) (hR : xR E σ H) (hS0 : va_S (xA E) s.heap H locs) {a : Nat} {r : Option Nat} {v : Option Nat} (hr : r = some a) (ha : xK ≤ a) (hk : kd σ a = 25) (hini : meth.name = "<init>") (hdg : decode cc pc = .ok (.putfield 32, 3)) (kk : ∀ (H1 : Heap) (locs1 : List Loc), xR E (pfr σ a 7 v) H1 → va_S (xA E) s.heap H1 locs1 → W p l e R s m args below meth c H1 locs1 cells slots Qz (F0 m (pc + 3) ls rest)) : W p l e R s m args below meth c H locs cells slots Qz (F0 m pc ls (xv E v :: xv E r :: rest)) :=
  x_put (ci := 24) cx hR hS0 hr ha hk (by decide) rfl in_X3 tyX3 tyX3_ok nmX3 7 (by decide) (Or.inr (Or.inl ⟨q2421, rfl, hini, rfl⟩)) (fun _ h => h) (by cases v <;> rfl) (by cases v <;> rfl) (xput_r rfl) hdg kk
theorem xp_X3_36_25 {l : Launch} {p : Program} {e : Env} {R : Room} {s : State} {m : MethodId} {args : Array Value} {below : List Frame} {meth : Method} {c : Code} {H : Heap} {locs : List Loc} {cells slots : Nat} {Qz : State → Prop} {cc : ByteArray} {nL : Nat} {ret : Option FieldType} {E : xx_E} {σ : XS} {pc : Nat} {ls : Array Slot} {rest : List Value} (cx : xx_X "StruckCountsModel" cc nL ret E p s m args meth c) (hR : xR E σ H) (hS0 : va_S (xA E) s.heap H locs) {a : Nat} {r : Option Nat} {v : Option Nat} (hr : r = some a) (ha : xK ≤ a) (hk : kd σ a = 25) (hini : meth.name = "<init>") (hdg : decode cc pc = .ok (.putfield 36, 3)) (kk : ∀ (H1 : Heap) (locs1 : List Loc), xR E (pfr σ a 9 v) H1 → va_S (xA E) s.heap H1 locs1 → W p l e R s m args below meth c H1 locs1 cells slots Qz (F0 m (pc + 3) ls rest)) : W p l e R s m args below meth c H locs cells slots Qz (F0 m pc ls (xv E v :: xv E r :: rest)) :=
  x_put (ci := 24) cx hR hS0 hr ha hk (by decide) rfl in_X3 tyX3 tyX3_ok nmX3 9 (by decide) (Or.inr (Or.inl ⟨q2423, rfl, hini, rfl⟩)) (fun _ h => h) (by cases v <;> rfl) (by cases v <;> rfl) (xput_r rfl) hdg kk
theorem xp_X3_39_25 {l : Launch} {p : Program} {e : Env} {R : Room} {s : State} {m : MethodId} {args : Array Value} {below : List Frame} {meth : Method} {c : Code} {H : Heap} {locs : List Loc} {cells slots : Nat} {Qz : State → Prop} {cc : ByteArray} {nL : Nat} {ret : Option FieldType} {E : xx_E} {σ : XS} {pc : Nat} {ls : Array Slot} {rest : List Value} (cx : xx_X "StruckCountsModel" cc nL ret E p s m args meth c) (hR : xR E σ H) (hS0 : va_S (xA E) s.heap H locs) {a : Nat} {r : Option Nat} {v : Int32} (hr : r = some a) (ha : xK ≤ a) (hk : kd σ a = 25) (hdg : decode cc pc = .ok (.putfield 39, 3)) (kk : ∀ (H1 : Heap) (locs1 : List Loc), xR E (pfi σ a 20 v) H1 → va_S (xA E) s.heap H1 locs1 → W p l e R s m args below meth c H1 locs1 cells slots Qz (F0 m (pc + 3) ls rest)) : W p l e R s m args below meth c H locs cells slots Qz (F0 m pc ls (.int v :: xv E r :: rest)) :=
  x_put (ci := 24) cx hR hS0 hr ha hk (by decide) rfl in_X3 tyX3 tyX3_ok nmX3 20 (by decide) (Or.inl ⟨q2434, rfl⟩) (fun _ h => h) rfl rfl (xput_i rfl) hdg kk
theorem xp_X3_43_25 {l : Launch} {p : Program} {e : Env} {R : Room} {s : State} {m : MethodId} {args : Array Value} {below : List Frame} {meth : Method} {c : Code} {H : Heap} {locs : List Loc} {cells slots : Nat} {Qz : State → Prop} {cc : ByteArray} {nL : Nat} {ret : Option FieldType} {E : xx_E} {σ : XS} {pc : Nat} {ls : Array Slot} {rest : List Value} (cx : xx_X "StruckCountsModel" cc nL ret E p s m args meth c) (hR : xR E σ H) (hS0 : va_S (xA E) s.heap H locs) {a : Nat} {r : Option Nat} {v : Option Nat} (hr : r = some a) (ha : xK ≤ a) (hk : kd σ a = 25) (hini : meth.name = "<init>") (hdg : decode cc pc = .ok (.putfield 43, 3)) (kk : ∀ (H1 : Heap) (locs1 : List Loc), xR E (pfr σ a 23 v) H1 → va_S (xA E) s.heap H1 locs1 → W p l e R s m args below meth c H1 locs1 cells slots Qz (F0 m (pc + 3) ls rest)) : W p l e R s m args below meth c H locs cells slots Qz (F0 m pc ls (xv E v :: xv E r :: rest)) :=
  x_put (ci := 24) cx hR hS0 hr ha hk (by decide) rfl in_X3 tyX3 tyX3_ok nmX3 23 (by decide) (Or.inr (Or.inl ⟨q2437, rfl, hini, rfl⟩)) (fun _ h => h) (by cases v <;> rfl) (by cases v <;> rfl) (xput_r rfl) hdg kk
theorem xp_X3_46_25 {l : Launch} {p : Program} {e : Env} {R : Room} {s : State} {m : MethodId} {args : Array Value} {below : List Frame} {meth : Method} {c : Code} {H : Heap} {locs : List Loc} {cells slots : Nat} {Qz : State → Prop} {cc : ByteArray} {nL : Nat} {ret : Option FieldType} {E : xx_E} {σ : XS} {pc : Nat} {ls : Array Slot} {rest : List Value} (cx : xx_X "StruckCountsModel" cc nL ret E p s m args meth c) (hR : xR E σ H) (hS0 : va_S (xA E) s.heap H locs) {a : Nat} {r : Option Nat} {v : Option Nat} (hr : r = some a) (ha : xK ≤ a) (hk : kd σ a = 25) (hini : meth.name = "<init>") (hdg : decode cc pc = .ok (.putfield 46, 3)) (kk : ∀ (H1 : Heap) (locs1 : List Loc), xR E (pfr σ a 24 v) H1 → va_S (xA E) s.heap H1 locs1 → W p l e R s m args below meth c H1 locs1 cells slots Qz (F0 m (pc + 3) ls rest)) : W p l e R s m args below meth c H locs cells slots Qz (F0 m pc ls (xv E v :: xv E r :: rest)) :=
  x_put (ci := 24) cx hR hS0 hr ha hk (by decide) rfl in_X3 tyX3 tyX3_ok nmX3 24 (by decide) (Or.inr (Or.inl ⟨q2438, rfl, hini, rfl⟩)) (fun _ h => h) (by cases v <;> rfl) (by cases v <;> rfl) (xput_r rfl) hdg kk
theorem xp_X3_49_25 {l : Launch} {p : Program} {e : Env} {R : Room} {s : State} {m : MethodId} {args : Array Value} {below : List Frame} {meth : Method} {c : Code} {H : Heap} {locs : List Loc} {cells slots : Nat} {Qz : State → Prop} {cc : ByteArray} {nL : Nat} {ret : Option FieldType} {E : xx_E} {σ : XS} {pc : Nat} {ls : Array Slot} {rest : List Value} (cx : xx_X "StruckCountsModel" cc nL ret E p s m args meth c) (hR : xR E σ H) (hS0 : va_S (xA E) s.heap H locs) {a : Nat} {r : Option Nat} {v : Option Nat} (hr : r = some a) (ha : xK ≤ a) (hk : kd σ a = 25) (hini : meth.name = "<init>") (hdg : decode cc pc = .ok (.putfield 49, 3)) (kk : ∀ (H1 : Heap) (locs1 : List Loc), xR E (pfr σ a 25 v) H1 → va_S (xA E) s.heap H1 locs1 → W p l e R s m args below meth c H1 locs1 cells slots Qz (F0 m (pc + 3) ls rest)) : W p l e R s m args below meth c H locs cells slots Qz (F0 m pc ls (xv E v :: xv E r :: rest)) :=
  x_put (ci := 24) cx hR hS0 hr ha hk (by decide) rfl in_X3 tyX3 tyX3_ok nmX3 25 (by decide) (Or.inr (Or.inl ⟨q2439, rfl, hini, rfl⟩)) (fun _ h => h) (by cases v <;> rfl) (by cases v <;> rfl) (xput_r rfl) hdg kk
theorem xp_X3_52_25 {l : Launch} {p : Program} {e : Env} {R : Room} {s : State} {m : MethodId} {args : Array Value} {below : List Frame} {meth : Method} {c : Code} {H : Heap} {locs : List Loc} {cells slots : Nat} {Qz : State → Prop} {cc : ByteArray} {nL : Nat} {ret : Option FieldType} {E : xx_E} {σ : XS} {pc : Nat} {ls : Array Slot} {rest : List Value} (cx : xx_X "StruckCountsModel" cc nL ret E p s m args meth c) (hR : xR E σ H) (hS0 : va_S (xA E) s.heap H locs) {a : Nat} {r : Option Nat} {v : Option Nat} (hr : r = some a) (ha : xK ≤ a) (hk : kd σ a = 25) (hini : meth.name = "<init>") (hdg : decode cc pc = .ok (.putfield 52, 3)) (kk : ∀ (H1 : Heap) (locs1 : List Loc), xR E (pfr σ a 26 v) H1 → va_S (xA E) s.heap H1 locs1 → W p l e R s m args below meth c H1 locs1 cells slots Qz (F0 m (pc + 3) ls rest)) : W p l e R s m args below meth c H locs cells slots Qz (F0 m pc ls (xv E v :: xv E r :: rest)) :=
  x_put (ci := 24) cx hR hS0 hr ha hk (by decide) rfl in_X3 tyX3 tyX3_ok nmX3 26 (by decide) (Or.inr (Or.inl ⟨q2440, rfl, hini, rfl⟩)) (fun _ h => h) (by cases v <;> rfl) (by cases v <;> rfl) (xput_r rfl) hdg kk
theorem xp_X3_55_25 {l : Launch} {p : Program} {e : Env} {R : Room} {s : State} {m : MethodId} {args : Array Value} {below : List Frame} {meth : Method} {c : Code} {H : Heap} {locs : List Loc} {cells slots : Nat} {Qz : State → Prop} {cc : ByteArray} {nL : Nat} {ret : Option FieldType} {E : xx_E} {σ : XS} {pc : Nat} {ls : Array Slot} {rest : List Value} (cx : xx_X "StruckCountsModel" cc nL ret E p s m args meth c) (hR : xR E σ H) (hS0 : va_S (xA E) s.heap H locs) {a : Nat} {r : Option Nat} {v : Option Nat} (hr : r = some a) (ha : xK ≤ a) (hk : kd σ a = 25) (hini : meth.name = "<init>") (hdg : decode cc pc = .ok (.putfield 55, 3)) (kk : ∀ (H1 : Heap) (locs1 : List Loc), xR E (pfr σ a 27 v) H1 → va_S (xA E) s.heap H1 locs1 → W p l e R s m args below meth c H1 locs1 cells slots Qz (F0 m (pc + 3) ls rest)) : W p l e R s m args below meth c H locs cells slots Qz (F0 m pc ls (xv E v :: xv E r :: rest)) :=
  x_put (ci := 24) cx hR hS0 hr ha hk (by decide) rfl in_X3 tyX3 tyX3_ok nmX3 27 (by decide) (Or.inr (Or.inl ⟨q2441, rfl, hini, rfl⟩)) (fun _ h => h) (by cases v <;> rfl) (by cases v <;> rfl) (xput_r rfl) hdg kk
theorem xp_X3_58_25 {l : Launch} {p : Program} {e : Env} {R : Room} {s : State} {m : MethodId} {args : Array Value} {below : List Frame} {meth : Method} {c : Code} {H : Heap} {locs : List Loc} {cells slots : Nat} {Qz : State → Prop} {cc : ByteArray} {nL : Nat} {ret : Option FieldType} {E : xx_E} {σ : XS} {pc : Nat} {ls : Array Slot} {rest : List Value} (cx : xx_X "StruckCountsModel" cc nL ret E p s m args meth c) (hR : xR E σ H) (hS0 : va_S (xA E) s.heap H locs) {a : Nat} {r : Option Nat} {v : Option Nat} (hr : r = some a) (ha : xK ≤ a) (hk : kd σ a = 25) (hini : meth.name = "<init>") (hdg : decode cc pc = .ok (.putfield 58, 3)) (kk : ∀ (H1 : Heap) (locs1 : List Loc), xR E (pfr σ a 28 v) H1 → va_S (xA E) s.heap H1 locs1 → W p l e R s m args below meth c H1 locs1 cells slots Qz (F0 m (pc + 3) ls rest)) : W p l e R s m args below meth c H locs cells slots Qz (F0 m pc ls (xv E v :: xv E r :: rest)) :=
  x_put (ci := 24) cx hR hS0 hr ha hk (by decide) rfl in_X3 tyX3 tyX3_ok nmX3 28 (by decide) (Or.inr (Or.inl ⟨q2442, rfl, hini, rfl⟩)) (fun _ h => h) (by cases v <;> rfl) (by cases v <;> rfl) (xput_r rfl) hdg kk
theorem xp_X3_61_25 {l : Launch} {p : Program} {e : Env} {R : Room} {s : State} {m : MethodId} {args : Array Value} {below : List Frame} {meth : Method} {c : Code} {H : Heap} {locs : List Loc} {cells slots : Nat} {Qz : State → Prop} {cc : ByteArray} {nL : Nat} {ret : Option FieldType} {E : xx_E} {σ : XS} {pc : Nat} {ls : Array Slot} {rest : List Value} (cx : xx_X "StruckCountsModel" cc nL ret E p s m args meth c) (hR : xR E σ H) (hS0 : va_S (xA E) s.heap H locs) {a : Nat} {r : Option Nat} {v : Option Nat} (hr : r = some a) (ha : xK ≤ a) (hk : kd σ a = 25) (hini : meth.name = "<init>") (hdg : decode cc pc = .ok (.putfield 61, 3)) (kk : ∀ (H1 : Heap) (locs1 : List Loc), xR E (pfr σ a 29 v) H1 → va_S (xA E) s.heap H1 locs1 → W p l e R s m args below meth c H1 locs1 cells slots Qz (F0 m (pc + 3) ls rest)) : W p l e R s m args below meth c H locs cells slots Qz (F0 m pc ls (xv E v :: xv E r :: rest)) :=
  x_put (ci := 24) cx hR hS0 hr ha hk (by decide) rfl in_X3 tyX3 tyX3_ok nmX3 29 (by decide) (Or.inr (Or.inl ⟨q2443, rfl, hini, rfl⟩)) (fun _ h => h) (by cases v <;> rfl) (by cases v <;> rfl) (xput_r rfl) hdg kk
theorem xp_X3_64_25 {l : Launch} {p : Program} {e : Env} {R : Room} {s : State} {m : MethodId} {args : Array Value} {below : List Frame} {meth : Method} {c : Code} {H : Heap} {locs : List Loc} {cells slots : Nat} {Qz : State → Prop} {cc : ByteArray} {nL : Nat} {ret : Option FieldType} {E : xx_E} {σ : XS} {pc : Nat} {ls : Array Slot} {rest : List Value} (cx : xx_X "StruckCountsModel" cc nL ret E p s m args meth c) (hR : xR E σ H) (hS0 : va_S (xA E) s.heap H locs) {a : Nat} {r : Option Nat} {v : Option Nat} (hr : r = some a) (ha : xK ≤ a) (hk : kd σ a = 25) (hini : meth.name = "<init>") (hdg : decode cc pc = .ok (.putfield 64, 3)) (kk : ∀ (H1 : Heap) (locs1 : List Loc), xR E (pfr σ a 30 v) H1 → va_S (xA E) s.heap H1 locs1 → W p l e R s m args below meth c H1 locs1 cells slots Qz (F0 m (pc + 3) ls rest)) : W p l e R s m args below meth c H locs cells slots Qz (F0 m pc ls (xv E v :: xv E r :: rest)) :=
  x_put (ci := 24) cx hR hS0 hr ha hk (by decide) rfl in_X3 tyX3 tyX3_ok nmX3 30 (by decide) (Or.inr (Or.inl ⟨q2444, rfl, hini, rfl⟩)) (fun _ h => h) (by cases v <;> rfl) (by cases v <;> rfl) (xput_r rfl) hdg kk
theorem xp_X3_67_25 {l : Launch} {p : Program} {e : Env} {R : Room} {s : State} {m : MethodId} {args : Array Value} {below : List Frame} {meth : Method} {c : Code} {H : Heap} {locs : List Loc} {cells slots : Nat} {Qz : State → Prop} {cc : ByteArray} {nL : Nat} {ret : Option FieldType} {E : xx_E} {σ : XS} {pc : Nat} {ls : Array Slot} {rest : List Value} (cx : xx_X "StruckCountsModel" cc nL ret E p s m args meth c) (hR : xR E σ H) (hS0 : va_S (xA E) s.heap H locs) {a : Nat} {r : Option Nat} {v : Option Nat} (hr : r = some a) (ha : xK ≤ a) (hk : kd σ a = 25) (hini : meth.name = "<init>") (hdg : decode cc pc = .ok (.putfield 67, 3)) (kk : ∀ (H1 : Heap) (locs1 : List Loc), xR E (pfr σ a 33 v) H1 → va_S (xA E) s.heap H1 locs1 → W p l e R s m args below meth c H1 locs1 cells slots Qz (F0 m (pc + 3) ls rest)) : W p l e R s m args below meth c H locs cells slots Qz (F0 m pc ls (xv E v :: xv E r :: rest)) :=
  x_put (ci := 24) cx hR hS0 hr ha hk (by decide) rfl in_X3 tyX3 tyX3_ok nmX3 33 (by decide) (Or.inr (Or.inl ⟨q2447, rfl, hini, rfl⟩)) (fun _ h => h) (by cases v <;> rfl) (by cases v <;> rfl) (xput_r rfl) hdg kk
theorem xp_X3_70_25 {l : Launch} {p : Program} {e : Env} {R : Room} {s : State} {m : MethodId} {args : Array Value} {below : List Frame} {meth : Method} {c : Code} {H : Heap} {locs : List Loc} {cells slots : Nat} {Qz : State → Prop} {cc : ByteArray} {nL : Nat} {ret : Option FieldType} {E : xx_E} {σ : XS} {pc : Nat} {ls : Array Slot} {rest : List Value} (cx : xx_X "StruckCountsModel" cc nL ret E p s m args meth c) (hR : xR E σ H) (hS0 : va_S (xA E) s.heap H locs) {a : Nat} {r : Option Nat} {v : Option Nat} (hr : r = some a) (ha : xK ≤ a) (hk : kd σ a = 25) (hini : meth.name = "<init>") (hdg : decode cc pc = .ok (.putfield 70, 3)) (kk : ∀ (H1 : Heap) (locs1 : List Loc), xR E (pfr σ a 34 v) H1 → va_S (xA E) s.heap H1 locs1 → W p l e R s m args below meth c H1 locs1 cells slots Qz (F0 m (pc + 3) ls rest)) : W p l e R s m args below meth c H locs cells slots Qz (F0 m pc ls (xv E v :: xv E r :: rest)) :=
  x_put (ci := 24) cx hR hS0 hr ha hk (by decide) rfl in_X3 tyX3 tyX3_ok nmX3 34 (by decide) (Or.inr (Or.inl ⟨q2448, rfl, hini, rfl⟩)) (fun _ h => h) (by cases v <;> rfl) (by cases v <;> rfl) (xput_r rfl) hdg kk
theorem xp_X3_73_25 {l : Launch} {p : Program} {e : Env} {R : Room} {s : State} {m : MethodId} {args : Array Value} {below : List Frame} {meth : Method} {c : Code} {H : Heap} {locs : List Loc} {cells slots : Nat} {Qz : State → Prop} {cc : ByteArray} {nL : Nat} {ret : Option FieldType} {E : xx_E} {σ : XS} {pc : Nat} {ls : Array Slot} {rest : List Value} (cx : xx_X "StruckCountsModel" cc nL ret E p s m args meth c) (hR : xR E σ H) (hS0 : va_S (xA E) s.heap H locs) {a : Nat} {r : Option Nat} {v : Option Nat} (hr : r = some a) (ha : xK ≤ a) (hk : kd σ a = 25) (hini : meth.name = "<init>") (hdg : decode cc pc = .ok (.putfield 73, 3)) (kk : ∀ (H1 : Heap) (locs1 : List Loc), xR E (pfr σ a 35 v) H1 → va_S (xA E) s.heap H1 locs1 → W p l e R s m args below meth c H1 locs1 cells slots Qz (F0 m (pc + 3) ls rest)) : W p l e R s m args below meth c H locs cells slots Qz (F0 m pc ls (xv E v :: xv E r :: rest)) :=
  x_put (ci := 24) cx hR hS0 hr ha hk (by decide) rfl in_X3 tyX3 tyX3_ok nmX3 35 (by decide) (Or.inr (Or.inl ⟨q2449, rfl, hini, rfl⟩)) (fun _ h => h) (by cases v <;> rfl) (by cases v <;> rfl) (xput_r rfl) hdg kk
theorem xp_X3_76_25 {l : Launch} {p : Program} {e : Env} {R : Room} {s : State} {m : MethodId} {args : Array Value} {below : List Frame} {meth : Method} {c : Code} {H : Heap} {locs : List Loc} {cells slots : Nat} {Qz : State → Prop} {cc : ByteArray} {nL : Nat} {ret : Option FieldType} {E : xx_E} {σ : XS} {pc : Nat} {ls : Array Slot} {rest : List Value} (cx : xx_X "StruckCountsModel" cc nL ret E p s m args meth c) (hR : xR E σ H) (hS0 : va_S (xA E) s.heap H locs) {a : Nat} {r : Option Nat} {v : Option Nat} (hr : r = some a) (ha : xK ≤ a) (hk : kd σ a = 25) (hini : meth.name = "<init>") (hdg : decode cc pc = .ok (.putfield 76, 3)) (kk : ∀ (H1 : Heap) (locs1 : List Loc), xR E (pfr σ a 38 v) H1 → va_S (xA E) s.heap H1 locs1 → W p l e R s m args below meth c H1 locs1 cells slots Qz (F0 m (pc + 3) ls rest)) : W p l e R s m args below meth c H locs cells slots Qz (F0 m pc ls (xv E v :: xv E r :: rest)) :=
  x_put (ci := 24) cx hR hS0 hr ha hk (by decide) rfl in_X3 tyX3 tyX3_ok nmX3 38 (by decide) (Or.inr (Or.inl ⟨q2452, rfl, hini, rfl⟩)) (fun _ h => h) (by cases v <;> rfl) (by cases v <;> rfl) (xput_r rfl) hdg kk
theorem xg_X3_7_25 {l : Launch} {p : Program} {e : Env} {R : Room} {s : State} {m : MethodId} {args : Array Value} {below : List Frame} {meth : Method} {c : Code} {H : Heap} {locs : List Loc} {cells slots : Nat} {Qz : State → Prop} {cc : ByteArray} {nL : Nat} {ret : Option FieldType} {E : xx_E} {σ : XS} {pc : Nat} {ls : Array Slot} {rest : List Value} (cx : xx_X "StruckCountsModel" cc nL ret E p s m args meth c) (hR : xR E σ H) {a : Nat} {r : Option Nat} (hr : r = some a) (hk : kd σ a = 25) (hdg : decode cc pc = .ok (.getfield 7, 3)) (kk : W p l e R s m args below meth c H locs cells slots Qz (F0 m (pc + 3) ls (xv E (fr σ a 0) :: rest))) : W p l e R s m args below meth c H locs cells slots Qz (F0 m pc ls (xv E r :: rest)) :=
  x_get (ci := 24) cx hR hr hk (by decide) rfl in_X3 0 (by decide) q2414 (fun _ h => h) (v := xv E (fr σ a 0)) rfl hdg kk
/-- the state at the end of the fields' making -/
def xi_end (th : Nat) (s0 : XS) : XS := (xi_st 100 256 38 th (xi_st 100 6561 35 th (xi_st 100 6561 34 th (xi_st 100 6561 33 th (xi_st 100 8 30 th (xi_st 100 8 29 th (xi_st 100 8 28 th (xi_st 100 8 27 th (xi_st 100 40 26 th (xi_st 100 256 25 th (xi_st 100 8 24 th (xi_st 100 490 23 th (pfi (xi_st 100 480 9 th (xi_st 101 2 7 th (xi_st 100 166 6 th (xi_st 100 1328 5 th (xi_st 100 83 4 th (xi_st 107 13 3 th (xi_st 107 13 2 th (xi_st 100 640 1 th (xi_st 100 640 0 th s0))))))))) th 20 (-1))))))))))))))
def xi_P (th z : Nat) (s : XS) : Prop := fr s th 0 = some z ∧ kd s z = 100 ∧ ln s z = 640 ∧ z < xn s ∧ th < xn s
theorem xi_P0 {th : Nat} {s : XS} (h : th < xn s) : xi_P th (xn s) (xi_st 100 640 0 th s) := by
  refine ⟨?_, ?_, ?_, Nat.lt_succ_self _, Nat.lt_succ_of_lt h⟩
  · show up2 _ th 0 (some (xn s)) th 0 = _
    simp [up2]
  · show (if xn s = s.1 then _ else _) = _
    rw [if_pos (show xn s = s.1 from rfl)]
  · show (if xn s = s.1 then _ else _) = _
    rw [if_pos (show xn s = s.1 from rfl)]
theorem xi_Ps {K N f th z : Nat} {s : XS} (hf : f ≠ 0) (h : xi_P th z s) : xi_P th z (xi_st K N f th s) := by
  obtain ⟨h1, h2, h3, h4, h5⟩ := h
  refine ⟨?_, ?_, ?_, Nat.lt_succ_of_lt h4, Nat.lt_succ_of_lt h5⟩
  · show up2 (fun b j => if b = s.1 then none else s.2.2.2.2.1 b j) th f (some (xn s)) th 0 = _
    rw [show up2 (fun b j => if b = s.1 then none else s.2.2.2.2.1 b j) th f (some (xn s)) th 0 = (if th = s.1 then none else s.2.2.2.2.1 th 0) by simp [up2, Ne.symm hf], if_neg (show ¬ th = s.1 from fun e => by have : th = xn s := e; omega)]
    exact h1
  · show (if z = s.1 then _ else _) = _
    rw [if_neg (show ¬ z = s.1 from fun e => by have : z = xn s := e; omega)]
    exact h2
  · show (if z = s.1 then _ else _) = _
    rw [if_neg (show ¬ z = s.1 from fun e => by have : z = xn s := e; omega)]
    exact h3
theorem xi_Pi {k th z : Nat} {v : Int32} {s : XS} (h : xi_P th z s) : xi_P th z (pfi s th k v) := h
theorem xi_told {th : Nat} {s : XS} (hlt : th < xn s) (hK : xK ≤ xn s) : fr (xi_end th s) th 0 = some (xn s) ∧ kd (xi_end th s) (xn s) = 100 ∧ ln (xi_end th s) (xn s) = 640 ∧ xK ≤ xn s := by
  have h : xi_P th (xn s) (xi_end th s) := xi_Ps (by decide) (xi_Ps (by decide) (xi_Ps (by decide) (xi_Ps (by decide) (xi_Ps (by decide) (xi_Ps (by decide) (xi_Ps (by decide) (xi_Ps (by decide) (xi_Ps (by decide) (xi_Ps (by decide) (xi_Ps (by decide) (xi_Ps (by decide) (xi_Pi (xi_Ps (by decide) (xi_Ps (by decide) (xi_Ps (by decide) (xi_Ps (by decide) (xi_Ps (by decide) (xi_Ps (by decide) (xi_Ps (by decide) (xi_Ps (by decide) (xi_P0 hlt)))))))))))))))))))))
  exact ⟨h.1, h.2.1, h.2.2.1, hK⟩
set_option maxHeartbeats 4000000 in
theorem XI_init {l : Launch} {p : Program} {e : Env} {s : State} {m : MethodId} {args : Array Value} {below : List Frame} {meth : Method} {c : Code} {E : xx_E} {s0 : XS} {H : Heap} {locs : List Loc} {ls : Array Slot} {cells slots mc ms th : Nat} {Qz : State → Prop} (cx : xx_X "StruckCountsModel" cX3_init 1 none E p s m args meth c) (hini : meth.name = "<init>") (hge : xK ≤ th) (hk : kd s0 th = 25) (hlt : th < xn s0) (hR : xR E s0 H) (hS : va_S (xA E) s.heap H locs) (hl : lv_has ls 1 [(0, xv E (some th))]) (hcb : cells + 21 ≤ mc) (hsb : slots + 24130 ≤ ms)
    (kk : ∀ (H1 : Heap) (locs1 : List Loc) (ls1 : Array Slot) (cells1 slots1 : Nat), xR E (pai (xi_end th s0) (xn s0) 5 300) H1 → va_S (xA E) s.heap H1 locs1 → lv_has ls1 1 [(0, xv E (some th))] → cells1 ≤ mc → slots1 ≤ ms → W p l e ({ frames := 12, cells := mc, slots := ms, locals := 480 } : Room) s m args below meth c H1 locs1 cells1 slots1 Qz (F0 m 197 ls1 [xv E (some th)])) : W p l e ({ frames := 12, cells := mc, slots := ms, locals := 480 } : Room) s m args below meth c H locs cells slots Qz (F0 m 0 ls []) := by
  have hlt0 := hlt
  have hK0 := hR.1
  obtain ⟨hx, hb, hml, hown, hts, hrt, hlk, hMK, hZ⟩ := id cx
  refine x_aload_n (r := some th) cx dX3_init_0 rfl (lv_at hl 0 rfl) ?_
  refine x_objinit cx hl.1 rfl q2368 (xroom12 (Nat.le_of_ble_eq_true rfl) (Nat.le_of_ble_eq_true rfl)) (Nat.le_of_ble_eq_true rfl) dX3_init_1 ?_
  refine x_aload_n (r := some th) cx dX3_init_4 rfl (lv_at hl 0 rfl) ?_
  refine lv_sipush (v := (640 : Int32)) hx hb dX3_init_5 (by decide) ?_
  refine x_newa (atype := .int) cx hR hS 0 (by decide) rfl q376 (fun _ => rfl) (fun h => absurd h (by decide)) (N := 640) (by decide) (by decide) (Nat.le_of_ble_eq_true rfl) (by dsimp only; omega) (by dsimp only; omega) dX3_init_8 (fun H hR hS => ?_)
  refine xp_X3_7_25 (v := some (xn s0)) cx hR hS rfl hge (xi_k2 hk hlt) hini dX3_init_10 (fun H locs hR hS => ?_)
  generalize hs1 : xi_st 100 640 0 th s0 = s1
  have hR : xR E s1 H := by rw [← hs1]; exact hR
  have ⟨hk, hlt⟩ : kd s1 th = 25 ∧ th < xn s1 := by rw [← hs1]; exact xi_k hk hlt
  refine x_aload_n (r := some th) cx dX3_init_13 rfl (lv_at hl 0 rfl) ?_
  refine lv_sipush (v := (640 : Int32)) hx hb dX3_init_14 (by decide) ?_
  refine x_newa (atype := .int) cx hR hS 0 (by decide) rfl q376 (fun _ => rfl) (fun h => absurd h (by decide)) (N := 640) (by decide) (by decide) (Nat.le_of_ble_eq_true rfl) (by dsimp only; omega) (by dsimp only; omega) dX3_init_17 (fun H hR hS => ?_)
  refine xp_X3_13_25 (v := some (xn s1)) cx hR hS rfl hge (xi_k2 hk hlt) hini dX3_init_19 (fun H locs hR hS => ?_)
  generalize hs2 : xi_st 100 640 1 th s1 = s2
  have hR : xR E s2 H := by rw [← hs2]; exact hR
  have ⟨hk, hlt⟩ : kd s2 th = 25 ∧ th < xn s2 := by rw [← hs2]; exact xi_k hk hlt
  refine x_aload_n (r := some th) cx dX3_init_22 rfl (lv_at hl 0 rfl) ?_
  refine lv_bipush (v := (13 : Int32)) hx hb dX3_init_23 (by decide) ?_
  refine x_newa (atype := .long) cx hR hS 7 (by decide) rfl q2541 (fun _ => absurd ‹_› (by decide)) (fun h => rfl) (N := 13) (by decide) (by decide) (Nat.le_of_ble_eq_true rfl) (by dsimp only; omega) (by dsimp only; omega) dX3_init_25 (fun H hR hS => ?_)
  refine xp_X3_16_25 (v := some (xn s2)) cx hR hS rfl hge (xi_k2 hk hlt) hini dX3_init_27 (fun H locs hR hS => ?_)
  generalize hs3 : xi_st 107 13 2 th s2 = s3
  have hR : xR E s3 H := by rw [← hs3]; exact hR
  have ⟨hk, hlt⟩ : kd s3 th = 25 ∧ th < xn s3 := by rw [← hs3]; exact xi_k hk hlt
  refine x_aload_n (r := some th) cx dX3_init_30 rfl (lv_at hl 0 rfl) ?_
  refine lv_bipush (v := (13 : Int32)) hx hb dX3_init_31 (by decide) ?_
  refine x_newa (atype := .long) cx hR hS 7 (by decide) rfl q2541 (fun _ => absurd ‹_› (by decide)) (fun h => rfl) (N := 13) (by decide) (by decide) (Nat.le_of_ble_eq_true rfl) (by dsimp only; omega) (by dsimp only; omega) dX3_init_33 (fun H hR hS => ?_)
  refine xp_X3_20_25 (v := some (xn s3)) cx hR hS rfl hge (xi_k2 hk hlt) hini dX3_init_35 (fun H locs hR hS => ?_)
  generalize hs4 : xi_st 107 13 3 th s3 = s4
  have hR : xR E s4 H := by rw [← hs4]; exact hR
  have ⟨hk, hlt⟩ : kd s4 th = 25 ∧ th < xn s4 := by rw [← hs4]; exact xi_k hk hlt
  refine x_aload_n (r := some th) cx dX3_init_38 rfl (lv_at hl 0 rfl) ?_
  refine lv_bipush (v := (83 : Int32)) hx hb dX3_init_39 (by decide) ?_
  refine x_newa (atype := .int) cx hR hS 0 (by decide) rfl q376 (fun _ => rfl) (fun h => absurd h (by decide)) (N := 83) (by decide) (by decide) (Nat.le_of_ble_eq_true rfl) (by dsimp only; omega) (by dsimp only; omega) dX3_init_41 (fun H hR hS => ?_)
  refine xp_X3_23_25 (v := some (xn s4)) cx hR hS rfl hge (xi_k2 hk hlt) hini dX3_init_43 (fun H locs hR hS => ?_)
  generalize hs5 : xi_st 100 83 4 th s4 = s5
  have hR : xR E s5 H := by rw [← hs5]; exact hR
  have ⟨hk, hlt⟩ : kd s5 th = 25 ∧ th < xn s5 := by rw [← hs5]; exact xi_k hk hlt
  refine x_aload_n (r := some th) cx dX3_init_46 rfl (lv_at hl 0 rfl) ?_
  refine lv_sipush (v := (1328 : Int32)) hx hb dX3_init_47 (by decide) ?_
  refine x_newa (atype := .int) cx hR hS 0 (by decide) rfl q376 (fun _ => rfl) (fun h => absurd h (by decide)) (N := 1328) (by decide) (by decide) (Nat.le_of_ble_eq_true rfl) (by dsimp only; omega) (by dsimp only; omega) dX3_init_50 (fun H hR hS => ?_)
  refine xp_X3_26_25 (v := some (xn s5)) cx hR hS rfl hge (xi_k2 hk hlt) hini dX3_init_52 (fun H locs hR hS => ?_)
  generalize hs6 : xi_st 100 1328 5 th s5 = s6
  have hR : xR E s6 H := by rw [← hs6]; exact hR
  have ⟨hk, hlt⟩ : kd s6 th = 25 ∧ th < xn s6 := by rw [← hs6]; exact xi_k hk hlt
  refine x_aload_n (r := some th) cx dX3_init_55 rfl (lv_at hl 0 rfl) ?_
  refine lv_sipush (v := (166 : Int32)) hx hb dX3_init_56 (by decide) ?_
  refine x_newa (atype := .int) cx hR hS 0 (by decide) rfl q376 (fun _ => rfl) (fun h => absurd h (by decide)) (N := 166) (by decide) (by decide) (Nat.le_of_ble_eq_true rfl) (by dsimp only; omega) (by dsimp only; omega) dX3_init_59 (fun H hR hS => ?_)
  refine xp_X3_29_25 (v := some (xn s6)) cx hR hS rfl hge (xi_k2 hk hlt) hini dX3_init_61 (fun H locs hR hS => ?_)
  generalize hs7 : xi_st 100 166 6 th s6 = s7
  have hR : xR E s7 H := by rw [← hs7]; exact hR
  have ⟨hk, hlt⟩ : kd s7 th = 25 ∧ th < xn s7 := by rw [← hs7]; exact xi_k hk hlt
  refine x_aload_n (r := some th) cx dX3_init_64 rfl (lv_at hl 0 rfl) ?_
  refine lv_iconst (v := (2 : Int32)) hx hb dX3_init_65 (by decide) ?_
  refine x_newa (atype := .boolean) cx hR hS 1 (by decide) rfl q377 (fun _ => rfl) (fun h => absurd h (by decide)) (N := 2) (by decide) (by decide) (Nat.le_of_ble_eq_true rfl) (by dsimp only; omega) (by dsimp only; omega) dX3_init_66 (fun H hR hS => ?_)
  refine xp_X3_32_25 (v := some (xn s7)) cx hR hS rfl hge (xi_k2 hk hlt) hini dX3_init_68 (fun H locs hR hS => ?_)
  generalize hs8 : xi_st 101 2 7 th s7 = s8
  have hR : xR E s8 H := by rw [← hs8]; exact hR
  have ⟨hk, hlt⟩ : kd s8 th = 25 ∧ th < xn s8 := by rw [← hs8]; exact xi_k hk hlt
  refine x_aload_n (r := some th) cx dX3_init_71 rfl (lv_at hl 0 rfl) ?_
  refine lv_sipush (v := (480 : Int32)) hx hb dX3_init_72 (by decide) ?_
  refine x_newa (atype := .int) cx hR hS 0 (by decide) rfl q376 (fun _ => rfl) (fun h => absurd h (by decide)) (N := 480) (by decide) (by decide) (Nat.le_of_ble_eq_true rfl) (by dsimp only; omega) (by dsimp only; omega) dX3_init_75 (fun H hR hS => ?_)
  refine xp_X3_36_25 (v := some (xn s8)) cx hR hS rfl hge (xi_k2 hk hlt) hini dX3_init_77 (fun H locs hR hS => ?_)
  generalize hs9 : xi_st 100 480 9 th s8 = s9
  have hR : xR E s9 H := by rw [← hs9]; exact hR
  have ⟨hk, hlt⟩ : kd s9 th = 25 ∧ th < xn s9 := by rw [← hs9]; exact xi_k hk hlt
  refine x_aload_n (r := some th) cx dX3_init_80 rfl (lv_at hl 0 rfl) ?_
  refine lv_iconst (v := (-1 : Int32)) hx hb dX3_init_81 (by decide) ?_
  refine xp_X3_39_25 (v := (-1 : Int32)) cx hR hS rfl hge hk dX3_init_82 (fun H locs hR hS => ?_)
  generalize hs10 : pfi s9 th 20 (-1) = s10 at hR
  have hk : kd s10 th = 25 := by rw [← hs10]; exact hk
  have hlt : th < xn s10 := by rw [← hs10]; exact hlt
  refine x_aload_n (r := some th) cx dX3_init_85 rfl (lv_at hl 0 rfl) ?_
  refine lv_sipush (v := (490 : Int32)) hx hb dX3_init_86 (by decide) ?_
  refine x_newa (atype := .int) cx hR hS 0 (by decide) rfl q376 (fun _ => rfl) (fun h => absurd h (by decide)) (N := 490) (by decide) (by decide) (Nat.le_of_ble_eq_true rfl) (by dsimp only; omega) (by dsimp only; omega) dX3_init_89 (fun H hR hS => ?_)
  refine xp_X3_43_25 (v := some (xn s10)) cx hR hS rfl hge (xi_k2 hk hlt) hini dX3_init_91 (fun H locs hR hS => ?_)
  generalize hs11 : xi_st 100 490 23 th s10 = s11
  have hR : xR E s11 H := by rw [← hs11]; exact hR
  have ⟨hk, hlt⟩ : kd s11 th = 25 ∧ th < xn s11 := by rw [← hs11]; exact xi_k hk hlt
  refine x_aload_n (r := some th) cx dX3_init_94 rfl (lv_at hl 0 rfl) ?_
  refine lv_bipush (v := (8 : Int32)) hx hb dX3_init_95 (by decide) ?_
  refine x_newa (atype := .int) cx hR hS 0 (by decide) rfl q376 (fun _ => rfl) (fun h => absurd h (by decide)) (N := 8) (by decide) (by decide) (Nat.le_of_ble_eq_true rfl) (by dsimp only; omega) (by dsimp only; omega) dX3_init_97 (fun H hR hS => ?_)
  refine xp_X3_46_25 (v := some (xn s11)) cx hR hS rfl hge (xi_k2 hk hlt) hini dX3_init_99 (fun H locs hR hS => ?_)
  generalize hs12 : xi_st 100 8 24 th s11 = s12
  have hR : xR E s12 H := by rw [← hs12]; exact hR
  have ⟨hk, hlt⟩ : kd s12 th = 25 ∧ th < xn s12 := by rw [← hs12]; exact xi_k hk hlt
  refine x_aload_n (r := some th) cx dX3_init_102 rfl (lv_at hl 0 rfl) ?_
  refine lv_sipush (v := (256 : Int32)) hx hb dX3_init_103 (by decide) ?_
  refine x_newa (atype := .int) cx hR hS 0 (by decide) rfl q376 (fun _ => rfl) (fun h => absurd h (by decide)) (N := 256) (by decide) (by decide) (Nat.le_of_ble_eq_true rfl) (by dsimp only; omega) (by dsimp only; omega) dX3_init_106 (fun H hR hS => ?_)
  refine xp_X3_49_25 (v := some (xn s12)) cx hR hS rfl hge (xi_k2 hk hlt) hini dX3_init_108 (fun H locs hR hS => ?_)
  generalize hs13 : xi_st 100 256 25 th s12 = s13
  have hR : xR E s13 H := by rw [← hs13]; exact hR
  have ⟨hk, hlt⟩ : kd s13 th = 25 ∧ th < xn s13 := by rw [← hs13]; exact xi_k hk hlt
  refine x_aload_n (r := some th) cx dX3_init_111 rfl (lv_at hl 0 rfl) ?_
  refine lv_bipush (v := (40 : Int32)) hx hb dX3_init_112 (by decide) ?_
  refine x_newa (atype := .int) cx hR hS 0 (by decide) rfl q376 (fun _ => rfl) (fun h => absurd h (by decide)) (N := 40) (by decide) (by decide) (Nat.le_of_ble_eq_true rfl) (by dsimp only; omega) (by dsimp only; omega) dX3_init_114 (fun H hR hS => ?_)
  refine xp_X3_52_25 (v := some (xn s13)) cx hR hS rfl hge (xi_k2 hk hlt) hini dX3_init_116 (fun H locs hR hS => ?_)
  generalize hs14 : xi_st 100 40 26 th s13 = s14
  have hR : xR E s14 H := by rw [← hs14]; exact hR
  have ⟨hk, hlt⟩ : kd s14 th = 25 ∧ th < xn s14 := by rw [← hs14]; exact xi_k hk hlt
  refine x_aload_n (r := some th) cx dX3_init_119 rfl (lv_at hl 0 rfl) ?_
  refine lv_bipush (v := (8 : Int32)) hx hb dX3_init_120 (by decide) ?_
  refine x_newa (atype := .int) cx hR hS 0 (by decide) rfl q376 (fun _ => rfl) (fun h => absurd h (by decide)) (N := 8) (by decide) (by decide) (Nat.le_of_ble_eq_true rfl) (by dsimp only; omega) (by dsimp only; omega) dX3_init_122 (fun H hR hS => ?_)
  refine xp_X3_55_25 (v := some (xn s14)) cx hR hS rfl hge (xi_k2 hk hlt) hini dX3_init_124 (fun H locs hR hS => ?_)
  generalize hs15 : xi_st 100 8 27 th s14 = s15
  have hR : xR E s15 H := by rw [← hs15]; exact hR
  have ⟨hk, hlt⟩ : kd s15 th = 25 ∧ th < xn s15 := by rw [← hs15]; exact xi_k hk hlt
  refine x_aload_n (r := some th) cx dX3_init_127 rfl (lv_at hl 0 rfl) ?_
  refine lv_bipush (v := (8 : Int32)) hx hb dX3_init_128 (by decide) ?_
  refine x_newa (atype := .int) cx hR hS 0 (by decide) rfl q376 (fun _ => rfl) (fun h => absurd h (by decide)) (N := 8) (by decide) (by decide) (Nat.le_of_ble_eq_true rfl) (by dsimp only; omega) (by dsimp only; omega) dX3_init_130 (fun H hR hS => ?_)
  refine xp_X3_58_25 (v := some (xn s15)) cx hR hS rfl hge (xi_k2 hk hlt) hini dX3_init_132 (fun H locs hR hS => ?_)
  generalize hs16 : xi_st 100 8 28 th s15 = s16
  have hR : xR E s16 H := by rw [← hs16]; exact hR
  have ⟨hk, hlt⟩ : kd s16 th = 25 ∧ th < xn s16 := by rw [← hs16]; exact xi_k hk hlt
  refine x_aload_n (r := some th) cx dX3_init_135 rfl (lv_at hl 0 rfl) ?_
  refine lv_bipush (v := (8 : Int32)) hx hb dX3_init_136 (by decide) ?_
  refine x_newa (atype := .int) cx hR hS 0 (by decide) rfl q376 (fun _ => rfl) (fun h => absurd h (by decide)) (N := 8) (by decide) (by decide) (Nat.le_of_ble_eq_true rfl) (by dsimp only; omega) (by dsimp only; omega) dX3_init_138 (fun H hR hS => ?_)
  refine xp_X3_61_25 (v := some (xn s16)) cx hR hS rfl hge (xi_k2 hk hlt) hini dX3_init_140 (fun H locs hR hS => ?_)
  generalize hs17 : xi_st 100 8 29 th s16 = s17
  have hR : xR E s17 H := by rw [← hs17]; exact hR
  have ⟨hk, hlt⟩ : kd s17 th = 25 ∧ th < xn s17 := by rw [← hs17]; exact xi_k hk hlt
  refine x_aload_n (r := some th) cx dX3_init_143 rfl (lv_at hl 0 rfl) ?_
  refine lv_bipush (v := (8 : Int32)) hx hb dX3_init_144 (by decide) ?_
  refine x_newa (atype := .int) cx hR hS 0 (by decide) rfl q376 (fun _ => rfl) (fun h => absurd h (by decide)) (N := 8) (by decide) (by decide) (Nat.le_of_ble_eq_true rfl) (by dsimp only; omega) (by dsimp only; omega) dX3_init_146 (fun H hR hS => ?_)
  refine xp_X3_64_25 (v := some (xn s17)) cx hR hS rfl hge (xi_k2 hk hlt) hini dX3_init_148 (fun H locs hR hS => ?_)
  generalize hs18 : xi_st 100 8 30 th s17 = s18
  have hR : xR E s18 H := by rw [← hs18]; exact hR
  have ⟨hk, hlt⟩ : kd s18 th = 25 ∧ th < xn s18 := by rw [← hs18]; exact xi_k hk hlt
  refine x_aload_n (r := some th) cx dX3_init_151 rfl (lv_at hl 0 rfl) ?_
  refine lv_sipush (v := (6561 : Int32)) hx hb dX3_init_152 (by decide) ?_
  refine x_newa (atype := .int) cx hR hS 0 (by decide) rfl q376 (fun _ => rfl) (fun h => absurd h (by decide)) (N := 6561) (by decide) (by decide) (Nat.le_of_ble_eq_true rfl) (by dsimp only; omega) (by dsimp only; omega) dX3_init_155 (fun H hR hS => ?_)
  refine xp_X3_67_25 (v := some (xn s18)) cx hR hS rfl hge (xi_k2 hk hlt) hini dX3_init_157 (fun H locs hR hS => ?_)
  generalize hs19 : xi_st 100 6561 33 th s18 = s19
  have hR : xR E s19 H := by rw [← hs19]; exact hR
  have ⟨hk, hlt⟩ : kd s19 th = 25 ∧ th < xn s19 := by rw [← hs19]; exact xi_k hk hlt
  refine x_aload_n (r := some th) cx dX3_init_160 rfl (lv_at hl 0 rfl) ?_
  refine lv_sipush (v := (6561 : Int32)) hx hb dX3_init_161 (by decide) ?_
  refine x_newa (atype := .int) cx hR hS 0 (by decide) rfl q376 (fun _ => rfl) (fun h => absurd h (by decide)) (N := 6561) (by decide) (by decide) (Nat.le_of_ble_eq_true rfl) (by dsimp only; omega) (by dsimp only; omega) dX3_init_164 (fun H hR hS => ?_)
  refine xp_X3_70_25 (v := some (xn s19)) cx hR hS rfl hge (xi_k2 hk hlt) hini dX3_init_166 (fun H locs hR hS => ?_)
  generalize hs20 : xi_st 100 6561 34 th s19 = s20
  have hR : xR E s20 H := by rw [← hs20]; exact hR
  have ⟨hk, hlt⟩ : kd s20 th = 25 ∧ th < xn s20 := by rw [← hs20]; exact xi_k hk hlt
  refine x_aload_n (r := some th) cx dX3_init_169 rfl (lv_at hl 0 rfl) ?_
  refine lv_sipush (v := (6561 : Int32)) hx hb dX3_init_170 (by decide) ?_
  refine x_newa (atype := .int) cx hR hS 0 (by decide) rfl q376 (fun _ => rfl) (fun h => absurd h (by decide)) (N := 6561) (by decide) (by decide) (Nat.le_of_ble_eq_true rfl) (by dsimp only; omega) (by dsimp only; omega) dX3_init_173 (fun H hR hS => ?_)
  refine xp_X3_73_25 (v := some (xn s20)) cx hR hS rfl hge (xi_k2 hk hlt) hini dX3_init_175 (fun H locs hR hS => ?_)
  generalize hs21 : xi_st 100 6561 35 th s20 = s21
  have hR : xR E s21 H := by rw [← hs21]; exact hR
  have ⟨hk, hlt⟩ : kd s21 th = 25 ∧ th < xn s21 := by rw [← hs21]; exact xi_k hk hlt
  refine x_aload_n (r := some th) cx dX3_init_178 rfl (lv_at hl 0 rfl) ?_
  refine lv_sipush (v := (256 : Int32)) hx hb dX3_init_179 (by decide) ?_
  refine x_newa (atype := .int) cx hR hS 0 (by decide) rfl q376 (fun _ => rfl) (fun h => absurd h (by decide)) (N := 256) (by decide) (by decide) (Nat.le_of_ble_eq_true rfl) (by dsimp only; omega) (by dsimp only; omega) dX3_init_182 (fun H hR hS => ?_)
  refine xp_X3_76_25 (v := some (xn s21)) cx hR hS rfl hge (xi_k2 hk hlt) hini dX3_init_184 (fun H locs hR hS => ?_)
  generalize hs22 : xi_st 100 256 38 th s21 = s22
  have hR : xR E s22 H := by rw [← hs22]; exact hR
  have ⟨hk, hlt⟩ : kd s22 th = 25 ∧ th < xn s22 := by rw [← hs22]; exact xi_k hk hlt
  have hfin : s22 = xi_end th s0 := by rw [xi_end, ← hs22, ← hs21, ← hs20, ← hs19, ← hs18, ← hs17, ← hs16, ← hs15, ← hs14, ← hs13, ← hs12, ← hs11, ← hs10, ← hs9, ← hs8, ← hs7, ← hs6, ← hs5, ← hs4, ← hs3, ← hs2, ← hs1]
  refine x_aload_n (r := some th) cx dX3_init_187 rfl (lv_at hl 0 rfl) ?_
  refine xg_X3_7_25 cx hR rfl hk dX3_init_188 ?_
  refine lv_iconst (v := (5 : Int32)) hx hb dX3_init_191 (by decide) ?_
  refine lv_sipush (v := (300 : Int32)) hx hb dX3_init_192 (by decide) ?_
  obtain ⟨h1, h2, h3, h4⟩ := xi_told (th := th) (s := s0) hlt0 hK0
  rw [← hfin] at h1 h2 h3
  refine x_iast cx hR hS h1 h4 h2 (j := 5) (by decide) (vp_lit (by rw [h3]; decide)) dX3_init_195 (fun H locs hR hS => ?_)
  rw [hfin] at hR
  refine x_aload_n (r := some th) cx dX3_init_196 rfl (lv_at hl 0 rfl) ?_
  exact kk _ _ _ _ _ hR hS hl (by omega) (by omega)
