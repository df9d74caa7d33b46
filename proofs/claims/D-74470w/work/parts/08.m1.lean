/-! walks of the model's methods (printed by gen/mparts.py): empties holds mayBe adds isIn isWonTold isKnown knownFacts knownSo laysAgreed laysKnown laysTables sign in end see next takes wrong passes room isName factNamed countNamed newName number isSign must readFact step opens here oneTooMany known both either -/
set_option maxRecDepth 100000
theorem C3_isWord {l : Launch} {p : Program} {e : Env} {R : Room} {s : State} {m : MethodId} {args : Array Value} {below : List Frame} {meth : Method} {c : Code} {H : Heap} {locs : List Loc} {cells slots : Nat} {Qz : State → Prop} {cc : ByteArray} {nL : Nat} {ret : Option FieldType} {G : mm_G} {pc : Nat} {ls : Array Slot} {rest : List Value} {x1 : Nat} {σ : MS} (cx : mm_X cc nL ret G p s m args meth c) (hM : mm_R G σ H) (hS0 : va_S (mm_A G) s.heap H locs) {Qf : Int32 → MS → Prop} (hw : w3_isWord x1 σ Qf) (hR : (({ frames := 8, cells := 0, slots := 0, locals := 320 } : Room)).frames + 1 ≤ R.frames ∧ 8 + (2 + 11) + (({ frames := 8, cells := 0, slots := 0, locals := 320 } : Room)).locals ≤ R.locals) (hroom : (rest.map fun v => v.category).sum ≤ 8) (hsize : ls.size = nL) (hf : cells ≤ R.cells ∧ slots ≤ R.slots) (hdg : decode cc pc = .ok (.invokevirtual 135, 3))
    (kk : ∀ (r : Int32) (σ1 : MS) (H1 : Heap) (locs1 : List Loc), Qf r σ1 → mm_R G σ1 H1 → va_S (mm_A G) s.heap H1 locs1 → W p l e R s m args below meth c H1 locs1 cells slots Qz (F0 m (pc + 3) ls (.int r :: rest))) : W p l e R s m args below meth c H locs cells slots Qz (F0 m pc ls (.ref (mm_s G x1) :: .ref (mm_o G) :: rest)) := by
  obtain ⟨hx, hb, hml, hown, hts, hr, hlk, hK, hZ⟩ := id cx
  exact mm_Vi cx hM hS0 (As := [.ref (mm_s G x1)]) (M3_isWord l G x1 σ Qf hw) (cwV 1 hts (lw_V q2576 q2578 qs85 q172 q2579) rfl rfl rfl (by decide +kernel) hR) rfl hsize rfl hroom hf hdg kk
def w3_empties_2 (Q : MS → Prop) (K2 : Nat → Int32 → MS → Prop) (x0 : Nat) (x1 : Int32) (σ : MS) : Prop :=
  mm_i x0 = true ∧ (if (nI (mm_z x0)) ≤ x1 then (Q σ) else (mm_w x0 = true ∧ (vp_in x1 (mm_z x0) ∧ (∀ v1 : Int32, v1 = x1 + (1 : Int32) → K2 x0 v1 (sA σ x0 x1.toNatClampNeg (0 : Int32))))))
set_option maxHeartbeats 4000000 in
theorem B3_empties_2 {l : Launch} {p : Program} {e : Env} {s : State} {m : MethodId} {args : Array Value} {below : List Frame} {meth : Method} {c : Code} {G : mm_G} {Q : MS → Prop} {K2 : Nat → Int32 → MS → Prop} (cx : mm_X cX3_empties 2 none G p s m args meth c) (hK2 : ∀ (x0 : Nat) (x1 : Int32) (σ : MS), K2 x0 x1 σ → mm_T p l e ({ frames := 0, cells := 0, slots := 0, locals := 0 } : Room) s m args below meth c G (mm_Qv G Q) 2 2 σ [(0, .ref (mm_a G x0)), (1, .int x1)] []) : ∀ (x0 : Nat) (x1 : Int32) (σ : MS), w3_empties_2 Q K2 x0 x1 σ → mm_T p l e ({ frames := 0, cells := 0, slots := 0, locals := 0 } : Room) s m args below meth c G (mm_Qv G Q) 2 2 σ [(0, .ref (mm_a G x0)), (1, .int x1)] [] := by
  intro x0 x1 σ hw H locs ls hM hS hl
  unfold w3_empties_2 at hw
  obtain ⟨hx, hb, hml, hown, hts, hr, hlk, hMK, hZ⟩ := id cx
  refine lv_iload_n hx hb dX3_empties_2 rfl (lv_at hl 1 rfl) ?_
  refine lv_aload_n hx hb dX3_empties_3 rfl (lv_at hl 0 rfl) ?_
  obtain ⟨hk, hw⟩ := hw
  refine mm_alen cx hM x0 hk dX3_empties_4 ?_
  refine lv_icmp_ge (tgt := 18) hx hb dX3_empties_5 (by decide) (fun hc => ?_) (fun hc => ?_)
  · have hw := mm_ip hc hw
    exact mm_vret cx hM hS hw dX3_empties_18
  · have hw := mm_in hc hw
    refine lv_aload_n hx hb dX3_empties_8 rfl (lv_at hl 0 rfl) ?_
    refine lv_iload_n hx hb dX3_empties_9 rfl (lv_at hl 1 rfl) ?_
    refine lv_iconst (v := (0 : Int32)) hx hb dX3_empties_10 (by decide) ?_
    obtain ⟨hk, hw⟩ := hw
    obtain ⟨hi, hw⟩ := hw
    refine mm_iast cx hM hS x0 hk rfl hi dX3_empties_11 (fun H locs hM hS => ?_)
    obtain ⟨v1, hv1⟩ : ∃ v : Int32, v = x1 + (1 : Int32) := ⟨_, rfl⟩
    have hw := hw v1 hv1
    refine lv_iinc (v := v1) (lv' := [(1, .int v1), (0, .ref (mm_a G x0))]) hx hb dX3_empties_12 hl (k := 1) rfl (by rw [hv1]; rfl) (by decide) rfl (fun ls hl => ?_)
    refine lv_goto (tgt := 2) hx hb dX3_empties_15 (by decide) ?_
    exact hK2 _ _ _ hw _ _ _ hM hS (lv_sub hl [1, 0] rfl)
theorem L3_empties_2 {l : Launch} {p : Program} {e : Env} {s : State} {m : MethodId} {args : Array Value} {below : List Frame} {meth : Method} {c : Code} {G : mm_G} {Q : MS → Prop} (cx : mm_X cX3_empties 2 none G p s m args meth c) : ∀ (x0 : Nat) (x1 : Int32) (σ : MS), lp3F (w3_empties_2 Q) x0 x1 σ → mm_T p l e ({ frames := 0, cells := 0, slots := 0, locals := 0 } : Room) s m args below meth c G (mm_Qv G Q) 2 2 σ [(0, .ref (mm_a G x0)), (1, .int x1)] [] :=
  lp3F_of (fun K hK => B3_empties_2 cx hK)
def w3_empties (x0 : Nat) (σ : MS) (Q : MS → Prop) : Prop :=
  lp3F (w3_empties_2 Q) x0 (0 : Int32) σ
set_option maxHeartbeats 4000000 in
theorem M3_empties (l : Launch) (G : mm_G) (x0 : Nat) (σ : MS) (Q : MS → Prop) (hw : w3_empties x0 σ Q) : mm_Mv l yX3_empties (ws_ yX3_empties cX3_empties 2 none) ({ frames := 0, cells := 0, slots := 0, locals := 0 } : Room) G [.ref (mm_a G x0)] σ Q := by
  refine mm_of (by decide) rfl ?_
  intro p e s m args below meth c cx hM ha
  refine mm_entry [.ref (mm_a G x0)] 2 [(0, .ref (mm_a G x0))] ha (Nat.le_of_ble_eq_true rfl) rfl (fun ls hl => ?_)
  have hS : va_S (mm_A G) s.heap s.heap [] := va_S.rf
  unfold w3_empties at hw
  obtain ⟨hx, hb, hml, hown, hts, hr, hlk, hMK, hZ⟩ := id cx
  refine lv_iconst (v := (0 : Int32)) hx hb dX3_empties_0 (by decide) ?_
  refine lv_istore_n (lv' := [(1, .int (0 : Int32)), (0, .ref (mm_a G x0))]) hx hb dX3_empties_1 rfl hl (by decide) rfl (fun ls hl => ?_)
  exact L3_empties_2 cx _ _ _ hw _ _ _ hM hS (lv_sub hl [1, 0] rfl)
theorem C3_empties {l : Launch} {p : Program} {e : Env} {R : Room} {s : State} {m : MethodId} {args : Array Value} {below : List Frame} {meth : Method} {c : Code} {H : Heap} {locs : List Loc} {cells slots : Nat} {Qz : State → Prop} {cc : ByteArray} {nL : Nat} {ret : Option FieldType} {G : mm_G} {pc : Nat} {ls : Array Slot} {rest : List Value} {x0 : Nat} {σ : MS} (cx : mm_X cc nL ret G p s m args meth c) (hM : mm_R G σ H) (hS0 : va_S (mm_A G) s.heap H locs) {Qf : MS → Prop} (hw : w3_empties x0 σ Qf) (hR : (({ frames := 0, cells := 0, slots := 0, locals := 0 } : Room)).frames + 1 ≤ R.frames ∧ 8 + (2 + 11) + (({ frames := 0, cells := 0, slots := 0, locals := 0 } : Room)).locals ≤ R.locals) (hroom : (rest.map fun v => v.category).sum ≤ 8) (hsize : ls.size = nL) (hf : cells ≤ R.cells ∧ slots ≤ R.slots) (hdg : decode cc pc = .ok (.invokestatic 297, 3))
    (kk : ∀ (σ1 : MS) (H1 : Heap) (locs1 : List Loc), Qf σ1 → mm_R G σ1 H1 → va_S (mm_A G) s.heap H1 locs1 → W p l e R s m args below meth c H1 locs1 cells slots Qz (F0 m (pc + 3) ls rest)) : W p l e R s m args below meth c H locs cells slots Qz (F0 m pc ls (.ref (mm_a G x0) :: rest)) := by
  obtain ⟨hx, hb, hml, hown, hts, hr, hlk, hK, hZ⟩ := id cx
  exact mm_Sv cx hM hS0 (As := [.ref (mm_a G x0)]) (M3_empties l G x0 σ Qf hw) (va_cwS 1 hts (lw_S q2373 q2374 q172 q2375) rfl rfl rfl (by decide +kernel) hR) rfl hsize rfl hroom hf hdg kk
def w3_holds_227 (Q : Int32 → MS → Prop) (K11 : Nat → Int32 → Int32 → Int32 → Int32 → MS → Prop) (x1 : Nat) (x2 : Int32) (x3 : Int32) (x4 : Int32) (x5 : Int32) (σ : MS) : Prop :=
  ∀ v1 : Int32, v1 = x5 + (1 : Int32) → K11 x1 x2 x3 x4 v1 σ
set_option maxHeartbeats 4000000 in
theorem B3_holds_227 {l : Launch} {p : Program} {e : Env} {s : State} {m : MethodId} {args : Array Value} {below : List Frame} {meth : Method} {c : Code} {G : mm_G} {Q : Int32 → MS → Prop} {K11 : Nat → Int32 → Int32 → Int32 → Int32 → MS → Prop} (cx : mm_X cX3_holds 10 (some .int) G p s m args meth c) (hK11 : ∀ (x1 : Nat) (x2 : Int32) (x3 : Int32) (x4 : Int32) (x5 : Int32) (σ : MS), K11 x1 x2 x3 x4 x5 σ → mm_T p l e ({ frames := 0, cells := 0, slots := 0, locals := 0 } : Room) s m args below meth c G (mm_Qi G Q) 10 11 σ [(0, .ref (mm_o G)), (1, .ref (mm_a G x1)), (2, .int x2), (3, .int x3), (4, .int x4), (5, .int x5)] []) : ∀ (x1 : Nat) (x2 : Int32) (x3 : Int32) (x4 : Int32) (x5 : Int32) (σ : MS), w3_holds_227 Q K11 x1 x2 x3 x4 x5 σ → mm_T p l e ({ frames := 0, cells := 0, slots := 0, locals := 0 } : Room) s m args below meth c G (mm_Qi G Q) 10 227 σ [(0, .ref (mm_o G)), (1, .ref (mm_a G x1)), (2, .int x2), (3, .int x3), (4, .int x4), (5, .int x5)] [] := by
  intro x1 x2 x3 x4 x5 σ hw H locs ls hM hS hl
  unfold w3_holds_227 at hw
  obtain ⟨hx, hb, hml, hown, hts, hr, hlk, hMK, hZ⟩ := id cx
  obtain ⟨v1, hv1⟩ : ∃ v : Int32, v = x5 + (1 : Int32) := ⟨_, rfl⟩
  have hw := hw v1 hv1
  refine lv_iinc (v := v1) (lv' := [(5, .int v1), (0, .ref (mm_o G)), (1, .ref (mm_a G x1)), (2, .int x2), (3, .int x3), (4, .int x4)]) hx hb dX3_holds_227 hl (k := 5) rfl (by rw [hv1]; rfl) (by decide) rfl (fun ls hl => ?_)
  refine lv_goto (tgt := 11) hx hb dX3_holds_230 (by decide) ?_
  exact hK11 _ _ _ _ _ _ hw _ _ _ hM hS (lv_sub hl [1, 2, 3, 4, 5, 0] rfl)
def w3_holds_226 (Q : Int32 → MS → Prop) (K11 : Nat → Int32 → Int32 → Int32 → Int32 → MS → Prop) (x1 : Nat) (x2 : Int32) (x3 : Int32) (x4 : Int32) (x5 : Int32) (t0 : Nat) (t1 : Int32) (t2 : Int32) (σ : MS) : Prop :=
  mm_w t0 = true ∧ (vp_in t1 (mm_z t0) ∧ (w3_holds_227 Q K11 x1 x2 x3 x4 x5 (sA σ t0 t1.toNatClampNeg t2)))
set_option maxHeartbeats 4000000 in
theorem B3_holds_226 {l : Launch} {p : Program} {e : Env} {s : State} {m : MethodId} {args : Array Value} {below : List Frame} {meth : Method} {c : Code} {G : mm_G} {Q : Int32 → MS → Prop} {K11 : Nat → Int32 → Int32 → Int32 → Int32 → MS → Prop} (cx : mm_X cX3_holds 10 (some .int) G p s m args meth c) (hK11 : ∀ (x1 : Nat) (x2 : Int32) (x3 : Int32) (x4 : Int32) (x5 : Int32) (σ : MS), K11 x1 x2 x3 x4 x5 σ → mm_T p l e ({ frames := 0, cells := 0, slots := 0, locals := 0 } : Room) s m args below meth c G (mm_Qi G Q) 10 11 σ [(0, .ref (mm_o G)), (1, .ref (mm_a G x1)), (2, .int x2), (3, .int x3), (4, .int x4), (5, .int x5)] []) : ∀ (x1 : Nat) (x2 : Int32) (x3 : Int32) (x4 : Int32) (x5 : Int32) (t0 : Nat) (t1 : Int32) (t2 : Int32) (σ : MS), w3_holds_226 Q K11 x1 x2 x3 x4 x5 t0 t1 t2 σ → mm_T p l e ({ frames := 0, cells := 0, slots := 0, locals := 0 } : Room) s m args below meth c G (mm_Qi G Q) 10 226 σ [(0, .ref (mm_o G)), (1, .ref (mm_a G x1)), (2, .int x2), (3, .int x3), (4, .int x4), (5, .int x5)] [.int t2, .int t1, .ref (mm_a G t0)] := by
  intro x1 x2 x3 x4 x5 t0 t1 t2 σ hw H locs ls hM hS hl
  unfold w3_holds_226 at hw
  obtain ⟨hx, hb, hml, hown, hts, hr, hlk, hMK, hZ⟩ := id cx
  obtain ⟨hk, hw⟩ := hw
  obtain ⟨hi, hw⟩ := hw
  refine mm_iast cx hM hS t0 hk rfl hi dX3_holds_226 (fun H locs hM hS => ?_)
  exact B3_holds_227 cx hK11 _ _ _ _ _ _ hw _ _ _ hM hS (lv_sub hl [0, 1, 2, 3, 4, 5] rfl)
def w3_holds_165 (Q : Int32 → MS → Prop) (K11 : Nat → Int32 → Int32 → Int32 → Int32 → MS → Prop) (x1 : Nat) (x2 : Int32) (x3 : Int32) (x4 : Int32) (x5 : Int32) (t0 : Nat) (t1 : Int32) (t2 : Int32) (σ : MS) : Prop :=
  mm_w t0 = true ∧ (vp_in t1 (mm_z t0) ∧ (∀ v2 : Int32, v2 = x4 + (1 : Int32) → w3_holds_227 Q K11 x1 x2 x3 v2 x5 (sA σ t0 t1.toNatClampNeg t2)))
set_option maxHeartbeats 4000000 in
theorem B3_holds_165 {l : Launch} {p : Program} {e : Env} {s : State} {m : MethodId} {args : Array Value} {below : List Frame} {meth : Method} {c : Code} {G : mm_G} {Q : Int32 → MS → Prop} {K11 : Nat → Int32 → Int32 → Int32 → Int32 → MS → Prop} (cx : mm_X cX3_holds 10 (some .int) G p s m args meth c) (hK11 : ∀ (x1 : Nat) (x2 : Int32) (x3 : Int32) (x4 : Int32) (x5 : Int32) (σ : MS), K11 x1 x2 x3 x4 x5 σ → mm_T p l e ({ frames := 0, cells := 0, slots := 0, locals := 0 } : Room) s m args below meth c G (mm_Qi G Q) 10 11 σ [(0, .ref (mm_o G)), (1, .ref (mm_a G x1)), (2, .int x2), (3, .int x3), (4, .int x4), (5, .int x5)] []) : ∀ (x1 : Nat) (x2 : Int32) (x3 : Int32) (x4 : Int32) (x5 : Int32) (t0 : Nat) (t1 : Int32) (t2 : Int32) (σ : MS), w3_holds_165 Q K11 x1 x2 x3 x4 x5 t0 t1 t2 σ → mm_T p l e ({ frames := 0, cells := 0, slots := 0, locals := 0 } : Room) s m args below meth c G (mm_Qi G Q) 10 165 σ [(0, .ref (mm_o G)), (1, .ref (mm_a G x1)), (2, .int x2), (3, .int x3), (4, .int x4), (5, .int x5)] [.int t2, .int t1, .ref (mm_a G t0)] := by
  intro x1 x2 x3 x4 x5 t0 t1 t2 σ hw H locs ls hM hS hl
  unfold w3_holds_165 at hw
  obtain ⟨hx, hb, hml, hown, hts, hr, hlk, hMK, hZ⟩ := id cx
  obtain ⟨hk, hw⟩ := hw
  obtain ⟨hi, hw⟩ := hw
  refine mm_iast cx hM hS t0 hk rfl hi dX3_holds_165 (fun H locs hM hS => ?_)
  obtain ⟨v2, hv2⟩ : ∃ v : Int32, v = x4 + (1 : Int32) := ⟨_, rfl⟩
  have hw := hw v2 hv2
  refine lv_iinc (v := v2) (lv' := [(4, .int v2), (0, .ref (mm_o G)), (1, .ref (mm_a G x1)), (2, .int x2), (3, .int x3), (5, .int x5)]) hx hb dX3_holds_166 hl (k := 4) rfl (by rw [hv2]; rfl) (by decide) rfl (fun ls hl => ?_)
  refine lv_goto (tgt := 227) hx hb dX3_holds_169 (by decide) ?_
  exact B3_holds_227 cx hK11 _ _ _ _ _ _ hw _ _ _ hM hS (lv_sub hl [1, 2, 3, 4, 0, 5] rfl)
def w3_holds_113 (Q : Int32 → MS → Prop) (K11 : Nat → Int32 → Int32 → Int32 → Int32 → MS → Prop) (K113 : Nat → Int32 → Int32 → Int32 → Int32 → Int32 → Int32 → Int32 → MS → Prop) (x1 : Nat) (x2 : Int32) (x3 : Int32) (x4 : Int32) (x5 : Int32) (x7 : Int32) (x8 : Int32) (x9 : Int32) (σ : MS) : Prop :=
  if (x7 - x7 / (10 : Int32) * (10 : Int32)) ≤ x9 then (if x8 < (x7 / (10 : Int32)) then (w3_holds_165 Q K11 x1 x2 x3 x4 x5 23 x4 (0 : Int32) σ) else (w3_holds_165 Q K11 x1 x2 x3 x4 x5 23 x4 (1 : Int32) σ)) else (∀ v3 : Int32, v3 = x4 + (-1 : Int32) → vp_in v3 490 ∧ (∀ v4 : Int32, v4 = (x8 + (gA σ 23 v3.toNatClampNeg)) → ∀ v5 : Int32, v5 = x9 + (1 : Int32) → K113 x1 x2 x3 v3 x5 x7 v4 v5 σ))
set_option maxHeartbeats 4000000 in
theorem B3_holds_113 {l : Launch} {p : Program} {e : Env} {s : State} {m : MethodId} {args : Array Value} {below : List Frame} {meth : Method} {c : Code} {G : mm_G} {Q : Int32 → MS → Prop} {K11 : Nat → Int32 → Int32 → Int32 → Int32 → MS → Prop} {K113 : Nat → Int32 → Int32 → Int32 → Int32 → Int32 → Int32 → Int32 → MS → Prop} (cx : mm_X cX3_holds 10 (some .int) G p s m args meth c) (hK11 : ∀ (x1 : Nat) (x2 : Int32) (x3 : Int32) (x4 : Int32) (x5 : Int32) (σ : MS), K11 x1 x2 x3 x4 x5 σ → mm_T p l e ({ frames := 0, cells := 0, slots := 0, locals := 0 } : Room) s m args below meth c G (mm_Qi G Q) 10 11 σ [(0, .ref (mm_o G)), (1, .ref (mm_a G x1)), (2, .int x2), (3, .int x3), (4, .int x4), (5, .int x5)] []) (hK113 : ∀ (x1 : Nat) (x2 : Int32) (x3 : Int32) (x4 : Int32) (x5 : Int32) (x7 : Int32) (x8 : Int32) (x9 : Int32) (σ : MS), K113 x1 x2 x3 x4 x5 x7 x8 x9 σ → mm_T p l e ({ frames := 0, cells := 0, slots := 0, locals := 0 } : Room) s m args below meth c G (mm_Qi G Q) 10 113 σ [(0, .ref (mm_o G)), (1, .ref (mm_a G x1)), (2, .int x2), (3, .int x3), (4, .int x4), (5, .int x5), (7, .int x7), (8, .int x8), (9, .int x9)] []) : ∀ (x1 : Nat) (x2 : Int32) (x3 : Int32) (x4 : Int32) (x5 : Int32) (x7 : Int32) (x8 : Int32) (x9 : Int32) (σ : MS), w3_holds_113 Q K11 K113 x1 x2 x3 x4 x5 x7 x8 x9 σ → mm_T p l e ({ frames := 0, cells := 0, slots := 0, locals := 0 } : Room) s m args below meth c G (mm_Qi G Q) 10 113 σ [(0, .ref (mm_o G)), (1, .ref (mm_a G x1)), (2, .int x2), (3, .int x3), (4, .int x4), (5, .int x5), (7, .int x7), (8, .int x8), (9, .int x9)] [] := by
  intro x1 x2 x3 x4 x5 x7 x8 x9 σ hw H locs ls hM hS hl
  unfold w3_holds_113 at hw
  obtain ⟨hx, hb, hml, hown, hts, hr, hlk, hMK, hZ⟩ := id cx
  refine lv_iload hx hb dX3_holds_113 (lv_at hl 8 rfl) ?_
  refine lv_iload hx hb dX3_holds_115 (lv_at hl 6 rfl) ?_
  refine lv_bipush (v := (10 : Int32)) hx hb dX3_holds_117 (by decide) ?_
  refine lv_irem hx hb dX3_holds_119 (by decide) ?_
  refine lv_icmp_ge (tgt := 144) hx hb dX3_holds_120 (by decide) (fun hc => ?_) (fun hc => ?_)
  · have hw := mm_ip hc hw
    refine lv_aload_n hx hb dX3_holds_144 rfl (lv_at hl 0 rfl) ?_
    refine mg_23 cx hM dX3_holds_145 ?_
    refine lv_iload hx hb dX3_holds_148 (lv_at hl 4 rfl) ?_
    refine lv_iload hx hb dX3_holds_150 (lv_at hl 7 rfl) ?_
    refine lv_iload hx hb dX3_holds_152 (lv_at hl 6 rfl) ?_
    refine lv_bipush (v := (10 : Int32)) hx hb dX3_holds_154 (by decide) ?_
    refine lv_idiv hx hb dX3_holds_156 (by decide) ?_
    refine lv_icmp_lt (tgt := 164) hx hb dX3_holds_157 (by decide) (fun hc => ?_) (fun hc => ?_)
    · have hw := mm_ip hc hw
      refine lv_iconst (v := (0 : Int32)) hx hb dX3_holds_164 (by decide) ?_
      exact B3_holds_165 cx hK11 _ _ _ _ _ _ _ _ _ hw _ _ _ hM hS (lv_sub hl [0, 1, 2, 3, 4, 5] rfl)
    · have hw := mm_in hc hw
      refine lv_iconst (v := (1 : Int32)) hx hb dX3_holds_160 (by decide) ?_
      refine lv_goto (tgt := 165) hx hb dX3_holds_161 (by decide) ?_
      exact B3_holds_165 cx hK11 _ _ _ _ _ _ _ _ _ hw _ _ _ hM hS (lv_sub hl [0, 1, 2, 3, 4, 5] rfl)
  · have hw := mm_in hc hw
    obtain ⟨v3, hv3⟩ : ∃ v : Int32, v = x4 + (-1 : Int32) := ⟨_, rfl⟩
    have hw := hw v3 hv3
    refine lv_iinc (v := v3) (lv' := [(4, .int v3), (0, .ref (mm_o G)), (1, .ref (mm_a G x1)), (2, .int x2), (3, .int x3), (5, .int x5), (7, .int x7), (8, .int x8), (9, .int x9)]) hx hb dX3_holds_123 hl (k := 4) rfl (by rw [hv3]; rfl) (by decide) rfl (fun ls hl => ?_)
    refine lv_iload hx hb dX3_holds_126 (lv_at hl 7 rfl) ?_
    refine lv_aload_n hx hb dX3_holds_128 rfl (lv_at hl 1 rfl) ?_
    refine mg_23 cx hM dX3_holds_129 ?_
    refine lv_iload hx hb dX3_holds_132 (lv_at hl 0 rfl) ?_
    obtain ⟨hi, hw⟩ := hw
    refine mm_iald cx hM 23 rfl rfl hi dX3_holds_134 ?_
    refine lv_iadd hx hb dX3_holds_135 ?_
    refine lv_topi (fun v4 hv4 => ?_)
    have hw := hw v4 hv4
    refine lv_istore (lv' := [(8, .int v4), (4, .int v3), (0, .ref (mm_o G)), (1, .ref (mm_a G x1)), (2, .int x2), (3, .int x3), (5, .int x5), (7, .int x7), (9, .int x9)]) hx hb dX3_holds_136 hl (by decide) rfl (fun ls hl => ?_)
    obtain ⟨v5, hv5⟩ : ∃ v : Int32, v = x9 + (1 : Int32) := ⟨_, rfl⟩
    have hw := hw v5 hv5
    refine lv_iinc (v := v5) (lv' := [(9, .int v5), (8, .int v4), (4, .int v3), (0, .ref (mm_o G)), (1, .ref (mm_a G x1)), (2, .int x2), (3, .int x3), (5, .int x5), (7, .int x7)]) hx hb dX3_holds_138 hl (k := 8) rfl (by rw [hv5]; rfl) (by decide) rfl (fun ls hl => ?_)
    refine lv_goto (tgt := 113) hx hb dX3_holds_141 (by decide) ?_
    exact hK113 _ _ _ _ _ _ _ _ _ hw _ _ _ hM hS (lv_sub hl [3, 4, 5, 6, 2, 7, 8, 1, 0] rfl)
theorem L3_holds_113 {l : Launch} {p : Program} {e : Env} {s : State} {m : MethodId} {args : Array Value} {below : List Frame} {meth : Method} {c : Code} {G : mm_G} {Q : Int32 → MS → Prop} {K11 : Nat → Int32 → Int32 → Int32 → Int32 → MS → Prop} (cx : mm_X cX3_holds 10 (some .int) G p s m args meth c) (hK11 : ∀ (x1 : Nat) (x2 : Int32) (x3 : Int32) (x4 : Int32) (x5 : Int32) (σ : MS), K11 x1 x2 x3 x4 x5 σ → mm_T p l e ({ frames := 0, cells := 0, slots := 0, locals := 0 } : Room) s m args below meth c G (mm_Qi G Q) 10 11 σ [(0, .ref (mm_o G)), (1, .ref (mm_a G x1)), (2, .int x2), (3, .int x3), (4, .int x4), (5, .int x5)] []) : ∀ (x1 : Nat) (x2 : Int32) (x3 : Int32) (x4 : Int32) (x5 : Int32) (x7 : Int32) (x8 : Int32) (x9 : Int32) (σ : MS), lp9F (w3_holds_113 Q K11) x1 x2 x3 x4 x5 x7 x8 x9 σ → mm_T p l e ({ frames := 0, cells := 0, slots := 0, locals := 0 } : Room) s m args below meth c G (mm_Qi G Q) 10 113 σ [(0, .ref (mm_o G)), (1, .ref (mm_a G x1)), (2, .int x2), (3, .int x3), (4, .int x4), (5, .int x5), (7, .int x7), (8, .int x8), (9, .int x9)] [] :=
  lp9F_of (fun K hK => B3_holds_113 cx hK11 hK)
def w3_holds_11 (Q : Int32 → MS → Prop) (K11 : Nat → Int32 → Int32 → Int32 → Int32 → MS → Prop) (x1 : Nat) (x2 : Int32) (x3 : Int32) (x4 : Int32) (x5 : Int32) (σ : MS) : Prop :=
  mm_i x1 = true ∧ (vp_in ((117 : Int32) + x2) (mm_z x1) ∧ (if (gA σ x1 ((117 : Int32) + x2).toNatClampNeg) ≤ x5 then (Q (gA σ 23 0) σ) else (mm_i x1 = true ∧ (vp_in ((150 : Int32) + x5) (mm_z x1) ∧ (∀ v6 : Int32, v6 = ((gA σ x1 ((150 : Int32) + x5).toNatClampNeg) / (100 : Int32)) → mm_i x1 = true ∧ (vp_in ((150 : Int32) + x5) (mm_z x1) ∧ (∀ v7 : Int32, v7 = ((gA σ x1 ((150 : Int32) + x5).toNatClampNeg) - (gA σ x1 ((150 : Int32) + x5).toNatClampNeg) / (100 : Int32) * (100 : Int32)) → if v6 = 0 then (vp_in x4 490 ∧ (∀ v9 : Int32, v9 = x4 + (1 : Int32) → w3_holds_227 Q K11 x1 x2 x3 v9 x5 (sA σ 23 x4.toNatClampNeg ((x3 >>> (v7 &&& 31)) &&& (1 : Int32))))) else (if v6 = (1 : Int32) then (vp_in (x4 - (1 : Int32)) 490 ∧ (vp_in (x4 - (1 : Int32)) 490 ∧ (w3_holds_227 Q K11 x1 x2 x3 x4 x5 (sA σ 23 (x4 - (1 : Int32)).toNatClampNeg ((1 : Int32) - (gA σ 23 (x4 - (1 : Int32)).toNatClampNeg)))))) else (if v6 = (4 : Int32) then (lp9F (w3_holds_113 Q K11) x1 x2 x3 x4 x5 v7 (0 : Int32) (0 : Int32) σ) else (∀ v8 : Int32, v8 = x4 + (-1 : Int32) → if v6 = (2 : Int32) then (vp_in (v8 - (1 : Int32)) 490 ∧ (vp_in v8 490 ∧ (w3_holds_226 Q K11 x1 x2 x3 v8 x5 23 (v8 - (1 : Int32)) ((gA σ 23 (v8 - (1 : Int32)).toNatClampNeg) &&& (gA σ 23 v8.toNatClampNeg)) σ))) else (vp_in (v8 - (1 : Int32)) 490 ∧ (vp_in v8 490 ∧ (w3_holds_226 Q K11 x1 x2 x3 v8 x5 23 (v8 - (1 : Int32)) ((gA σ 23 (v8 - (1 : Int32)).toNatClampNeg) ||| (gA σ 23 v8.toNatClampNeg)) σ)))))))))))))
set_option maxHeartbeats 4000000 in
theorem B3_holds_11 {l : Launch} {p : Program} {e : Env} {s : State} {m : MethodId} {args : Array Value} {below : List Frame} {meth : Method} {c : Code} {G : mm_G} {Q : Int32 → MS → Prop} {K11 : Nat → Int32 → Int32 → Int32 → Int32 → MS → Prop} (cx : mm_X cX3_holds 10 (some .int) G p s m args meth c) (hK11 : ∀ (x1 : Nat) (x2 : Int32) (x3 : Int32) (x4 : Int32) (x5 : Int32) (σ : MS), K11 x1 x2 x3 x4 x5 σ → mm_T p l e ({ frames := 0, cells := 0, slots := 0, locals := 0 } : Room) s m args below meth c G (mm_Qi G Q) 10 11 σ [(0, .ref (mm_o G)), (1, .ref (mm_a G x1)), (2, .int x2), (3, .int x3), (4, .int x4), (5, .int x5)] []) : ∀ (x1 : Nat) (x2 : Int32) (x3 : Int32) (x4 : Int32) (x5 : Int32) (σ : MS), w3_holds_11 Q K11 x1 x2 x3 x4 x5 σ → mm_T p l e ({ frames := 0, cells := 0, slots := 0, locals := 0 } : Room) s m args below meth c G (mm_Qi G Q) 10 11 σ [(0, .ref (mm_o G)), (1, .ref (mm_a G x1)), (2, .int x2), (3, .int x3), (4, .int x4), (5, .int x5)] [] := by
  intro x1 x2 x3 x4 x5 σ hw H locs ls hM hS hl
  unfold w3_holds_11 at hw
  obtain ⟨hx, hb, hml, hown, hts, hr, hlk, hMK, hZ⟩ := id cx
  refine lv_iload hx hb dX3_holds_11 (lv_at hl 5 rfl) ?_
  refine lv_aload_n hx hb dX3_holds_13 rfl (lv_at hl 1 rfl) ?_
  refine lv_bipush (v := (117 : Int32)) hx hb dX3_holds_14 (by decide) ?_
  refine lv_iload_n hx hb dX3_holds_16 rfl (lv_at hl 2 rfl) ?_
  refine lv_iadd hx hb dX3_holds_17 ?_
  obtain ⟨hk, hw⟩ := hw
  obtain ⟨hi, hw⟩ := hw
  refine mm_iald cx hM x1 hk rfl hi dX3_holds_18 ?_
  refine lv_icmp_ge (tgt := 233) hx hb dX3_holds_19 (by decide) (fun hc => ?_) (fun hc => ?_)
  · have hw := mm_ip hc hw
    refine lv_aload_n hx hb dX3_holds_233 rfl (lv_at hl 0 rfl) ?_
    refine mg_23 cx hM dX3_holds_234 ?_
    refine lv_iconst (v := (0 : Int32)) hx hb dX3_holds_237 (by decide) ?_
    refine mm_iald cx hM 23 rfl (j := 0) (by decide) (vp_lit (by decide)) dX3_holds_238 ?_
    exact mm_iret cx hM hS hw dX3_holds_239
  · have hw := mm_in hc hw
    refine lv_aload_n hx hb dX3_holds_22 rfl (lv_at hl 1 rfl) ?_
    refine lv_sipush (v := (150 : Int32)) hx hb dX3_holds_23 (by decide) ?_
    refine lv_iload hx hb dX3_holds_26 (lv_at hl 5 rfl) ?_
    refine lv_iadd hx hb dX3_holds_28 ?_
    obtain ⟨hk, hw⟩ := hw
    obtain ⟨hi, hw⟩ := hw
    refine mm_iald cx hM x1 hk rfl hi dX3_holds_29 ?_
    refine lv_bipush (v := (100 : Int32)) hx hb dX3_holds_30 (by decide) ?_
    refine lv_idiv hx hb dX3_holds_32 (by decide) ?_
    refine lv_topi (fun v6 hv6 => ?_)
    have hw := hw v6 hv6
    refine lv_istore (lv' := [(6, .int v6), (0, .ref (mm_o G)), (1, .ref (mm_a G x1)), (2, .int x2), (3, .int x3), (4, .int x4), (5, .int x5)]) hx hb dX3_holds_33 hl (by decide) rfl (fun ls hl => ?_)
    refine lv_aload_n hx hb dX3_holds_35 rfl (lv_at hl 2 rfl) ?_
    refine lv_sipush (v := (150 : Int32)) hx hb dX3_holds_36 (by decide) ?_
    refine lv_iload hx hb dX3_holds_39 (lv_at hl 6 rfl) ?_
    refine lv_iadd hx hb dX3_holds_41 ?_
    obtain ⟨hk, hw⟩ := hw
    obtain ⟨hi, hw⟩ := hw
    refine mm_iald cx hM x1 hk rfl hi dX3_holds_42 ?_
    refine lv_bipush (v := (100 : Int32)) hx hb dX3_holds_43 (by decide) ?_
    refine lv_irem hx hb dX3_holds_45 (by decide) ?_
    refine lv_topi (fun v7 hv7 => ?_)
    have hw := hw v7 hv7
    refine lv_istore (lv' := [(7, .int v7), (6, .int v6), (0, .ref (mm_o G)), (1, .ref (mm_a G x1)), (2, .int x2), (3, .int x3), (4, .int x4), (5, .int x5)]) hx hb dX3_holds_46 hl (by decide) rfl (fun ls hl => ?_)
    refine lv_iload hx hb dX3_holds_48 (lv_at hl 1 rfl) ?_
    refine lv_if_ne (tgt := 72) hx hb dX3_holds_50 (by decide) (fun hc => ?_) (fun hc => ?_)
    · have hw := mm_in hc hw
      refine lv_iload hx hb dX3_holds_72 (lv_at hl 1 rfl) ?_
      refine lv_iconst (v := (1 : Int32)) hx hb dX3_holds_74 (by decide) ?_
      refine lv_icmp_ne (tgt := 101) hx hb dX3_holds_75 (by decide) (fun hc => ?_) (fun hc => ?_)
      · have hw := mm_in hc hw
        refine lv_iload hx hb dX3_holds_101 (lv_at hl 1 rfl) ?_
        refine lv_iconst (v := (4 : Int32)) hx hb dX3_holds_103 (by decide) ?_
        refine lv_icmp_ne (tgt := 172) hx hb dX3_holds_104 (by decide) (fun hc => ?_) (fun hc => ?_)
        · have hw := mm_in hc hw
          obtain ⟨v8, hv8⟩ : ∃ v : Int32, v = x4 + (-1 : Int32) := ⟨_, rfl⟩
          have hw := hw v8 hv8
          refine lv_iinc (v := v8) (lv' := [(4, .int v8), (7, .int v7), (6, .int v6), (0, .ref (mm_o G)), (1, .ref (mm_a G x1)), (2, .int x2), (3, .int x3), (5, .int x5)]) hx hb dX3_holds_172 hl (k := 6) rfl (by rw [hv8]; rfl) (by decide) rfl (fun ls hl => ?_)
          refine lv_aload_n hx hb dX3_holds_175 rfl (lv_at hl 3 rfl) ?_
          refine mg_23 cx hM dX3_holds_176 ?_
          refine lv_iload hx hb dX3_holds_179 (lv_at hl 0 rfl) ?_
          refine lv_iconst (v := (1 : Int32)) hx hb dX3_holds_181 (by decide) ?_
          refine lv_isub hx hb dX3_holds_182 ?_
          refine lv_iload hx hb dX3_holds_183 (lv_at hl 2 rfl) ?_
          refine lv_iconst (v := (2 : Int32)) hx hb dX3_holds_185 (by decide) ?_
          refine lv_icmp_ne (tgt := 209) hx hb dX3_holds_186 (by decide) (fun hc => ?_) (fun hc => ?_)
          · have hw := mm_in hc hw
            refine lv_aload_n hx hb dX3_holds_209 rfl (lv_at hl 3 rfl) ?_
            refine mg_23 cx hM dX3_holds_210 ?_
            refine lv_iload hx hb dX3_holds_213 (lv_at hl 0 rfl) ?_
            refine lv_iconst (v := (1 : Int32)) hx hb dX3_holds_215 (by decide) ?_
            refine lv_isub hx hb dX3_holds_216 ?_
            obtain ⟨hi, hw⟩ := hw
            refine mm_iald cx hM 23 rfl rfl hi dX3_holds_217 ?_
            refine lv_aload_n hx hb dX3_holds_218 rfl (lv_at hl 3 rfl) ?_
            refine mg_23 cx hM dX3_holds_219 ?_
            refine lv_iload hx hb dX3_holds_222 (lv_at hl 0 rfl) ?_
            obtain ⟨hi, hw⟩ := hw
            refine mm_iald cx hM 23 rfl rfl hi dX3_holds_224 ?_
            refine lv_ior hx hb dX3_holds_225 ?_
            exact B3_holds_226 cx hK11 _ _ _ _ _ _ _ _ _ hw _ _ _ hM hS (lv_sub hl [3, 4, 5, 6, 0, 7] rfl)
          · have hw := mm_ip hc hw
            refine lv_aload_n hx hb dX3_holds_189 rfl (lv_at hl 3 rfl) ?_
            refine mg_23 cx hM dX3_holds_190 ?_
            refine lv_iload hx hb dX3_holds_193 (lv_at hl 0 rfl) ?_
            refine lv_iconst (v := (1 : Int32)) hx hb dX3_holds_195 (by decide) ?_
            refine lv_isub hx hb dX3_holds_196 ?_
            obtain ⟨hi, hw⟩ := hw
            refine mm_iald cx hM 23 rfl rfl hi dX3_holds_197 ?_
            refine lv_aload_n hx hb dX3_holds_198 rfl (lv_at hl 3 rfl) ?_
            refine mg_23 cx hM dX3_holds_199 ?_
            refine lv_iload hx hb dX3_holds_202 (lv_at hl 0 rfl) ?_
            obtain ⟨hi, hw⟩ := hw
            refine mm_iald cx hM 23 rfl rfl hi dX3_holds_204 ?_
            refine lv_iand hx hb dX3_holds_205 ?_
            refine lv_goto (tgt := 226) hx hb dX3_holds_206 (by decide) ?_
            exact B3_holds_226 cx hK11 _ _ _ _ _ _ _ _ _ hw _ _ _ hM hS (lv_sub hl [3, 4, 5, 6, 0, 7] rfl)
        · have hw := mm_ip hc hw
          refine lv_iconst (v := (0 : Int32)) hx hb dX3_holds_107 (by decide) ?_
          refine lv_istore (lv' := [(8, .int (0 : Int32)), (7, .int v7), (6, .int v6), (0, .ref (mm_o G)), (1, .ref (mm_a G x1)), (2, .int x2), (3, .int x3), (4, .int x4), (5, .int x5)]) hx hb dX3_holds_108 hl (by decide) rfl (fun ls hl => ?_)
          refine lv_iconst (v := (0 : Int32)) hx hb dX3_holds_110 (by decide) ?_
          refine lv_istore (lv' := [(9, .int (0 : Int32)), (8, .int (0 : Int32)), (7, .int v7), (6, .int v6), (0, .ref (mm_o G)), (1, .ref (mm_a G x1)), (2, .int x2), (3, .int x3), (4, .int x4), (5, .int x5)]) hx hb dX3_holds_111 hl (by decide) rfl (fun ls hl => ?_)
          exact L3_holds_113 cx hK11 _ _ _ _ _ _ _ _ _ hw _ _ _ hM hS (lv_sub hl [4, 5, 6, 7, 8, 9, 2, 1, 0] rfl)
      · have hw := mm_ip hc hw
        refine lv_aload_n hx hb dX3_holds_78 rfl (lv_at hl 2 rfl) ?_
        refine mg_23 cx hM dX3_holds_79 ?_
        refine lv_iload hx hb dX3_holds_82 (lv_at hl 6 rfl) ?_
        refine lv_iconst (v := (1 : Int32)) hx hb dX3_holds_84 (by decide) ?_
        refine lv_isub hx hb dX3_holds_85 ?_
        refine lv_iconst (v := (1 : Int32)) hx hb dX3_holds_86 (by decide) ?_
        refine lv_aload_n hx hb dX3_holds_87 rfl (lv_at hl 2 rfl) ?_
        refine mg_23 cx hM dX3_holds_88 ?_
        refine lv_iload hx hb dX3_holds_91 (lv_at hl 6 rfl) ?_
        refine lv_iconst (v := (1 : Int32)) hx hb dX3_holds_93 (by decide) ?_
        refine lv_isub hx hb dX3_holds_94 ?_
        obtain ⟨hi, hw⟩ := hw
        refine mm_iald cx hM 23 rfl rfl hi dX3_holds_95 ?_
        refine lv_isub hx hb dX3_holds_96 ?_
        obtain ⟨hi, hw⟩ := hw
        refine mm_iast cx hM hS 23 rfl rfl hi dX3_holds_97 (fun H locs hM hS => ?_)
        refine lv_goto (tgt := 227) hx hb dX3_holds_98 (by decide) ?_
        exact B3_holds_227 cx hK11 _ _ _ _ _ _ hw _ _ _ hM hS (lv_sub hl [2, 3, 4, 5, 6, 7] rfl)
    · have hw := mm_ip hc hw
      refine lv_aload_n hx hb dX3_holds_53 rfl (lv_at hl 2 rfl) ?_
      refine mg_23 cx hM dX3_holds_54 ?_
      refine lv_iload hx hb dX3_holds_57 (lv_at hl 6 rfl) ?_
      refine lv_iload_n hx hb dX3_holds_59 rfl (lv_at hl 5 rfl) ?_
      refine lv_iload hx hb dX3_holds_60 (lv_at hl 0 rfl) ?_
      refine lv_ishr hx hb dX3_holds_62 ?_
      refine lv_iconst (v := (1 : Int32)) hx hb dX3_holds_63 (by decide) ?_
      refine lv_iand hx hb dX3_holds_64 ?_
      obtain ⟨hi, hw⟩ := hw
      refine mm_iast cx hM hS 23 rfl rfl hi dX3_holds_65 (fun H locs hM hS => ?_)
      obtain ⟨v9, hv9⟩ : ∃ v : Int32, v = x4 + (1 : Int32) := ⟨_, rfl⟩
      have hw := hw v9 hv9
      refine lv_iinc (v := v9) (lv' := [(4, .int v9), (7, .int v7), (6, .int v6), (0, .ref (mm_o G)), (1, .ref (mm_a G x1)), (2, .int x2), (3, .int x3), (5, .int x5)]) hx hb dX3_holds_66 hl (k := 6) rfl (by rw [hv9]; rfl) (by decide) rfl (fun ls hl => ?_)
      refine lv_goto (tgt := 227) hx hb dX3_holds_69 (by decide) ?_
      exact B3_holds_227 cx hK11 _ _ _ _ _ _ hw _ _ _ hM hS (lv_sub hl [3, 4, 5, 6, 0, 7] rfl)
theorem L3_holds_11 {l : Launch} {p : Program} {e : Env} {s : State} {m : MethodId} {args : Array Value} {below : List Frame} {meth : Method} {c : Code} {G : mm_G} {Q : Int32 → MS → Prop} (cx : mm_X cX3_holds 10 (some .int) G p s m args meth c) : ∀ (x1 : Nat) (x2 : Int32) (x3 : Int32) (x4 : Int32) (x5 : Int32) (σ : MS), lp6F (w3_holds_11 Q) x1 x2 x3 x4 x5 σ → mm_T p l e ({ frames := 0, cells := 0, slots := 0, locals := 0 } : Room) s m args below meth c G (mm_Qi G Q) 10 11 σ [(0, .ref (mm_o G)), (1, .ref (mm_a G x1)), (2, .int x2), (3, .int x3), (4, .int x4), (5, .int x5)] [] :=
  lp6F_of (fun K hK => B3_holds_11 cx hK)
def w3_holds (x1 : Nat) (x2 : Int32) (x3 : Int32) (σ : MS) (Q : Int32 → MS → Prop) : Prop :=
  mm_i x1 = true ∧ (vp_in ((84 : Int32) + x2) (mm_z x1) ∧ (∀ v10 : Int32, v10 = (gA σ x1 ((84 : Int32) + x2).toNatClampNeg) → lp6F (w3_holds_11 Q) x1 x2 x3 (0 : Int32) v10 σ))
set_option maxHeartbeats 4000000 in
theorem M3_holds (l : Launch) (G : mm_G) (x1 : Nat) (x2 : Int32) (x3 : Int32) (σ : MS) (Q : Int32 → MS → Prop) (hw : w3_holds x1 x2 x3 σ Q) : mm_Mi l yX3_holds (ws_ yX3_holds cX3_holds 10 (some .int)) ({ frames := 0, cells := 0, slots := 0, locals := 0 } : Room) G [.ref (mm_o G), .ref (mm_a G x1), .int x2, .int x3] σ Q := by
  refine mm_of (by decide) rfl ?_
  intro p e s m args below meth c cx hM ha
  refine mm_entry [.ref (mm_o G), .ref (mm_a G x1), .int x2, .int x3] 10 [(0, .ref (mm_o G)), (1, .ref (mm_a G x1)), (2, .int x2), (3, .int x3)] ha (Nat.le_of_ble_eq_true rfl) rfl (fun ls hl => ?_)
  have hS : va_S (mm_A G) s.heap s.heap [] := va_S.rf
  unfold w3_holds at hw
  obtain ⟨hx, hb, hml, hown, hts, hr, hlk, hMK, hZ⟩ := id cx
  refine lv_iconst (v := (0 : Int32)) hx hb dX3_holds_0 (by decide) ?_
  refine lv_istore (lv' := [(4, .int (0 : Int32)), (0, .ref (mm_o G)), (1, .ref (mm_a G x1)), (2, .int x2), (3, .int x3)]) hx hb dX3_holds_1 hl (by decide) rfl (fun ls hl => ?_)
  refine lv_aload_n hx hb dX3_holds_3 rfl (lv_at hl 2 rfl) ?_
  refine lv_bipush (v := (84 : Int32)) hx hb dX3_holds_4 (by decide) ?_
  refine lv_iload_n hx hb dX3_holds_6 rfl (lv_at hl 3 rfl) ?_
  refine lv_iadd hx hb dX3_holds_7 ?_
  obtain ⟨hk, hw⟩ := hw
  obtain ⟨hi, hw⟩ := hw
  refine mm_iald cx hM x1 hk rfl hi dX3_holds_8 ?_
  refine lv_topi (fun v10 hv10 => ?_)
  have hw := hw v10 hv10
  refine lv_istore (lv' := [(5, .int v10), (4, .int (0 : Int32)), (0, .ref (mm_o G)), (1, .ref (mm_a G x1)), (2, .int x2), (3, .int x3)]) hx hb dX3_holds_9 hl (by decide) rfl (fun ls hl => ?_)
  exact L3_holds_11 cx _ _ _ _ _ _ hw _ _ _ hM hS (lv_sub hl [2, 3, 4, 5, 1, 0] rfl)
theorem C3_holds {l : Launch} {p : Program} {e : Env} {R : Room} {s : State} {m : MethodId} {args : Array Value} {below : List Frame} {meth : Method} {c : Code} {H : Heap} {locs : List Loc} {cells slots : Nat} {Qz : State → Prop} {cc : ByteArray} {nL : Nat} {ret : Option FieldType} {G : mm_G} {pc : Nat} {ls : Array Slot} {rest : List Value} {x1 : Nat} {x2 : Int32} {x3 : Int32} {σ : MS} (cx : mm_X cc nL ret G p s m args meth c) (hM : mm_R G σ H) (hS0 : va_S (mm_A G) s.heap H locs) {Qf : Int32 → MS → Prop} (hw : w3_holds x1 x2 x3 σ Qf) (hR : (({ frames := 0, cells := 0, slots := 0, locals := 0 } : Room)).frames + 1 ≤ R.frames ∧ 8 + (10 + 11) + (({ frames := 0, cells := 0, slots := 0, locals := 0 } : Room)).locals ≤ R.locals) (hroom : (rest.map fun v => v.category).sum ≤ 8) (hsize : ls.size = nL) (hf : cells ≤ R.cells ∧ slots ≤ R.slots) (hdg : decode cc pc = .ok (.invokevirtual 293, 3))
    (kk : ∀ (r : Int32) (σ1 : MS) (H1 : Heap) (locs1 : List Loc), Qf r σ1 → mm_R G σ1 H1 → va_S (mm_A G) s.heap H1 locs1 → W p l e R s m args below meth c H1 locs1 cells slots Qz (F0 m (pc + 3) ls (.int r :: rest))) : W p l e R s m args below meth c H locs cells slots Qz (F0 m pc ls (.int x3 :: .int x2 :: .ref (mm_a G x1) :: .ref (mm_o G) :: rest)) := by
  obtain ⟨hx, hb, hml, hown, hts, hr, hlk, hK, hZ⟩ := id cx
  exact mm_Vi cx hM hS0 (As := [.ref (mm_a G x1), .int x2, .int x3]) (M3_holds l G x1 x2 x3 σ Qf hw) (cwV 3 hts (lw_V q2380 q2382 qs74 q172 q2383) rfl rfl rfl (by decide +kernel) hR) rfl hsize rfl hroom hf hdg kk
def w3_mayBe_2 (Q : Int32 → MS → Prop) (K2 : Nat → Int32 → Int32 → MS → Prop) (x1 : Nat) (x2 : Int32) (x3 : Int32) (σ : MS) : Prop :=
  mm_i x1 = true ∧ (vp_in (3 : Int32) (mm_z x1) ∧ (if (gA σ x1 (3 : Int32).toNatClampNeg) ≤ x3 then (Q (1 : Int32) σ) else (mm_i x1 = true ∧ (vp_in ((78 : Int32) + x3) (mm_z x1) ∧ (w3_holds x1 (gA σ x1 ((78 : Int32) + x3).toNatClampNeg) x2 σ (fun r1 s1 => if r1 = (1 : Int32) then (Q (0 : Int32) s1) else (∀ v2 : Int32, v2 = x3 + (1 : Int32) → K2 x1 x2 v2 s1)))))))
set_option maxHeartbeats 4000000 in
theorem B3_mayBe_2 {l : Launch} {p : Program} {e : Env} {s : State} {m : MethodId} {args : Array Value} {below : List Frame} {meth : Method} {c : Code} {G : mm_G} {Q : Int32 → MS → Prop} {K2 : Nat → Int32 → Int32 → MS → Prop} (cx : mm_X cX3_mayBe 4 (some .boolean) G p s m args meth c) (hK2 : ∀ (x1 : Nat) (x2 : Int32) (x3 : Int32) (σ : MS), K2 x1 x2 x3 σ → mm_T p l e ({ frames := 1, cells := 0, slots := 0, locals := 40 } : Room) s m args below meth c G (mm_Qi G Q) 4 2 σ [(0, .ref (mm_o G)), (1, .ref (mm_a G x1)), (2, .int x2), (3, .int x3)] []) : ∀ (x1 : Nat) (x2 : Int32) (x3 : Int32) (σ : MS), w3_mayBe_2 Q K2 x1 x2 x3 σ → mm_T p l e ({ frames := 1, cells := 0, slots := 0, locals := 40 } : Room) s m args below meth c G (mm_Qi G Q) 4 2 σ [(0, .ref (mm_o G)), (1, .ref (mm_a G x1)), (2, .int x2), (3, .int x3)] [] := by
  intro x1 x2 x3 σ hw H locs ls hM hS hl
  unfold w3_mayBe_2 at hw
  obtain ⟨hx, hb, hml, hown, hts, hr, hlk, hMK, hZ⟩ := id cx
  refine lv_iload_n hx hb dX3_mayBe_2 rfl (lv_at hl 3 rfl) ?_
  refine lv_aload_n hx hb dX3_mayBe_3 rfl (lv_at hl 1 rfl) ?_
  refine lv_iconst (v := (3 : Int32)) hx hb dX3_mayBe_4 (by decide) ?_
  obtain ⟨hk, hw⟩ := hw
  obtain ⟨hi, hw⟩ := hw
  refine mm_iald cx hM x1 hk rfl hi dX3_mayBe_5 ?_
  refine lv_icmp_ge (tgt := 33) hx hb dX3_mayBe_6 (by decide) (fun hc => ?_) (fun hc => ?_)
  · have hw := mm_ip hc hw
    refine lv_iconst (v := (1 : Int32)) hx hb dX3_mayBe_33 (by decide) ?_
    exact mm_zret cx hM hS (Or.inr rfl) hw dX3_mayBe_34
  · have hw := mm_in hc hw
    refine lv_aload_n hx hb dX3_mayBe_9 rfl (lv_at hl 0 rfl) ?_
    refine lv_aload_n hx hb dX3_mayBe_10 rfl (lv_at hl 1 rfl) ?_
    refine lv_aload_n hx hb dX3_mayBe_11 rfl (lv_at hl 1 rfl) ?_
    refine lv_bipush (v := (78 : Int32)) hx hb dX3_mayBe_12 (by decide) ?_
    refine lv_iload_n hx hb dX3_mayBe_14 rfl (lv_at hl 3 rfl) ?_
    refine lv_iadd hx hb dX3_mayBe_15 ?_
    obtain ⟨hk, hw⟩ := hw
    obtain ⟨hi, hw⟩ := hw
    refine mm_iald cx hM x1 hk rfl hi dX3_mayBe_16 ?_
    refine lv_iload_n hx hb dX3_mayBe_17 rfl (lv_at hl 2 rfl) ?_
    refine C3_holds cx hM hS hw ⟨Nat.le_of_ble_eq_true rfl, Nat.le_of_ble_eq_true rfl⟩ (Nat.le_of_ble_eq_true rfl) hl.1 ⟨Nat.zero_le _, Nat.zero_le _⟩ dX3_mayBe_18 (fun r1 s1 H locs hw hM hS => ?_)
    refine lv_iconst (v := (1 : Int32)) hx hb dX3_mayBe_21 (by decide) ?_
    refine lv_icmp_ne (tgt := 27) hx hb dX3_mayBe_22 (by decide) (fun hc => ?_) (fun hc => ?_)
    · have hw := mm_in hc hw
      obtain ⟨v2, hv2⟩ : ∃ v : Int32, v = x3 + (1 : Int32) := ⟨_, rfl⟩
      have hw := hw v2 hv2
      refine lv_iinc (v := v2) (lv' := [(3, .int v2), (0, .ref (mm_o G)), (1, .ref (mm_a G x1)), (2, .int x2)]) hx hb dX3_mayBe_27 hl (k := 3) rfl (by rw [hv2]; rfl) (by decide) rfl (fun ls hl => ?_)
      refine lv_goto (tgt := 2) hx hb dX3_mayBe_30 (by decide) ?_
      exact hK2 _ _ _ _ hw _ _ _ hM hS (lv_sub hl [1, 2, 3, 0] rfl)
    · have hw := mm_ip hc hw
      refine lv_iconst (v := (0 : Int32)) hx hb dX3_mayBe_25 (by decide) ?_
      exact mm_zret cx hM hS (Or.inl rfl) hw dX3_mayBe_26
theorem L3_mayBe_2 {l : Launch} {p : Program} {e : Env} {s : State} {m : MethodId} {args : Array Value} {below : List Frame} {meth : Method} {c : Code} {G : mm_G} {Q : Int32 → MS → Prop} (cx : mm_X cX3_mayBe 4 (some .boolean) G p s m args meth c) : ∀ (x1 : Nat) (x2 : Int32) (x3 : Int32) (σ : MS), lp4F (w3_mayBe_2 Q) x1 x2 x3 σ → mm_T p l e ({ frames := 1, cells := 0, slots := 0, locals := 40 } : Room) s m args below meth c G (mm_Qi G Q) 4 2 σ [(0, .ref (mm_o G)), (1, .ref (mm_a G x1)), (2, .int x2), (3, .int x3)] [] :=
  lp4F_of (fun K hK => B3_mayBe_2 cx hK)
def w3_mayBe (x1 : Nat) (x2 : Int32) (σ : MS) (Q : Int32 → MS → Prop) : Prop :=
  lp4F (w3_mayBe_2 Q) x1 x2 (0 : Int32) σ
set_option maxHeartbeats 4000000 in
theorem M3_mayBe (l : Launch) (G : mm_G) (x1 : Nat) (x2 : Int32) (σ : MS) (Q : Int32 → MS → Prop) (hw : w3_mayBe x1 x2 σ Q) : mm_Mi l yX3_mayBe (ws_ yX3_mayBe cX3_mayBe 4 (some .boolean)) ({ frames := 1, cells := 0, slots := 0, locals := 40 } : Room) G [.ref (mm_o G), .ref (mm_a G x1), .int x2] σ Q := by
  refine mm_of (by decide) rfl ?_
  intro p e s m args below meth c cx hM ha
  refine mm_entry [.ref (mm_o G), .ref (mm_a G x1), .int x2] 4 [(0, .ref (mm_o G)), (1, .ref (mm_a G x1)), (2, .int x2)] ha (Nat.le_of_ble_eq_true rfl) rfl (fun ls hl => ?_)
  have hS : va_S (mm_A G) s.heap s.heap [] := va_S.rf
  unfold w3_mayBe at hw
  obtain ⟨hx, hb, hml, hown, hts, hr, hlk, hMK, hZ⟩ := id cx
  refine lv_iconst (v := (0 : Int32)) hx hb dX3_mayBe_0 (by decide) ?_
  refine lv_istore_n (lv' := [(3, .int (0 : Int32)), (0, .ref (mm_o G)), (1, .ref (mm_a G x1)), (2, .int x2)]) hx hb dX3_mayBe_1 rfl hl (by decide) rfl (fun ls hl => ?_)
  exact L3_mayBe_2 cx _ _ _ _ hw _ _ _ hM hS (lv_sub hl [1, 2, 3, 0] rfl)
theorem C3_mayBe {l : Launch} {p : Program} {e : Env} {R : Room} {s : State} {m : MethodId} {args : Array Value} {below : List Frame} {meth : Method} {c : Code} {H : Heap} {locs : List Loc} {cells slots : Nat} {Qz : State → Prop} {cc : ByteArray} {nL : Nat} {ret : Option FieldType} {G : mm_G} {pc : Nat} {ls : Array Slot} {rest : List Value} {x1 : Nat} {x2 : Int32} {σ : MS} (cx : mm_X cc nL ret G p s m args meth c) (hM : mm_R G σ H) (hS0 : va_S (mm_A G) s.heap H locs) {Qf : Int32 → MS → Prop} (hw : w3_mayBe x1 x2 σ Qf) (hR : (({ frames := 1, cells := 0, slots := 0, locals := 40 } : Room)).frames + 1 ≤ R.frames ∧ 8 + (4 + 11) + (({ frames := 1, cells := 0, slots := 0, locals := 40 } : Room)).locals ≤ R.locals) (hroom : (rest.map fun v => v.category).sum ≤ 8) (hsize : ls.size = nL) (hf : cells ≤ R.cells ∧ slots ≤ R.slots) (hdg : decode cc pc = .ok (.invokevirtual 235, 3))
    (kk : ∀ (r : Int32) (σ1 : MS) (H1 : Heap) (locs1 : List Loc), Qf r σ1 → mm_R G σ1 H1 → va_S (mm_A G) s.heap H1 locs1 → W p l e R s m args below meth c H1 locs1 cells slots Qz (F0 m (pc + 3) ls (.int r :: rest))) : W p l e R s m args below meth c H locs cells slots Qz (F0 m pc ls (.int x2 :: .ref (mm_a G x1) :: .ref (mm_o G) :: rest)) := by
  obtain ⟨hx, hb, hml, hown, hts, hr, hlk, hK, hZ⟩ := id cx
  exact mm_Vi cx hM hS0 (As := [.ref (mm_a G x1), .int x2]) (M3_mayBe l G x1 x2 σ Qf hw) (cwV 2 hts (lw_V q2376 q2378 qs73 q172 q2379) rfl rfl rfl (by decide +kernel) hR) rfl hsize rfl hroom hf hdg kk
def w3_adds (x0 : Nat) (x1 : Int32) (x2 : Int32) (x3 : Int32) (σ : MS) (Q : MS → Prop) : Prop :=
  if x3 = 0 then (Q σ) else (mm_i x0 = true ∧ (vp_in (((8 : Int32) * x1) + (x2 >>> ((5 : Int32) &&& 31))) (mm_z x0) ∧ (mm_w x0 = true ∧ (vp_in (((8 : Int32) * x1) + (x2 >>> ((5 : Int32) &&& 31))) (mm_z x0) ∧ (Q (sA σ x0 (((8 : Int32) * x1) + (x2 >>> ((5 : Int32) &&& 31))).toNatClampNeg ((gA σ x0 (((8 : Int32) * x1) + (x2 >>> ((5 : Int32) &&& 31))).toNatClampNeg) ||| ((1 : Int32) <<< ((x2 &&& (31 : Int32)) &&& 31)))))))))
set_option maxHeartbeats 4000000 in
theorem M3_adds (l : Launch) (G : mm_G) (x0 : Nat) (x1 : Int32) (x2 : Int32) (x3 : Int32) (σ : MS) (Q : MS → Prop) (hw : w3_adds x0 x1 x2 x3 σ Q) : mm_Mv l yX3_adds (ws_ yX3_adds cX3_adds 4 none) ({ frames := 0, cells := 0, slots := 0, locals := 0 } : Room) G [.ref (mm_a G x0), .int x1, .int x2, .int x3] σ Q := by
  refine mm_of (by decide) rfl ?_
  intro p e s m args below meth c cx hM ha
  refine mm_entry [.ref (mm_a G x0), .int x1, .int x2, .int x3] 4 [(0, .ref (mm_a G x0)), (1, .int x1), (2, .int x2), (3, .int x3)] ha (Nat.le_of_ble_eq_true rfl) rfl (fun ls hl => ?_)
  have hS : va_S (mm_A G) s.heap s.heap [] := va_S.rf
  unfold w3_adds at hw
  obtain ⟨hx, hb, hml, hown, hts, hr, hlk, hMK, hZ⟩ := id cx
  refine lv_iload_n hx hb dX3_adds_0 rfl (lv_at hl 3 rfl) ?_
  refine lv_if_eq (tgt := 23) hx hb dX3_adds_1 (by decide) (fun hc => ?_) (fun hc => ?_)
  · have hw := mm_ip hc hw
    exact mm_vret cx hM hS hw dX3_adds_23
  · have hw := mm_in hc hw
    refine lv_aload_n hx hb dX3_adds_4 rfl (lv_at hl 0 rfl) ?_
    refine lv_bipush (v := (8 : Int32)) hx hb dX3_adds_5 (by decide) ?_
    refine lv_iload_n hx hb dX3_adds_7 rfl (lv_at hl 1 rfl) ?_
    refine lv_imul hx hb dX3_adds_8 ?_
    refine lv_iload_n hx hb dX3_adds_9 rfl (lv_at hl 2 rfl) ?_
    refine lv_iconst (v := (5 : Int32)) hx hb dX3_adds_10 (by decide) ?_
    refine lv_ishr hx hb dX3_adds_11 ?_
    refine lv_iadd hx hb dX3_adds_12 ?_
    refine lv_dup2_11 hx hb dX3_adds_13 rfl rfl ?_
    obtain ⟨hk, hw⟩ := hw
    obtain ⟨hi, hw⟩ := hw
    refine mm_iald cx hM x0 hk rfl hi dX3_adds_14 ?_
    refine lv_iconst (v := (1 : Int32)) hx hb dX3_adds_15 (by decide) ?_
    refine lv_iload_n hx hb dX3_adds_16 rfl (lv_at hl 2 rfl) ?_
    refine lv_bipush (v := (31 : Int32)) hx hb dX3_adds_17 (by decide) ?_
    refine lv_iand hx hb dX3_adds_19 ?_
    refine lv_ishl hx hb dX3_adds_20 ?_
    refine lv_ior hx hb dX3_adds_21 ?_
    obtain ⟨hk, hw⟩ := hw
    obtain ⟨hi, hw⟩ := hw
    refine mm_iast cx hM hS x0 hk rfl hi dX3_adds_22 (fun H locs hM hS => ?_)
    exact mm_vret cx hM hS hw dX3_adds_23
theorem C3_adds {l : Launch} {p : Program} {e : Env} {R : Room} {s : State} {m : MethodId} {args : Array Value} {below : List Frame} {meth : Method} {c : Code} {H : Heap} {locs : List Loc} {cells slots : Nat} {Qz : State → Prop} {cc : ByteArray} {nL : Nat} {ret : Option FieldType} {G : mm_G} {pc : Nat} {ls : Array Slot} {rest : List Value} {x0 : Nat} {x1 : Int32} {x2 : Int32} {x3 : Int32} {σ : MS} (cx : mm_X cc nL ret G p s m args meth c) (hM : mm_R G σ H) (hS0 : va_S (mm_A G) s.heap H locs) {Qf : MS → Prop} (hw : w3_adds x0 x1 x2 x3 σ Qf) (hR : (({ frames := 0, cells := 0, slots := 0, locals := 0 } : Room)).frames + 1 ≤ R.frames ∧ 8 + (4 + 11) + (({ frames := 0, cells := 0, slots := 0, locals := 0 } : Room)).locals ≤ R.locals) (hroom : (rest.map fun v => v.category).sum ≤ 8) (hsize : ls.size = nL) (hf : cells ≤ R.cells ∧ slots ≤ R.slots) (hdg : decode cc pc = .ok (.invokestatic 301, 3))
    (kk : ∀ (σ1 : MS) (H1 : Heap) (locs1 : List Loc), Qf σ1 → mm_R G σ1 H1 → va_S (mm_A G) s.heap H1 locs1 → W p l e R s m args below meth c H1 locs1 cells slots Qz (F0 m (pc + 3) ls rest)) : W p l e R s m args below meth c H locs cells slots Qz (F0 m pc ls (.int x3 :: .int x2 :: .int x1 :: .ref (mm_a G x0) :: rest)) := by
  obtain ⟨hx, hb, hml, hown, hts, hr, hlk, hK, hZ⟩ := id cx
  exact mm_Sv cx hM hS0 (As := [.ref (mm_a G x0), .int x1, .int x2, .int x3]) (M3_adds l G x0 x1 x2 x3 σ Qf hw) (va_cwS 4 hts (lw_S q2384 q2385 q172 q2386) rfl rfl rfl (by decide +kernel) hR) rfl hsize rfl hroom hf hdg kk
def w3_isIn (x0 : Nat) (x1 : Int32) (x2 : Int32) (σ : MS) (Q : Int32 → MS → Prop) : Prop :=
  mm_i x0 = true ∧ (vp_in (((8 : Int32) * x1) + (x2 >>> ((5 : Int32) &&& 31))) (mm_z x0) ∧ (if ((ushr (gA σ x0 (((8 : Int32) * x1) + (x2 >>> ((5 : Int32) &&& 31))).toNatClampNeg) (x2 &&& (31 : Int32))) &&& (1 : Int32)) = (1 : Int32) then (Q (1 : Int32) σ) else (Q (0 : Int32) σ)))
set_option maxHeartbeats 4000000 in
theorem M3_isIn (l : Launch) (G : mm_G) (x0 : Nat) (x1 : Int32) (x2 : Int32) (σ : MS) (Q : Int32 → MS → Prop) (hw : w3_isIn x0 x1 x2 σ Q) : mm_Mi l yX3_isIn (ws_ yX3_isIn cX3_isIn 3 (some .boolean)) ({ frames := 0, cells := 0, slots := 0, locals := 0 } : Room) G [.ref (mm_a G x0), .int x1, .int x2] σ Q := by
  refine mm_of (by decide) rfl ?_
  intro p e s m args below meth c cx hM ha
  refine mm_entry [.ref (mm_a G x0), .int x1, .int x2] 3 [(0, .ref (mm_a G x0)), (1, .int x1), (2, .int x2)] ha (Nat.le_of_ble_eq_true rfl) rfl (fun ls hl => ?_)
  have hS : va_S (mm_A G) s.heap s.heap [] := va_S.rf
  unfold w3_isIn at hw
  obtain ⟨hx, hb, hml, hown, hts, hr, hlk, hMK, hZ⟩ := id cx
  refine lv_aload_n hx hb dX3_isIn_0 rfl (lv_at hl 0 rfl) ?_
  refine lv_bipush (v := (8 : Int32)) hx hb dX3_isIn_1 (by decide) ?_
  refine lv_iload_n hx hb dX3_isIn_3 rfl (lv_at hl 1 rfl) ?_
  refine lv_imul hx hb dX3_isIn_4 ?_
  refine lv_iload_n hx hb dX3_isIn_5 rfl (lv_at hl 2 rfl) ?_
  refine lv_iconst (v := (5 : Int32)) hx hb dX3_isIn_6 (by decide) ?_
  refine lv_ishr hx hb dX3_isIn_7 ?_
  refine lv_iadd hx hb dX3_isIn_8 ?_
  obtain ⟨hk, hw⟩ := hw
  obtain ⟨hi, hw⟩ := hw
  refine mm_iald cx hM x0 hk rfl hi dX3_isIn_9 ?_
  refine lv_iload_n hx hb dX3_isIn_10 rfl (lv_at hl 2 rfl) ?_
  refine lv_bipush (v := (31 : Int32)) hx hb dX3_isIn_11 (by decide) ?_
  refine lv_iand hx hb dX3_isIn_13 ?_
  refine lv_iushr (v := (ushr (gA σ x0 (((8 : Int32) * x1) + (x2 >>> ((5 : Int32) &&& 31))).toNatClampNeg) (x2 &&& (31 : Int32)))) hx hb dX3_isIn_14 rfl ?_
  refine lv_iconst (v := (1 : Int32)) hx hb dX3_isIn_15 (by decide) ?_
  refine lv_iand hx hb dX3_isIn_16 ?_
  refine lv_iconst (v := (1 : Int32)) hx hb dX3_isIn_17 (by decide) ?_
  refine lv_icmp_ne (tgt := 25) hx hb dX3_isIn_18 (by decide) (fun hc => ?_) (fun hc => ?_)
  · have hw := mm_in hc hw
    refine lv_iconst (v := (0 : Int32)) hx hb dX3_isIn_25 (by decide) ?_
    exact mm_zret cx hM hS (Or.inl rfl) hw dX3_isIn_26
  · have hw := mm_ip hc hw
    refine lv_iconst (v := (1 : Int32)) hx hb dX3_isIn_21 (by decide) ?_
    refine lv_goto (tgt := 26) hx hb dX3_isIn_22 (by decide) ?_
    exact mm_zret cx hM hS (Or.inr rfl) hw dX3_isIn_26
theorem C3_isIn {l : Launch} {p : Program} {e : Env} {R : Room} {s : State} {m : MethodId} {args : Array Value} {below : List Frame} {meth : Method} {c : Code} {H : Heap} {locs : List Loc} {cells slots : Nat} {Qz : State → Prop} {cc : ByteArray} {nL : Nat} {ret : Option FieldType} {G : mm_G} {pc : Nat} {ls : Array Slot} {rest : List Value} {x0 : Nat} {x1 : Int32} {x2 : Int32} {σ : MS} (cx : mm_X cc nL ret G p s m args meth c) (hM : mm_R G σ H) (hS0 : va_S (mm_A G) s.heap H locs) {Qf : Int32 → MS → Prop} (hw : w3_isIn x0 x1 x2 σ Qf) (hR : (({ frames := 0, cells := 0, slots := 0, locals := 0 } : Room)).frames + 1 ≤ R.frames ∧ 8 + (3 + 11) + (({ frames := 0, cells := 0, slots := 0, locals := 0 } : Room)).locals ≤ R.locals) (hroom : (rest.map fun v => v.category).sum ≤ 8) (hsize : ls.size = nL) (hf : cells ≤ R.cells ∧ slots ≤ R.slots) (hdg : decode cc pc = .ok (.invokestatic 311, 3))
    (kk : ∀ (r : Int32) (σ1 : MS) (H1 : Heap) (locs1 : List Loc), Qf r σ1 → mm_R G σ1 H1 → va_S (mm_A G) s.heap H1 locs1 → W p l e R s m args below meth c H1 locs1 cells slots Qz (F0 m (pc + 3) ls (.int r :: rest))) : W p l e R s m args below meth c H locs cells slots Qz (F0 m pc ls (.int x2 :: .int x1 :: .ref (mm_a G x0) :: rest)) := by
  obtain ⟨hx, hb, hml, hown, hts, hr, hlk, hK, hZ⟩ := id cx
  exact mm_Si cx hM hS0 (As := [.ref (mm_a G x0), .int x1, .int x2]) (M3_isIn l G x0 x1 x2 σ Qf hw) (va_cwS 3 hts (lw_S q2391 q2392 q172 q2393) rfl rfl rfl (by decide +kernel) hR) rfl hsize rfl hroom hf hdg kk
def w3_isWonTold_94 (Q : Int32 → MS → Prop) (K49 : Int32 → Int32 → Int32 → MS → Prop) (x1 : Int32) (x2 : Int32) (x3 : Int32) (σ : MS) : Prop :=
  ∀ v1 : Int32, v1 = x3 + (1 : Int32) → K49 x1 x2 v1 σ
set_option maxHeartbeats 4000000 in
theorem B3_isWonTold_94 {l : Launch} {p : Program} {e : Env} {s : State} {m : MethodId} {args : Array Value} {below : List Frame} {meth : Method} {c : Code} {G : mm_G} {Q : Int32 → MS → Prop} {K49 : Int32 → Int32 → Int32 → MS → Prop} (cx : mm_X cX3_isWonTold 4 (some .boolean) G p s m args meth c) (hK49 : ∀ (x1 : Int32) (x2 : Int32) (x3 : Int32) (σ : MS), K49 x1 x2 x3 σ → mm_T p l e ({ frames := 1, cells := 0, slots := 0, locals := 40 } : Room) s m args below meth c G (mm_Qi G Q) 4 49 σ [(0, .ref (mm_o G)), (1, .int x1), (2, .int x2), (3, .int x3)] []) : ∀ (x1 : Int32) (x2 : Int32) (x3 : Int32) (σ : MS), w3_isWonTold_94 Q K49 x1 x2 x3 σ → mm_T p l e ({ frames := 1, cells := 0, slots := 0, locals := 40 } : Room) s m args below meth c G (mm_Qi G Q) 4 94 σ [(0, .ref (mm_o G)), (1, .int x1), (2, .int x2), (3, .int x3)] [] := by
  intro x1 x2 x3 σ hw H locs ls hM hS hl
  unfold w3_isWonTold_94 at hw
  obtain ⟨hx, hb, hml, hown, hts, hr, hlk, hMK, hZ⟩ := id cx
  obtain ⟨v1, hv1⟩ : ∃ v : Int32, v = x3 + (1 : Int32) := ⟨_, rfl⟩
  have hw := hw v1 hv1
  refine lv_iinc (v := v1) (lv' := [(3, .int v1), (0, .ref (mm_o G)), (1, .int x1), (2, .int x2)]) hx hb dX3_isWonTold_94 hl (k := 3) rfl (by rw [hv1]; rfl) (by decide) rfl (fun ls hl => ?_)
  refine lv_goto (tgt := 49) hx hb dX3_isWonTold_97 (by decide) ?_
  exact hK49 _ _ _ _ hw _ _ _ hM hS (lv_sub hl [1, 2, 3, 0] rfl)
def w3_isWonTold_49 (Q : Int32 → MS → Prop) (K49 : Int32 → Int32 → Int32 → MS → Prop) (x1 : Int32) (x2 : Int32) (x3 : Int32) (σ : MS) : Prop :=
  if (gA σ 0 4) ≤ x3 then (Q (1 : Int32) σ) else (vp_in ((66 : Int32) + x3) 640 ∧ (if (gA σ 0 ((66 : Int32) + x3).toNatClampNeg) = x1 then (vp_in ((72 : Int32) + x3) 640 ∧ (w3_isIn 25 (gA σ 0 ((72 : Int32) + x3).toNatClampNeg) x2 σ (fun r2 s2 => if r2 = 0 then (w3_isWonTold_94 Q K49 x1 x2 x3 s2) else (Q (0 : Int32) s2)))) else (w3_isWonTold_94 Q K49 x1 x2 x3 σ)))
set_option maxHeartbeats 4000000 in
theorem B3_isWonTold_49 {l : Launch} {p : Program} {e : Env} {s : State} {m : MethodId} {args : Array Value} {below : List Frame} {meth : Method} {c : Code} {G : mm_G} {Q : Int32 → MS → Prop} {K49 : Int32 → Int32 → Int32 → MS → Prop} (cx : mm_X cX3_isWonTold 4 (some .boolean) G p s m args meth c) (hK49 : ∀ (x1 : Int32) (x2 : Int32) (x3 : Int32) (σ : MS), K49 x1 x2 x3 σ → mm_T p l e ({ frames := 1, cells := 0, slots := 0, locals := 40 } : Room) s m args below meth c G (mm_Qi G Q) 4 49 σ [(0, .ref (mm_o G)), (1, .int x1), (2, .int x2), (3, .int x3)] []) : ∀ (x1 : Int32) (x2 : Int32) (x3 : Int32) (σ : MS), w3_isWonTold_49 Q K49 x1 x2 x3 σ → mm_T p l e ({ frames := 1, cells := 0, slots := 0, locals := 40 } : Room) s m args below meth c G (mm_Qi G Q) 4 49 σ [(0, .ref (mm_o G)), (1, .int x1), (2, .int x2), (3, .int x3)] [] := by
  intro x1 x2 x3 σ hw H locs ls hM hS hl
  unfold w3_isWonTold_49 at hw
  obtain ⟨hx, hb, hml, hown, hts, hr, hlk, hMK, hZ⟩ := id cx
  refine lv_iload_n hx hb dX3_isWonTold_49 rfl (lv_at hl 3 rfl) ?_
  refine lv_aload_n hx hb dX3_isWonTold_50 rfl (lv_at hl 0 rfl) ?_
  refine mg_0 cx hM dX3_isWonTold_51 ?_
  refine lv_iconst (v := (4 : Int32)) hx hb dX3_isWonTold_54 (by decide) ?_
  refine mm_iald cx hM 0 rfl (j := 4) (by decide) (vp_lit (by decide)) dX3_isWonTold_55 ?_
  refine lv_icmp_ge (tgt := 100) hx hb dX3_isWonTold_56 (by decide) (fun hc => ?_) (fun hc => ?_)
  · have hw := mm_ip hc hw
    refine lv_iconst (v := (1 : Int32)) hx hb dX3_isWonTold_100 (by decide) ?_
    exact mm_zret cx hM hS (Or.inr rfl) hw dX3_isWonTold_101
  · have hw := mm_in hc hw
    refine lv_aload_n hx hb dX3_isWonTold_59 rfl (lv_at hl 0 rfl) ?_
    refine mg_0 cx hM dX3_isWonTold_60 ?_
    refine lv_bipush (v := (66 : Int32)) hx hb dX3_isWonTold_63 (by decide) ?_
    refine lv_iload_n hx hb dX3_isWonTold_65 rfl (lv_at hl 3 rfl) ?_
    refine lv_iadd hx hb dX3_isWonTold_66 ?_
    obtain ⟨hi, hw⟩ := hw
    refine mm_iald cx hM 0 rfl rfl hi dX3_isWonTold_67 ?_
    refine lv_iload_n hx hb dX3_isWonTold_68 rfl (lv_at hl 1 rfl) ?_
    refine lv_icmp_ne (tgt := 94) hx hb dX3_isWonTold_69 (by decide) (fun hc => ?_) (fun hc => ?_)
    · have hw := mm_in hc hw
      exact B3_isWonTold_94 cx hK49 _ _ _ _ hw _ _ _ hM hS (lv_sub hl [0, 1, 2, 3] rfl)
    · have hw := mm_ip hc hw
      refine lv_aload_n hx hb dX3_isWonTold_72 rfl (lv_at hl 0 rfl) ?_
      refine mg_25 cx hM dX3_isWonTold_73 ?_
      refine lv_aload_n hx hb dX3_isWonTold_76 rfl (lv_at hl 0 rfl) ?_
      refine mg_0 cx hM dX3_isWonTold_77 ?_
      refine lv_bipush (v := (72 : Int32)) hx hb dX3_isWonTold_80 (by decide) ?_
      refine lv_iload_n hx hb dX3_isWonTold_82 rfl (lv_at hl 3 rfl) ?_
      refine lv_iadd hx hb dX3_isWonTold_83 ?_
      obtain ⟨hi, hw⟩ := hw
      refine mm_iald cx hM 0 rfl rfl hi dX3_isWonTold_84 ?_
      refine lv_iload_n hx hb dX3_isWonTold_85 rfl (lv_at hl 2 rfl) ?_
      refine C3_isIn cx hM hS hw ⟨Nat.le_of_ble_eq_true rfl, Nat.le_of_ble_eq_true rfl⟩ (Nat.le_of_ble_eq_true rfl) hl.1 ⟨Nat.zero_le _, Nat.zero_le _⟩ dX3_isWonTold_86 (fun r2 s2 H locs hw hM hS => ?_)
      refine lv_if_eq (tgt := 94) hx hb dX3_isWonTold_89 (by decide) (fun hc => ?_) (fun hc => ?_)
      · have hw := mm_ip hc hw
        exact B3_isWonTold_94 cx hK49 _ _ _ _ hw _ _ _ hM hS (lv_sub hl [0, 1, 2, 3] rfl)
      · have hw := mm_in hc hw
        refine lv_iconst (v := (0 : Int32)) hx hb dX3_isWonTold_92 (by decide) ?_
        exact mm_zret cx hM hS (Or.inl rfl) hw dX3_isWonTold_93
theorem L3_isWonTold_49 {l : Launch} {p : Program} {e : Env} {s : State} {m : MethodId} {args : Array Value} {below : List Frame} {meth : Method} {c : Code} {G : mm_G} {Q : Int32 → MS → Prop} (cx : mm_X cX3_isWonTold 4 (some .boolean) G p s m args meth c) : ∀ (x1 : Int32) (x2 : Int32) (x3 : Int32) (σ : MS), lp4F (w3_isWonTold_49 Q) x1 x2 x3 σ → mm_T p l e ({ frames := 1, cells := 0, slots := 0, locals := 40 } : Room) s m args below meth c G (mm_Qi G Q) 4 49 σ [(0, .ref (mm_o G)), (1, .int x1), (2, .int x2), (3, .int x3)] [] :=
  lp4F_of (fun K hK => B3_isWonTold_49 cx hK)
def w3_isWonTold_2 (Q : Int32 → MS → Prop) (K2 : Int32 → Int32 → Int32 → MS → Prop) (x1 : Int32) (x2 : Int32) (x3 : Int32) (σ : MS) : Prop :=
  vp_in ((26 : Int32) + x1) 640 ∧ (if (gA σ 0 ((26 : Int32) + x1).toNatClampNeg) ≤ x3 then (lp4F (w3_isWonTold_49 Q) x1 x2 (0 : Int32) σ) else (vp_in (((31 : Int32) + ((4 : Int32) * x1)) + x3) 640 ∧ (w3_isIn 25 (gA σ 0 (((31 : Int32) + ((4 : Int32) * x1)) + x3).toNatClampNeg) x2 σ (fun r3 s3 => if r3 = 0 then (Q (0 : Int32) s3) else (∀ v4 : Int32, v4 = x3 + (1 : Int32) → K2 x1 x2 v4 s3)))))
set_option maxHeartbeats 4000000 in
theorem B3_isWonTold_2 {l : Launch} {p : Program} {e : Env} {s : State} {m : MethodId} {args : Array Value} {below : List Frame} {meth : Method} {c : Code} {G : mm_G} {Q : Int32 → MS → Prop} {K2 : Int32 → Int32 → Int32 → MS → Prop} (cx : mm_X cX3_isWonTold 4 (some .boolean) G p s m args meth c) (hK2 : ∀ (x1 : Int32) (x2 : Int32) (x3 : Int32) (σ : MS), K2 x1 x2 x3 σ → mm_T p l e ({ frames := 1, cells := 0, slots := 0, locals := 40 } : Room) s m args below meth c G (mm_Qi G Q) 4 2 σ [(0, .ref (mm_o G)), (1, .int x1), (2, .int x2), (3, .int x3)] []) : ∀ (x1 : Int32) (x2 : Int32) (x3 : Int32) (σ : MS), w3_isWonTold_2 Q K2 x1 x2 x3 σ → mm_T p l e ({ frames := 1, cells := 0, slots := 0, locals := 40 } : Room) s m args below meth c G (mm_Qi G Q) 4 2 σ [(0, .ref (mm_o G)), (1, .int x1), (2, .int x2), (3, .int x3)] [] := by
  intro x1 x2 x3 σ hw H locs ls hM hS hl
  unfold w3_isWonTold_2 at hw
  obtain ⟨hx, hb, hml, hown, hts, hr, hlk, hMK, hZ⟩ := id cx
  refine lv_iload_n hx hb dX3_isWonTold_2 rfl (lv_at hl 3 rfl) ?_
  refine lv_aload_n hx hb dX3_isWonTold_3 rfl (lv_at hl 0 rfl) ?_
  refine mg_0 cx hM dX3_isWonTold_4 ?_
  refine lv_bipush (v := (26 : Int32)) hx hb dX3_isWonTold_7 (by decide) ?_
  refine lv_iload_n hx hb dX3_isWonTold_9 rfl (lv_at hl 1 rfl) ?_
  refine lv_iadd hx hb dX3_isWonTold_10 ?_
  obtain ⟨hi, hw⟩ := hw
  refine mm_iald cx hM 0 rfl rfl hi dX3_isWonTold_11 ?_
  refine lv_icmp_ge (tgt := 47) hx hb dX3_isWonTold_12 (by decide) (fun hc => ?_) (fun hc => ?_)
  · have hw := mm_ip hc hw
    refine lv_iconst (v := (0 : Int32)) hx hb dX3_isWonTold_47 (by decide) ?_
    refine lv_istore_n (lv' := [(3, .int (0 : Int32)), (0, .ref (mm_o G)), (1, .int x1), (2, .int x2)]) hx hb dX3_isWonTold_48 rfl hl (by decide) rfl (fun ls hl => ?_)
    exact L3_isWonTold_49 cx _ _ _ _ hw _ _ _ hM hS (lv_sub hl [1, 2, 3, 0] rfl)
  · have hw := mm_in hc hw
    refine lv_aload_n hx hb dX3_isWonTold_15 rfl (lv_at hl 0 rfl) ?_
    refine mg_25 cx hM dX3_isWonTold_16 ?_
    refine lv_aload_n hx hb dX3_isWonTold_19 rfl (lv_at hl 0 rfl) ?_
    refine mg_0 cx hM dX3_isWonTold_20 ?_
    refine lv_bipush (v := (31 : Int32)) hx hb dX3_isWonTold_23 (by decide) ?_
    refine lv_iconst (v := (4 : Int32)) hx hb dX3_isWonTold_25 (by decide) ?_
    refine lv_iload_n hx hb dX3_isWonTold_26 rfl (lv_at hl 1 rfl) ?_
    refine lv_imul hx hb dX3_isWonTold_27 ?_
    refine lv_iadd hx hb dX3_isWonTold_28 ?_
    refine lv_iload_n hx hb dX3_isWonTold_29 rfl (lv_at hl 3 rfl) ?_
    refine lv_iadd hx hb dX3_isWonTold_30 ?_
    obtain ⟨hi, hw⟩ := hw
    refine mm_iald cx hM 0 rfl rfl hi dX3_isWonTold_31 ?_
    refine lv_iload_n hx hb dX3_isWonTold_32 rfl (lv_at hl 2 rfl) ?_
    refine C3_isIn cx hM hS hw ⟨Nat.le_of_ble_eq_true rfl, Nat.le_of_ble_eq_true rfl⟩ (Nat.le_of_ble_eq_true rfl) hl.1 ⟨Nat.zero_le _, Nat.zero_le _⟩ dX3_isWonTold_33 (fun r3 s3 H locs hw hM hS => ?_)
    refine lv_if_ne (tgt := 41) hx hb dX3_isWonTold_36 (by decide) (fun hc => ?_) (fun hc => ?_)
    · have hw := mm_in hc hw
      obtain ⟨v4, hv4⟩ : ∃ v : Int32, v = x3 + (1 : Int32) := ⟨_, rfl⟩
      have hw := hw v4 hv4
      refine lv_iinc (v := v4) (lv' := [(3, .int v4), (0, .ref (mm_o G)), (1, .int x1), (2, .int x2)]) hx hb dX3_isWonTold_41 hl (k := 3) rfl (by rw [hv4]; rfl) (by decide) rfl (fun ls hl => ?_)
      refine lv_goto (tgt := 2) hx hb dX3_isWonTold_44 (by decide) ?_
      exact hK2 _ _ _ _ hw _ _ _ hM hS (lv_sub hl [1, 2, 3, 0] rfl)
    · have hw := mm_ip hc hw
      refine lv_iconst (v := (0 : Int32)) hx hb dX3_isWonTold_39 (by decide) ?_
      exact mm_zret cx hM hS (Or.inl rfl) hw dX3_isWonTold_40
theorem L3_isWonTold_2 {l : Launch} {p : Program} {e : Env} {s : State} {m : MethodId} {args : Array Value} {below : List Frame} {meth : Method} {c : Code} {G : mm_G} {Q : Int32 → MS → Prop} (cx : mm_X cX3_isWonTold 4 (some .boolean) G p s m args meth c) : ∀ (x1 : Int32) (x2 : Int32) (x3 : Int32) (σ : MS), lp4F (w3_isWonTold_2 Q) x1 x2 x3 σ → mm_T p l e ({ frames := 1, cells := 0, slots := 0, locals := 40 } : Room) s m args below meth c G (mm_Qi G Q) 4 2 σ [(0, .ref (mm_o G)), (1, .int x1), (2, .int x2), (3, .int x3)] [] :=
  lp4F_of (fun K hK => B3_isWonTold_2 cx hK)
def w3_isWonTold (x1 : Int32) (x2 : Int32) (σ : MS) (Q : Int32 → MS → Prop) : Prop :=
  lp4F (w3_isWonTold_2 Q) x1 x2 (0 : Int32) σ
set_option maxHeartbeats 4000000 in
theorem M3_isWonTold (l : Launch) (G : mm_G) (x1 : Int32) (x2 : Int32) (σ : MS) (Q : Int32 → MS → Prop) (hw : w3_isWonTold x1 x2 σ Q) : mm_Mi l yX3_isWonTold (ws_ yX3_isWonTold cX3_isWonTold 4 (some .boolean)) ({ frames := 1, cells := 0, slots := 0, locals := 40 } : Room) G [.ref (mm_o G), .int x1, .int x2] σ Q := by
  refine mm_of (by decide) rfl ?_
  intro p e s m args below meth c cx hM ha
  refine mm_entry [.ref (mm_o G), .int x1, .int x2] 4 [(0, .ref (mm_o G)), (1, .int x1), (2, .int x2)] ha (Nat.le_of_ble_eq_true rfl) rfl (fun ls hl => ?_)
  have hS : va_S (mm_A G) s.heap s.heap [] := va_S.rf
  unfold w3_isWonTold at hw
  obtain ⟨hx, hb, hml, hown, hts, hr, hlk, hMK, hZ⟩ := id cx
  refine lv_iconst (v := (0 : Int32)) hx hb dX3_isWonTold_0 (by decide) ?_
  refine lv_istore_n (lv' := [(3, .int (0 : Int32)), (0, .ref (mm_o G)), (1, .int x1), (2, .int x2)]) hx hb dX3_isWonTold_1 rfl hl (by decide) rfl (fun ls hl => ?_)
  exact L3_isWonTold_2 cx _ _ _ _ hw _ _ _ hM hS (lv_sub hl [1, 2, 3, 0] rfl)
theorem C3_isWonTold {l : Launch} {p : Program} {e : Env} {R : Room} {s : State} {m : MethodId} {args : Array Value} {below : List Frame} {meth : Method} {c : Code} {H : Heap} {locs : List Loc} {cells slots : Nat} {Qz : State → Prop} {cc : ByteArray} {nL : Nat} {ret : Option FieldType} {G : mm_G} {pc : Nat} {ls : Array Slot} {rest : List Value} {x1 : Int32} {x2 : Int32} {σ : MS} (cx : mm_X cc nL ret G p s m args meth c) (hM : mm_R G σ H) (hS0 : va_S (mm_A G) s.heap H locs) {Qf : Int32 → MS → Prop} (hw : w3_isWonTold x1 x2 σ Qf) (hR : (({ frames := 1, cells := 0, slots := 0, locals := 40 } : Room)).frames + 1 ≤ R.frames ∧ 8 + (4 + 11) + (({ frames := 1, cells := 0, slots := 0, locals := 40 } : Room)).locals ≤ R.locals) (hroom : (rest.map fun v => v.category).sum ≤ 8) (hsize : ls.size = nL) (hf : cells ≤ R.cells ∧ slots ≤ R.slots) (hdg : decode cc pc = .ok (.invokevirtual 305, 3))
    (kk : ∀ (r : Int32) (σ1 : MS) (H1 : Heap) (locs1 : List Loc), Qf r σ1 → mm_R G σ1 H1 → va_S (mm_A G) s.heap H1 locs1 → W p l e R s m args below meth c H1 locs1 cells slots Qz (F0 m (pc + 3) ls (.int r :: rest))) : W p l e R s m args below meth c H locs cells slots Qz (F0 m pc ls (.int x2 :: .int x1 :: .ref (mm_o G) :: rest)) := by
  obtain ⟨hx, hb, hml, hown, hts, hr, hlk, hK, hZ⟩ := id cx
  exact mm_Vi cx hM hS0 (As := [.int x1, .int x2]) (M3_isWonTold l G x1 x2 σ Qf hw) (cwV 2 hts (lw_V q2387 q2389 qs75 q172 q2390) rfl rfl rfl (by decide +kernel) hR) rfl hsize rfl hroom hf hdg kk
def w3_isKnown_24 (Q : Int32 → MS → Prop) (σ : MS) : Prop :=
  Q (1 : Int32) σ
set_option maxHeartbeats 4000000 in
theorem B3_isKnown_24 {l : Launch} {p : Program} {e : Env} {s : State} {m : MethodId} {args : Array Value} {below : List Frame} {meth : Method} {c : Code} {G : mm_G} {Q : Int32 → MS → Prop} (cx : mm_X cX3_isKnown 2 (some .boolean) G p s m args meth c) : ∀ (σ : MS), w3_isKnown_24 Q σ → mm_T p l e ({ frames := 0, cells := 0, slots := 0, locals := 0 } : Room) s m args below meth c G (mm_Qi G Q) 2 24 σ [(0, .ref (mm_o G))] [] := by
  intro σ hw H locs ls hM hS hl
  unfold w3_isKnown_24 at hw
  obtain ⟨hx, hb, hml, hown, hts, hr, hlk, hMK, hZ⟩ := id cx
  refine lv_iconst (v := (1 : Int32)) hx hb dX3_isKnown_24 (by decide) ?_
  refine lv_goto (tgt := 29) hx hb dX3_isKnown_25 (by decide) ?_
  exact mm_zret cx hM hS (Or.inr rfl) hw dX3_isKnown_29
def w3_isKnown (x1 : Int32) (σ : MS) (Q : Int32 → MS → Prop) : Prop :=
  vp_in ((0 : Int32) + x1) 83 ∧ (if (gA σ 4 ((0 : Int32) + x1).toNatClampNeg) = (1 : Int32) then (w3_isKnown_24 Q σ) else (vp_in ((0 : Int32) + x1) 83 ∧ (if (gA σ 4 ((0 : Int32) + x1).toNatClampNeg) = (4 : Int32) then (w3_isKnown_24 Q σ) else (Q (0 : Int32) σ))))
set_option maxHeartbeats 4000000 in
theorem M3_isKnown (l : Launch) (G : mm_G) (x1 : Int32) (σ : MS) (Q : Int32 → MS → Prop) (hw : w3_isKnown x1 σ Q) : mm_Mi l yX3_isKnown (ws_ yX3_isKnown cX3_isKnown 2 (some .boolean)) ({ frames := 0, cells := 0, slots := 0, locals := 0 } : Room) G [.ref (mm_o G), .int x1] σ Q := by
  refine mm_of (by decide) rfl ?_
  intro p e s m args below meth c cx hM ha
  refine mm_entry [.ref (mm_o G), .int x1] 2 [(0, .ref (mm_o G)), (1, .int x1)] ha (Nat.le_of_ble_eq_true rfl) rfl (fun ls hl => ?_)
  have hS : va_S (mm_A G) s.heap s.heap [] := va_S.rf
  unfold w3_isKnown at hw
  obtain ⟨hx, hb, hml, hown, hts, hr, hlk, hMK, hZ⟩ := id cx
  refine lv_aload_n hx hb dX3_isKnown_0 rfl (lv_at hl 0 rfl) ?_
  refine mg_4 cx hM dX3_isKnown_1 ?_
  refine lv_iconst (v := (0 : Int32)) hx hb dX3_isKnown_4 (by decide) ?_
  refine lv_iload_n hx hb dX3_isKnown_5 rfl (lv_at hl 1 rfl) ?_
  refine lv_iadd hx hb dX3_isKnown_6 ?_
  obtain ⟨hi, hw⟩ := hw
  refine mm_iald cx hM 4 rfl rfl hi dX3_isKnown_7 ?_
  refine lv_iconst (v := (1 : Int32)) hx hb dX3_isKnown_8 (by decide) ?_
  refine lv_icmp_eq (tgt := 24) hx hb dX3_isKnown_9 (by decide) (fun hc => ?_) (fun hc => ?_)
  · have hw := mm_ip hc hw
    exact B3_isKnown_24 cx _ hw _ _ _ hM hS (lv_sub hl [0] rfl)
  · have hw := mm_in hc hw
    refine lv_aload_n hx hb dX3_isKnown_12 rfl (lv_at hl 0 rfl) ?_
    refine mg_4 cx hM dX3_isKnown_13 ?_
    refine lv_iconst (v := (0 : Int32)) hx hb dX3_isKnown_16 (by decide) ?_
    refine lv_iload_n hx hb dX3_isKnown_17 rfl (lv_at hl 1 rfl) ?_
    refine lv_iadd hx hb dX3_isKnown_18 ?_
    obtain ⟨hi, hw⟩ := hw
    refine mm_iald cx hM 4 rfl rfl hi dX3_isKnown_19 ?_
    refine lv_iconst (v := (4 : Int32)) hx hb dX3_isKnown_20 (by decide) ?_
    refine lv_icmp_ne (tgt := 28) hx hb dX3_isKnown_21 (by decide) (fun hc => ?_) (fun hc => ?_)
    · have hw := mm_in hc hw
      refine lv_iconst (v := (0 : Int32)) hx hb dX3_isKnown_28 (by decide) ?_
      exact mm_zret cx hM hS (Or.inl rfl) hw dX3_isKnown_29
    · have hw := mm_ip hc hw
      exact B3_isKnown_24 cx _ hw _ _ _ hM hS (lv_sub hl [0] rfl)
theorem C3_isKnown {l : Launch} {p : Program} {e : Env} {R : Room} {s : State} {m : MethodId} {args : Array Value} {below : List Frame} {meth : Method} {c : Code} {H : Heap} {locs : List Loc} {cells slots : Nat} {Qz : State → Prop} {cc : ByteArray} {nL : Nat} {ret : Option FieldType} {G : mm_G} {pc : Nat} {ls : Array Slot} {rest : List Value} {x1 : Int32} {σ : MS} (cx : mm_X cc nL ret G p s m args meth c) (hM : mm_R G σ H) (hS0 : va_S (mm_A G) s.heap H locs) {Qf : Int32 → MS → Prop} (hw : w3_isKnown x1 σ Qf) (hR : (({ frames := 0, cells := 0, slots := 0, locals := 0 } : Room)).frames + 1 ≤ R.frames ∧ 8 + (2 + 11) + (({ frames := 0, cells := 0, slots := 0, locals := 0 } : Room)).locals ≤ R.locals) (hroom : (rest.map fun v => v.category).sum ≤ 8) (hsize : ls.size = nL) (hf : cells ≤ R.cells ∧ slots ≤ R.slots) (hdg : decode cc pc = .ok (.invokevirtual 326, 3))
    (kk : ∀ (r : Int32) (σ1 : MS) (H1 : Heap) (locs1 : List Loc), Qf r σ1 → mm_R G σ1 H1 → va_S (mm_A G) s.heap H1 locs1 → W p l e R s m args below meth c H1 locs1 cells slots Qz (F0 m (pc + 3) ls (.int r :: rest))) : W p l e R s m args below meth c H locs cells slots Qz (F0 m pc ls (.int x1 :: .ref (mm_o G) :: rest)) := by
  obtain ⟨hx, hb, hml, hown, hts, hr, hlk, hK, hZ⟩ := id cx
  exact mm_Vi cx hM hS0 (As := [.int x1]) (M3_isKnown l G x1 σ Qf hw) (cwV 1 hts (lw_V q2402 q2404 qs78 q172 q2405) rfl rfl rfl (by decide +kernel) hR) rfl hsize rfl hroom hf hdg kk
def w3_knownFacts_26 (Q : Int32 → MS → Prop) (K4 : Int32 → Int32 → MS → Prop) (x2 : Int32) (t0 : Int32) (t1 : Int32) (σ : MS) : Prop :=
  ∀ v1 : Int32, v1 = (t0 ||| t1) → ∀ v2 : Int32, v2 = x2 + (1 : Int32) → K4 v1 v2 σ
set_option maxHeartbeats 4000000 in
theorem B3_knownFacts_26 {l : Launch} {p : Program} {e : Env} {s : State} {m : MethodId} {args : Array Value} {below : List Frame} {meth : Method} {c : Code} {G : mm_G} {Q : Int32 → MS → Prop} {K4 : Int32 → Int32 → MS → Prop} (cx : mm_X cX3_knownFacts 3 (some .int) G p s m args meth c) (hK4 : ∀ (x1 : Int32) (x2 : Int32) (σ : MS), K4 x1 x2 σ → mm_T p l e ({ frames := 1, cells := 0, slots := 0, locals := 40 } : Room) s m args below meth c G (mm_Qi G Q) 3 4 σ [(0, .ref (mm_o G)), (1, .int x1), (2, .int x2)] []) : ∀ (x2 : Int32) (t0 : Int32) (t1 : Int32) (σ : MS), w3_knownFacts_26 Q K4 x2 t0 t1 σ → mm_T p l e ({ frames := 1, cells := 0, slots := 0, locals := 40 } : Room) s m args below meth c G (mm_Qi G Q) 3 26 σ [(0, .ref (mm_o G)), (2, .int x2)] [.int t1, .int t0] := by
  intro x2 t0 t1 σ hw H locs ls hM hS hl
  unfold w3_knownFacts_26 at hw
  obtain ⟨hx, hb, hml, hown, hts, hr, hlk, hMK, hZ⟩ := id cx
  refine lv_ior hx hb dX3_knownFacts_26 ?_
  refine lv_topi (fun v1 hv1 => ?_)
  have hw := hw v1 hv1
  refine lv_istore_n (lv' := [(1, .int v1), (0, .ref (mm_o G)), (2, .int x2)]) hx hb dX3_knownFacts_27 rfl hl (by decide) rfl (fun ls hl => ?_)
  obtain ⟨v2, hv2⟩ : ∃ v : Int32, v = x2 + (1 : Int32) := ⟨_, rfl⟩
  have hw := hw v2 hv2
  refine lv_iinc (v := v2) (lv' := [(2, .int v2), (1, .int v1), (0, .ref (mm_o G))]) hx hb dX3_knownFacts_28 hl (k := 2) rfl (by rw [hv2]; rfl) (by decide) rfl (fun ls hl => ?_)
  refine lv_goto (tgt := 4) hx hb dX3_knownFacts_31 (by decide) ?_
  exact hK4 _ _ _ hw _ _ _ hM hS (lv_sub hl [2, 1, 0] rfl)
def w3_knownFacts_4 (Q : Int32 → MS → Prop) (K4 : Int32 → Int32 → MS → Prop) (x1 : Int32) (x2 : Int32) (σ : MS) : Prop :=
  if (8 : Int32) ≤ x2 then (Q x1 σ) else (w3_isKnown x2 σ (fun r3 s3 => if r3 = 0 then (w3_knownFacts_26 Q K4 x2 x1 (0 : Int32) s3) else (w3_knownFacts_26 Q K4 x2 x1 ((1 : Int32) <<< (x2 &&& 31)) s3)))
set_option maxHeartbeats 4000000 in
theorem B3_knownFacts_4 {l : Launch} {p : Program} {e : Env} {s : State} {m : MethodId} {args : Array Value} {below : List Frame} {meth : Method} {c : Code} {G : mm_G} {Q : Int32 → MS → Prop} {K4 : Int32 → Int32 → MS → Prop} (cx : mm_X cX3_knownFacts 3 (some .int) G p s m args meth c) (hK4 : ∀ (x1 : Int32) (x2 : Int32) (σ : MS), K4 x1 x2 σ → mm_T p l e ({ frames := 1, cells := 0, slots := 0, locals := 40 } : Room) s m args below meth c G (mm_Qi G Q) 3 4 σ [(0, .ref (mm_o G)), (1, .int x1), (2, .int x2)] []) : ∀ (x1 : Int32) (x2 : Int32) (σ : MS), w3_knownFacts_4 Q K4 x1 x2 σ → mm_T p l e ({ frames := 1, cells := 0, slots := 0, locals := 40 } : Room) s m args below meth c G (mm_Qi G Q) 3 4 σ [(0, .ref (mm_o G)), (1, .int x1), (2, .int x2)] [] := by
  intro x1 x2 σ hw H locs ls hM hS hl
  unfold w3_knownFacts_4 at hw
  obtain ⟨hx, hb, hml, hown, hts, hr, hlk, hMK, hZ⟩ := id cx
  refine lv_iload_n hx hb dX3_knownFacts_4 rfl (lv_at hl 2 rfl) ?_
  refine lv_bipush (v := (8 : Int32)) hx hb dX3_knownFacts_5 (by decide) ?_
  refine lv_icmp_ge (tgt := 34) hx hb dX3_knownFacts_7 (by decide) (fun hc => ?_) (fun hc => ?_)
  · have hw := mm_ip hc hw
    refine lv_iload_n hx hb dX3_knownFacts_34 rfl (lv_at hl 1 rfl) ?_
    exact mm_iret cx hM hS hw dX3_knownFacts_35
  · have hw := mm_in hc hw
    refine lv_iload_n hx hb dX3_knownFacts_10 rfl (lv_at hl 1 rfl) ?_
    refine lv_aload_n hx hb dX3_knownFacts_11 rfl (lv_at hl 0 rfl) ?_
    refine lv_iload_n hx hb dX3_knownFacts_12 rfl (lv_at hl 2 rfl) ?_
    refine C3_isKnown cx hM hS hw ⟨Nat.le_of_ble_eq_true rfl, Nat.le_of_ble_eq_true rfl⟩ (Nat.le_of_ble_eq_true rfl) hl.1 ⟨Nat.zero_le _, Nat.zero_le _⟩ dX3_knownFacts_13 (fun r3 s3 H locs hw hM hS => ?_)
    refine lv_if_eq (tgt := 25) hx hb dX3_knownFacts_16 (by decide) (fun hc => ?_) (fun hc => ?_)
    · have hw := mm_ip hc hw
      refine lv_iconst (v := (0 : Int32)) hx hb dX3_knownFacts_25 (by decide) ?_
      exact B3_knownFacts_26 cx hK4 _ _ _ _ hw _ _ _ hM hS (lv_sub hl [0, 2] rfl)
    · have hw := mm_in hc hw
      refine lv_iconst (v := (1 : Int32)) hx hb dX3_knownFacts_19 (by decide) ?_
      refine lv_iload_n hx hb dX3_knownFacts_20 rfl (lv_at hl 2 rfl) ?_
      refine lv_ishl hx hb dX3_knownFacts_21 ?_
      refine lv_goto (tgt := 26) hx hb dX3_knownFacts_22 (by decide) ?_
      exact B3_knownFacts_26 cx hK4 _ _ _ _ hw _ _ _ hM hS (lv_sub hl [0, 2] rfl)
theorem L3_knownFacts_4 {l : Launch} {p : Program} {e : Env} {s : State} {m : MethodId} {args : Array Value} {below : List Frame} {meth : Method} {c : Code} {G : mm_G} {Q : Int32 → MS → Prop} (cx : mm_X cX3_knownFacts 3 (some .int) G p s m args meth c) : ∀ (x1 : Int32) (x2 : Int32) (σ : MS), lp3F (w3_knownFacts_4 Q) x1 x2 σ → mm_T p l e ({ frames := 1, cells := 0, slots := 0, locals := 40 } : Room) s m args below meth c G (mm_Qi G Q) 3 4 σ [(0, .ref (mm_o G)), (1, .int x1), (2, .int x2)] [] :=
  lp3F_of (fun K hK => B3_knownFacts_4 cx hK)
def w3_knownFacts (σ : MS) (Q : Int32 → MS → Prop) : Prop :=
  lp3F (w3_knownFacts_4 Q) (0 : Int32) (0 : Int32) σ
set_option maxHeartbeats 4000000 in
theorem M3_knownFacts (l : Launch) (G : mm_G) (σ : MS) (Q : Int32 → MS → Prop) (hw : w3_knownFacts σ Q) : mm_Mi l yX3_knownFacts (ws_ yX3_knownFacts cX3_knownFacts 3 (some .int)) ({ frames := 1, cells := 0, slots := 0, locals := 40 } : Room) G [.ref (mm_o G)] σ Q := by
  refine mm_of (by decide) rfl ?_
  intro p e s m args below meth c cx hM ha
  refine mm_entry [.ref (mm_o G)] 3 [(0, .ref (mm_o G))] ha (Nat.le_of_ble_eq_true rfl) rfl (fun ls hl => ?_)
  have hS : va_S (mm_A G) s.heap s.heap [] := va_S.rf
  unfold w3_knownFacts at hw
  obtain ⟨hx, hb, hml, hown, hts, hr, hlk, hMK, hZ⟩ := id cx
  refine lv_iconst (v := (0 : Int32)) hx hb dX3_knownFacts_0 (by decide) ?_
  refine lv_istore_n (lv' := [(1, .int (0 : Int32)), (0, .ref (mm_o G))]) hx hb dX3_knownFacts_1 rfl hl (by decide) rfl (fun ls hl => ?_)
  refine lv_iconst (v := (0 : Int32)) hx hb dX3_knownFacts_2 (by decide) ?_
  refine lv_istore_n (lv' := [(2, .int (0 : Int32)), (1, .int (0 : Int32)), (0, .ref (mm_o G))]) hx hb dX3_knownFacts_3 rfl hl (by decide) rfl (fun ls hl => ?_)
  exact L3_knownFacts_4 cx _ _ _ hw _ _ _ hM hS (lv_sub hl [2, 1, 0] rfl)
theorem C3_knownFacts {l : Launch} {p : Program} {e : Env} {R : Room} {s : State} {m : MethodId} {args : Array Value} {below : List Frame} {meth : Method} {c : Code} {H : Heap} {locs : List Loc} {cells slots : Nat} {Qz : State → Prop} {cc : ByteArray} {nL : Nat} {ret : Option FieldType} {G : mm_G} {pc : Nat} {ls : Array Slot} {rest : List Value} {σ : MS} (cx : mm_X cc nL ret G p s m args meth c) (hM : mm_R G σ H) (hS0 : va_S (mm_A G) s.heap H locs) {Qf : Int32 → MS → Prop} (hw : w3_knownFacts σ Qf) (hR : (({ frames := 1, cells := 0, slots := 0, locals := 40 } : Room)).frames + 1 ≤ R.frames ∧ 8 + (3 + 11) + (({ frames := 1, cells := 0, slots := 0, locals := 40 } : Room)).locals ≤ R.locals) (hroom : (rest.map fun v => v.category).sum ≤ 8) (hsize : ls.size = nL) (hf : cells ≤ R.cells ∧ slots ≤ R.slots) (hdg : decode cc pc = .ok (.invokevirtual 329, 3))
    (kk : ∀ (r : Int32) (σ1 : MS) (H1 : Heap) (locs1 : List Loc), Qf r σ1 → mm_R G σ1 H1 → va_S (mm_A G) s.heap H1 locs1 → W p l e R s m args below meth c H1 locs1 cells slots Qz (F0 m (pc + 3) ls (.int r :: rest))) : W p l e R s m args below meth c H locs cells slots Qz (F0 m pc ls (.ref (mm_o G) :: rest)) := by
  obtain ⟨hx, hb, hml, hown, hts, hr, hlk, hK, hZ⟩ := id cx
  exact mm_Vi cx hM hS0 (As := []) (M3_knownFacts l G σ Qf hw) (cwV 0 hts (lw_V q2398 q2400 qs77 q172 q2401) rfl rfl rfl (by decide +kernel) hR) rfl hsize rfl hroom hf hdg kk
def w3_knownSo_39 (Q : Int32 → MS → Prop) (K4 : Int32 → Int32 → MS → Prop) (x2 : Int32) (t0 : Int32) (t1 : Int32) (σ : MS) : Prop :=
  ∀ v1 : Int32, v1 = (t0 ||| t1) → ∀ v2 : Int32, v2 = x2 + (1 : Int32) → K4 v1 v2 σ
set_option maxHeartbeats 4000000 in
theorem B3_knownSo_39 {l : Launch} {p : Program} {e : Env} {s : State} {m : MethodId} {args : Array Value} {below : List Frame} {meth : Method} {c : Code} {G : mm_G} {Q : Int32 → MS → Prop} {K4 : Int32 → Int32 → MS → Prop} (cx : mm_X cX3_knownSo 3 (some .int) G p s m args meth c) (hK4 : ∀ (x1 : Int32) (x2 : Int32) (σ : MS), K4 x1 x2 σ → mm_T p l e ({ frames := 1, cells := 0, slots := 0, locals := 40 } : Room) s m args below meth c G (mm_Qi G Q) 3 4 σ [(0, .ref (mm_o G)), (1, .int x1), (2, .int x2)] []) : ∀ (x2 : Int32) (t0 : Int32) (t1 : Int32) (σ : MS), w3_knownSo_39 Q K4 x2 t0 t1 σ → mm_T p l e ({ frames := 1, cells := 0, slots := 0, locals := 40 } : Room) s m args below meth c G (mm_Qi G Q) 3 39 σ [(0, .ref (mm_o G)), (2, .int x2)] [.int t1, .int t0] := by
  intro x2 t0 t1 σ hw H locs ls hM hS hl
  unfold w3_knownSo_39 at hw
  obtain ⟨hx, hb, hml, hown, hts, hr, hlk, hMK, hZ⟩ := id cx
  refine lv_ior hx hb dX3_knownSo_39 ?_
  refine lv_topi (fun v1 hv1 => ?_)
  have hw := hw v1 hv1
  refine lv_istore_n (lv' := [(1, .int v1), (0, .ref (mm_o G)), (2, .int x2)]) hx hb dX3_knownSo_40 rfl hl (by decide) rfl (fun ls hl => ?_)
  obtain ⟨v2, hv2⟩ : ∃ v : Int32, v = x2 + (1 : Int32) := ⟨_, rfl⟩
  have hw := hw v2 hv2
  refine lv_iinc (v := v2) (lv' := [(2, .int v2), (1, .int v1), (0, .ref (mm_o G))]) hx hb dX3_knownSo_41 hl (k := 2) rfl (by rw [hv2]; rfl) (by decide) rfl (fun ls hl => ?_)
  refine lv_goto (tgt := 4) hx hb dX3_knownSo_44 (by decide) ?_
  exact hK4 _ _ _ hw _ _ _ hM hS (lv_sub hl [2, 1, 0] rfl)
def w3_knownSo_38 (Q : Int32 → MS → Prop) (K4 : Int32 → Int32 → MS → Prop) (x2 : Int32) (t0 : Int32) (σ : MS) : Prop :=
  w3_knownSo_39 Q K4 x2 t0 (0 : Int32) σ
set_option maxHeartbeats 4000000 in
theorem B3_knownSo_38 {l : Launch} {p : Program} {e : Env} {s : State} {m : MethodId} {args : Array Value} {below : List Frame} {meth : Method} {c : Code} {G : mm_G} {Q : Int32 → MS → Prop} {K4 : Int32 → Int32 → MS → Prop} (cx : mm_X cX3_knownSo 3 (some .int) G p s m args meth c) (hK4 : ∀ (x1 : Int32) (x2 : Int32) (σ : MS), K4 x1 x2 σ → mm_T p l e ({ frames := 1, cells := 0, slots := 0, locals := 40 } : Room) s m args below meth c G (mm_Qi G Q) 3 4 σ [(0, .ref (mm_o G)), (1, .int x1), (2, .int x2)] []) : ∀ (x2 : Int32) (t0 : Int32) (σ : MS), w3_knownSo_38 Q K4 x2 t0 σ → mm_T p l e ({ frames := 1, cells := 0, slots := 0, locals := 40 } : Room) s m args below meth c G (mm_Qi G Q) 3 38 σ [(0, .ref (mm_o G)), (2, .int x2)] [.int t0] := by
  intro x2 t0 σ hw H locs ls hM hS hl
  unfold w3_knownSo_38 at hw
  obtain ⟨hx, hb, hml, hown, hts, hr, hlk, hMK, hZ⟩ := id cx
  refine lv_iconst (v := (0 : Int32)) hx hb dX3_knownSo_38 (by decide) ?_
  exact B3_knownSo_39 cx hK4 _ _ _ _ hw _ _ _ hM hS (lv_sub hl [0, 1] rfl)
def w3_knownSo_4 (Q : Int32 → MS → Prop) (K4 : Int32 → Int32 → MS → Prop) (x1 : Int32) (x2 : Int32) (σ : MS) : Prop :=
  if (8 : Int32) ≤ x2 then (Q x1 σ) else (w3_isKnown x2 σ (fun r3 s3 => if r3 = 0 then (w3_knownSo_38 Q K4 x2 x1 s3) else (vp_in ((8 : Int32) + x2) 83 ∧ (if (gA s3 4 ((8 : Int32) + x2).toNatClampNeg) = (1 : Int32) then (w3_knownSo_39 Q K4 x2 x1 ((1 : Int32) <<< (x2 &&& 31)) s3) else (w3_knownSo_38 Q K4 x2 x1 s3)))))
set_option maxHeartbeats 4000000 in
theorem B3_knownSo_4 {l : Launch} {p : Program} {e : Env} {s : State} {m : MethodId} {args : Array Value} {below : List Frame} {meth : Method} {c : Code} {G : mm_G} {Q : Int32 → MS → Prop} {K4 : Int32 → Int32 → MS → Prop} (cx : mm_X cX3_knownSo 3 (some .int) G p s m args meth c) (hK4 : ∀ (x1 : Int32) (x2 : Int32) (σ : MS), K4 x1 x2 σ → mm_T p l e ({ frames := 1, cells := 0, slots := 0, locals := 40 } : Room) s m args below meth c G (mm_Qi G Q) 3 4 σ [(0, .ref (mm_o G)), (1, .int x1), (2, .int x2)] []) : ∀ (x1 : Int32) (x2 : Int32) (σ : MS), w3_knownSo_4 Q K4 x1 x2 σ → mm_T p l e ({ frames := 1, cells := 0, slots := 0, locals := 40 } : Room) s m args below meth c G (mm_Qi G Q) 3 4 σ [(0, .ref (mm_o G)), (1, .int x1), (2, .int x2)] [] := by
  intro x1 x2 σ hw H locs ls hM hS hl
  unfold w3_knownSo_4 at hw
  obtain ⟨hx, hb, hml, hown, hts, hr, hlk, hMK, hZ⟩ := id cx
  refine lv_iload_n hx hb dX3_knownSo_4 rfl (lv_at hl 2 rfl) ?_
  refine lv_bipush (v := (8 : Int32)) hx hb dX3_knownSo_5 (by decide) ?_
  refine lv_icmp_ge (tgt := 47) hx hb dX3_knownSo_7 (by decide) (fun hc => ?_) (fun hc => ?_)
  · have hw := mm_ip hc hw
    refine lv_iload_n hx hb dX3_knownSo_47 rfl (lv_at hl 1 rfl) ?_
    exact mm_iret cx hM hS hw dX3_knownSo_48
  · have hw := mm_in hc hw
    refine lv_iload_n hx hb dX3_knownSo_10 rfl (lv_at hl 1 rfl) ?_
    refine lv_aload_n hx hb dX3_knownSo_11 rfl (lv_at hl 0 rfl) ?_
    refine lv_iload_n hx hb dX3_knownSo_12 rfl (lv_at hl 2 rfl) ?_
    refine C3_isKnown cx hM hS hw ⟨Nat.le_of_ble_eq_true rfl, Nat.le_of_ble_eq_true rfl⟩ (Nat.le_of_ble_eq_true rfl) hl.1 ⟨Nat.zero_le _, Nat.zero_le _⟩ dX3_knownSo_13 (fun r3 s3 H locs hw hM hS => ?_)
    refine lv_if_eq (tgt := 38) hx hb dX3_knownSo_16 (by decide) (fun hc => ?_) (fun hc => ?_)
    · have hw := mm_ip hc hw
      exact B3_knownSo_38 cx hK4 _ _ _ hw _ _ _ hM hS (lv_sub hl [0, 2] rfl)
    · have hw := mm_in hc hw
      refine lv_aload_n hx hb dX3_knownSo_19 rfl (lv_at hl 0 rfl) ?_
      refine mg_4 cx hM dX3_knownSo_20 ?_
      refine lv_bipush (v := (8 : Int32)) hx hb dX3_knownSo_23 (by decide) ?_
      refine lv_iload_n hx hb dX3_knownSo_25 rfl (lv_at hl 2 rfl) ?_
      refine lv_iadd hx hb dX3_knownSo_26 ?_
      obtain ⟨hi, hw⟩ := hw
      refine mm_iald cx hM 4 rfl rfl hi dX3_knownSo_27 ?_
      refine lv_iconst (v := (1 : Int32)) hx hb dX3_knownSo_28 (by decide) ?_
      refine lv_icmp_ne (tgt := 38) hx hb dX3_knownSo_29 (by decide) (fun hc => ?_) (fun hc => ?_)
      · have hw := mm_in hc hw
        exact B3_knownSo_38 cx hK4 _ _ _ hw _ _ _ hM hS (lv_sub hl [0, 2] rfl)
      · have hw := mm_ip hc hw
        refine lv_iconst (v := (1 : Int32)) hx hb dX3_knownSo_32 (by decide) ?_
        refine lv_iload_n hx hb dX3_knownSo_33 rfl (lv_at hl 2 rfl) ?_
        refine lv_ishl hx hb dX3_knownSo_34 ?_
        refine lv_goto (tgt := 39) hx hb dX3_knownSo_35 (by decide) ?_
        exact B3_knownSo_39 cx hK4 _ _ _ _ hw _ _ _ hM hS (lv_sub hl [0, 2] rfl)
theorem L3_knownSo_4 {l : Launch} {p : Program} {e : Env} {s : State} {m : MethodId} {args : Array Value} {below : List Frame} {meth : Method} {c : Code} {G : mm_G} {Q : Int32 → MS → Prop} (cx : mm_X cX3_knownSo 3 (some .int) G p s m args meth c) : ∀ (x1 : Int32) (x2 : Int32) (σ : MS), lp3F (w3_knownSo_4 Q) x1 x2 σ → mm_T p l e ({ frames := 1, cells := 0, slots := 0, locals := 40 } : Room) s m args below meth c G (mm_Qi G Q) 3 4 σ [(0, .ref (mm_o G)), (1, .int x1), (2, .int x2)] [] :=
  lp3F_of (fun K hK => B3_knownSo_4 cx hK)
def w3_knownSo (σ : MS) (Q : Int32 → MS → Prop) : Prop :=
  lp3F (w3_knownSo_4 Q) (0 : Int32) (0 : Int32) σ
set_option maxHeartbeats 4000000 in
theorem M3_knownSo (l : Launch) (G : mm_G) (σ : MS) (Q : Int32 → MS → Prop) (hw : w3_knownSo σ Q) : mm_Mi l yX3_knownSo (ws_ yX3_knownSo cX3_knownSo 3 (some .int)) ({ frames := 1, cells := 0, slots := 0, locals := 40 } : Room) G [.ref (mm_o G)] σ Q := by
  refine mm_of (by decide) rfl ?_
  intro p e s m args below meth c cx hM ha
  refine mm_entry [.ref (mm_o G)] 3 [(0, .ref (mm_o G))] ha (Nat.le_of_ble_eq_true rfl) rfl (fun ls hl => ?_)
  have hS : va_S (mm_A G) s.heap s.heap [] := va_S.rf
  unfold w3_knownSo at hw
  obtain ⟨hx, hb, hml, hown, hts, hr, hlk, hMK, hZ⟩ := id cx
  refine lv_iconst (v := (0 : Int32)) hx hb dX3_knownSo_0 (by decide) ?_
  refine lv_istore_n (lv' := [(1, .int (0 : Int32)), (0, .ref (mm_o G))]) hx hb dX3_knownSo_1 rfl hl (by decide) rfl (fun ls hl => ?_)
  refine lv_iconst (v := (0 : Int32)) hx hb dX3_knownSo_2 (by decide) ?_
  refine lv_istore_n (lv' := [(2, .int (0 : Int32)), (1, .int (0 : Int32)), (0, .ref (mm_o G))]) hx hb dX3_knownSo_3 rfl hl (by decide) rfl (fun ls hl => ?_)
  exact L3_knownSo_4 cx _ _ _ hw _ _ _ hM hS (lv_sub hl [2, 1, 0] rfl)
theorem C3_knownSo {l : Launch} {p : Program} {e : Env} {R : Room} {s : State} {m : MethodId} {args : Array Value} {below : List Frame} {meth : Method} {c : Code} {H : Heap} {locs : List Loc} {cells slots : Nat} {Qz : State → Prop} {cc : ByteArray} {nL : Nat} {ret : Option FieldType} {G : mm_G} {pc : Nat} {ls : Array Slot} {rest : List Value} {σ : MS} (cx : mm_X cc nL ret G p s m args meth c) (hM : mm_R G σ H) (hS0 : va_S (mm_A G) s.heap H locs) {Qf : Int32 → MS → Prop} (hw : w3_knownSo σ Qf) (hR : (({ frames := 1, cells := 0, slots := 0, locals := 40 } : Room)).frames + 1 ≤ R.frames ∧ 8 + (3 + 11) + (({ frames := 1, cells := 0, slots := 0, locals := 40 } : Room)).locals ≤ R.locals) (hroom : (rest.map fun v => v.category).sum ≤ 8) (hsize : ls.size = nL) (hf : cells ≤ R.cells ∧ slots ≤ R.slots) (hdg : decode cc pc = .ok (.invokevirtual 332, 3))
    (kk : ∀ (r : Int32) (σ1 : MS) (H1 : Heap) (locs1 : List Loc), Qf r σ1 → mm_R G σ1 H1 → va_S (mm_A G) s.heap H1 locs1 → W p l e R s m args below meth c H1 locs1 cells slots Qz (F0 m (pc + 3) ls (.int r :: rest))) : W p l e R s m args below meth c H locs cells slots Qz (F0 m pc ls (.ref (mm_o G) :: rest)) := by
  obtain ⟨hx, hb, hml, hown, hts, hr, hlk, hK, hZ⟩ := id cx
  exact mm_Vi cx hM hS0 (As := []) (M3_knownSo l G σ Qf hw) (cwV 0 hts (lw_V q2406 q2408 qs79 q172 q2409) rfl rfl rfl (by decide +kernel) hR) rfl hsize rfl hroom hf hdg kk
def w3_laysAgreed_45 (Q : MS → Prop) (K7 : Nat → Int32 → Int32 → Int32 → MS → Prop) (x1 : Nat) (x2 : Int32) (x3 : Int32) (x4 : Int32) (t0 : Nat) (t1 : Int32) (t2 : Int32) (t3 : Int32) (σ : MS) : Prop :=
  w3_adds t0 t1 t2 t3 σ (fun s1 => ∀ v2 : Int32, v2 = x4 + (1 : Int32) → K7 x1 x2 x3 v2 s1)
set_option maxHeartbeats 4000000 in
theorem B3_laysAgreed_45 {l : Launch} {p : Program} {e : Env} {s : State} {m : MethodId} {args : Array Value} {below : List Frame} {meth : Method} {c : Code} {G : mm_G} {Q : MS → Prop} {K7 : Nat → Int32 → Int32 → Int32 → MS → Prop} (cx : mm_X cX3_laysAgreed 5 none G p s m args meth c) (hK7 : ∀ (x1 : Nat) (x2 : Int32) (x3 : Int32) (x4 : Int32) (σ : MS), K7 x1 x2 x3 x4 σ → mm_T p l e ({ frames := 1, cells := 0, slots := 0, locals := 40 } : Room) s m args below meth c G (mm_Qv G Q) 5 7 σ [(0, .ref (mm_o G)), (1, .ref (mm_a G x1)), (2, .int x2), (3, .int x3), (4, .int x4)] []) : ∀ (x1 : Nat) (x2 : Int32) (x3 : Int32) (x4 : Int32) (t0 : Nat) (t1 : Int32) (t2 : Int32) (t3 : Int32) (σ : MS), w3_laysAgreed_45 Q K7 x1 x2 x3 x4 t0 t1 t2 t3 σ → mm_T p l e ({ frames := 1, cells := 0, slots := 0, locals := 40 } : Room) s m args below meth c G (mm_Qv G Q) 5 45 σ [(0, .ref (mm_o G)), (1, .ref (mm_a G x1)), (2, .int x2), (3, .int x3), (4, .int x4)] [.int t3, .int t2, .int t1, .ref (mm_a G t0)] := by
  intro x1 x2 x3 x4 t0 t1 t2 t3 σ hw H locs ls hM hS hl
  unfold w3_laysAgreed_45 at hw
  obtain ⟨hx, hb, hml, hown, hts, hr, hlk, hMK, hZ⟩ := id cx
  refine C3_adds cx hM hS hw ⟨Nat.le_of_ble_eq_true rfl, Nat.le_of_ble_eq_true rfl⟩ (Nat.le_of_ble_eq_true rfl) hl.1 ⟨Nat.zero_le _, Nat.zero_le _⟩ dX3_laysAgreed_45 (fun s1 H locs hw hM hS => ?_)
  obtain ⟨v2, hv2⟩ : ∃ v : Int32, v = x4 + (1 : Int32) := ⟨_, rfl⟩
  have hw := hw v2 hv2
  refine lv_iinc (v := v2) (lv' := [(4, .int v2), (0, .ref (mm_o G)), (1, .ref (mm_a G x1)), (2, .int x2), (3, .int x3)]) hx hb dX3_laysAgreed_48 hl (k := 4) rfl (by rw [hv2]; rfl) (by decide) rfl (fun ls hl => ?_)
  refine lv_goto (tgt := 7) hx hb dX3_laysAgreed_51 (by decide) ?_
  exact hK7 _ _ _ _ _ hw _ _ _ hM hS (lv_sub hl [1, 2, 3, 4, 0] rfl)
def w3_laysAgreed_44 (Q : MS → Prop) (K7 : Nat → Int32 → Int32 → Int32 → MS → Prop) (x1 : Nat) (x2 : Int32) (x3 : Int32) (x4 : Int32) (t0 : Nat) (t1 : Int32) (t2 : Int32) (σ : MS) : Prop :=
  w3_laysAgreed_45 Q K7 x1 x2 x3 x4 t0 t1 t2 (0 : Int32) σ
set_option maxHeartbeats 4000000 in
theorem B3_laysAgreed_44 {l : Launch} {p : Program} {e : Env} {s : State} {m : MethodId} {args : Array Value} {below : List Frame} {meth : Method} {c : Code} {G : mm_G} {Q : MS → Prop} {K7 : Nat → Int32 → Int32 → Int32 → MS → Prop} (cx : mm_X cX3_laysAgreed 5 none G p s m args meth c) (hK7 : ∀ (x1 : Nat) (x2 : Int32) (x3 : Int32) (x4 : Int32) (σ : MS), K7 x1 x2 x3 x4 σ → mm_T p l e ({ frames := 1, cells := 0, slots := 0, locals := 40 } : Room) s m args below meth c G (mm_Qv G Q) 5 7 σ [(0, .ref (mm_o G)), (1, .ref (mm_a G x1)), (2, .int x2), (3, .int x3), (4, .int x4)] []) : ∀ (x1 : Nat) (x2 : Int32) (x3 : Int32) (x4 : Int32) (t0 : Nat) (t1 : Int32) (t2 : Int32) (σ : MS), w3_laysAgreed_44 Q K7 x1 x2 x3 x4 t0 t1 t2 σ → mm_T p l e ({ frames := 1, cells := 0, slots := 0, locals := 40 } : Room) s m args below meth c G (mm_Qv G Q) 5 44 σ [(0, .ref (mm_o G)), (1, .ref (mm_a G x1)), (2, .int x2), (3, .int x3), (4, .int x4)] [.int t2, .int t1, .ref (mm_a G t0)] := by
  intro x1 x2 x3 x4 t0 t1 t2 σ hw H locs ls hM hS hl
  unfold w3_laysAgreed_44 at hw
  obtain ⟨hx, hb, hml, hown, hts, hr, hlk, hMK, hZ⟩ := id cx
  refine lv_iconst (v := (0 : Int32)) hx hb dX3_laysAgreed_44 (by decide) ?_
  exact B3_laysAgreed_45 cx hK7 _ _ _ _ _ _ _ _ _ hw _ _ _ hM hS (lv_sub hl [0, 1, 2, 3, 4] rfl)
def w3_laysAgreed_7 (Q : MS → Prop) (K7 : Nat → Int32 → Int32 → Int32 → MS → Prop) (x1 : Nat) (x2 : Int32) (x3 : Int32) (x4 : Int32) (σ : MS) : Prop :=
  if (256 : Int32) ≤ x4 then (Q σ) else (if (x4 &&& x2) = x3 then (w3_isIn 24 (0 : Int32) x4 σ (fun r3 s3 => if r3 = 0 then (w3_laysAgreed_44 Q K7 x1 x2 x3 x4 x1 (0 : Int32) x4 s3) else (w3_laysAgreed_45 Q K7 x1 x2 x3 x4 x1 (0 : Int32) x4 (1 : Int32) s3))) else (w3_laysAgreed_44 Q K7 x1 x2 x3 x4 x1 (0 : Int32) x4 σ))
set_option maxHeartbeats 4000000 in
theorem B3_laysAgreed_7 {l : Launch} {p : Program} {e : Env} {s : State} {m : MethodId} {args : Array Value} {below : List Frame} {meth : Method} {c : Code} {G : mm_G} {Q : MS → Prop} {K7 : Nat → Int32 → Int32 → Int32 → MS → Prop} (cx : mm_X cX3_laysAgreed 5 none G p s m args meth c) (hK7 : ∀ (x1 : Nat) (x2 : Int32) (x3 : Int32) (x4 : Int32) (σ : MS), K7 x1 x2 x3 x4 σ → mm_T p l e ({ frames := 1, cells := 0, slots := 0, locals := 40 } : Room) s m args below meth c G (mm_Qv G Q) 5 7 σ [(0, .ref (mm_o G)), (1, .ref (mm_a G x1)), (2, .int x2), (3, .int x3), (4, .int x4)] []) : ∀ (x1 : Nat) (x2 : Int32) (x3 : Int32) (x4 : Int32) (σ : MS), w3_laysAgreed_7 Q K7 x1 x2 x3 x4 σ → mm_T p l e ({ frames := 1, cells := 0, slots := 0, locals := 40 } : Room) s m args below meth c G (mm_Qv G Q) 5 7 σ [(0, .ref (mm_o G)), (1, .ref (mm_a G x1)), (2, .int x2), (3, .int x3), (4, .int x4)] [] := by
  intro x1 x2 x3 x4 σ hw H locs ls hM hS hl
  unfold w3_laysAgreed_7 at hw
  obtain ⟨hx, hb, hml, hown, hts, hr, hlk, hMK, hZ⟩ := id cx
  refine lv_iload hx hb dX3_laysAgreed_7 (lv_at hl 4 rfl) ?_
  refine lv_sipush (v := (256 : Int32)) hx hb dX3_laysAgreed_9 (by decide) ?_
  refine lv_icmp_ge (tgt := 54) hx hb dX3_laysAgreed_12 (by decide) (fun hc => ?_) (fun hc => ?_)
  · have hw := mm_ip hc hw
    exact mm_vret cx hM hS hw dX3_laysAgreed_54
  · have hw := mm_in hc hw
    refine lv_aload_n hx hb dX3_laysAgreed_15 rfl (lv_at hl 1 rfl) ?_
    refine lv_iconst (v := (0 : Int32)) hx hb dX3_laysAgreed_16 (by decide) ?_
    refine lv_iload hx hb dX3_laysAgreed_17 (lv_at hl 4 rfl) ?_
    refine lv_iload hx hb dX3_laysAgreed_19 (lv_at hl 4 rfl) ?_
    refine lv_iload_n hx hb dX3_laysAgreed_21 rfl (lv_at hl 2 rfl) ?_
    refine lv_iand hx hb dX3_laysAgreed_22 ?_
    refine lv_iload_n hx hb dX3_laysAgreed_23 rfl (lv_at hl 3 rfl) ?_
    refine lv_icmp_ne (tgt := 44) hx hb dX3_laysAgreed_24 (by decide) (fun hc => ?_) (fun hc => ?_)
    · have hw := mm_in hc hw
      exact B3_laysAgreed_44 cx hK7 _ _ _ _ _ _ _ _ hw _ _ _ hM hS (lv_sub hl [0, 1, 2, 3, 4] rfl)
    · have hw := mm_ip hc hw
      refine lv_aload_n hx hb dX3_laysAgreed_27 rfl (lv_at hl 0 rfl) ?_
      refine mg_24 cx hM dX3_laysAgreed_28 ?_
      refine lv_iconst (v := (0 : Int32)) hx hb dX3_laysAgreed_31 (by decide) ?_
      refine lv_iload hx hb dX3_laysAgreed_32 (lv_at hl 4 rfl) ?_
      refine C3_isIn cx hM hS hw ⟨Nat.le_of_ble_eq_true rfl, Nat.le_of_ble_eq_true rfl⟩ (Nat.le_of_ble_eq_true rfl) hl.1 ⟨Nat.zero_le _, Nat.zero_le _⟩ dX3_laysAgreed_34 (fun r3 s3 H locs hw hM hS => ?_)
      refine lv_if_eq (tgt := 44) hx hb dX3_laysAgreed_37 (by decide) (fun hc => ?_) (fun hc => ?_)
      · have hw := mm_ip hc hw
        exact B3_laysAgreed_44 cx hK7 _ _ _ _ _ _ _ _ hw _ _ _ hM hS (lv_sub hl [0, 1, 2, 3, 4] rfl)
      · have hw := mm_in hc hw
        refine lv_iconst (v := (1 : Int32)) hx hb dX3_laysAgreed_40 (by decide) ?_
        refine lv_goto (tgt := 45) hx hb dX3_laysAgreed_41 (by decide) ?_
        exact B3_laysAgreed_45 cx hK7 _ _ _ _ _ _ _ _ _ hw _ _ _ hM hS (lv_sub hl [0, 1, 2, 3, 4] rfl)
theorem L3_laysAgreed_7 {l : Launch} {p : Program} {e : Env} {s : State} {m : MethodId} {args : Array Value} {below : List Frame} {meth : Method} {c : Code} {G : mm_G} {Q : MS → Prop} (cx : mm_X cX3_laysAgreed 5 none G p s m args meth c) : ∀ (x1 : Nat) (x2 : Int32) (x3 : Int32) (x4 : Int32) (σ : MS), lp5F (w3_laysAgreed_7 Q) x1 x2 x3 x4 σ → mm_T p l e ({ frames := 1, cells := 0, slots := 0, locals := 40 } : Room) s m args below meth c G (mm_Qv G Q) 5 7 σ [(0, .ref (mm_o G)), (1, .ref (mm_a G x1)), (2, .int x2), (3, .int x3), (4, .int x4)] [] :=
  lp5F_of (fun K hK => B3_laysAgreed_7 cx hK)
def w3_laysAgreed (x1 : Nat) (x2 : Int32) (x3 : Int32) (σ : MS) (Q : MS → Prop) : Prop :=
  w3_empties x1 σ (fun s4 => lp5F (w3_laysAgreed_7 Q) x1 x2 x3 (0 : Int32) s4)
set_option maxHeartbeats 4000000 in
theorem M3_laysAgreed (l : Launch) (G : mm_G) (x1 : Nat) (x2 : Int32) (x3 : Int32) (σ : MS) (Q : MS → Prop) (hw : w3_laysAgreed x1 x2 x3 σ Q) : mm_Mv l yX3_laysAgreed (ws_ yX3_laysAgreed cX3_laysAgreed 5 none) ({ frames := 1, cells := 0, slots := 0, locals := 40 } : Room) G [.ref (mm_o G), .ref (mm_a G x1), .int x2, .int x3] σ Q := by
  refine mm_of (by decide) rfl ?_
  intro p e s m args below meth c cx hM ha
  refine mm_entry [.ref (mm_o G), .ref (mm_a G x1), .int x2, .int x3] 5 [(0, .ref (mm_o G)), (1, .ref (mm_a G x1)), (2, .int x2), (3, .int x3)] ha (Nat.le_of_ble_eq_true rfl) rfl (fun ls hl => ?_)
  have hS : va_S (mm_A G) s.heap s.heap [] := va_S.rf
  unfold w3_laysAgreed at hw
  obtain ⟨hx, hb, hml, hown, hts, hr, hlk, hMK, hZ⟩ := id cx
  refine lv_aload_n hx hb dX3_laysAgreed_0 rfl (lv_at hl 1 rfl) ?_
  refine C3_empties cx hM hS hw ⟨Nat.le_of_ble_eq_true rfl, Nat.le_of_ble_eq_true rfl⟩ (Nat.le_of_ble_eq_true rfl) hl.1 ⟨Nat.zero_le _, Nat.zero_le _⟩ dX3_laysAgreed_1 (fun s4 H locs hw hM hS => ?_)
  refine lv_iconst (v := (0 : Int32)) hx hb dX3_laysAgreed_4 (by decide) ?_
  refine lv_istore (lv' := [(4, .int (0 : Int32)), (0, .ref (mm_o G)), (1, .ref (mm_a G x1)), (2, .int x2), (3, .int x3)]) hx hb dX3_laysAgreed_5 hl (by decide) rfl (fun ls hl => ?_)
  exact L3_laysAgreed_7 cx _ _ _ _ _ hw _ _ _ hM hS (lv_sub hl [1, 2, 3, 4, 0] rfl)
theorem C3_laysAgreed {l : Launch} {p : Program} {e : Env} {R : Room} {s : State} {m : MethodId} {args : Array Value} {below : List Frame} {meth : Method} {c : Code} {H : Heap} {locs : List Loc} {cells slots : Nat} {Qz : State → Prop} {cc : ByteArray} {nL : Nat} {ret : Option FieldType} {G : mm_G} {pc : Nat} {ls : Array Slot} {rest : List Value} {x1 : Nat} {x2 : Int32} {x3 : Int32} {σ : MS} (cx : mm_X cc nL ret G p s m args meth c) (hM : mm_R G σ H) (hS0 : va_S (mm_A G) s.heap H locs) {Qf : MS → Prop} (hw : w3_laysAgreed x1 x2 x3 σ Qf) (hR : (({ frames := 1, cells := 0, slots := 0, locals := 40 } : Room)).frames + 1 ≤ R.frames ∧ 8 + (5 + 11) + (({ frames := 1, cells := 0, slots := 0, locals := 40 } : Room)).locals ≤ R.locals) (hroom : (rest.map fun v => v.category).sum ≤ 8) (hsize : ls.size = nL) (hf : cells ≤ R.cells ∧ slots ≤ R.slots) (hdg : decode cc pc = .ok (.invokevirtual 335, 3))
    (kk : ∀ (σ1 : MS) (H1 : Heap) (locs1 : List Loc), Qf σ1 → mm_R G σ1 H1 → va_S (mm_A G) s.heap H1 locs1 → W p l e R s m args below meth c H1 locs1 cells slots Qz (F0 m (pc + 3) ls rest)) : W p l e R s m args below meth c H locs cells slots Qz (F0 m pc ls (.int x3 :: .int x2 :: .ref (mm_a G x1) :: .ref (mm_o G) :: rest)) := by
  obtain ⟨hx, hb, hml, hown, hts, hr, hlk, hK, hZ⟩ := id cx
  exact mm_Vv cx hM hS0 (As := [.ref (mm_a G x1), .int x2, .int x3]) (M3_laysAgreed l G x1 x2 x3 σ Qf hw) (cwV 3 hts (lw_V q2410 q2412 qs80 q172 q2413) rfl rfl rfl (by decide +kernel) hR) rfl hsize rfl hroom hf hdg kk
def w3_laysKnown (σ : MS) (Q : MS → Prop) : Prop :=
  w3_knownFacts σ (fun r1 s1 => w3_knownSo s1 (fun r2 s2 => w3_laysAgreed 27 r1 r2 s2 (fun s3 => Q s3)))
set_option maxHeartbeats 4000000 in
theorem M3_laysKnown (l : Launch) (G : mm_G) (σ : MS) (Q : MS → Prop) (hw : w3_laysKnown σ Q) : mm_Mv l yX3_laysKnown (ws_ yX3_laysKnown cX3_laysKnown 1 none) ({ frames := 2, cells := 0, slots := 0, locals := 80 } : Room) G [.ref (mm_o G)] σ Q := by
  refine mm_of (by decide) rfl ?_
  intro p e s m args below meth c cx hM ha
  refine mm_entry [.ref (mm_o G)] 1 [(0, .ref (mm_o G))] ha (Nat.le_of_ble_eq_true rfl) rfl (fun ls hl => ?_)
  have hS : va_S (mm_A G) s.heap s.heap [] := va_S.rf
  unfold w3_laysKnown at hw
  obtain ⟨hx, hb, hml, hown, hts, hr, hlk, hMK, hZ⟩ := id cx
  refine lv_aload_n hx hb dX3_laysKnown_0 rfl (lv_at hl 0 rfl) ?_
  refine lv_aload_n hx hb dX3_laysKnown_1 rfl (lv_at hl 0 rfl) ?_
  refine mg_27 cx hM dX3_laysKnown_2 ?_
  refine lv_aload_n hx hb dX3_laysKnown_5 rfl (lv_at hl 0 rfl) ?_
  refine C3_knownFacts cx hM hS hw ⟨Nat.le_of_ble_eq_true rfl, Nat.le_of_ble_eq_true rfl⟩ (Nat.le_of_ble_eq_true rfl) hl.1 ⟨Nat.zero_le _, Nat.zero_le _⟩ dX3_laysKnown_6 (fun r1 s1 H locs hw hM hS => ?_)
  refine lv_aload_n hx hb dX3_laysKnown_9 rfl (lv_at hl 0 rfl) ?_
  refine C3_knownSo cx hM hS hw ⟨Nat.le_of_ble_eq_true rfl, Nat.le_of_ble_eq_true rfl⟩ (Nat.le_of_ble_eq_true rfl) hl.1 ⟨Nat.zero_le _, Nat.zero_le _⟩ dX3_laysKnown_10 (fun r2 s2 H locs hw hM hS => ?_)
  refine C3_laysAgreed cx hM hS hw ⟨Nat.le_of_ble_eq_true rfl, Nat.le_of_ble_eq_true rfl⟩ (Nat.le_of_ble_eq_true rfl) hl.1 ⟨Nat.zero_le _, Nat.zero_le _⟩ dX3_laysKnown_13 (fun s3 H locs hw hM hS => ?_)
  exact mm_vret cx hM hS hw dX3_laysKnown_16
theorem C3_laysKnown {l : Launch} {p : Program} {e : Env} {R : Room} {s : State} {m : MethodId} {args : Array Value} {below : List Frame} {meth : Method} {c : Code} {H : Heap} {locs : List Loc} {cells slots : Nat} {Qz : State → Prop} {cc : ByteArray} {nL : Nat} {ret : Option FieldType} {G : mm_G} {pc : Nat} {ls : Array Slot} {rest : List Value} {σ : MS} (cx : mm_X cc nL ret G p s m args meth c) (hM : mm_R G σ H) (hS0 : va_S (mm_A G) s.heap H locs) {Qf : MS → Prop} (hw : w3_laysKnown σ Qf) (hR : (({ frames := 2, cells := 0, slots := 0, locals := 80 } : Room)).frames + 1 ≤ R.frames ∧ 8 + (1 + 11) + (({ frames := 2, cells := 0, slots := 0, locals := 80 } : Room)).locals ≤ R.locals) (hroom : (rest.map fun v => v.category).sum ≤ 8) (hsize : ls.size = nL) (hf : cells ≤ R.cells ∧ slots ≤ R.slots) (hdg : decode cc pc = .ok (.invokevirtual 308, 3))
    (kk : ∀ (σ1 : MS) (H1 : Heap) (locs1 : List Loc), Qf σ1 → mm_R G σ1 H1 → va_S (mm_A G) s.heap H1 locs1 → W p l e R s m args below meth c H1 locs1 cells slots Qz (F0 m (pc + 3) ls rest)) : W p l e R s m args below meth c H locs cells slots Qz (F0 m pc ls (.ref (mm_o G) :: rest)) := by
  obtain ⟨hx, hb, hml, hown, hts, hr, hlk, hK, hZ⟩ := id cx
  exact mm_Vv cx hM hS0 (As := []) (M3_laysKnown l G σ Qf hw) (cwV 0 hts (lw_V q2394 q2396 qs76 q172 q2397) rfl rfl rfl (by decide +kernel) hR) rfl hsize rfl hroom hf hdg kk
def w3_laysTables_102 (Q : MS → Prop) (K23 : Int32 → MS → Prop) (K102 : Int32 → Int32 → MS → Prop) (x1 : Int32) (x2 : Int32) (σ : MS) : Prop :=
  if (gA σ 0 2) ≤ x2 then (∀ v1 : Int32, v1 = x1 + (1 : Int32) → K23 v1 σ) else (w3_isWonTold x2 x1 σ (fun r2 s2 => w3_adds 26 x2 x1 r2 s2 (fun s3 => ∀ v4 : Int32, v4 = x2 + (1 : Int32) → K102 x1 v4 s3)))
set_option maxHeartbeats 4000000 in
theorem B3_laysTables_102 {l : Launch} {p : Program} {e : Env} {s : State} {m : MethodId} {args : Array Value} {below : List Frame} {meth : Method} {c : Code} {G : mm_G} {Q : MS → Prop} {K23 : Int32 → MS → Prop} {K102 : Int32 → Int32 → MS → Prop} (cx : mm_X cX3_laysTables 3 none G p s m args meth c) (hK23 : ∀ (x1 : Int32) (σ : MS), K23 x1 σ → mm_T p l e ({ frames := 3, cells := 0, slots := 0, locals := 120 } : Room) s m args below meth c G (mm_Qv G Q) 3 23 σ [(0, .ref (mm_o G)), (1, .int x1)] []) (hK102 : ∀ (x1 : Int32) (x2 : Int32) (σ : MS), K102 x1 x2 σ → mm_T p l e ({ frames := 3, cells := 0, slots := 0, locals := 120 } : Room) s m args below meth c G (mm_Qv G Q) 3 102 σ [(0, .ref (mm_o G)), (1, .int x1), (2, .int x2)] []) : ∀ (x1 : Int32) (x2 : Int32) (σ : MS), w3_laysTables_102 Q K23 K102 x1 x2 σ → mm_T p l e ({ frames := 3, cells := 0, slots := 0, locals := 120 } : Room) s m args below meth c G (mm_Qv G Q) 3 102 σ [(0, .ref (mm_o G)), (1, .int x1), (2, .int x2)] [] := by
  intro x1 x2 σ hw H locs ls hM hS hl
  unfold w3_laysTables_102 at hw
  obtain ⟨hx, hb, hml, hown, hts, hr, hlk, hMK, hZ⟩ := id cx
  refine lv_iload_n hx hb dX3_laysTables_102 rfl (lv_at hl 2 rfl) ?_
  refine lv_aload_n hx hb dX3_laysTables_103 rfl (lv_at hl 0 rfl) ?_
  refine mg_0 cx hM dX3_laysTables_104 ?_
  refine lv_iconst (v := (2 : Int32)) hx hb dX3_laysTables_107 (by decide) ?_
  refine mm_iald cx hM 0 rfl (j := 2) (by decide) (vp_lit (by decide)) dX3_laysTables_108 ?_
  refine lv_icmp_ge (tgt := 133) hx hb dX3_laysTables_109 (by decide) (fun hc => ?_) (fun hc => ?_)
  · have hw := mm_ip hc hw
    obtain ⟨v1, hv1⟩ : ∃ v : Int32, v = x1 + (1 : Int32) := ⟨_, rfl⟩
    have hw := hw v1 hv1
    refine lv_iinc (v := v1) (lv' := [(1, .int v1), (0, .ref (mm_o G)), (2, .int x2)]) hx hb dX3_laysTables_133 hl (k := 1) rfl (by rw [hv1]; rfl) (by decide) rfl (fun ls hl => ?_)
    refine lv_goto (tgt := 23) hx hb dX3_laysTables_136 (by decide) ?_
    exact hK23 _ _ hw _ _ _ hM hS (lv_sub hl [1, 0] rfl)
  · have hw := mm_in hc hw
    refine lv_aload_n hx hb dX3_laysTables_112 rfl (lv_at hl 0 rfl) ?_
    refine mg_26 cx hM dX3_laysTables_113 ?_
    refine lv_iload_n hx hb dX3_laysTables_116 rfl (lv_at hl 2 rfl) ?_
    refine lv_iload_n hx hb dX3_laysTables_117 rfl (lv_at hl 1 rfl) ?_
    refine lv_aload_n hx hb dX3_laysTables_118 rfl (lv_at hl 0 rfl) ?_
    refine lv_iload_n hx hb dX3_laysTables_119 rfl (lv_at hl 2 rfl) ?_
    refine lv_iload_n hx hb dX3_laysTables_120 rfl (lv_at hl 1 rfl) ?_
    refine C3_isWonTold cx hM hS hw ⟨Nat.le_of_ble_eq_true rfl, Nat.le_of_ble_eq_true rfl⟩ (Nat.le_of_ble_eq_true rfl) hl.1 ⟨Nat.zero_le _, Nat.zero_le _⟩ dX3_laysTables_121 (fun r2 s2 H locs hw hM hS => ?_)
    refine C3_adds cx hM hS hw ⟨Nat.le_of_ble_eq_true rfl, Nat.le_of_ble_eq_true rfl⟩ (Nat.le_of_ble_eq_true rfl) hl.1 ⟨Nat.zero_le _, Nat.zero_le _⟩ dX3_laysTables_124 (fun s3 H locs hw hM hS => ?_)
    obtain ⟨v4, hv4⟩ : ∃ v : Int32, v = x2 + (1 : Int32) := ⟨_, rfl⟩
    have hw := hw v4 hv4
    refine lv_iinc (v := v4) (lv' := [(2, .int v4), (0, .ref (mm_o G)), (1, .int x1)]) hx hb dX3_laysTables_127 hl (k := 2) rfl (by rw [hv4]; rfl) (by decide) rfl (fun ls hl => ?_)
    refine lv_goto (tgt := 102) hx hb dX3_laysTables_130 (by decide) ?_
    exact hK102 _ _ _ hw _ _ _ hM hS (lv_sub hl [1, 2, 0] rfl)
theorem L3_laysTables_102 {l : Launch} {p : Program} {e : Env} {s : State} {m : MethodId} {args : Array Value} {below : List Frame} {meth : Method} {c : Code} {G : mm_G} {Q : MS → Prop} {K23 : Int32 → MS → Prop} (cx : mm_X cX3_laysTables 3 none G p s m args meth c) (hK23 : ∀ (x1 : Int32) (σ : MS), K23 x1 σ → mm_T p l e ({ frames := 3, cells := 0, slots := 0, locals := 120 } : Room) s m args below meth c G (mm_Qv G Q) 3 23 σ [(0, .ref (mm_o G)), (1, .int x1)] []) : ∀ (x1 : Int32) (x2 : Int32) (σ : MS), lp3F (w3_laysTables_102 Q K23) x1 x2 σ → mm_T p l e ({ frames := 3, cells := 0, slots := 0, locals := 120 } : Room) s m args below meth c G (mm_Qv G Q) 3 102 σ [(0, .ref (mm_o G)), (1, .int x1), (2, .int x2)] [] :=
  lp3F_of (fun K hK => B3_laysTables_102 cx hK23 hK)
def w3_laysTables_91 (Q : MS → Prop) (K23 : Int32 → MS → Prop) (K55 : Int32 → Int32 → MS → Prop) (x1 : Int32) (x2 : Int32) (t0 : Nat) (t1 : Int32) (t2 : Int32) (t3 : Int32) (σ : MS) : Prop :=
  w3_adds t0 t1 t2 t3 σ (fun s5 => ∀ v6 : Int32, v6 = x2 + (1 : Int32) → K55 x1 v6 s5)
set_option maxHeartbeats 4000000 in
theorem B3_laysTables_91 {l : Launch} {p : Program} {e : Env} {s : State} {m : MethodId} {args : Array Value} {below : List Frame} {meth : Method} {c : Code} {G : mm_G} {Q : MS → Prop} {K23 : Int32 → MS → Prop} {K55 : Int32 → Int32 → MS → Prop} (cx : mm_X cX3_laysTables 3 none G p s m args meth c) (hK23 : ∀ (x1 : Int32) (σ : MS), K23 x1 σ → mm_T p l e ({ frames := 3, cells := 0, slots := 0, locals := 120 } : Room) s m args below meth c G (mm_Qv G Q) 3 23 σ [(0, .ref (mm_o G)), (1, .int x1)] []) (hK55 : ∀ (x1 : Int32) (x2 : Int32) (σ : MS), K55 x1 x2 σ → mm_T p l e ({ frames := 3, cells := 0, slots := 0, locals := 120 } : Room) s m args below meth c G (mm_Qv G Q) 3 55 σ [(0, .ref (mm_o G)), (1, .int x1), (2, .int x2)] []) : ∀ (x1 : Int32) (x2 : Int32) (t0 : Nat) (t1 : Int32) (t2 : Int32) (t3 : Int32) (σ : MS), w3_laysTables_91 Q K23 K55 x1 x2 t0 t1 t2 t3 σ → mm_T p l e ({ frames := 3, cells := 0, slots := 0, locals := 120 } : Room) s m args below meth c G (mm_Qv G Q) 3 91 σ [(0, .ref (mm_o G)), (1, .int x1), (2, .int x2)] [.int t3, .int t2, .int t1, .ref (mm_a G t0)] := by
  intro x1 x2 t0 t1 t2 t3 σ hw H locs ls hM hS hl
  unfold w3_laysTables_91 at hw
  obtain ⟨hx, hb, hml, hown, hts, hr, hlk, hMK, hZ⟩ := id cx
  refine C3_adds cx hM hS hw ⟨Nat.le_of_ble_eq_true rfl, Nat.le_of_ble_eq_true rfl⟩ (Nat.le_of_ble_eq_true rfl) hl.1 ⟨Nat.zero_le _, Nat.zero_le _⟩ dX3_laysTables_91 (fun s5 H locs hw hM hS => ?_)
  obtain ⟨v6, hv6⟩ : ∃ v : Int32, v = x2 + (1 : Int32) := ⟨_, rfl⟩
  have hw := hw v6 hv6
  refine lv_iinc (v := v6) (lv' := [(2, .int v6), (0, .ref (mm_o G)), (1, .int x1)]) hx hb dX3_laysTables_94 hl (k := 2) rfl (by rw [hv6]; rfl) (by decide) rfl (fun ls hl => ?_)
  refine lv_goto (tgt := 55) hx hb dX3_laysTables_97 (by decide) ?_
  exact hK55 _ _ _ hw _ _ _ hM hS (lv_sub hl [1, 2, 0] rfl)
def w3_laysTables_55 (Q : MS → Prop) (K23 : Int32 → MS → Prop) (K55 : Int32 → Int32 → MS → Prop) (x1 : Int32) (x2 : Int32) (σ : MS) : Prop :=
  if (gA σ 0 6) ≤ x2 then (lp3F (w3_laysTables_102 Q K23) x1 (0 : Int32) σ) else (w3_holds 0 x2 x1 σ (fun r7 s7 => if r7 = (1 : Int32) then (w3_laysTables_91 Q K23 K55 x1 x2 25 x2 x1 (1 : Int32) s7) else (w3_laysTables_91 Q K23 K55 x1 x2 25 x2 x1 (0 : Int32) s7)))
set_option maxHeartbeats 4000000 in
theorem B3_laysTables_55 {l : Launch} {p : Program} {e : Env} {s : State} {m : MethodId} {args : Array Value} {below : List Frame} {meth : Method} {c : Code} {G : mm_G} {Q : MS → Prop} {K23 : Int32 → MS → Prop} {K55 : Int32 → Int32 → MS → Prop} (cx : mm_X cX3_laysTables 3 none G p s m args meth c) (hK23 : ∀ (x1 : Int32) (σ : MS), K23 x1 σ → mm_T p l e ({ frames := 3, cells := 0, slots := 0, locals := 120 } : Room) s m args below meth c G (mm_Qv G Q) 3 23 σ [(0, .ref (mm_o G)), (1, .int x1)] []) (hK55 : ∀ (x1 : Int32) (x2 : Int32) (σ : MS), K55 x1 x2 σ → mm_T p l e ({ frames := 3, cells := 0, slots := 0, locals := 120 } : Room) s m args below meth c G (mm_Qv G Q) 3 55 σ [(0, .ref (mm_o G)), (1, .int x1), (2, .int x2)] []) : ∀ (x1 : Int32) (x2 : Int32) (σ : MS), w3_laysTables_55 Q K23 K55 x1 x2 σ → mm_T p l e ({ frames := 3, cells := 0, slots := 0, locals := 120 } : Room) s m args below meth c G (mm_Qv G Q) 3 55 σ [(0, .ref (mm_o G)), (1, .int x1), (2, .int x2)] [] := by
  intro x1 x2 σ hw H locs ls hM hS hl
  unfold w3_laysTables_55 at hw
  obtain ⟨hx, hb, hml, hown, hts, hr, hlk, hMK, hZ⟩ := id cx
  refine lv_iload_n hx hb dX3_laysTables_55 rfl (lv_at hl 2 rfl) ?_
  refine lv_aload_n hx hb dX3_laysTables_56 rfl (lv_at hl 0 rfl) ?_
  refine mg_0 cx hM dX3_laysTables_57 ?_
  refine lv_bipush (v := (6 : Int32)) hx hb dX3_laysTables_60 (by decide) ?_
  refine mm_iald cx hM 0 rfl (j := 6) (by decide) (vp_lit (by decide)) dX3_laysTables_62 ?_
  refine lv_icmp_ge (tgt := 100) hx hb dX3_laysTables_63 (by decide) (fun hc => ?_) (fun hc => ?_)
  · have hw := mm_ip hc hw
    refine lv_iconst (v := (0 : Int32)) hx hb dX3_laysTables_100 (by decide) ?_
    refine lv_istore_n (lv' := [(2, .int (0 : Int32)), (0, .ref (mm_o G)), (1, .int x1)]) hx hb dX3_laysTables_101 rfl hl (by decide) rfl (fun ls hl => ?_)
    exact L3_laysTables_102 cx hK23 _ _ _ hw _ _ _ hM hS (lv_sub hl [1, 2, 0] rfl)
  · have hw := mm_in hc hw
    refine lv_aload_n hx hb dX3_laysTables_66 rfl (lv_at hl 0 rfl) ?_
    refine mg_25 cx hM dX3_laysTables_67 ?_
    refine lv_iload_n hx hb dX3_laysTables_70 rfl (lv_at hl 2 rfl) ?_
    refine lv_iload_n hx hb dX3_laysTables_71 rfl (lv_at hl 1 rfl) ?_
    refine lv_aload_n hx hb dX3_laysTables_72 rfl (lv_at hl 0 rfl) ?_
    refine lv_aload_n hx hb dX3_laysTables_73 rfl (lv_at hl 0 rfl) ?_
    refine mg_0 cx hM dX3_laysTables_74 ?_
    refine lv_iload_n hx hb dX3_laysTables_77 rfl (lv_at hl 2 rfl) ?_
    refine lv_iload_n hx hb dX3_laysTables_78 rfl (lv_at hl 1 rfl) ?_
    refine C3_holds cx hM hS hw ⟨Nat.le_of_ble_eq_true rfl, Nat.le_of_ble_eq_true rfl⟩ (Nat.le_of_ble_eq_true rfl) hl.1 ⟨Nat.zero_le _, Nat.zero_le _⟩ dX3_laysTables_79 (fun r7 s7 H locs hw hM hS => ?_)
    refine lv_iconst (v := (1 : Int32)) hx hb dX3_laysTables_82 (by decide) ?_
    refine lv_icmp_ne (tgt := 90) hx hb dX3_laysTables_83 (by decide) (fun hc => ?_) (fun hc => ?_)
    · have hw := mm_in hc hw
      refine lv_iconst (v := (0 : Int32)) hx hb dX3_laysTables_90 (by decide) ?_
      exact B3_laysTables_91 cx hK23 hK55 _ _ _ _ _ _ _ hw _ _ _ hM hS (lv_sub hl [0, 1, 2] rfl)
    · have hw := mm_ip hc hw
      refine lv_iconst (v := (1 : Int32)) hx hb dX3_laysTables_86 (by decide) ?_
      refine lv_goto (tgt := 91) hx hb dX3_laysTables_87 (by decide) ?_
      exact B3_laysTables_91 cx hK23 hK55 _ _ _ _ _ _ _ hw _ _ _ hM hS (lv_sub hl [0, 1, 2] rfl)
theorem L3_laysTables_55 {l : Launch} {p : Program} {e : Env} {s : State} {m : MethodId} {args : Array Value} {below : List Frame} {meth : Method} {c : Code} {G : mm_G} {Q : MS → Prop} {K23 : Int32 → MS → Prop} (cx : mm_X cX3_laysTables 3 none G p s m args meth c) (hK23 : ∀ (x1 : Int32) (σ : MS), K23 x1 σ → mm_T p l e ({ frames := 3, cells := 0, slots := 0, locals := 120 } : Room) s m args below meth c G (mm_Qv G Q) 3 23 σ [(0, .ref (mm_o G)), (1, .int x1)] []) : ∀ (x1 : Int32) (x2 : Int32) (σ : MS), lp3F (w3_laysTables_55 Q K23) x1 x2 σ → mm_T p l e ({ frames := 3, cells := 0, slots := 0, locals := 120 } : Room) s m args below meth c G (mm_Qv G Q) 3 55 σ [(0, .ref (mm_o G)), (1, .int x1), (2, .int x2)] [] :=
  lp3F_of (fun K hK => B3_laysTables_55 cx hK23 hK)
def w3_laysTables_23 (Q : MS → Prop) (K23 : Int32 → MS → Prop) (x1 : Int32) (σ : MS) : Prop :=
  if ((1 : Int32) <<< ((gA σ 0 1) &&& 31)) ≤ x1 then (w3_laysKnown σ (fun s8 => Q s8)) else (w3_mayBe 0 x1 σ (fun r9 s9 => w3_adds 24 (0 : Int32) x1 r9 s9 (fun s10 => lp3F (w3_laysTables_55 Q K23) x1 (0 : Int32) s10)))
set_option maxHeartbeats 4000000 in
theorem B3_laysTables_23 {l : Launch} {p : Program} {e : Env} {s : State} {m : MethodId} {args : Array Value} {below : List Frame} {meth : Method} {c : Code} {G : mm_G} {Q : MS → Prop} {K23 : Int32 → MS → Prop} (cx : mm_X cX3_laysTables 3 none G p s m args meth c) (hK23 : ∀ (x1 : Int32) (σ : MS), K23 x1 σ → mm_T p l e ({ frames := 3, cells := 0, slots := 0, locals := 120 } : Room) s m args below meth c G (mm_Qv G Q) 3 23 σ [(0, .ref (mm_o G)), (1, .int x1)] []) : ∀ (x1 : Int32) (σ : MS), w3_laysTables_23 Q K23 x1 σ → mm_T p l e ({ frames := 3, cells := 0, slots := 0, locals := 120 } : Room) s m args below meth c G (mm_Qv G Q) 3 23 σ [(0, .ref (mm_o G)), (1, .int x1)] [] := by
  intro x1 σ hw H locs ls hM hS hl
  unfold w3_laysTables_23 at hw
  obtain ⟨hx, hb, hml, hown, hts, hr, hlk, hMK, hZ⟩ := id cx
  refine lv_iload_n hx hb dX3_laysTables_23 rfl (lv_at hl 1 rfl) ?_
  refine lv_iconst (v := (1 : Int32)) hx hb dX3_laysTables_24 (by decide) ?_
  refine lv_aload_n hx hb dX3_laysTables_25 rfl (lv_at hl 0 rfl) ?_
  refine mg_0 cx hM dX3_laysTables_26 ?_
  refine lv_iconst (v := (1 : Int32)) hx hb dX3_laysTables_29 (by decide) ?_
  refine mm_iald cx hM 0 rfl (j := 1) (by decide) (vp_lit (by decide)) dX3_laysTables_30 ?_
  refine lv_ishl hx hb dX3_laysTables_31 ?_
  refine lv_icmp_ge (tgt := 139) hx hb dX3_laysTables_32 (by decide) (fun hc => ?_) (fun hc => ?_)
  · have hw := mm_ip hc hw
    refine lv_aload_n hx hb dX3_laysTables_139 rfl (lv_at hl 0 rfl) ?_
    refine C3_laysKnown cx hM hS hw ⟨Nat.le_of_ble_eq_true rfl, Nat.le_of_ble_eq_true rfl⟩ (Nat.le_of_ble_eq_true rfl) hl.1 ⟨Nat.zero_le _, Nat.zero_le _⟩ dX3_laysTables_140 (fun s8 H locs hw hM hS => ?_)
    exact mm_vret cx hM hS hw dX3_laysTables_143
  · have hw := mm_in hc hw
    refine lv_aload_n hx hb dX3_laysTables_35 rfl (lv_at hl 0 rfl) ?_
    refine mg_24 cx hM dX3_laysTables_36 ?_
    refine lv_iconst (v := (0 : Int32)) hx hb dX3_laysTables_39 (by decide) ?_
    refine lv_iload_n hx hb dX3_laysTables_40 rfl (lv_at hl 1 rfl) ?_
    refine lv_aload_n hx hb dX3_laysTables_41 rfl (lv_at hl 0 rfl) ?_
    refine lv_aload_n hx hb dX3_laysTables_42 rfl (lv_at hl 0 rfl) ?_
    refine mg_0 cx hM dX3_laysTables_43 ?_
    refine lv_iload_n hx hb dX3_laysTables_46 rfl (lv_at hl 1 rfl) ?_
    refine C3_mayBe cx hM hS hw ⟨Nat.le_of_ble_eq_true rfl, Nat.le_of_ble_eq_true rfl⟩ (Nat.le_of_ble_eq_true rfl) hl.1 ⟨Nat.zero_le _, Nat.zero_le _⟩ dX3_laysTables_47 (fun r9 s9 H locs hw hM hS => ?_)
    refine C3_adds cx hM hS hw ⟨Nat.le_of_ble_eq_true rfl, Nat.le_of_ble_eq_true rfl⟩ (Nat.le_of_ble_eq_true rfl) hl.1 ⟨Nat.zero_le _, Nat.zero_le _⟩ dX3_laysTables_50 (fun s10 H locs hw hM hS => ?_)
    refine lv_iconst (v := (0 : Int32)) hx hb dX3_laysTables_53 (by decide) ?_
    refine lv_istore_n (lv' := [(2, .int (0 : Int32)), (0, .ref (mm_o G)), (1, .int x1)]) hx hb dX3_laysTables_54 rfl hl (by decide) rfl (fun ls hl => ?_)
    exact L3_laysTables_55 cx hK23 _ _ _ hw _ _ _ hM hS (lv_sub hl [1, 2, 0] rfl)
theorem L3_laysTables_23 {l : Launch} {p : Program} {e : Env} {s : State} {m : MethodId} {args : Array Value} {below : List Frame} {meth : Method} {c : Code} {G : mm_G} {Q : MS → Prop} (cx : mm_X cX3_laysTables 3 none G p s m args meth c) : ∀ (x1 : Int32) (σ : MS), lp2F (w3_laysTables_23 Q) x1 σ → mm_T p l e ({ frames := 3, cells := 0, slots := 0, locals := 120 } : Room) s m args below meth c G (mm_Qv G Q) 3 23 σ [(0, .ref (mm_o G)), (1, .int x1)] [] :=
  lp2F_of (fun K hK => B3_laysTables_23 cx hK)
def w3_laysTables (σ : MS) (Q : MS → Prop) : Prop :=
  w3_empties 24 σ (fun s11 => w3_empties 25 s11 (fun s12 => w3_empties 26 s12 (fun s13 => lp2F (w3_laysTables_23 Q) (0 : Int32) s13)))
set_option maxHeartbeats 4000000 in
theorem M3_laysTables (l : Launch) (G : mm_G) (σ : MS) (Q : MS → Prop) (hw : w3_laysTables σ Q) : mm_Mv l yX3_laysTables (ws_ yX3_laysTables cX3_laysTables 3 none) ({ frames := 3, cells := 0, slots := 0, locals := 120 } : Room) G [.ref (mm_o G)] σ Q := by
  refine mm_of (by decide) rfl ?_
  intro p e s m args below meth c cx hM ha
  refine mm_entry [.ref (mm_o G)] 3 [(0, .ref (mm_o G))] ha (Nat.le_of_ble_eq_true rfl) rfl (fun ls hl => ?_)
  have hS : va_S (mm_A G) s.heap s.heap [] := va_S.rf
  unfold w3_laysTables at hw
  obtain ⟨hx, hb, hml, hown, hts, hr, hlk, hMK, hZ⟩ := id cx
  refine lv_aload_n hx hb dX3_laysTables_0 rfl (lv_at hl 0 rfl) ?_
  refine mg_24 cx hM dX3_laysTables_1 ?_
  refine C3_empties cx hM hS hw ⟨Nat.le_of_ble_eq_true rfl, Nat.le_of_ble_eq_true rfl⟩ (Nat.le_of_ble_eq_true rfl) hl.1 ⟨Nat.zero_le _, Nat.zero_le _⟩ dX3_laysTables_4 (fun s11 H locs hw hM hS => ?_)
  refine lv_aload_n hx hb dX3_laysTables_7 rfl (lv_at hl 0 rfl) ?_
  refine mg_25 cx hM dX3_laysTables_8 ?_
  refine C3_empties cx hM hS hw ⟨Nat.le_of_ble_eq_true rfl, Nat.le_of_ble_eq_true rfl⟩ (Nat.le_of_ble_eq_true rfl) hl.1 ⟨Nat.zero_le _, Nat.zero_le _⟩ dX3_laysTables_11 (fun s12 H locs hw hM hS => ?_)
  refine lv_aload_n hx hb dX3_laysTables_14 rfl (lv_at hl 0 rfl) ?_
  refine mg_26 cx hM dX3_laysTables_15 ?_
  refine C3_empties cx hM hS hw ⟨Nat.le_of_ble_eq_true rfl, Nat.le_of_ble_eq_true rfl⟩ (Nat.le_of_ble_eq_true rfl) hl.1 ⟨Nat.zero_le _, Nat.zero_le _⟩ dX3_laysTables_18 (fun s13 H locs hw hM hS => ?_)
  refine lv_iconst (v := (0 : Int32)) hx hb dX3_laysTables_21 (by decide) ?_
  refine lv_istore_n (lv' := [(1, .int (0 : Int32)), (0, .ref (mm_o G))]) hx hb dX3_laysTables_22 rfl hl (by decide) rfl (fun ls hl => ?_)
  exact L3_laysTables_23 cx _ _ hw _ _ _ hM hS (lv_sub hl [1, 0] rfl)
theorem C3_laysTables {l : Launch} {p : Program} {e : Env} {R : Room} {s : State} {m : MethodId} {args : Array Value} {below : List Frame} {meth : Method} {c : Code} {H : Heap} {locs : List Loc} {cells slots : Nat} {Qz : State → Prop} {cc : ByteArray} {nL : Nat} {ret : Option FieldType} {G : mm_G} {pc : Nat} {ls : Array Slot} {rest : List Value} {σ : MS} (cx : mm_X cc nL ret G p s m args meth c) (hM : mm_R G σ H) (hS0 : va_S (mm_A G) s.heap H locs) {Qf : MS → Prop} (hw : w3_laysTables σ Qf) (hR : (({ frames := 3, cells := 0, slots := 0, locals := 120 } : Room)).frames + 1 ≤ R.frames ∧ 8 + (3 + 11) + (({ frames := 3, cells := 0, slots := 0, locals := 120 } : Room)).locals ≤ R.locals) (hroom : (rest.map fun v => v.category).sum ≤ 8) (hsize : ls.size = nL) (hf : cells ≤ R.cells ∧ slots ≤ R.slots) (hdg : decode cc pc = .ok (.invokevirtual 79, 3))
    (kk : ∀ (σ1 : MS) (H1 : Heap) (locs1 : List Loc), Qf σ1 → mm_R G σ1 H1 → va_S (mm_A G) s.heap H1 locs1 → W p l e R s m args below meth c H1 locs1 cells slots Qz (F0 m (pc + 3) ls rest)) : W p l e R s m args below meth c H locs cells slots Qz (F0 m pc ls (.ref (mm_o G) :: rest)) := by
  obtain ⟨hx, hb, hml, hown, hts, hr, hlk, hK, hZ⟩ := id cx
  exact mm_Vv cx hM hS0 (As := []) (M3_laysTables l G σ Qf hw) (cwV 0 hts (lw_V q2369 q2371 qs72 q172 q2372) rfl rfl rfl (by decide +kernel) hR) rfl hsize rfl hroom hf hdg kk
def w3_sign_17 (Q : Int32 → MS → Prop) (K17 : Int32 → Int32 → MS → Prop) (x1 : Int32) (x2 : Int32) (σ : MS) : Prop :=
  if x2 < 0 then (Q (gI σ 10) σ) else (vp_in (gI σ 10) 480 ∧ (∀ v1 : Int32, v1 = x2 + (-8 : Int32) → K17 x1 v1 (sI (sA σ 9 (gI σ 10).toNatClampNeg ((x1 >>> (x2 &&& 31)) &&& (255 : Int32))) 10 ((gI (sA σ 9 (gI σ 10).toNatClampNeg ((x1 >>> (x2 &&& 31)) &&& (255 : Int32))) 10) + (1 : Int32)))))
set_option maxHeartbeats 4000000 in
theorem B3_sign_17 {l : Launch} {p : Program} {e : Env} {s : State} {m : MethodId} {args : Array Value} {below : List Frame} {meth : Method} {c : Code} {G : mm_G} {Q : Int32 → MS → Prop} {K17 : Int32 → Int32 → MS → Prop} (cx : mm_X cX3_sign 3 (some .int) G p s m args meth c) (hK17 : ∀ (x1 : Int32) (x2 : Int32) (σ : MS), K17 x1 x2 σ → mm_T p l e ({ frames := 0, cells := 0, slots := 0, locals := 0 } : Room) s m args below meth c G (mm_Qi G Q) 3 17 σ [(0, .ref (mm_o G)), (1, .int x1), (2, .int x2)] []) : ∀ (x1 : Int32) (x2 : Int32) (σ : MS), w3_sign_17 Q K17 x1 x2 σ → mm_T p l e ({ frames := 0, cells := 0, slots := 0, locals := 0 } : Room) s m args below meth c G (mm_Qi G Q) 3 17 σ [(0, .ref (mm_o G)), (1, .int x1), (2, .int x2)] [] := by
  intro x1 x2 σ hw H locs ls hM hS hl
  unfold w3_sign_17 at hw
  obtain ⟨hx, hb, hml, hown, hts, hr, hlk, hMK, hZ⟩ := id cx
  refine lv_iload_n hx hb dX3_sign_17 rfl (lv_at hl 2 rfl) ?_
  refine lv_if_lt (tgt := 53) hx hb dX3_sign_18 (by decide) (fun hc => ?_) (fun hc => ?_)
  · have hw := mm_ip hc hw
    refine lv_aload_n hx hb dX3_sign_53 rfl (lv_at hl 0 rfl) ?_
    refine mg_10 cx hM dX3_sign_54 ?_
    exact mm_iret cx hM hS hw dX3_sign_57
  · have hw := mm_in hc hw
    refine lv_aload_n hx hb dX3_sign_21 rfl (lv_at hl 0 rfl) ?_
    refine mg_9 cx hM dX3_sign_22 ?_
    refine lv_aload_n hx hb dX3_sign_25 rfl (lv_at hl 0 rfl) ?_
    refine mg_10 cx hM dX3_sign_26 ?_
    refine lv_iload_n hx hb dX3_sign_29 rfl (lv_at hl 1 rfl) ?_
    refine lv_iload_n hx hb dX3_sign_30 rfl (lv_at hl 2 rfl) ?_
    refine lv_ishr hx hb dX3_sign_31 ?_
    refine lv_sipush (v := (255 : Int32)) hx hb dX3_sign_32 (by decide) ?_
    refine lv_iand hx hb dX3_sign_35 ?_
    obtain ⟨hi, hw⟩ := hw
    refine mm_iast cx hM hS 9 rfl rfl hi dX3_sign_36 (fun H locs hM hS => ?_)
    refine lv_aload_n hx hb dX3_sign_37 rfl (lv_at hl 0 rfl) ?_
    refine lv_dup hx hb dX3_sign_38 rfl ?_
    refine mg_10 cx hM dX3_sign_39 ?_
    refine lv_iconst (v := (1 : Int32)) hx hb dX3_sign_42 (by decide) ?_
    refine lv_iadd hx hb dX3_sign_43 ?_
    refine mp_10 cx hM hS dX3_sign_44 (fun H locs hM hS => ?_)
    obtain ⟨v1, hv1⟩ : ∃ v : Int32, v = x2 + (-8 : Int32) := ⟨_, rfl⟩
    have hw := hw v1 hv1
    refine lv_iinc (v := v1) (lv' := [(2, .int v1), (0, .ref (mm_o G)), (1, .int x1)]) hx hb dX3_sign_47 hl (k := 2) rfl (by rw [hv1]; rfl) (by decide) rfl (fun ls hl => ?_)
    refine lv_goto (tgt := 17) hx hb dX3_sign_50 (by decide) ?_
    exact hK17 _ _ _ hw _ _ _ hM hS (lv_sub hl [1, 2, 0] rfl)
theorem L3_sign_17 {l : Launch} {p : Program} {e : Env} {s : State} {m : MethodId} {args : Array Value} {below : List Frame} {meth : Method} {c : Code} {G : mm_G} {Q : Int32 → MS → Prop} (cx : mm_X cX3_sign 3 (some .int) G p s m args meth c) : ∀ (x1 : Int32) (x2 : Int32) (σ : MS), lp3F (w3_sign_17 Q) x1 x2 σ → mm_T p l e ({ frames := 0, cells := 0, slots := 0, locals := 0 } : Room) s m args below meth c G (mm_Qi G Q) 3 17 σ [(0, .ref (mm_o G)), (1, .int x1), (2, .int x2)] [] :=
  lp3F_of (fun K hK => B3_sign_17 cx hK)
def w3_sign (x1 : Int32) (σ : MS) (Q : Int32 → MS → Prop) : Prop :=
  if ((gI σ 10) + (4 : Int32)) ≤ (480 : Int32) then (lp3F (w3_sign_17 Q) x1 (24 : Int32) σ) else (Q (-1 : Int32) σ)
set_option maxHeartbeats 4000000 in
theorem M3_sign (l : Launch) (G : mm_G) (x1 : Int32) (σ : MS) (Q : Int32 → MS → Prop) (hw : w3_sign x1 σ Q) : mm_Mi l yX3_sign (ws_ yX3_sign cX3_sign 3 (some .int)) ({ frames := 0, cells := 0, slots := 0, locals := 0 } : Room) G [.ref (mm_o G), .int x1] σ Q := by
  refine mm_of (by decide) rfl ?_
  intro p e s m args below meth c cx hM ha
  refine mm_entry [.ref (mm_o G), .int x1] 3 [(0, .ref (mm_o G)), (1, .int x1)] ha (Nat.le_of_ble_eq_true rfl) rfl (fun ls hl => ?_)
  have hS : va_S (mm_A G) s.heap s.heap [] := va_S.rf
  unfold w3_sign at hw
  obtain ⟨hx, hb, hml, hown, hts, hr, hlk, hMK, hZ⟩ := id cx
  refine lv_aload_n hx hb dX3_sign_0 rfl (lv_at hl 0 rfl) ?_
  refine mg_10 cx hM dX3_sign_1 ?_
  refine lv_iconst (v := (4 : Int32)) hx hb dX3_sign_4 (by decide) ?_
  refine lv_iadd hx hb dX3_sign_5 ?_
  refine lv_sipush (v := (480 : Int32)) hx hb dX3_sign_6 (by decide) ?_
  refine lv_icmp_le (tgt := 14) hx hb dX3_sign_9 (by decide) (fun hc => ?_) (fun hc => ?_)
  · have hw := mm_ip hc hw
    refine lv_bipush (v := (24 : Int32)) hx hb dX3_sign_14 (by decide) ?_
    refine lv_istore_n (lv' := [(2, .int (24 : Int32)), (0, .ref (mm_o G)), (1, .int x1)]) hx hb dX3_sign_16 rfl hl (by decide) rfl (fun ls hl => ?_)
    exact L3_sign_17 cx _ _ _ hw _ _ _ hM hS (lv_sub hl [1, 2, 0] rfl)
  · have hw := mm_in hc hw
    refine lv_iconst (v := (-1 : Int32)) hx hb dX3_sign_12 (by decide) ?_
    exact mm_iret cx hM hS hw dX3_sign_13
-- no call of sign
def w3_in (x0 : Int32) (x1 : Int32) (x2 : Int32) (σ : MS) (Q : Int32 → MS → Prop) : Prop :=
  if x0 < x1 then (Q (0 : Int32) σ) else (if x2 < x0 then (Q (0 : Int32) σ) else (Q (1 : Int32) σ))
set_option maxHeartbeats 4000000 in
theorem M3_in (l : Launch) (G : mm_G) (x0 : Int32) (x1 : Int32) (x2 : Int32) (σ : MS) (Q : Int32 → MS → Prop) (hw : w3_in x0 x1 x2 σ Q) : mm_Mi l yX3_in (ws_ yX3_in cX3_in 3 (some .boolean)) ({ frames := 0, cells := 0, slots := 0, locals := 0 } : Room) G [.int x0, .int x1, .int x2] σ Q := by
  refine mm_of (by decide) rfl ?_
  intro p e s m args below meth c cx hM ha
  refine mm_entry [.int x0, .int x1, .int x2] 3 [(0, .int x0), (1, .int x1), (2, .int x2)] ha (Nat.le_of_ble_eq_true rfl) rfl (fun ls hl => ?_)
  have hS : va_S (mm_A G) s.heap s.heap [] := va_S.rf
  unfold w3_in at hw
  obtain ⟨hx, hb, hml, hown, hts, hr, hlk, hMK, hZ⟩ := id cx
  refine lv_iload_n hx hb dX3_in_0 rfl (lv_at hl 0 rfl) ?_
  refine lv_iload_n hx hb dX3_in_1 rfl (lv_at hl 1 rfl) ?_
  refine lv_icmp_lt (tgt := 14) hx hb dX3_in_2 (by decide) (fun hc => ?_) (fun hc => ?_)
  · have hw := mm_ip hc hw
    refine lv_iconst (v := (0 : Int32)) hx hb dX3_in_14 (by decide) ?_
    exact mm_zret cx hM hS (Or.inl rfl) hw dX3_in_15
  · have hw := mm_in hc hw
    refine lv_iload_n hx hb dX3_in_5 rfl (lv_at hl 0 rfl) ?_
    refine lv_iload_n hx hb dX3_in_6 rfl (lv_at hl 2 rfl) ?_
    refine lv_icmp_gt (tgt := 14) hx hb dX3_in_7 (by decide) (fun hc => ?_) (fun hc => ?_)
    · have hw := mm_ip hc hw
      refine lv_iconst (v := (0 : Int32)) hx hb dX3_in_14 (by decide) ?_
      exact mm_zret cx hM hS (Or.inl rfl) hw dX3_in_15
    · have hw := mm_in hc hw
      refine lv_iconst (v := (1 : Int32)) hx hb dX3_in_10 (by decide) ?_
      refine lv_goto (tgt := 15) hx hb dX3_in_11 (by decide) ?_
      exact mm_zret cx hM hS (Or.inr rfl) hw dX3_in_15
theorem C3_in {l : Launch} {p : Program} {e : Env} {R : Room} {s : State} {m : MethodId} {args : Array Value} {below : List Frame} {meth : Method} {c : Code} {H : Heap} {locs : List Loc} {cells slots : Nat} {Qz : State → Prop} {cc : ByteArray} {nL : Nat} {ret : Option FieldType} {G : mm_G} {pc : Nat} {ls : Array Slot} {rest : List Value} {x0 : Int32} {x1 : Int32} {x2 : Int32} {σ : MS} (cx : mm_X cc nL ret G p s m args meth c) (hM : mm_R G σ H) (hS0 : va_S (mm_A G) s.heap H locs) {Qf : Int32 → MS → Prop} (hw : w3_in x0 x1 x2 σ Qf) (hR : (({ frames := 0, cells := 0, slots := 0, locals := 0 } : Room)).frames + 1 ≤ R.frames ∧ 8 + (3 + 11) + (({ frames := 0, cells := 0, slots := 0, locals := 0 } : Room)).locals ≤ R.locals) (hroom : (rest.map fun v => v.category).sum ≤ 8) (hsize : ls.size = nL) (hf : cells ≤ R.cells ∧ slots ≤ R.slots) (hdg : decode cc pc = .ok (.invokestatic 85, 3))
    (kk : ∀ (r : Int32) (σ1 : MS) (H1 : Heap) (locs1 : List Loc), Qf r σ1 → mm_R G σ1 H1 → va_S (mm_A G) s.heap H1 locs1 → W p l e R s m args below meth c H1 locs1 cells slots Qz (F0 m (pc + 3) ls (.int r :: rest))) : W p l e R s m args below meth c H locs cells slots Qz (F0 m pc ls (.int x2 :: .int x1 :: .int x0 :: rest)) := by
  obtain ⟨hx, hb, hml, hown, hts, hr, hlk, hK, hZ⟩ := id cx
  exact mm_Si cx hM hS0 (As := [.int x0, .int x1, .int x2]) (M3_in l G x0 x1 x2 σ Qf hw) (va_cwS 3 hts (lw_S q2550 q2551 q172 q2552) rfl rfl rfl (by decide +kernel) hR) rfl hsize rfl hroom hf hdg kk
def w3_end (x1 : Int32) (σ : MS) (Q : Int32 → MS → Prop) : Prop :=
  w3_in x1 (0 : Int32) (gI σ 10) σ (fun r1 s1 => if r1 = 0 then (Q (0 : Int32) s1) else (Q (1 : Int32) (sI s1 10 x1)))
set_option maxHeartbeats 4000000 in
theorem M3_end (l : Launch) (G : mm_G) (x1 : Int32) (σ : MS) (Q : Int32 → MS → Prop) (hw : w3_end x1 σ Q) : mm_Mi l yX3_end (ws_ yX3_end cX3_end 2 (some .boolean)) ({ frames := 1, cells := 0, slots := 0, locals := 40 } : Room) G [.ref (mm_o G), .int x1] σ Q := by
  refine mm_of (by decide) rfl ?_
  intro p e s m args below meth c cx hM ha
  refine mm_entry [.ref (mm_o G), .int x1] 2 [(0, .ref (mm_o G)), (1, .int x1)] ha (Nat.le_of_ble_eq_true rfl) rfl (fun ls hl => ?_)
  have hS : va_S (mm_A G) s.heap s.heap [] := va_S.rf
  unfold w3_end at hw
  obtain ⟨hx, hb, hml, hown, hts, hr, hlk, hMK, hZ⟩ := id cx
  refine lv_iload_n hx hb dX3_end_0 rfl (lv_at hl 1 rfl) ?_
  refine lv_iconst (v := (0 : Int32)) hx hb dX3_end_1 (by decide) ?_
  refine lv_aload_n hx hb dX3_end_2 rfl (lv_at hl 0 rfl) ?_
  refine mg_10 cx hM dX3_end_3 ?_
  refine C3_in cx hM hS hw ⟨Nat.le_of_ble_eq_true rfl, Nat.le_of_ble_eq_true rfl⟩ (Nat.le_of_ble_eq_true rfl) hl.1 ⟨Nat.zero_le _, Nat.zero_le _⟩ dX3_end_6 (fun r1 s1 H locs hw hM hS => ?_)
  refine lv_if_ne (tgt := 14) hx hb dX3_end_9 (by decide) (fun hc => ?_) (fun hc => ?_)
  · have hw := mm_in hc hw
    refine lv_aload_n hx hb dX3_end_14 rfl (lv_at hl 0 rfl) ?_
    refine lv_iload_n hx hb dX3_end_15 rfl (lv_at hl 1 rfl) ?_
    refine mp_10 cx hM hS dX3_end_16 (fun H locs hM hS => ?_)
    refine lv_iconst (v := (1 : Int32)) hx hb dX3_end_19 (by decide) ?_
    exact mm_zret cx hM hS (Or.inr rfl) hw dX3_end_20
  · have hw := mm_ip hc hw
    refine lv_iconst (v := (0 : Int32)) hx hb dX3_end_12 (by decide) ?_
    exact mm_zret cx hM hS (Or.inl rfl) hw dX3_end_13
-- no call of end
def w3_see (x1 : Int32) (σ : MS) (Q : Int32 → MS → Prop) : Prop :=
  if (gI σ 11) ≤ x1 then (Q (-1 : Int32) σ) else (vp_in x1 480 ∧ (Q (gA σ 9 x1.toNatClampNeg) σ))
set_option maxHeartbeats 4000000 in
theorem M3_see (l : Launch) (G : mm_G) (x1 : Int32) (σ : MS) (Q : Int32 → MS → Prop) (hw : w3_see x1 σ Q) : mm_Mi l yX3_see (ws_ yX3_see cX3_see 2 (some .int)) ({ frames := 0, cells := 0, slots := 0, locals := 0 } : Room) G [.ref (mm_o G), .int x1] σ Q := by
  refine mm_of (by decide) rfl ?_
  intro p e s m args below meth c cx hM ha
  refine mm_entry [.ref (mm_o G), .int x1] 2 [(0, .ref (mm_o G)), (1, .int x1)] ha (Nat.le_of_ble_eq_true rfl) rfl (fun ls hl => ?_)
  have hS : va_S (mm_A G) s.heap s.heap [] := va_S.rf
  unfold w3_see at hw
  obtain ⟨hx, hb, hml, hown, hts, hr, hlk, hMK, hZ⟩ := id cx
  refine lv_iload_n hx hb dX3_see_0 rfl (lv_at hl 1 rfl) ?_
  refine lv_aload_n hx hb dX3_see_1 rfl (lv_at hl 0 rfl) ?_
  refine mg_11 cx hM dX3_see_2 ?_
  refine lv_icmp_ge (tgt := 17) hx hb dX3_see_5 (by decide) (fun hc => ?_) (fun hc => ?_)
  · have hw := mm_ip hc hw
    refine lv_iconst (v := (-1 : Int32)) hx hb dX3_see_17 (by decide) ?_
    exact mm_iret cx hM hS hw dX3_see_18
  · have hw := mm_in hc hw
    refine lv_aload_n hx hb dX3_see_8 rfl (lv_at hl 0 rfl) ?_
    refine mg_9 cx hM dX3_see_9 ?_
    refine lv_iload_n hx hb dX3_see_12 rfl (lv_at hl 1 rfl) ?_
    obtain ⟨hi, hw⟩ := hw
    refine mm_iald cx hM 9 rfl rfl hi dX3_see_13 ?_
    refine lv_goto (tgt := 18) hx hb dX3_see_14 (by decide) ?_
    exact mm_iret cx hM hS hw dX3_see_18
theorem C3_see {l : Launch} {p : Program} {e : Env} {R : Room} {s : State} {m : MethodId} {args : Array Value} {below : List Frame} {meth : Method} {c : Code} {H : Heap} {locs : List Loc} {cells slots : Nat} {Qz : State → Prop} {cc : ByteArray} {nL : Nat} {ret : Option FieldType} {G : mm_G} {pc : Nat} {ls : Array Slot} {rest : List Value} {x1 : Int32} {σ : MS} (cx : mm_X cc nL ret G p s m args meth c) (hM : mm_R G σ H) (hS0 : va_S (mm_A G) s.heap H locs) {Qf : Int32 → MS → Prop} (hw : w3_see x1 σ Qf) (hR : (({ frames := 0, cells := 0, slots := 0, locals := 0 } : Room)).frames + 1 ≤ R.frames ∧ 8 + (2 + 11) + (({ frames := 0, cells := 0, slots := 0, locals := 0 } : Room)).locals ≤ R.locals) (hroom : (rest.map fun v => v.category).sum ≤ 8) (hsize : ls.size = nL) (hf : cells ≤ R.cells ∧ slots ≤ R.slots) (hdg : decode cc pc = .ok (.invokevirtual 95, 3))
    (kk : ∀ (r : Int32) (σ1 : MS) (H1 : Heap) (locs1 : List Loc), Qf r σ1 → mm_R G σ1 H1 → va_S (mm_A G) s.heap H1 locs1 → W p l e R s m args below meth c H1 locs1 cells slots Qz (F0 m (pc + 3) ls (.int r :: rest))) : W p l e R s m args below meth c H locs cells slots Qz (F0 m pc ls (.int x1 :: .ref (mm_o G) :: rest)) := by
  obtain ⟨hx, hb, hml, hown, hts, hr, hlk, hK, hZ⟩ := id cx
  exact mm_Vi cx hM hS0 (As := [.int x1]) (M3_see l G x1 σ Qf hw) (cwV 1 hts (lw_V q2565 q2567 qs83 q172 q2568) rfl rfl rfl (by decide +kernel) hR) rfl hsize rfl hroom hf hdg kk
def w3_next_367 (Q : MS → Prop) (t1 : Int32) (σ : MS) : Prop :=
  Q (sI σ 14 t1)
set_option maxHeartbeats 4000000 in
theorem B3_next_367 {l : Launch} {p : Program} {e : Env} {s : State} {m : MethodId} {args : Array Value} {below : List Frame} {meth : Method} {c : Code} {G : mm_G} {Q : MS → Prop} (cx : mm_X cX3_next 2 none G p s m args meth c) : ∀ (t1 : Int32) (σ : MS), w3_next_367 Q t1 σ → mm_T p l e ({ frames := 1, cells := 0, slots := 0, locals := 40 } : Room) s m args below meth c G (mm_Qv G Q) 2 367 σ [(0, .ref (mm_o G))] [.int t1, .ref (mm_o G)] := by
  intro t1 σ hw H locs ls hM hS hl
  unfold w3_next_367 at hw
  obtain ⟨hx, hb, hml, hown, hts, hr, hlk, hMK, hZ⟩ := id cx
  refine mp_14 cx hM hS dX3_next_367 (fun H locs hM hS => ?_)
  exact mm_vret cx hM hS hw dX3_next_370
def w3_next_362 (Q : MS → Prop) (σ : MS) : Prop :=
  w3_next_367 Q (4 : Int32) σ
set_option maxHeartbeats 4000000 in
theorem B3_next_362 {l : Launch} {p : Program} {e : Env} {s : State} {m : MethodId} {args : Array Value} {below : List Frame} {meth : Method} {c : Code} {G : mm_G} {Q : MS → Prop} (cx : mm_X cX3_next 2 none G p s m args meth c) : ∀ (σ : MS), w3_next_362 Q σ → mm_T p l e ({ frames := 1, cells := 0, slots := 0, locals := 40 } : Room) s m args below meth c G (mm_Qv G Q) 2 362 σ [(0, .ref (mm_o G))] [.ref (mm_o G)] := by
  intro σ hw H locs ls hM hS hl
  unfold w3_next_362 at hw
  obtain ⟨hx, hb, hml, hown, hts, hr, hlk, hMK, hZ⟩ := id cx
  refine lv_iconst (v := (4 : Int32)) hx hb dX3_next_362 (by decide) ?_
  refine lv_goto (tgt := 367) hx hb dX3_next_363 (by decide) ?_
  exact B3_next_367 cx _ _ hw _ _ _ hM hS (lv_sub hl [0] rfl)
def w3_next_298 (Q : MS → Prop) (t1 : Int32) (σ : MS) : Prop :=
  Q (sI σ 14 t1)
set_option maxHeartbeats 4000000 in
theorem B3_next_298 {l : Launch} {p : Program} {e : Env} {s : State} {m : MethodId} {args : Array Value} {below : List Frame} {meth : Method} {c : Code} {G : mm_G} {Q : MS → Prop} (cx : mm_X cX3_next 2 none G p s m args meth c) : ∀ (t1 : Int32) (σ : MS), w3_next_298 Q t1 σ → mm_T p l e ({ frames := 1, cells := 0, slots := 0, locals := 40 } : Room) s m args below meth c G (mm_Qv G Q) 2 298 σ [(0, .ref (mm_o G))] [.int t1, .ref (mm_o G)] := by
  intro t1 σ hw H locs ls hM hS hl
  unfold w3_next_298 at hw
  obtain ⟨hx, hb, hml, hown, hts, hr, hlk, hMK, hZ⟩ := id cx
  refine mp_14 cx hM hS dX3_next_298 (fun H locs hM hS => ?_)
  refine lv_goto (tgt := 370) hx hb dX3_next_301 (by decide) ?_
  exact mm_vret cx hM hS hw dX3_next_370
def w3_next_263 (Q : MS → Prop) (K205 : MS → Prop) (t1 : Int32) (σ : MS) : Prop :=
  K205 (sI (sI σ 15 t1) 12 ((gI (sI σ 15 t1) 12) + (1 : Int32)))
set_option maxHeartbeats 4000000 in
theorem B3_next_263 {l : Launch} {p : Program} {e : Env} {s : State} {m : MethodId} {args : Array Value} {below : List Frame} {meth : Method} {c : Code} {G : mm_G} {Q : MS → Prop} {K205 : MS → Prop} (cx : mm_X cX3_next 2 none G p s m args meth c) (hK205 : ∀ (σ : MS), K205 σ → mm_T p l e ({ frames := 1, cells := 0, slots := 0, locals := 40 } : Room) s m args below meth c G (mm_Qv G Q) 2 205 σ [(0, .ref (mm_o G))] []) : ∀ (t1 : Int32) (σ : MS), w3_next_263 Q K205 t1 σ → mm_T p l e ({ frames := 1, cells := 0, slots := 0, locals := 40 } : Room) s m args below meth c G (mm_Qv G Q) 2 263 σ [(0, .ref (mm_o G))] [.int t1, .ref (mm_o G)] := by
  intro t1 σ hw H locs ls hM hS hl
  unfold w3_next_263 at hw
  obtain ⟨hx, hb, hml, hown, hts, hr, hlk, hMK, hZ⟩ := id cx
  refine mp_15 cx hM hS dX3_next_263 (fun H locs hM hS => ?_)
  refine lv_aload_n hx hb dX3_next_266 rfl (lv_at hl 0 rfl) ?_
  refine lv_dup hx hb dX3_next_267 rfl ?_
  refine mg_12 cx hM dX3_next_268 ?_
  refine lv_iconst (v := (1 : Int32)) hx hb dX3_next_271 (by decide) ?_
  refine lv_iadd hx hb dX3_next_272 ?_
  refine mp_12 cx hM hS dX3_next_273 (fun H locs hM hS => ?_)
  refine lv_goto (tgt := 205) hx hb dX3_next_276 (by decide) ?_
  exact hK205 _ hw _ _ _ hM hS (lv_sub hl [0] rfl)
def w3_next_205 (Q : MS → Prop) (K205 : MS → Prop) (σ : MS) : Prop :=
  w3_see (gI σ 12) σ (fun r1 s1 => w3_in r1 (48 : Int32) (57 : Int32) s1 (fun r2 s2 => if r2 = 0 then (if ((gI s2 12) - (gI s2 13)) ≤ (3 : Int32) then (w3_next_298 Q (3 : Int32) s2) else (w3_next_298 Q (1 : Int32) s2)) else (if (3 : Int32) ≤ ((gI s2 12) - (gI s2 13)) then (w3_next_263 Q K205 (gI s2 15) s2) else (w3_see (gI s2 12) s2 (fun r3 s3 => w3_next_263 Q K205 ((((10 : Int32) * (gI s2 15)) + r3) - (48 : Int32)) s3)))))
set_option maxHeartbeats 4000000 in
theorem B3_next_205 {l : Launch} {p : Program} {e : Env} {s : State} {m : MethodId} {args : Array Value} {below : List Frame} {meth : Method} {c : Code} {G : mm_G} {Q : MS → Prop} {K205 : MS → Prop} (cx : mm_X cX3_next 2 none G p s m args meth c) (hK205 : ∀ (σ : MS), K205 σ → mm_T p l e ({ frames := 1, cells := 0, slots := 0, locals := 40 } : Room) s m args below meth c G (mm_Qv G Q) 2 205 σ [(0, .ref (mm_o G))] []) : ∀ (σ : MS), w3_next_205 Q K205 σ → mm_T p l e ({ frames := 1, cells := 0, slots := 0, locals := 40 } : Room) s m args below meth c G (mm_Qv G Q) 2 205 σ [(0, .ref (mm_o G))] [] := by
  intro σ hw H locs ls hM hS hl
  unfold w3_next_205 at hw
  obtain ⟨hx, hb, hml, hown, hts, hr, hlk, hMK, hZ⟩ := id cx
  refine lv_aload_n hx hb dX3_next_205 rfl (lv_at hl 0 rfl) ?_
  refine lv_aload_n hx hb dX3_next_206 rfl (lv_at hl 0 rfl) ?_
  refine mg_12 cx hM dX3_next_207 ?_
  refine C3_see cx hM hS hw ⟨Nat.le_of_ble_eq_true rfl, Nat.le_of_ble_eq_true rfl⟩ (Nat.le_of_ble_eq_true rfl) hl.1 ⟨Nat.zero_le _, Nat.zero_le _⟩ dX3_next_210 (fun r1 s1 H locs hw hM hS => ?_)
  refine lv_bipush (v := (48 : Int32)) hx hb dX3_next_213 (by decide) ?_
  refine lv_bipush (v := (57 : Int32)) hx hb dX3_next_215 (by decide) ?_
  refine C3_in cx hM hS hw ⟨Nat.le_of_ble_eq_true rfl, Nat.le_of_ble_eq_true rfl⟩ (Nat.le_of_ble_eq_true rfl) hl.1 ⟨Nat.zero_le _, Nat.zero_le _⟩ dX3_next_217 (fun r2 s2 H locs hw hM hS => ?_)
  refine lv_if_eq (tgt := 279) hx hb dX3_next_220 (by decide) (fun hc => ?_) (fun hc => ?_)
  · have hw := mm_ip hc hw
    refine lv_aload_n hx hb dX3_next_279 rfl (lv_at hl 0 rfl) ?_
    refine lv_aload_n hx hb dX3_next_280 rfl (lv_at hl 0 rfl) ?_
    refine mg_12 cx hM dX3_next_281 ?_
    refine lv_aload_n hx hb dX3_next_284 rfl (lv_at hl 0 rfl) ?_
    refine mg_13 cx hM dX3_next_285 ?_
    refine lv_isub hx hb dX3_next_288 ?_
    refine lv_iconst (v := (3 : Int32)) hx hb dX3_next_289 (by decide) ?_
    refine lv_icmp_le (tgt := 297) hx hb dX3_next_290 (by decide) (fun hc => ?_) (fun hc => ?_)
    · have hw := mm_ip hc hw
      refine lv_iconst (v := (3 : Int32)) hx hb dX3_next_297 (by decide) ?_
      exact B3_next_298 cx _ _ hw _ _ _ hM hS (lv_sub hl [0] rfl)
    · have hw := mm_in hc hw
      refine lv_iconst (v := (1 : Int32)) hx hb dX3_next_293 (by decide) ?_
      refine lv_goto (tgt := 298) hx hb dX3_next_294 (by decide) ?_
      exact B3_next_298 cx _ _ hw _ _ _ hM hS (lv_sub hl [0] rfl)
  · have hw := mm_in hc hw
    refine lv_aload_n hx hb dX3_next_223 rfl (lv_at hl 0 rfl) ?_
    refine lv_aload_n hx hb dX3_next_224 rfl (lv_at hl 0 rfl) ?_
    refine mg_12 cx hM dX3_next_225 ?_
    refine lv_aload_n hx hb dX3_next_228 rfl (lv_at hl 0 rfl) ?_
    refine mg_13 cx hM dX3_next_229 ?_
    refine lv_isub hx hb dX3_next_232 ?_
    refine lv_iconst (v := (3 : Int32)) hx hb dX3_next_233 (by decide) ?_
    refine lv_icmp_ge (tgt := 259) hx hb dX3_next_234 (by decide) (fun hc => ?_) (fun hc => ?_)
    · have hw := mm_ip hc hw
      refine lv_aload_n hx hb dX3_next_259 rfl (lv_at hl 0 rfl) ?_
      refine mg_15 cx hM dX3_next_260 ?_
      exact B3_next_263 cx hK205 _ _ hw _ _ _ hM hS (lv_sub hl [0] rfl)
    · have hw := mm_in hc hw
      refine lv_bipush (v := (10 : Int32)) hx hb dX3_next_237 (by decide) ?_
      refine lv_aload_n hx hb dX3_next_239 rfl (lv_at hl 0 rfl) ?_
      refine mg_15 cx hM dX3_next_240 ?_
      refine lv_imul hx hb dX3_next_243 ?_
      refine lv_aload_n hx hb dX3_next_244 rfl (lv_at hl 0 rfl) ?_
      refine lv_aload_n hx hb dX3_next_245 rfl (lv_at hl 0 rfl) ?_
      refine mg_12 cx hM dX3_next_246 ?_
      refine C3_see cx hM hS hw ⟨Nat.le_of_ble_eq_true rfl, Nat.le_of_ble_eq_true rfl⟩ (Nat.le_of_ble_eq_true rfl) hl.1 ⟨Nat.zero_le _, Nat.zero_le _⟩ dX3_next_249 (fun r3 s3 H locs hw hM hS => ?_)
      refine lv_iadd hx hb dX3_next_252 ?_
      refine lv_bipush (v := (48 : Int32)) hx hb dX3_next_253 (by decide) ?_
      refine lv_isub hx hb dX3_next_255 ?_
      refine lv_goto (tgt := 263) hx hb dX3_next_256 (by decide) ?_
      exact B3_next_263 cx hK205 _ _ hw _ _ _ hM hS (lv_sub hl [0] rfl)
theorem L3_next_205 {l : Launch} {p : Program} {e : Env} {s : State} {m : MethodId} {args : Array Value} {below : List Frame} {meth : Method} {c : Code} {G : mm_G} {Q : MS → Prop} (cx : mm_X cX3_next 2 none G p s m args meth c) : ∀ (σ : MS), lp1F (w3_next_205 Q) σ → mm_T p l e ({ frames := 1, cells := 0, slots := 0, locals := 40 } : Room) s m args below meth c G (mm_Qv G Q) 2 205 σ [(0, .ref (mm_o G))] [] :=
  lp1F_of (fun K hK => B3_next_205 cx hK)
def w3_next_188 (Q : MS → Prop) (t1 : Int32) (σ : MS) : Prop :=
  Q (sI σ 14 t1)
set_option maxHeartbeats 4000000 in
theorem B3_next_188 {l : Launch} {p : Program} {e : Env} {s : State} {m : MethodId} {args : Array Value} {below : List Frame} {meth : Method} {c : Code} {G : mm_G} {Q : MS → Prop} (cx : mm_X cX3_next 2 none G p s m args meth c) : ∀ (t1 : Int32) (σ : MS), w3_next_188 Q t1 σ → mm_T p l e ({ frames := 1, cells := 0, slots := 0, locals := 40 } : Room) s m args below meth c G (mm_Qv G Q) 2 188 σ [(0, .ref (mm_o G))] [.int t1, .ref (mm_o G)] := by
  intro t1 σ hw H locs ls hM hS hl
  unfold w3_next_188 at hw
  obtain ⟨hx, hb, hml, hown, hts, hr, hlk, hMK, hZ⟩ := id cx
  refine mp_14 cx hM hS dX3_next_188 (fun H locs hM hS => ?_)
  refine lv_goto (tgt := 370) hx hb dX3_next_191 (by decide) ?_
  exact mm_vret cx hM hS hw dX3_next_370
def w3_next_152 (Q : MS → Prop) (K90 : MS → Prop) (t1 : Int64) (σ : MS) : Prop :=
  K90 (sI (sL σ 21 t1) 12 ((gI (sL σ 21 t1) 12) + (1 : Int32)))
set_option maxHeartbeats 4000000 in
theorem B3_next_152 {l : Launch} {p : Program} {e : Env} {s : State} {m : MethodId} {args : Array Value} {below : List Frame} {meth : Method} {c : Code} {G : mm_G} {Q : MS → Prop} {K90 : MS → Prop} (cx : mm_X cX3_next 2 none G p s m args meth c) (hK90 : ∀ (σ : MS), K90 σ → mm_T p l e ({ frames := 1, cells := 0, slots := 0, locals := 40 } : Room) s m args below meth c G (mm_Qv G Q) 2 90 σ [(0, .ref (mm_o G))] []) : ∀ (t1 : Int64) (σ : MS), w3_next_152 Q K90 t1 σ → mm_T p l e ({ frames := 1, cells := 0, slots := 0, locals := 40 } : Room) s m args below meth c G (mm_Qv G Q) 2 152 σ [(0, .ref (mm_o G))] [.long t1, .ref (mm_o G)] := by
  intro t1 σ hw H locs ls hM hS hl
  unfold w3_next_152 at hw
  obtain ⟨hx, hb, hml, hown, hts, hr, hlk, hMK, hZ⟩ := id cx
  refine mp_21 cx hM hS dX3_next_152 (fun H locs hM hS => ?_)
  refine lv_aload_n hx hb dX3_next_155 rfl (lv_at hl 0 rfl) ?_
  refine lv_dup hx hb dX3_next_156 rfl ?_
  refine mg_12 cx hM dX3_next_157 ?_
  refine lv_iconst (v := (1 : Int32)) hx hb dX3_next_160 (by decide) ?_
  refine lv_iadd hx hb dX3_next_161 ?_
  refine mp_12 cx hM hS dX3_next_162 (fun H locs hM hS => ?_)
  refine lv_goto (tgt := 90) hx hb dX3_next_165 (by decide) ?_
  exact hK90 _ hw _ _ _ hM hS (lv_sub hl [0] rfl)
def w3_next_90 (Q : MS → Prop) (K90 : MS → Prop) (σ : MS) : Prop :=
  w3_see (gI σ 12) σ (fun r4 s4 => w3_in r4 (97 : Int32) (122 : Int32) s4 (fun r5 s5 => if r5 = 0 then (if ((gI s5 12) - (gI s5 13)) ≤ (6 : Int32) then (w3_next_188 Q (2 : Int32) s5) else (w3_next_188 Q (1 : Int32) s5)) else (if (6 : Int32) ≤ ((gI s5 12) - (gI s5 13)) then (w3_next_152 Q K90 (gL s5 21) s5) else (w3_see (gI s5 12) s5 (fun r6 s6 => w3_next_152 Q K90 ((((27 : Int64) * (gL s5 21)) + (r6).toInt64) - (96 : Int64)) s6)))))
set_option maxHeartbeats 4000000 in
theorem B3_next_90 {l : Launch} {p : Program} {e : Env} {s : State} {m : MethodId} {args : Array Value} {below : List Frame} {meth : Method} {c : Code} {G : mm_G} {Q : MS → Prop} {K90 : MS → Prop} (cx : mm_X cX3_next 2 none G p s m args meth c) (hK90 : ∀ (σ : MS), K90 σ → mm_T p l e ({ frames := 1, cells := 0, slots := 0, locals := 40 } : Room) s m args below meth c G (mm_Qv G Q) 2 90 σ [(0, .ref (mm_o G))] []) : ∀ (σ : MS), w3_next_90 Q K90 σ → mm_T p l e ({ frames := 1, cells := 0, slots := 0, locals := 40 } : Room) s m args below meth c G (mm_Qv G Q) 2 90 σ [(0, .ref (mm_o G))] [] := by
  intro σ hw H locs ls hM hS hl
  unfold w3_next_90 at hw
  obtain ⟨hx, hb, hml, hown, hts, hr, hlk, hMK, hZ⟩ := id cx
  refine lv_aload_n hx hb dX3_next_90 rfl (lv_at hl 0 rfl) ?_
  refine lv_aload_n hx hb dX3_next_91 rfl (lv_at hl 0 rfl) ?_
  refine mg_12 cx hM dX3_next_92 ?_
  refine C3_see cx hM hS hw ⟨Nat.le_of_ble_eq_true rfl, Nat.le_of_ble_eq_true rfl⟩ (Nat.le_of_ble_eq_true rfl) hl.1 ⟨Nat.zero_le _, Nat.zero_le _⟩ dX3_next_95 (fun r4 s4 H locs hw hM hS => ?_)
  refine lv_bipush (v := (97 : Int32)) hx hb dX3_next_98 (by decide) ?_
  refine lv_bipush (v := (122 : Int32)) hx hb dX3_next_100 (by decide) ?_
  refine C3_in cx hM hS hw ⟨Nat.le_of_ble_eq_true rfl, Nat.le_of_ble_eq_true rfl⟩ (Nat.le_of_ble_eq_true rfl) hl.1 ⟨Nat.zero_le _, Nat.zero_le _⟩ dX3_next_102 (fun r5 s5 H locs hw hM hS => ?_)
  refine lv_if_eq (tgt := 168) hx hb dX3_next_105 (by decide) (fun hc => ?_) (fun hc => ?_)
  · have hw := mm_ip hc hw
    refine lv_aload_n hx hb dX3_next_168 rfl (lv_at hl 0 rfl) ?_
    refine lv_aload_n hx hb dX3_next_169 rfl (lv_at hl 0 rfl) ?_
    refine mg_12 cx hM dX3_next_170 ?_
    refine lv_aload_n hx hb dX3_next_173 rfl (lv_at hl 0 rfl) ?_
    refine mg_13 cx hM dX3_next_174 ?_
    refine lv_isub hx hb dX3_next_177 ?_
    refine lv_bipush (v := (6 : Int32)) hx hb dX3_next_178 (by decide) ?_
    refine lv_icmp_le (tgt := 187) hx hb dX3_next_180 (by decide) (fun hc => ?_) (fun hc => ?_)
    · have hw := mm_ip hc hw
      refine lv_iconst (v := (2 : Int32)) hx hb dX3_next_187 (by decide) ?_
      exact B3_next_188 cx _ _ hw _ _ _ hM hS (lv_sub hl [0] rfl)
    · have hw := mm_in hc hw
      refine lv_iconst (v := (1 : Int32)) hx hb dX3_next_183 (by decide) ?_
      refine lv_goto (tgt := 188) hx hb dX3_next_184 (by decide) ?_
      exact B3_next_188 cx _ _ hw _ _ _ hM hS (lv_sub hl [0] rfl)
  · have hw := mm_in hc hw
    refine lv_aload_n hx hb dX3_next_108 rfl (lv_at hl 0 rfl) ?_
    refine lv_aload_n hx hb dX3_next_109 rfl (lv_at hl 0 rfl) ?_
    refine mg_12 cx hM dX3_next_110 ?_
    refine lv_aload_n hx hb dX3_next_113 rfl (lv_at hl 0 rfl) ?_
    refine mg_13 cx hM dX3_next_114 ?_
    refine lv_isub hx hb dX3_next_117 ?_
    refine lv_bipush (v := (6 : Int32)) hx hb dX3_next_118 (by decide) ?_
    refine lv_icmp_ge (tgt := 148) hx hb dX3_next_120 (by decide) (fun hc => ?_) (fun hc => ?_)
    · have hw := mm_ip hc hw
      refine lv_aload_n hx hb dX3_next_148 rfl (lv_at hl 0 rfl) ?_
      refine mg_21 cx hM dX3_next_149 ?_
      exact B3_next_152 cx hK90 _ _ hw _ _ _ hM hS (lv_sub hl [0] rfl)
    · have hw := mm_in hc hw
      refine lv_ldc2 (v := (27 : Int64)) hx hb hown (hts _ q2569) dX3_next_123 ?_
      refine lv_aload_n hx hb dX3_next_126 rfl (lv_at hl 0 rfl) ?_
      refine mg_21 cx hM dX3_next_127 ?_
      refine lv_lmul hx hb dX3_next_130 ?_
      refine lv_aload_n hx hb dX3_next_131 rfl (lv_at hl 0 rfl) ?_
      refine lv_aload_n hx hb dX3_next_132 rfl (lv_at hl 0 rfl) ?_
      refine mg_12 cx hM dX3_next_133 ?_
      refine C3_see cx hM hS hw ⟨Nat.le_of_ble_eq_true rfl, Nat.le_of_ble_eq_true rfl⟩ (Nat.le_of_ble_eq_true rfl) hl.1 ⟨Nat.zero_le _, Nat.zero_le _⟩ dX3_next_136 (fun r6 s6 H locs hw hM hS => ?_)
      refine lv_i2l hx hb dX3_next_139 rfl ?_
      refine lv_ladd hx hb dX3_next_140 ?_
      refine lv_ldc2 (v := (96 : Int64)) hx hb hown (hts _ q2570) dX3_next_141 ?_
      refine lv_lsub hx hb dX3_next_144 ?_
      refine lv_goto (tgt := 152) hx hb dX3_next_145 (by decide) ?_
      exact B3_next_152 cx hK90 _ _ hw _ _ _ hM hS (lv_sub hl [0] rfl)
theorem L3_next_90 {l : Launch} {p : Program} {e : Env} {s : State} {m : MethodId} {args : Array Value} {below : List Frame} {meth : Method} {c : Code} {G : mm_G} {Q : MS → Prop} (cx : mm_X cX3_next 2 none G p s m args meth c) : ∀ (σ : MS), lp1F (w3_next_90 Q) σ → mm_T p l e ({ frames := 1, cells := 0, slots := 0, locals := 40 } : Room) s m args below meth c G (mm_Qv G Q) 2 90 σ [(0, .ref (mm_o G))] [] :=
  lp1F_of (fun K hK => B3_next_90 cx hK)
def w3_next_26 (Q : MS → Prop) (K0 : MS → Prop) (σ : MS) : Prop :=
  K0 (sI σ 12 ((gI σ 12) + (1 : Int32)))
set_option maxHeartbeats 4000000 in
theorem B3_next_26 {l : Launch} {p : Program} {e : Env} {s : State} {m : MethodId} {args : Array Value} {below : List Frame} {meth : Method} {c : Code} {G : mm_G} {Q : MS → Prop} {K0 : MS → Prop} (cx : mm_X cX3_next 2 none G p s m args meth c) (hK0 : ∀ (σ : MS), K0 σ → mm_T p l e ({ frames := 1, cells := 0, slots := 0, locals := 40 } : Room) s m args below meth c G (mm_Qv G Q) 2 0 σ [(0, .ref (mm_o G))] []) : ∀ (σ : MS), w3_next_26 Q K0 σ → mm_T p l e ({ frames := 1, cells := 0, slots := 0, locals := 40 } : Room) s m args below meth c G (mm_Qv G Q) 2 26 σ [(0, .ref (mm_o G))] [] := by
  intro σ hw H locs ls hM hS hl
  unfold w3_next_26 at hw
  obtain ⟨hx, hb, hml, hown, hts, hr, hlk, hMK, hZ⟩ := id cx
  refine lv_aload_n hx hb dX3_next_26 rfl (lv_at hl 0 rfl) ?_
  refine lv_dup hx hb dX3_next_27 rfl ?_
  refine mg_12 cx hM dX3_next_28 ?_
  refine lv_iconst (v := (1 : Int32)) hx hb dX3_next_31 (by decide) ?_
  refine lv_iadd hx hb dX3_next_32 ?_
  refine mp_12 cx hM hS dX3_next_33 (fun H locs hM hS => ?_)
  refine lv_goto (tgt := 0) hx hb dX3_next_36 (by decide) ?_
  exact hK0 _ hw _ _ _ hM hS (lv_sub hl [0] rfl)
def w3_next_0 (Q : MS → Prop) (K0 : MS → Prop) (σ : MS) : Prop :=
  w3_see (gI σ 12) σ (fun r7 s7 => if r7 = (32 : Int32) then (w3_next_26 Q K0 s7) else (w3_see (gI s7 12) s7 (fun r8 s8 => if r8 = (10 : Int32) then (w3_next_26 Q K0 s8) else (w3_see (gI (sL (sI (sI s8 13 (gI s8 12)) 15 (0 : Int32)) 21 (0 : Int64)) 12) (sL (sI (sI s8 13 (gI s8 12)) 15 (0 : Int32)) 21 (0 : Int64)) (fun r9 s9 => if r9 = (-1 : Int32) then (Q (sI s9 14 (0 : Int32))) else (w3_in r9 (97 : Int32) (122 : Int32) s9 (fun r10 s10 => if r10 = 0 then (w3_in r9 (48 : Int32) (57 : Int32) s10 (fun r11 s11 => if r11 = 0 then (if r9 = (33 : Int32) then (w3_next_362 Q (sI (sI s11 12 ((gI s11 12) + (1 : Int32))) 15 r9)) else (if r9 = (38 : Int32) then (w3_next_362 Q (sI (sI s11 12 ((gI s11 12) + (1 : Int32))) 15 r9)) else (if r9 = (124 : Int32) then (w3_next_362 Q (sI (sI s11 12 ((gI s11 12) + (1 : Int32))) 15 r9)) else (if r9 = (40 : Int32) then (w3_next_362 Q (sI (sI s11 12 ((gI s11 12) + (1 : Int32))) 15 r9)) else (if r9 = (41 : Int32) then (w3_next_362 Q (sI (sI s11 12 ((gI s11 12) + (1 : Int32))) 15 r9)) else (if r9 = (44 : Int32) then (w3_next_362 Q (sI (sI s11 12 ((gI s11 12) + (1 : Int32))) 15 r9)) else (if r9 = (59 : Int32) then (w3_next_362 Q (sI (sI s11 12 ((gI s11 12) + (1 : Int32))) 15 r9)) else (w3_next_367 Q (1 : Int32) (sI (sI s11 12 ((gI s11 12) + (1 : Int32))) 15 r9))))))))) else (lp1F (w3_next_205 Q) s11))) else (lp1F (w3_next_90 Q) s10))))))))
set_option maxHeartbeats 4000000 in
theorem B3_next_0 {l : Launch} {p : Program} {e : Env} {s : State} {m : MethodId} {args : Array Value} {below : List Frame} {meth : Method} {c : Code} {G : mm_G} {Q : MS → Prop} {K0 : MS → Prop} (cx : mm_X cX3_next 2 none G p s m args meth c) (hK0 : ∀ (σ : MS), K0 σ → mm_T p l e ({ frames := 1, cells := 0, slots := 0, locals := 40 } : Room) s m args below meth c G (mm_Qv G Q) 2 0 σ [(0, .ref (mm_o G))] []) : ∀ (σ : MS), w3_next_0 Q K0 σ → mm_T p l e ({ frames := 1, cells := 0, slots := 0, locals := 40 } : Room) s m args below meth c G (mm_Qv G Q) 2 0 σ [(0, .ref (mm_o G))] [] := by
  intro σ hw H locs ls hM hS hl
  unfold w3_next_0 at hw
  obtain ⟨hx, hb, hml, hown, hts, hr, hlk, hMK, hZ⟩ := id cx
  refine lv_aload_n hx hb dX3_next_0 rfl (lv_at hl 0 rfl) ?_
  refine lv_aload_n hx hb dX3_next_1 rfl (lv_at hl 0 rfl) ?_
  refine mg_12 cx hM dX3_next_2 ?_
  refine C3_see cx hM hS hw ⟨Nat.le_of_ble_eq_true rfl, Nat.le_of_ble_eq_true rfl⟩ (Nat.le_of_ble_eq_true rfl) hl.1 ⟨Nat.zero_le _, Nat.zero_le _⟩ dX3_next_5 (fun r7 s7 H locs hw hM hS => ?_)
  refine lv_bipush (v := (32 : Int32)) hx hb dX3_next_8 (by decide) ?_
  refine lv_icmp_eq (tgt := 26) hx hb dX3_next_10 (by decide) (fun hc => ?_) (fun hc => ?_)
  · have hw := mm_ip hc hw
    exact B3_next_26 cx hK0 _ hw _ _ _ hM hS (lv_sub hl [0] rfl)
  · have hw := mm_in hc hw
    refine lv_aload_n hx hb dX3_next_13 rfl (lv_at hl 0 rfl) ?_
    refine lv_aload_n hx hb dX3_next_14 rfl (lv_at hl 0 rfl) ?_
    refine mg_12 cx hM dX3_next_15 ?_
    refine C3_see cx hM hS hw ⟨Nat.le_of_ble_eq_true rfl, Nat.le_of_ble_eq_true rfl⟩ (Nat.le_of_ble_eq_true rfl) hl.1 ⟨Nat.zero_le _, Nat.zero_le _⟩ dX3_next_18 (fun r8 s8 H locs hw hM hS => ?_)
    refine lv_bipush (v := (10 : Int32)) hx hb dX3_next_21 (by decide) ?_
    refine lv_icmp_ne (tgt := 39) hx hb dX3_next_23 (by decide) (fun hc => ?_) (fun hc => ?_)
    · have hw := mm_in hc hw
      refine lv_aload_n hx hb dX3_next_39 rfl (lv_at hl 0 rfl) ?_
      refine lv_aload_n hx hb dX3_next_40 rfl (lv_at hl 0 rfl) ?_
      refine mg_12 cx hM dX3_next_41 ?_
      refine mp_13 cx hM hS dX3_next_44 (fun H locs hM hS => ?_)
      refine lv_aload_n hx hb dX3_next_47 rfl (lv_at hl 0 rfl) ?_
      refine lv_iconst (v := (0 : Int32)) hx hb dX3_next_48 (by decide) ?_
      refine mp_15 cx hM hS dX3_next_49 (fun H locs hM hS => ?_)
      refine lv_aload_n hx hb dX3_next_52 rfl (lv_at hl 0 rfl) ?_
      refine lv_lconst (v := (0 : Int64)) hx hb dX3_next_53 rfl ?_
      refine mp_21 cx hM hS dX3_next_54 (fun H locs hM hS => ?_)
      refine lv_aload_n hx hb dX3_next_57 rfl (lv_at hl 0 rfl) ?_
      refine lv_aload_n hx hb dX3_next_58 rfl (lv_at hl 0 rfl) ?_
      refine mg_12 cx hM dX3_next_59 ?_
      refine C3_see cx hM hS hw ⟨Nat.le_of_ble_eq_true rfl, Nat.le_of_ble_eq_true rfl⟩ (Nat.le_of_ble_eq_true rfl) hl.1 ⟨Nat.zero_le _, Nat.zero_le _⟩ dX3_next_62 (fun r9 s9 H locs hw hM hS => ?_)
      refine lv_istore_n (lv' := [(1, .int r9), (0, .ref (mm_o G))]) hx hb dX3_next_65 rfl hl (by decide) rfl (fun ls hl => ?_)
      refine lv_iload_n hx hb dX3_next_66 rfl (lv_at hl 0 rfl) ?_
      refine lv_iconst (v := (-1 : Int32)) hx hb dX3_next_67 (by decide) ?_
      refine lv_icmp_ne (tgt := 79) hx hb dX3_next_68 (by decide) (fun hc => ?_) (fun hc => ?_)
      · have hw := mm_in hc hw
        refine lv_iload_n hx hb dX3_next_79 rfl (lv_at hl 0 rfl) ?_
        refine lv_bipush (v := (97 : Int32)) hx hb dX3_next_80 (by decide) ?_
        refine lv_bipush (v := (122 : Int32)) hx hb dX3_next_82 (by decide) ?_
        refine C3_in cx hM hS hw ⟨Nat.le_of_ble_eq_true rfl, Nat.le_of_ble_eq_true rfl⟩ (Nat.le_of_ble_eq_true rfl) hl.1 ⟨Nat.zero_le _, Nat.zero_le _⟩ dX3_next_84 (fun r10 s10 H locs hw hM hS => ?_)
        refine lv_if_eq (tgt := 194) hx hb dX3_next_87 (by decide) (fun hc => ?_) (fun hc => ?_)
        · have hw := mm_ip hc hw
          refine lv_iload_n hx hb dX3_next_194 rfl (lv_at hl 0 rfl) ?_
          refine lv_bipush (v := (48 : Int32)) hx hb dX3_next_195 (by decide) ?_
          refine lv_bipush (v := (57 : Int32)) hx hb dX3_next_197 (by decide) ?_
          refine C3_in cx hM hS hw ⟨Nat.le_of_ble_eq_true rfl, Nat.le_of_ble_eq_true rfl⟩ (Nat.le_of_ble_eq_true rfl) hl.1 ⟨Nat.zero_le _, Nat.zero_le _⟩ dX3_next_199 (fun r11 s11 H locs hw hM hS => ?_)
          refine lv_if_eq (tgt := 304) hx hb dX3_next_202 (by decide) (fun hc => ?_) (fun hc => ?_)
          · have hw := mm_ip hc hw
            refine lv_aload_n hx hb dX3_next_304 rfl (lv_at hl 1 rfl) ?_
            refine lv_dup hx hb dX3_next_305 rfl ?_
            refine mg_12 cx hM dX3_next_306 ?_
            refine lv_iconst (v := (1 : Int32)) hx hb dX3_next_309 (by decide) ?_
            refine lv_iadd hx hb dX3_next_310 ?_
            refine mp_12 cx hM hS dX3_next_311 (fun H locs hM hS => ?_)
            refine lv_aload_n hx hb dX3_next_314 rfl (lv_at hl 1 rfl) ?_
            refine lv_iload_n hx hb dX3_next_315 rfl (lv_at hl 0 rfl) ?_
            refine mp_15 cx hM hS dX3_next_316 (fun H locs hM hS => ?_)
            refine lv_aload_n hx hb dX3_next_319 rfl (lv_at hl 1 rfl) ?_
            refine lv_iload_n hx hb dX3_next_320 rfl (lv_at hl 0 rfl) ?_
            refine lv_bipush (v := (33 : Int32)) hx hb dX3_next_321 (by decide) ?_
            refine lv_icmp_eq (tgt := 362) hx hb dX3_next_323 (by decide) (fun hc => ?_) (fun hc => ?_)
            · have hw := mm_ip hc hw
              exact B3_next_362 cx _ hw _ _ _ hM hS (lv_sub hl [1] rfl)
            · have hw := mm_in hc hw
              refine lv_iload_n hx hb dX3_next_326 rfl (lv_at hl 0 rfl) ?_
              refine lv_bipush (v := (38 : Int32)) hx hb dX3_next_327 (by decide) ?_
              refine lv_icmp_eq (tgt := 362) hx hb dX3_next_329 (by decide) (fun hc => ?_) (fun hc => ?_)
              · have hw := mm_ip hc hw
                exact B3_next_362 cx _ hw _ _ _ hM hS (lv_sub hl [1] rfl)
              · have hw := mm_in hc hw
                refine lv_iload_n hx hb dX3_next_332 rfl (lv_at hl 0 rfl) ?_
                refine lv_bipush (v := (124 : Int32)) hx hb dX3_next_333 (by decide) ?_
                refine lv_icmp_eq (tgt := 362) hx hb dX3_next_335 (by decide) (fun hc => ?_) (fun hc => ?_)
                · have hw := mm_ip hc hw
                  exact B3_next_362 cx _ hw _ _ _ hM hS (lv_sub hl [1] rfl)
                · have hw := mm_in hc hw
                  refine lv_iload_n hx hb dX3_next_338 rfl (lv_at hl 0 rfl) ?_
                  refine lv_bipush (v := (40 : Int32)) hx hb dX3_next_339 (by decide) ?_
                  refine lv_icmp_eq (tgt := 362) hx hb dX3_next_341 (by decide) (fun hc => ?_) (fun hc => ?_)
                  · have hw := mm_ip hc hw
                    exact B3_next_362 cx _ hw _ _ _ hM hS (lv_sub hl [1] rfl)
                  · have hw := mm_in hc hw
                    refine lv_iload_n hx hb dX3_next_344 rfl (lv_at hl 0 rfl) ?_
                    refine lv_bipush (v := (41 : Int32)) hx hb dX3_next_345 (by decide) ?_
                    refine lv_icmp_eq (tgt := 362) hx hb dX3_next_347 (by decide) (fun hc => ?_) (fun hc => ?_)
                    · have hw := mm_ip hc hw
                      exact B3_next_362 cx _ hw _ _ _ hM hS (lv_sub hl [1] rfl)
                    · have hw := mm_in hc hw
                      refine lv_iload_n hx hb dX3_next_350 rfl (lv_at hl 0 rfl) ?_
                      refine lv_bipush (v := (44 : Int32)) hx hb dX3_next_351 (by decide) ?_
                      refine lv_icmp_eq (tgt := 362) hx hb dX3_next_353 (by decide) (fun hc => ?_) (fun hc => ?_)
                      · have hw := mm_ip hc hw
                        exact B3_next_362 cx _ hw _ _ _ hM hS (lv_sub hl [1] rfl)
                      · have hw := mm_in hc hw
                        refine lv_iload_n hx hb dX3_next_356 rfl (lv_at hl 0 rfl) ?_
                        refine lv_bipush (v := (59 : Int32)) hx hb dX3_next_357 (by decide) ?_
                        refine lv_icmp_ne (tgt := 366) hx hb dX3_next_359 (by decide) (fun hc => ?_) (fun hc => ?_)
                        · have hw := mm_in hc hw
                          refine lv_iconst (v := (1 : Int32)) hx hb dX3_next_366 (by decide) ?_
                          exact B3_next_367 cx _ _ hw _ _ _ hM hS (lv_sub hl [1] rfl)
                        · have hw := mm_ip hc hw
                          exact B3_next_362 cx _ hw _ _ _ hM hS (lv_sub hl [1] rfl)
          · have hw := mm_in hc hw
            exact L3_next_205 cx _ hw _ _ _ hM hS (lv_sub hl [1] rfl)
        · have hw := mm_in hc hw
          exact L3_next_90 cx _ hw _ _ _ hM hS (lv_sub hl [1] rfl)
      · have hw := mm_ip hc hw
        refine lv_aload_n hx hb dX3_next_71 rfl (lv_at hl 1 rfl) ?_
        refine lv_iconst (v := (0 : Int32)) hx hb dX3_next_72 (by decide) ?_
        refine mp_14 cx hM hS dX3_next_73 (fun H locs hM hS => ?_)
        refine lv_goto (tgt := 370) hx hb dX3_next_76 (by decide) ?_
        exact mm_vret cx hM hS hw dX3_next_370
    · have hw := mm_ip hc hw
      exact B3_next_26 cx hK0 _ hw _ _ _ hM hS (lv_sub hl [0] rfl)
theorem L3_next_0 {l : Launch} {p : Program} {e : Env} {s : State} {m : MethodId} {args : Array Value} {below : List Frame} {meth : Method} {c : Code} {G : mm_G} {Q : MS → Prop} (cx : mm_X cX3_next 2 none G p s m args meth c) : ∀ (σ : MS), lp1F (w3_next_0 Q) σ → mm_T p l e ({ frames := 1, cells := 0, slots := 0, locals := 40 } : Room) s m args below meth c G (mm_Qv G Q) 2 0 σ [(0, .ref (mm_o G))] [] :=
  lp1F_of (fun K hK => B3_next_0 cx hK)
def w3_next (σ : MS) (Q : MS → Prop) : Prop :=
  lp1F (w3_next_0 Q) σ
set_option maxHeartbeats 4000000 in
theorem M3_next (l : Launch) (G : mm_G) (σ : MS) (Q : MS → Prop) (hw : w3_next σ Q) : mm_Mv l yX3_next (ws_ yX3_next cX3_next 2 none) ({ frames := 1, cells := 0, slots := 0, locals := 40 } : Room) G [.ref (mm_o G)] σ Q := by
  refine mm_of (by decide) rfl ?_
  intro p e s m args below meth c cx hM ha
  refine mm_entry [.ref (mm_o G)] 2 [(0, .ref (mm_o G))] ha (Nat.le_of_ble_eq_true rfl) rfl (fun ls hl => ?_)
  have hS : va_S (mm_A G) s.heap s.heap [] := va_S.rf
  unfold w3_next at hw
  obtain ⟨hx, hb, hml, hown, hts, hr, hlk, hMK, hZ⟩ := id cx
  exact L3_next_0 cx _ hw _ _ _ hM hS (lv_sub hl [0] rfl)
theorem C3_next {l : Launch} {p : Program} {e : Env} {R : Room} {s : State} {m : MethodId} {args : Array Value} {below : List Frame} {meth : Method} {c : Code} {H : Heap} {locs : List Loc} {cells slots : Nat} {Qz : State → Prop} {cc : ByteArray} {nL : Nat} {ret : Option FieldType} {G : mm_G} {pc : Nat} {ls : Array Slot} {rest : List Value} {σ : MS} (cx : mm_X cc nL ret G p s m args meth c) (hM : mm_R G σ H) (hS0 : va_S (mm_A G) s.heap H locs) {Qf : MS → Prop} (hw : w3_next σ Qf) (hR : (({ frames := 1, cells := 0, slots := 0, locals := 40 } : Room)).frames + 1 ≤ R.frames ∧ 8 + (2 + 11) + (({ frames := 1, cells := 0, slots := 0, locals := 40 } : Room)).locals ≤ R.locals) (hroom : (rest.map fun v => v.category).sum ≤ 8) (hsize : ls.size = nL) (hf : cells ≤ R.cells ∧ slots ≤ R.slots) (hdg : decode cc pc = .ok (.invokevirtual 162, 3))
    (kk : ∀ (σ1 : MS) (H1 : Heap) (locs1 : List Loc), Qf σ1 → mm_R G σ1 H1 → va_S (mm_A G) s.heap H1 locs1 → W p l e R s m args below meth c H1 locs1 cells slots Qz (F0 m (pc + 3) ls rest)) : W p l e R s m args below meth c H locs cells slots Qz (F0 m pc ls (.ref (mm_o G) :: rest)) := by
  obtain ⟨hx, hb, hml, hown, hts, hr, hlk, hK, hZ⟩ := id cx
  exact mm_Vv cx hM hS0 (As := []) (M3_next l G σ Qf hw) (cwV 0 hts (lw_V q2561 q2563 qs82 q172 q2564) rfl rfl rfl (by decide +kernel) hR) rfl hsize rfl hroom hf hdg kk
def w3_takes (σ : MS) (Q : MS → Prop) : Prop :=
  w3_next (sI (sI (sI (sI (sI σ 11 (gI σ 10)) 10 (0 : Int32)) 12 (0 : Int32)) 17 (0 : Int32)) 18 (-1 : Int32)) (fun s1 => Q s1)
set_option maxHeartbeats 4000000 in
theorem M3_takes (l : Launch) (G : mm_G) (σ : MS) (Q : MS → Prop) (hw : w3_takes σ Q) : mm_Mv l yX3_takes (ws_ yX3_takes cX3_takes 1 none) ({ frames := 2, cells := 0, slots := 0, locals := 80 } : Room) G [.ref (mm_o G)] σ Q := by
  refine mm_of (by decide) rfl ?_
  intro p e s m args below meth c cx hM ha
  refine mm_entry [.ref (mm_o G)] 1 [(0, .ref (mm_o G))] ha (Nat.le_of_ble_eq_true rfl) rfl (fun ls hl => ?_)
  have hS : va_S (mm_A G) s.heap s.heap [] := va_S.rf
  unfold w3_takes at hw
  obtain ⟨hx, hb, hml, hown, hts, hr, hlk, hMK, hZ⟩ := id cx
  refine lv_aload_n hx hb dX3_takes_0 rfl (lv_at hl 0 rfl) ?_
  refine lv_aload_n hx hb dX3_takes_1 rfl (lv_at hl 0 rfl) ?_
  refine mg_10 cx hM dX3_takes_2 ?_
  refine mp_11 cx hM hS dX3_takes_5 (fun H locs hM hS => ?_)
  refine lv_aload_n hx hb dX3_takes_8 rfl (lv_at hl 0 rfl) ?_
  refine lv_iconst (v := (0 : Int32)) hx hb dX3_takes_9 (by decide) ?_
  refine mp_10 cx hM hS dX3_takes_10 (fun H locs hM hS => ?_)
  refine lv_aload_n hx hb dX3_takes_13 rfl (lv_at hl 0 rfl) ?_
  refine lv_iconst (v := (0 : Int32)) hx hb dX3_takes_14 (by decide) ?_
  refine mp_12 cx hM hS dX3_takes_15 (fun H locs hM hS => ?_)
  refine lv_aload_n hx hb dX3_takes_18 rfl (lv_at hl 0 rfl) ?_
  refine lv_iconst (v := (0 : Int32)) hx hb dX3_takes_19 (by decide) ?_
  refine mp_17 cx hM hS dX3_takes_20 (fun H locs hM hS => ?_)
  refine lv_aload_n hx hb dX3_takes_23 rfl (lv_at hl 0 rfl) ?_
  refine lv_iconst (v := (-1 : Int32)) hx hb dX3_takes_24 (by decide) ?_
  refine mp_18 cx hM hS dX3_takes_25 (fun H locs hM hS => ?_)
  refine lv_aload_n hx hb dX3_takes_28 rfl (lv_at hl 0 rfl) ?_
  refine C3_next cx hM hS hw ⟨Nat.le_of_ble_eq_true rfl, Nat.le_of_ble_eq_true rfl⟩ (Nat.le_of_ble_eq_true rfl) hl.1 ⟨Nat.zero_le _, Nat.zero_le _⟩ dX3_takes_29 (fun s1 H locs hw hM hS => ?_)
  exact mm_vret cx hM hS hw dX3_takes_32
theorem C3_takes {l : Launch} {p : Program} {e : Env} {R : Room} {s : State} {m : MethodId} {args : Array Value} {below : List Frame} {meth : Method} {c : Code} {H : Heap} {locs : List Loc} {cells slots : Nat} {Qz : State → Prop} {cc : ByteArray} {nL : Nat} {ret : Option FieldType} {G : mm_G} {pc : Nat} {ls : Array Slot} {rest : List Value} {σ : MS} (cx : mm_X cc nL ret G p s m args meth c) (hM : mm_R G σ H) (hS0 : va_S (mm_A G) s.heap H locs) {Qf : MS → Prop} (hw : w3_takes σ Qf) (hR : (({ frames := 2, cells := 0, slots := 0, locals := 80 } : Room)).frames + 1 ≤ R.frames ∧ 8 + (1 + 11) + (({ frames := 2, cells := 0, slots := 0, locals := 80 } : Room)).locals ≤ R.locals) (hroom : (rest.map fun v => v.category).sum ≤ 8) (hsize : ls.size = nL) (hf : cells ≤ R.cells ∧ slots ≤ R.slots) (hdg : decode cc pc = .ok (.invokevirtual 271, 3))
    (kk : ∀ (σ1 : MS) (H1 : Heap) (locs1 : List Loc), Qf σ1 → mm_R G σ1 H1 → va_S (mm_A G) s.heap H1 locs1 → W p l e R s m args below meth c H1 locs1 cells slots Qz (F0 m (pc + 3) ls rest)) : W p l e R s m args below meth c H locs cells slots Qz (F0 m pc ls (.ref (mm_o G) :: rest)) := by
  obtain ⟨hx, hb, hml, hown, hts, hr, hlk, hK, hZ⟩ := id cx
  exact mm_Vv cx hM hS0 (As := []) (M3_takes l G σ Qf hw) (cwV 0 hts (lw_V q2557 q2559 qs81 q172 q2560) rfl rfl rfl (by decide +kernel) hR) rfl hsize rfl hroom hf hdg kk
def w3_wrong_22 (Q : MS → Prop) (t1 : Int32) (σ : MS) : Prop :=
  Q (sI (sI σ 17 t1) 18 (gI (sI σ 17 t1) 13))
set_option maxHeartbeats 4000000 in
theorem B3_wrong_22 {l : Launch} {p : Program} {e : Env} {s : State} {m : MethodId} {args : Array Value} {below : List Frame} {meth : Method} {c : Code} {G : mm_G} {Q : MS → Prop} (cx : mm_X cX3_wrong 2 none G p s m args meth c) : ∀ (t1 : Int32) (σ : MS), w3_wrong_22 Q t1 σ → mm_T p l e ({ frames := 0, cells := 0, slots := 0, locals := 0 } : Room) s m args below meth c G (mm_Qv G Q) 2 22 σ [(0, .ref (mm_o G))] [.int t1, .ref (mm_o G)] := by
  intro t1 σ hw H locs ls hM hS hl
  unfold w3_wrong_22 at hw
  obtain ⟨hx, hb, hml, hown, hts, hr, hlk, hMK, hZ⟩ := id cx
  refine mp_17 cx hM hS dX3_wrong_22 (fun H locs hM hS => ?_)
  refine lv_aload_n hx hb dX3_wrong_25 rfl (lv_at hl 0 rfl) ?_
  refine lv_aload_n hx hb dX3_wrong_26 rfl (lv_at hl 0 rfl) ?_
  refine mg_13 cx hM dX3_wrong_27 ?_
  refine mp_18 cx hM hS dX3_wrong_30 (fun H locs hM hS => ?_)
  exact mm_vret cx hM hS hw dX3_wrong_33
def w3_wrong (x1 : Int32) (σ : MS) (Q : MS → Prop) : Prop :=
  if (gI σ 17) = 0 then (if (gI σ 14) = (1 : Int32) then (w3_wrong_22 Q (1 : Int32) σ) else (w3_wrong_22 Q x1 σ)) else (Q σ)
set_option maxHeartbeats 4000000 in
theorem M3_wrong (l : Launch) (G : mm_G) (x1 : Int32) (σ : MS) (Q : MS → Prop) (hw : w3_wrong x1 σ Q) : mm_Mv l yX3_wrong (ws_ yX3_wrong cX3_wrong 2 none) ({ frames := 0, cells := 0, slots := 0, locals := 0 } : Room) G [.ref (mm_o G), .int x1] σ Q := by
  refine mm_of (by decide) rfl ?_
  intro p e s m args below meth c cx hM ha
  refine mm_entry [.ref (mm_o G), .int x1] 2 [(0, .ref (mm_o G)), (1, .int x1)] ha (Nat.le_of_ble_eq_true rfl) rfl (fun ls hl => ?_)
  have hS : va_S (mm_A G) s.heap s.heap [] := va_S.rf
  unfold w3_wrong at hw
  obtain ⟨hx, hb, hml, hown, hts, hr, hlk, hMK, hZ⟩ := id cx
  refine lv_aload_n hx hb dX3_wrong_0 rfl (lv_at hl 0 rfl) ?_
  refine mg_17 cx hM dX3_wrong_1 ?_
  refine lv_if_eq (tgt := 8) hx hb dX3_wrong_4 (by decide) (fun hc => ?_) (fun hc => ?_)
  · have hw := mm_ip hc hw
    refine lv_aload_n hx hb dX3_wrong_8 rfl (lv_at hl 0 rfl) ?_
    refine lv_aload_n hx hb dX3_wrong_9 rfl (lv_at hl 0 rfl) ?_
    refine mg_14 cx hM dX3_wrong_10 ?_
    refine lv_iconst (v := (1 : Int32)) hx hb dX3_wrong_13 (by decide) ?_
    refine lv_icmp_ne (tgt := 21) hx hb dX3_wrong_14 (by decide) (fun hc => ?_) (fun hc => ?_)
    · have hw := mm_in hc hw
      refine lv_iload_n hx hb dX3_wrong_21 rfl (lv_at hl 1 rfl) ?_
      exact B3_wrong_22 cx _ _ hw _ _ _ hM hS (lv_sub hl [0] rfl)
    · have hw := mm_ip hc hw
      refine lv_iconst (v := (1 : Int32)) hx hb dX3_wrong_17 (by decide) ?_
      refine lv_goto (tgt := 22) hx hb dX3_wrong_18 (by decide) ?_
      exact B3_wrong_22 cx _ _ hw _ _ _ hM hS (lv_sub hl [0] rfl)
  · have hw := mm_in hc hw
    exact mm_vret cx hM hS hw dX3_wrong_7
theorem C3_wrong {l : Launch} {p : Program} {e : Env} {R : Room} {s : State} {m : MethodId} {args : Array Value} {below : List Frame} {meth : Method} {c : Code} {H : Heap} {locs : List Loc} {cells slots : Nat} {Qz : State → Prop} {cc : ByteArray} {nL : Nat} {ret : Option FieldType} {G : mm_G} {pc : Nat} {ls : Array Slot} {rest : List Value} {x1 : Int32} {σ : MS} (cx : mm_X cc nL ret G p s m args meth c) (hM : mm_R G σ H) (hS0 : va_S (mm_A G) s.heap H locs) {Qf : MS → Prop} (hw : w3_wrong x1 σ Qf) (hR : (({ frames := 0, cells := 0, slots := 0, locals := 0 } : Room)).frames + 1 ≤ R.frames ∧ 8 + (2 + 11) + (({ frames := 0, cells := 0, slots := 0, locals := 0 } : Room)).locals ≤ R.locals) (hroom : (rest.map fun v => v.category).sum ≤ 8) (hsize : ls.size = nL) (hf : cells ≤ R.cells ∧ slots ≤ R.slots) (hdg : decode cc pc = .ok (.invokevirtual 165, 3))
    (kk : ∀ (σ1 : MS) (H1 : Heap) (locs1 : List Loc), Qf σ1 → mm_R G σ1 H1 → va_S (mm_A G) s.heap H1 locs1 → W p l e R s m args below meth c H1 locs1 cells slots Qz (F0 m (pc + 3) ls rest)) : W p l e R s m args below meth c H locs cells slots Qz (F0 m pc ls (.int x1 :: .ref (mm_o G) :: rest)) := by
  obtain ⟨hx, hb, hml, hown, hts, hr, hlk, hK, hZ⟩ := id cx
  exact mm_Vv cx hM hS0 (As := [.int x1]) (M3_wrong l G x1 σ Qf hw) (cwV 1 hts (lw_V q2603 q2605 qs88 q172 q2606) rfl rfl rfl (by decide +kernel) hR) rfl hsize rfl hroom hf hdg kk
def w3_passes (σ : MS) (Q : MS → Prop) : Prop :=
  if (gI σ 17) = 0 then (w3_next σ (fun s1 => Q s1)) else (Q σ)
set_option maxHeartbeats 4000000 in
theorem M3_passes (l : Launch) (G : mm_G) (σ : MS) (Q : MS → Prop) (hw : w3_passes σ Q) : mm_Mv l yX3_passes (ws_ yX3_passes cX3_passes 1 none) ({ frames := 2, cells := 0, slots := 0, locals := 80 } : Room) G [.ref (mm_o G)] σ Q := by
  refine mm_of (by decide) rfl ?_
  intro p e s m args below meth c cx hM ha
  refine mm_entry [.ref (mm_o G)] 1 [(0, .ref (mm_o G))] ha (Nat.le_of_ble_eq_true rfl) rfl (fun ls hl => ?_)
  have hS : va_S (mm_A G) s.heap s.heap [] := va_S.rf
  unfold w3_passes at hw
  obtain ⟨hx, hb, hml, hown, hts, hr, hlk, hMK, hZ⟩ := id cx
  refine lv_aload_n hx hb dX3_passes_0 rfl (lv_at hl 0 rfl) ?_
  refine mg_17 cx hM dX3_passes_1 ?_
  refine lv_if_ne (tgt := 11) hx hb dX3_passes_4 (by decide) (fun hc => ?_) (fun hc => ?_)
  · have hw := mm_in hc hw
    exact mm_vret cx hM hS hw dX3_passes_11
  · have hw := mm_ip hc hw
    refine lv_aload_n hx hb dX3_passes_7 rfl (lv_at hl 0 rfl) ?_
    refine C3_next cx hM hS hw ⟨Nat.le_of_ble_eq_true rfl, Nat.le_of_ble_eq_true rfl⟩ (Nat.le_of_ble_eq_true rfl) hl.1 ⟨Nat.zero_le _, Nat.zero_le _⟩ dX3_passes_8 (fun s1 H locs hw hM hS => ?_)
    exact mm_vret cx hM hS hw dX3_passes_11
theorem C3_passes {l : Launch} {p : Program} {e : Env} {R : Room} {s : State} {m : MethodId} {args : Array Value} {below : List Frame} {meth : Method} {c : Code} {H : Heap} {locs : List Loc} {cells slots : Nat} {Qz : State → Prop} {cc : ByteArray} {nL : Nat} {ret : Option FieldType} {G : mm_G} {pc : Nat} {ls : Array Slot} {rest : List Value} {σ : MS} (cx : mm_X cc nL ret G p s m args meth c) (hM : mm_R G σ H) (hS0 : va_S (mm_A G) s.heap H locs) {Qf : MS → Prop} (hw : w3_passes σ Qf) (hR : (({ frames := 2, cells := 0, slots := 0, locals := 80 } : Room)).frames + 1 ≤ R.frames ∧ 8 + (1 + 11) + (({ frames := 2, cells := 0, slots := 0, locals := 80 } : Room)).locals ≤ R.locals) (hroom : (rest.map fun v => v.category).sum ≤ 8) (hsize : ls.size = nL) (hf : cells ≤ R.cells ∧ slots ≤ R.slots) (hdg : decode cc pc = .ok (.invokevirtual 169, 3))
    (kk : ∀ (σ1 : MS) (H1 : Heap) (locs1 : List Loc), Qf σ1 → mm_R G σ1 H1 → va_S (mm_A G) s.heap H1 locs1 → W p l e R s m args below meth c H1 locs1 cells slots Qz (F0 m (pc + 3) ls rest)) : W p l e R s m args below meth c H locs cells slots Qz (F0 m pc ls (.ref (mm_o G) :: rest)) := by
  obtain ⟨hx, hb, hml, hown, hts, hr, hlk, hK, hZ⟩ := id cx
  exact mm_Vv cx hM hS0 (As := []) (M3_passes l G σ Qf hw) (cwV 0 hts (lw_V q2607 q2609 qs89 q172 q2610) rfl rfl rfl (by decide +kernel) hR) rfl hsize rfl hroom hf hdg kk
def w3_room_10 (Q : MS → Prop) (σ : MS) : Prop :=
  w3_passes σ (fun s1 => Q s1)
set_option maxHeartbeats 4000000 in
theorem B3_room_10 {l : Launch} {p : Program} {e : Env} {s : State} {m : MethodId} {args : Array Value} {below : List Frame} {meth : Method} {c : Code} {G : mm_G} {Q : MS → Prop} (cx : mm_X cX3_room 3 none G p s m args meth c) : ∀ (σ : MS), w3_room_10 Q σ → mm_T p l e ({ frames := 3, cells := 0, slots := 0, locals := 120 } : Room) s m args below meth c G (mm_Qv G Q) 3 10 σ [(0, .ref (mm_o G))] [] := by
  intro σ hw H locs ls hM hS hl
  unfold w3_room_10 at hw
  obtain ⟨hx, hb, hml, hown, hts, hr, hlk, hMK, hZ⟩ := id cx
  refine lv_aload_n hx hb dX3_room_10 rfl (lv_at hl 0 rfl) ?_
  refine C3_passes cx hM hS hw ⟨Nat.le_of_ble_eq_true rfl, Nat.le_of_ble_eq_true rfl⟩ (Nat.le_of_ble_eq_true rfl) hl.1 ⟨Nat.zero_le _, Nat.zero_le _⟩ dX3_room_11 (fun s1 H locs hw hM hS => ?_)
  exact mm_vret cx hM hS hw dX3_room_14
def w3_room (x1 : Int32) (x2 : Int32) (σ : MS) (Q : MS → Prop) : Prop :=
  if x1 = x2 then (w3_wrong (4 : Int32) σ (fun s2 => w3_room_10 Q s2)) else (w3_room_10 Q σ)
set_option maxHeartbeats 4000000 in
theorem M3_room (l : Launch) (G : mm_G) (x1 : Int32) (x2 : Int32) (σ : MS) (Q : MS → Prop) (hw : w3_room x1 x2 σ Q) : mm_Mv l yX3_room (ws_ yX3_room cX3_room 3 none) ({ frames := 3, cells := 0, slots := 0, locals := 120 } : Room) G [.ref (mm_o G), .int x1, .int x2] σ Q := by
  refine mm_of (by decide) rfl ?_
  intro p e s m args below meth c cx hM ha
  refine mm_entry [.ref (mm_o G), .int x1, .int x2] 3 [(0, .ref (mm_o G)), (1, .int x1), (2, .int x2)] ha (Nat.le_of_ble_eq_true rfl) rfl (fun ls hl => ?_)
  have hS : va_S (mm_A G) s.heap s.heap [] := va_S.rf
  unfold w3_room at hw
  obtain ⟨hx, hb, hml, hown, hts, hr, hlk, hMK, hZ⟩ := id cx
  refine lv_iload_n hx hb dX3_room_0 rfl (lv_at hl 1 rfl) ?_
  refine lv_iload_n hx hb dX3_room_1 rfl (lv_at hl 2 rfl) ?_
  refine lv_icmp_ne (tgt := 10) hx hb dX3_room_2 (by decide) (fun hc => ?_) (fun hc => ?_)
  · have hw := mm_in hc hw
    exact B3_room_10 cx _ hw _ _ _ hM hS (lv_sub hl [0] rfl)
  · have hw := mm_ip hc hw
    refine lv_aload_n hx hb dX3_room_5 rfl (lv_at hl 0 rfl) ?_
    refine lv_iconst (v := (4 : Int32)) hx hb dX3_room_6 (by decide) ?_
    refine C3_wrong cx hM hS hw ⟨Nat.le_of_ble_eq_true rfl, Nat.le_of_ble_eq_true rfl⟩ (Nat.le_of_ble_eq_true rfl) hl.1 ⟨Nat.zero_le _, Nat.zero_le _⟩ dX3_room_7 (fun s2 H locs hw hM hS => ?_)
    exact B3_room_10 cx _ hw _ _ _ hM hS (lv_sub hl [0] rfl)
theorem C3_room {l : Launch} {p : Program} {e : Env} {R : Room} {s : State} {m : MethodId} {args : Array Value} {below : List Frame} {meth : Method} {c : Code} {H : Heap} {locs : List Loc} {cells slots : Nat} {Qz : State → Prop} {cc : ByteArray} {nL : Nat} {ret : Option FieldType} {G : mm_G} {pc : Nat} {ls : Array Slot} {rest : List Value} {x1 : Int32} {x2 : Int32} {σ : MS} (cx : mm_X cc nL ret G p s m args meth c) (hM : mm_R G σ H) (hS0 : va_S (mm_A G) s.heap H locs) {Qf : MS → Prop} (hw : w3_room x1 x2 σ Qf) (hR : (({ frames := 3, cells := 0, slots := 0, locals := 120 } : Room)).frames + 1 ≤ R.frames ∧ 8 + (3 + 11) + (({ frames := 3, cells := 0, slots := 0, locals := 120 } : Room)).locals ≤ R.locals) (hroom : (rest.map fun v => v.category).sum ≤ 8) (hsize : ls.size = nL) (hf : cells ≤ R.cells ∧ slots ≤ R.slots) (hdg : decode cc pc = .ok (.invokevirtual 226, 3))
    (kk : ∀ (σ1 : MS) (H1 : Heap) (locs1 : List Loc), Qf σ1 → mm_R G σ1 H1 → va_S (mm_A G) s.heap H1 locs1 → W p l e R s m args below meth c H1 locs1 cells slots Qz (F0 m (pc + 3) ls rest)) : W p l e R s m args below meth c H locs cells slots Qz (F0 m pc ls (.int x2 :: .int x1 :: .ref (mm_o G) :: rest)) := by
  obtain ⟨hx, hb, hml, hown, hts, hr, hlk, hK, hZ⟩ := id cx
  exact mm_Vv cx hM hS0 (As := [.int x1, .int x2]) (M3_room l G x1 x2 σ Qf hw) (cwV 2 hts (lw_V q2599 q2601 qs87 q172 q2602) rfl rfl rfl (by decide +kernel) hR) rfl hsize rfl hroom hf hdg kk
def w3_isName (σ : MS) (Q : Int32 → MS → Prop) : Prop :=
  if (gI σ 14) = (2 : Int32) then (w3_isWord 0 σ (fun r1 s1 => if r1 = 0 then (w3_isWord 1 s1 (fun r2 s2 => if r2 = 0 then (w3_isWord 2 s2 (fun r3 s3 => if r3 = 0 then (w3_isWord 3 s3 (fun r4 s4 => if r4 = 0 then (w3_isWord 4 s4 (fun r5 s5 => if r5 = 0 then (w3_isWord 5 s5 (fun r6 s6 => if r6 = 0 then (w3_isWord 6 s6 (fun r7 s7 => if r7 = 0 then (w3_isWord 7 s7 (fun r8 s8 => if r8 = 0 then (w3_isWord 8 s8 (fun r9 s9 => if r9 = 0 then (w3_isWord 9 s9 (fun r10 s10 => if r10 = 0 then (w3_isWord 10 s10 (fun r11 s11 => if r11 = 0 then (Q (1 : Int32) s11) else (Q (0 : Int32) s11))) else (Q (0 : Int32) s10))) else (Q (0 : Int32) s9))) else (Q (0 : Int32) s8))) else (Q (0 : Int32) s7))) else (Q (0 : Int32) s6))) else (Q (0 : Int32) s5))) else (Q (0 : Int32) s4))) else (Q (0 : Int32) s3))) else (Q (0 : Int32) s2))) else (Q (0 : Int32) s1))) else (Q (0 : Int32) σ)
set_option maxHeartbeats 4000000 in
theorem M3_isName (l : Launch) (G : mm_G) (σ : MS) (Q : Int32 → MS → Prop) (hw : w3_isName σ Q) : mm_Mi l yX3_isName (ws_ yX3_isName cX3_isName 1 (some .boolean)) ({ frames := 9, cells := 0, slots := 0, locals := 360 } : Room) G [.ref (mm_o G)] σ Q := by
  refine mm_of (by decide) rfl ?_
  intro p e s m args below meth c cx hM ha
  refine mm_entry [.ref (mm_o G)] 1 [(0, .ref (mm_o G))] ha (Nat.le_of_ble_eq_true rfl) rfl (fun ls hl => ?_)
  have hS : va_S (mm_A G) s.heap s.heap [] := va_S.rf
  unfold w3_isName at hw
  obtain ⟨hx, hb, hml, hown, hts, hr, hlk, hMK, hZ⟩ := id cx
  refine lv_aload_n hx hb dX3_isName_0 rfl (lv_at hl 0 rfl) ?_
  refine mg_14 cx hM dX3_isName_1 ?_
  refine lv_iconst (v := (2 : Int32)) hx hb dX3_isName_4 (by decide) ?_
  refine lv_icmp_ne (tgt := 62) hx hb dX3_isName_5 (by decide) (fun hc => ?_) (fun hc => ?_)
  · have hw := mm_in hc hw
    refine lv_iconst (v := (0 : Int32)) hx hb dX3_isName_62 (by decide) ?_
    exact mm_zret cx hM hS (Or.inl rfl) hw dX3_isName_63
  · have hw := mm_ip hc hw
    refine lv_aload_n hx hb dX3_isName_8 rfl (lv_at hl 0 rfl) ?_
    refine mm_ldc cx 0 (by decide) rfl dX3_isName_9 ?_
    refine C3_isWord cx hM hS hw ⟨Nat.le_of_ble_eq_true rfl, Nat.le_of_ble_eq_true rfl⟩ (Nat.le_of_ble_eq_true rfl) hl.1 ⟨Nat.zero_le _, Nat.zero_le _⟩ dX3_isName_11 (fun r1 s1 H locs hw hM hS => ?_)
    refine lv_if_ne (tgt := 62) hx hb dX3_isName_14 (by decide) (fun hc => ?_) (fun hc => ?_)
    · have hw := mm_in hc hw
      refine lv_iconst (v := (0 : Int32)) hx hb dX3_isName_62 (by decide) ?_
      exact mm_zret cx hM hS (Or.inl rfl) hw dX3_isName_63
    · have hw := mm_ip hc hw
      refine lv_aload_n hx hb dX3_isName_17 rfl (lv_at hl 0 rfl) ?_
      refine mm_ldc cx 1 (by decide) rfl dX3_isName_18 ?_
      refine C3_isWord cx hM hS hw ⟨Nat.le_of_ble_eq_true rfl, Nat.le_of_ble_eq_true rfl⟩ (Nat.le_of_ble_eq_true rfl) hl.1 ⟨Nat.zero_le _, Nat.zero_le _⟩ dX3_isName_20 (fun r2 s2 H locs hw hM hS => ?_)
      refine lv_if_ne (tgt := 62) hx hb dX3_isName_23 (by decide) (fun hc => ?_) (fun hc => ?_)
      · have hw := mm_in hc hw
        refine lv_iconst (v := (0 : Int32)) hx hb dX3_isName_62 (by decide) ?_
        exact mm_zret cx hM hS (Or.inl rfl) hw dX3_isName_63
      · have hw := mm_ip hc hw
        refine lv_aload_n hx hb dX3_isName_26 rfl (lv_at hl 0 rfl) ?_
        refine mm_ldc cx 2 (by decide) rfl dX3_isName_27 ?_
        refine C3_isWord cx hM hS hw ⟨Nat.le_of_ble_eq_true rfl, Nat.le_of_ble_eq_true rfl⟩ (Nat.le_of_ble_eq_true rfl) hl.1 ⟨Nat.zero_le _, Nat.zero_le _⟩ dX3_isName_29 (fun r3 s3 H locs hw hM hS => ?_)
        refine lv_if_ne (tgt := 62) hx hb dX3_isName_32 (by decide) (fun hc => ?_) (fun hc => ?_)
        · have hw := mm_in hc hw
          refine lv_iconst (v := (0 : Int32)) hx hb dX3_isName_62 (by decide) ?_
          exact mm_zret cx hM hS (Or.inl rfl) hw dX3_isName_63
        · have hw := mm_ip hc hw
          refine lv_aload_n hx hb dX3_isName_35 rfl (lv_at hl 0 rfl) ?_
          refine mm_ldc cx 3 (by decide) rfl dX3_isName_36 ?_
          refine C3_isWord cx hM hS hw ⟨Nat.le_of_ble_eq_true rfl, Nat.le_of_ble_eq_true rfl⟩ (Nat.le_of_ble_eq_true rfl) hl.1 ⟨Nat.zero_le _, Nat.zero_le _⟩ dX3_isName_38 (fun r4 s4 H locs hw hM hS => ?_)
          refine lv_if_ne (tgt := 62) hx hb dX3_isName_41 (by decide) (fun hc => ?_) (fun hc => ?_)
          · have hw := mm_in hc hw
            refine lv_iconst (v := (0 : Int32)) hx hb dX3_isName_62 (by decide) ?_
            exact mm_zret cx hM hS (Or.inl rfl) hw dX3_isName_63
          · have hw := mm_ip hc hw
            refine lv_aload_n hx hb dX3_isName_44 rfl (lv_at hl 0 rfl) ?_
            refine mm_ldc cx 4 (by decide) rfl dX3_isName_45 ?_
            refine C3_isWord cx hM hS hw ⟨Nat.le_of_ble_eq_true rfl, Nat.le_of_ble_eq_true rfl⟩ (Nat.le_of_ble_eq_true rfl) hl.1 ⟨Nat.zero_le _, Nat.zero_le _⟩ dX3_isName_47 (fun r5 s5 H locs hw hM hS => ?_)
            refine lv_if_ne (tgt := 62) hx hb dX3_isName_50 (by decide) (fun hc => ?_) (fun hc => ?_)
            · have hw := mm_in hc hw
              refine lv_iconst (v := (0 : Int32)) hx hb dX3_isName_62 (by decide) ?_
              exact mm_zret cx hM hS (Or.inl rfl) hw dX3_isName_63
            · have hw := mm_ip hc hw
              refine lv_aload_n hx hb dX3_isName_53 rfl (lv_at hl 0 rfl) ?_
              refine mm_ldc cx 5 (by decide) rfl dX3_isName_54 ?_
              refine C3_isWord cx hM hS hw ⟨Nat.le_of_ble_eq_true rfl, Nat.le_of_ble_eq_true rfl⟩ (Nat.le_of_ble_eq_true rfl) hl.1 ⟨Nat.zero_le _, Nat.zero_le _⟩ dX3_isName_56 (fun r6 s6 H locs hw hM hS => ?_)
              refine lv_if_eq (tgt := 64) hx hb dX3_isName_59 (by decide) (fun hc => ?_) (fun hc => ?_)
              · have hw := mm_ip hc hw
                refine lv_aload_n hx hb dX3_isName_64 rfl (lv_at hl 0 rfl) ?_
                refine mm_ldc cx 6 (by decide) rfl dX3_isName_65 ?_
                refine C3_isWord cx hM hS hw ⟨Nat.le_of_ble_eq_true rfl, Nat.le_of_ble_eq_true rfl⟩ (Nat.le_of_ble_eq_true rfl) hl.1 ⟨Nat.zero_le _, Nat.zero_le _⟩ dX3_isName_67 (fun r7 s7 H locs hw hM hS => ?_)
                refine lv_if_ne (tgt := 113) hx hb dX3_isName_70 (by decide) (fun hc => ?_) (fun hc => ?_)
                · have hw := mm_in hc hw
                  refine lv_iconst (v := (0 : Int32)) hx hb dX3_isName_113 (by decide) ?_
                  exact mm_zret cx hM hS (Or.inl rfl) hw dX3_isName_114
                · have hw := mm_ip hc hw
                  refine lv_aload_n hx hb dX3_isName_73 rfl (lv_at hl 0 rfl) ?_
                  refine mm_ldc cx 7 (by decide) rfl dX3_isName_74 ?_
                  refine C3_isWord cx hM hS hw ⟨Nat.le_of_ble_eq_true rfl, Nat.le_of_ble_eq_true rfl⟩ (Nat.le_of_ble_eq_true rfl) hl.1 ⟨Nat.zero_le _, Nat.zero_le _⟩ dX3_isName_76 (fun r8 s8 H locs hw hM hS => ?_)
                  refine lv_if_ne (tgt := 113) hx hb dX3_isName_79 (by decide) (fun hc => ?_) (fun hc => ?_)
                  · have hw := mm_in hc hw
                    refine lv_iconst (v := (0 : Int32)) hx hb dX3_isName_113 (by decide) ?_
                    exact mm_zret cx hM hS (Or.inl rfl) hw dX3_isName_114
                  · have hw := mm_ip hc hw
                    refine lv_aload_n hx hb dX3_isName_82 rfl (lv_at hl 0 rfl) ?_
                    refine mm_ldc cx 8 (by decide) rfl dX3_isName_83 ?_
                    refine C3_isWord cx hM hS hw ⟨Nat.le_of_ble_eq_true rfl, Nat.le_of_ble_eq_true rfl⟩ (Nat.le_of_ble_eq_true rfl) hl.1 ⟨Nat.zero_le _, Nat.zero_le _⟩ dX3_isName_85 (fun r9 s9 H locs hw hM hS => ?_)
                    refine lv_if_ne (tgt := 113) hx hb dX3_isName_88 (by decide) (fun hc => ?_) (fun hc => ?_)
                    · have hw := mm_in hc hw
                      refine lv_iconst (v := (0 : Int32)) hx hb dX3_isName_113 (by decide) ?_
                      exact mm_zret cx hM hS (Or.inl rfl) hw dX3_isName_114
                    · have hw := mm_ip hc hw
                      refine lv_aload_n hx hb dX3_isName_91 rfl (lv_at hl 0 rfl) ?_
                      refine mm_ldc cx 9 (by decide) rfl dX3_isName_92 ?_
                      refine C3_isWord cx hM hS hw ⟨Nat.le_of_ble_eq_true rfl, Nat.le_of_ble_eq_true rfl⟩ (Nat.le_of_ble_eq_true rfl) hl.1 ⟨Nat.zero_le _, Nat.zero_le _⟩ dX3_isName_94 (fun r10 s10 H locs hw hM hS => ?_)
                      refine lv_if_ne (tgt := 113) hx hb dX3_isName_97 (by decide) (fun hc => ?_) (fun hc => ?_)
                      · have hw := mm_in hc hw
                        refine lv_iconst (v := (0 : Int32)) hx hb dX3_isName_113 (by decide) ?_
                        exact mm_zret cx hM hS (Or.inl rfl) hw dX3_isName_114
                      · have hw := mm_ip hc hw
                        refine lv_aload_n hx hb dX3_isName_100 rfl (lv_at hl 0 rfl) ?_
                        refine mm_ldc cx 10 (by decide) rfl dX3_isName_101 ?_
                        refine C3_isWord cx hM hS hw ⟨Nat.le_of_ble_eq_true rfl, Nat.le_of_ble_eq_true rfl⟩ (Nat.le_of_ble_eq_true rfl) hl.1 ⟨Nat.zero_le _, Nat.zero_le _⟩ dX3_isName_103 (fun r11 s11 H locs hw hM hS => ?_)
                        refine lv_if_ne (tgt := 113) hx hb dX3_isName_106 (by decide) (fun hc => ?_) (fun hc => ?_)
                        · have hw := mm_in hc hw
                          refine lv_iconst (v := (0 : Int32)) hx hb dX3_isName_113 (by decide) ?_
                          exact mm_zret cx hM hS (Or.inl rfl) hw dX3_isName_114
                        · have hw := mm_ip hc hw
                          refine lv_iconst (v := (1 : Int32)) hx hb dX3_isName_109 (by decide) ?_
                          refine lv_goto (tgt := 114) hx hb dX3_isName_110 (by decide) ?_
                          exact mm_zret cx hM hS (Or.inr rfl) hw dX3_isName_114
              · have hw := mm_in hc hw
                refine lv_iconst (v := (0 : Int32)) hx hb dX3_isName_62 (by decide) ?_
                exact mm_zret cx hM hS (Or.inl rfl) hw dX3_isName_63
theorem C3_isName {l : Launch} {p : Program} {e : Env} {R : Room} {s : State} {m : MethodId} {args : Array Value} {below : List Frame} {meth : Method} {c : Code} {H : Heap} {locs : List Loc} {cells slots : Nat} {Qz : State → Prop} {cc : ByteArray} {nL : Nat} {ret : Option FieldType} {G : mm_G} {pc : Nat} {ls : Array Slot} {rest : List Value} {σ : MS} (cx : mm_X cc nL ret G p s m args meth c) (hM : mm_R G σ H) (hS0 : va_S (mm_A G) s.heap H locs) {Qf : Int32 → MS → Prop} (hw : w3_isName σ Qf) (hR : (({ frames := 9, cells := 0, slots := 0, locals := 360 } : Room)).frames + 1 ≤ R.frames ∧ 8 + (1 + 11) + (({ frames := 9, cells := 0, slots := 0, locals := 360 } : Room)).locals ≤ R.locals) (hroom : (rest.map fun v => v.category).sum ≤ 8) (hsize : ls.size = nL) (hf : cells ≤ R.cells ∧ slots ≤ R.slots) (hdg : decode cc pc = .ok (.invokevirtual 172, 3))
    (kk : ∀ (r : Int32) (σ1 : MS) (H1 : Heap) (locs1 : List Loc), Qf r σ1 → mm_R G σ1 H1 → va_S (mm_A G) s.heap H1 locs1 → W p l e R s m args below meth c H1 locs1 cells slots Qz (F0 m (pc + 3) ls (.int r :: rest))) : W p l e R s m args below meth c H locs cells slots Qz (F0 m pc ls (.ref (mm_o G) :: rest)) := by
  obtain ⟨hx, hb, hml, hown, hts, hr, hlk, hK, hZ⟩ := id cx
  exact mm_Vi cx hM hS0 (As := []) (M3_isName l G σ Qf hw) (cwV 0 hts (lw_V q2615 q2617 qs91 q172 q2618) rfl rfl rfl (by decide +kernel) hR) rfl hsize rfl hroom hf hdg kk
def w3_factNamed_2 (Q : Int32 → MS → Prop) (K2 : Int32 → MS → Prop) (x1 : Int32) (σ : MS) : Prop :=
  if (gA σ 1 1) ≤ x1 then (Q (-1 : Int32) σ) else (vp_in x1 13 ∧ (if (lg_cmp (gB σ 3 x1.toNatClampNeg) (gL σ 21)) = 0 then (Q x1 σ) else (∀ v1 : Int32, v1 = x1 + (1 : Int32) → K2 v1 σ)))
set_option maxHeartbeats 4000000 in
theorem B3_factNamed_2 {l : Launch} {p : Program} {e : Env} {s : State} {m : MethodId} {args : Array Value} {below : List Frame} {meth : Method} {c : Code} {G : mm_G} {Q : Int32 → MS → Prop} {K2 : Int32 → MS → Prop} (cx : mm_X cX3_factNamed 2 (some .int) G p s m args meth c) (hK2 : ∀ (x1 : Int32) (σ : MS), K2 x1 σ → mm_T p l e ({ frames := 0, cells := 0, slots := 0, locals := 0 } : Room) s m args below meth c G (mm_Qi G Q) 2 2 σ [(0, .ref (mm_o G)), (1, .int x1)] []) : ∀ (x1 : Int32) (σ : MS), w3_factNamed_2 Q K2 x1 σ → mm_T p l e ({ frames := 0, cells := 0, slots := 0, locals := 0 } : Room) s m args below meth c G (mm_Qi G Q) 2 2 σ [(0, .ref (mm_o G)), (1, .int x1)] [] := by
  intro x1 σ hw H locs ls hM hS hl
  unfold w3_factNamed_2 at hw
  obtain ⟨hx, hb, hml, hown, hts, hr, hlk, hMK, hZ⟩ := id cx
  refine lv_iload_n hx hb dX3_factNamed_2 rfl (lv_at hl 1 rfl) ?_
  refine lv_aload_n hx hb dX3_factNamed_3 rfl (lv_at hl 0 rfl) ?_
  refine mg_1 cx hM dX3_factNamed_4 ?_
  refine lv_iconst (v := (1 : Int32)) hx hb dX3_factNamed_7 (by decide) ?_
  refine mm_iald cx hM 1 rfl (j := 1) (by decide) (vp_lit (by decide)) dX3_factNamed_8 ?_
  refine lv_icmp_ge (tgt := 34) hx hb dX3_factNamed_9 (by decide) (fun hc => ?_) (fun hc => ?_)
  · have hw := mm_ip hc hw
    refine lv_iconst (v := (-1 : Int32)) hx hb dX3_factNamed_34 (by decide) ?_
    exact mm_iret cx hM hS hw dX3_factNamed_35
  · have hw := mm_in hc hw
    refine lv_aload_n hx hb dX3_factNamed_12 rfl (lv_at hl 0 rfl) ?_
    refine mg_3 cx hM dX3_factNamed_13 ?_
    refine lv_iload_n hx hb dX3_factNamed_16 rfl (lv_at hl 1 rfl) ?_
    obtain ⟨hi, hw⟩ := hw
    refine mm_lald cx hM 3 (Or.inr rfl) hi dX3_factNamed_17 ?_
    refine lv_aload_n hx hb dX3_factNamed_18 rfl (lv_at hl 0 rfl) ?_
    refine mg_21 cx hM dX3_factNamed_19 ?_
    refine W.lcmp hx hb dX3_factNamed_22 ?_
    refine lv_if_ne (tgt := 28) hx hb dX3_factNamed_23 (by decide) (fun hc => ?_) (fun hc => ?_)
    · have hw := mm_in hc hw
      obtain ⟨v1, hv1⟩ : ∃ v : Int32, v = x1 + (1 : Int32) := ⟨_, rfl⟩
      have hw := hw v1 hv1
      refine lv_iinc (v := v1) (lv' := [(1, .int v1), (0, .ref (mm_o G))]) hx hb dX3_factNamed_28 hl (k := 1) rfl (by rw [hv1]; rfl) (by decide) rfl (fun ls hl => ?_)
      refine lv_goto (tgt := 2) hx hb dX3_factNamed_31 (by decide) ?_
      exact hK2 _ _ hw _ _ _ hM hS (lv_sub hl [1, 0] rfl)
    · have hw := mm_ip hc hw
      refine lv_iload_n hx hb dX3_factNamed_26 rfl (lv_at hl 1 rfl) ?_
      exact mm_iret cx hM hS hw dX3_factNamed_27
theorem L3_factNamed_2 {l : Launch} {p : Program} {e : Env} {s : State} {m : MethodId} {args : Array Value} {below : List Frame} {meth : Method} {c : Code} {G : mm_G} {Q : Int32 → MS → Prop} (cx : mm_X cX3_factNamed 2 (some .int) G p s m args meth c) : ∀ (x1 : Int32) (σ : MS), lp2F (w3_factNamed_2 Q) x1 σ → mm_T p l e ({ frames := 0, cells := 0, slots := 0, locals := 0 } : Room) s m args below meth c G (mm_Qi G Q) 2 2 σ [(0, .ref (mm_o G)), (1, .int x1)] [] :=
  lp2F_of (fun K hK => B3_factNamed_2 cx hK)
def w3_factNamed (σ : MS) (Q : Int32 → MS → Prop) : Prop :=
  lp2F (w3_factNamed_2 Q) (0 : Int32) σ
set_option maxHeartbeats 4000000 in
theorem M3_factNamed (l : Launch) (G : mm_G) (σ : MS) (Q : Int32 → MS → Prop) (hw : w3_factNamed σ Q) : mm_Mi l yX3_factNamed (ws_ yX3_factNamed cX3_factNamed 2 (some .int)) ({ frames := 0, cells := 0, slots := 0, locals := 0 } : Room) G [.ref (mm_o G)] σ Q := by
  refine mm_of (by decide) rfl ?_
  intro p e s m args below meth c cx hM ha
  refine mm_entry [.ref (mm_o G)] 2 [(0, .ref (mm_o G))] ha (Nat.le_of_ble_eq_true rfl) rfl (fun ls hl => ?_)
  have hS : va_S (mm_A G) s.heap s.heap [] := va_S.rf
  unfold w3_factNamed at hw
  obtain ⟨hx, hb, hml, hown, hts, hr, hlk, hMK, hZ⟩ := id cx
  refine lv_iconst (v := (0 : Int32)) hx hb dX3_factNamed_0 (by decide) ?_
  refine lv_istore_n (lv' := [(1, .int (0 : Int32)), (0, .ref (mm_o G))]) hx hb dX3_factNamed_1 rfl hl (by decide) rfl (fun ls hl => ?_)
  exact L3_factNamed_2 cx _ _ hw _ _ _ hM hS (lv_sub hl [1, 0] rfl)
theorem C3_factNamed {l : Launch} {p : Program} {e : Env} {R : Room} {s : State} {m : MethodId} {args : Array Value} {below : List Frame} {meth : Method} {c : Code} {H : Heap} {locs : List Loc} {cells slots : Nat} {Qz : State → Prop} {cc : ByteArray} {nL : Nat} {ret : Option FieldType} {G : mm_G} {pc : Nat} {ls : Array Slot} {rest : List Value} {σ : MS} (cx : mm_X cc nL ret G p s m args meth c) (hM : mm_R G σ H) (hS0 : va_S (mm_A G) s.heap H locs) {Qf : Int32 → MS → Prop} (hw : w3_factNamed σ Qf) (hR : (({ frames := 0, cells := 0, slots := 0, locals := 0 } : Room)).frames + 1 ≤ R.frames ∧ 8 + (2 + 11) + (({ frames := 0, cells := 0, slots := 0, locals := 0 } : Room)).locals ≤ R.locals) (hroom : (rest.map fun v => v.category).sum ≤ 8) (hsize : ls.size = nL) (hf : cells ≤ R.cells ∧ slots ≤ R.slots) (hdg : decode cc pc = .ok (.invokevirtual 176, 3))
    (kk : ∀ (r : Int32) (σ1 : MS) (H1 : Heap) (locs1 : List Loc), Qf r σ1 → mm_R G σ1 H1 → va_S (mm_A G) s.heap H1 locs1 → W p l e R s m args below meth c H1 locs1 cells slots Qz (F0 m (pc + 3) ls (.int r :: rest))) : W p l e R s m args below meth c H locs cells slots Qz (F0 m pc ls (.ref (mm_o G) :: rest)) := by
  obtain ⟨hx, hb, hml, hown, hts, hr, hlk, hK, hZ⟩ := id cx
  exact mm_Vi cx hM hS0 (As := []) (M3_factNamed l G σ Qf hw) (cwV 0 hts (lw_V q2629 q2631 qs92 q172 q2632) rfl rfl rfl (by decide +kernel) hR) rfl hsize rfl hroom hf hdg kk
def w3_countNamed_2 (Q : Int32 → MS → Prop) (K2 : Int32 → MS → Prop) (x1 : Int32) (σ : MS) : Prop :=
  if (gA σ 1 2) ≤ x1 then (Q (-1 : Int32) σ) else (vp_in ((8 : Int32) + x1) 13 ∧ (if (lg_cmp (gB σ 3 ((8 : Int32) + x1).toNatClampNeg) (gL σ 21)) = 0 then (Q x1 σ) else (∀ v1 : Int32, v1 = x1 + (1 : Int32) → K2 v1 σ)))
set_option maxHeartbeats 4000000 in
theorem B3_countNamed_2 {l : Launch} {p : Program} {e : Env} {s : State} {m : MethodId} {args : Array Value} {below : List Frame} {meth : Method} {c : Code} {G : mm_G} {Q : Int32 → MS → Prop} {K2 : Int32 → MS → Prop} (cx : mm_X cX3_countNamed 2 (some .int) G p s m args meth c) (hK2 : ∀ (x1 : Int32) (σ : MS), K2 x1 σ → mm_T p l e ({ frames := 0, cells := 0, slots := 0, locals := 0 } : Room) s m args below meth c G (mm_Qi G Q) 2 2 σ [(0, .ref (mm_o G)), (1, .int x1)] []) : ∀ (x1 : Int32) (σ : MS), w3_countNamed_2 Q K2 x1 σ → mm_T p l e ({ frames := 0, cells := 0, slots := 0, locals := 0 } : Room) s m args below meth c G (mm_Qi G Q) 2 2 σ [(0, .ref (mm_o G)), (1, .int x1)] [] := by
  intro x1 σ hw H locs ls hM hS hl
  unfold w3_countNamed_2 at hw
  obtain ⟨hx, hb, hml, hown, hts, hr, hlk, hMK, hZ⟩ := id cx
  refine lv_iload_n hx hb dX3_countNamed_2 rfl (lv_at hl 1 rfl) ?_
  refine lv_aload_n hx hb dX3_countNamed_3 rfl (lv_at hl 0 rfl) ?_
  refine mg_1 cx hM dX3_countNamed_4 ?_
  refine lv_iconst (v := (2 : Int32)) hx hb dX3_countNamed_7 (by decide) ?_
  refine mm_iald cx hM 1 rfl (j := 2) (by decide) (vp_lit (by decide)) dX3_countNamed_8 ?_
  refine lv_icmp_ge (tgt := 37) hx hb dX3_countNamed_9 (by decide) (fun hc => ?_) (fun hc => ?_)
  · have hw := mm_ip hc hw
    refine lv_iconst (v := (-1 : Int32)) hx hb dX3_countNamed_37 (by decide) ?_
    exact mm_iret cx hM hS hw dX3_countNamed_38
  · have hw := mm_in hc hw
    refine lv_aload_n hx hb dX3_countNamed_12 rfl (lv_at hl 0 rfl) ?_
    refine mg_3 cx hM dX3_countNamed_13 ?_
    refine lv_bipush (v := (8 : Int32)) hx hb dX3_countNamed_16 (by decide) ?_
    refine lv_iload_n hx hb dX3_countNamed_18 rfl (lv_at hl 1 rfl) ?_
    refine lv_iadd hx hb dX3_countNamed_19 ?_
    obtain ⟨hi, hw⟩ := hw
    refine mm_lald cx hM 3 (Or.inr rfl) hi dX3_countNamed_20 ?_
    refine lv_aload_n hx hb dX3_countNamed_21 rfl (lv_at hl 0 rfl) ?_
    refine mg_21 cx hM dX3_countNamed_22 ?_
    refine W.lcmp hx hb dX3_countNamed_25 ?_
    refine lv_if_ne (tgt := 31) hx hb dX3_countNamed_26 (by decide) (fun hc => ?_) (fun hc => ?_)
    · have hw := mm_in hc hw
      obtain ⟨v1, hv1⟩ : ∃ v : Int32, v = x1 + (1 : Int32) := ⟨_, rfl⟩
      have hw := hw v1 hv1
      refine lv_iinc (v := v1) (lv' := [(1, .int v1), (0, .ref (mm_o G))]) hx hb dX3_countNamed_31 hl (k := 1) rfl (by rw [hv1]; rfl) (by decide) rfl (fun ls hl => ?_)
      refine lv_goto (tgt := 2) hx hb dX3_countNamed_34 (by decide) ?_
      exact hK2 _ _ hw _ _ _ hM hS (lv_sub hl [1, 0] rfl)
    · have hw := mm_ip hc hw
      refine lv_iload_n hx hb dX3_countNamed_29 rfl (lv_at hl 1 rfl) ?_
      exact mm_iret cx hM hS hw dX3_countNamed_30
theorem L3_countNamed_2 {l : Launch} {p : Program} {e : Env} {s : State} {m : MethodId} {args : Array Value} {below : List Frame} {meth : Method} {c : Code} {G : mm_G} {Q : Int32 → MS → Prop} (cx : mm_X cX3_countNamed 2 (some .int) G p s m args meth c) : ∀ (x1 : Int32) (σ : MS), lp2F (w3_countNamed_2 Q) x1 σ → mm_T p l e ({ frames := 0, cells := 0, slots := 0, locals := 0 } : Room) s m args below meth c G (mm_Qi G Q) 2 2 σ [(0, .ref (mm_o G)), (1, .int x1)] [] :=
  lp2F_of (fun K hK => B3_countNamed_2 cx hK)
def w3_countNamed (σ : MS) (Q : Int32 → MS → Prop) : Prop :=
  lp2F (w3_countNamed_2 Q) (0 : Int32) σ
set_option maxHeartbeats 4000000 in
theorem M3_countNamed (l : Launch) (G : mm_G) (σ : MS) (Q : Int32 → MS → Prop) (hw : w3_countNamed σ Q) : mm_Mi l yX3_countNamed (ws_ yX3_countNamed cX3_countNamed 2 (some .int)) ({ frames := 0, cells := 0, slots := 0, locals := 0 } : Room) G [.ref (mm_o G)] σ Q := by
  refine mm_of (by decide) rfl ?_
  intro p e s m args below meth c cx hM ha
  refine mm_entry [.ref (mm_o G)] 2 [(0, .ref (mm_o G))] ha (Nat.le_of_ble_eq_true rfl) rfl (fun ls hl => ?_)
  have hS : va_S (mm_A G) s.heap s.heap [] := va_S.rf
  unfold w3_countNamed at hw
  obtain ⟨hx, hb, hml, hown, hts, hr, hlk, hMK, hZ⟩ := id cx
  refine lv_iconst (v := (0 : Int32)) hx hb dX3_countNamed_0 (by decide) ?_
  refine lv_istore_n (lv' := [(1, .int (0 : Int32)), (0, .ref (mm_o G))]) hx hb dX3_countNamed_1 rfl hl (by decide) rfl (fun ls hl => ?_)
  exact L3_countNamed_2 cx _ _ hw _ _ _ hM hS (lv_sub hl [1, 0] rfl)
theorem C3_countNamed {l : Launch} {p : Program} {e : Env} {R : Room} {s : State} {m : MethodId} {args : Array Value} {below : List Frame} {meth : Method} {c : Code} {H : Heap} {locs : List Loc} {cells slots : Nat} {Qz : State → Prop} {cc : ByteArray} {nL : Nat} {ret : Option FieldType} {G : mm_G} {pc : Nat} {ls : Array Slot} {rest : List Value} {σ : MS} (cx : mm_X cc nL ret G p s m args meth c) (hM : mm_R G σ H) (hS0 : va_S (mm_A G) s.heap H locs) {Qf : Int32 → MS → Prop} (hw : w3_countNamed σ Qf) (hR : (({ frames := 0, cells := 0, slots := 0, locals := 0 } : Room)).frames + 1 ≤ R.frames ∧ 8 + (2 + 11) + (({ frames := 0, cells := 0, slots := 0, locals := 0 } : Room)).locals ≤ R.locals) (hroom : (rest.map fun v => v.category).sum ≤ 8) (hsize : ls.size = nL) (hf : cells ≤ R.cells ∧ slots ≤ R.slots) (hdg : decode cc pc = .ok (.invokevirtual 179, 3))
    (kk : ∀ (r : Int32) (σ1 : MS) (H1 : Heap) (locs1 : List Loc), Qf r σ1 → mm_R G σ1 H1 → va_S (mm_A G) s.heap H1 locs1 → W p l e R s m args below meth c H1 locs1 cells slots Qz (F0 m (pc + 3) ls (.int r :: rest))) : W p l e R s m args below meth c H locs cells slots Qz (F0 m pc ls (.ref (mm_o G) :: rest)) := by
  obtain ⟨hx, hb, hml, hown, hts, hr, hlk, hK, hZ⟩ := id cx
  exact mm_Vi cx hM hS0 (As := []) (M3_countNamed l G σ Qf hw) (cwV 0 hts (lw_V q2633 q2635 qs93 q172 q2636) rfl rfl rfl (by decide +kernel) hR) rfl hsize rfl hroom hf hdg kk
def w3_newName_50 (Q : MS → Prop) (σ : MS) : Prop :=
  w3_passes σ (fun s1 => Q s1)
set_option maxHeartbeats 4000000 in
theorem B3_newName_50 {l : Launch} {p : Program} {e : Env} {s : State} {m : MethodId} {args : Array Value} {below : List Frame} {meth : Method} {c : Code} {G : mm_G} {Q : MS → Prop} (cx : mm_X cX3_newName 2 none G p s m args meth c) : ∀ (σ : MS), w3_newName_50 Q σ → mm_T p l e ({ frames := 10, cells := 0, slots := 0, locals := 400 } : Room) s m args below meth c G (mm_Qv G Q) 2 50 σ [(0, .ref (mm_o G))] [] := by
  intro σ hw H locs ls hM hS hl
  unfold w3_newName_50 at hw
  obtain ⟨hx, hb, hml, hown, hts, hr, hlk, hMK, hZ⟩ := id cx
  refine lv_aload_n hx hb dX3_newName_50 rfl (lv_at hl 0 rfl) ?_
  refine C3_passes cx hM hS hw ⟨Nat.le_of_ble_eq_true rfl, Nat.le_of_ble_eq_true rfl⟩ (Nat.le_of_ble_eq_true rfl) hl.1 ⟨Nat.zero_le _, Nat.zero_le _⟩ dX3_newName_51 (fun s1 H locs hw hM hS => ?_)
  exact mm_vret cx hM hS hw dX3_newName_54
def w3_newName_33 (Q : MS → Prop) (x1 : Int32) (σ : MS) : Prop :=
  if (gI σ 17) = 0 then (vp_in x1 13 ∧ (w3_newName_50 Q (sB σ 3 x1.toNatClampNeg (gL σ 21)))) else (w3_newName_50 Q σ)
set_option maxHeartbeats 4000000 in
theorem B3_newName_33 {l : Launch} {p : Program} {e : Env} {s : State} {m : MethodId} {args : Array Value} {below : List Frame} {meth : Method} {c : Code} {G : mm_G} {Q : MS → Prop} (cx : mm_X cX3_newName 2 none G p s m args meth c) : ∀ (x1 : Int32) (σ : MS), w3_newName_33 Q x1 σ → mm_T p l e ({ frames := 10, cells := 0, slots := 0, locals := 400 } : Room) s m args below meth c G (mm_Qv G Q) 2 33 σ [(0, .ref (mm_o G)), (1, .int x1)] [] := by
  intro x1 σ hw H locs ls hM hS hl
  unfold w3_newName_33 at hw
  obtain ⟨hx, hb, hml, hown, hts, hr, hlk, hMK, hZ⟩ := id cx
  refine lv_aload_n hx hb dX3_newName_33 rfl (lv_at hl 0 rfl) ?_
  refine mg_17 cx hM dX3_newName_34 ?_
  refine lv_if_ne (tgt := 50) hx hb dX3_newName_37 (by decide) (fun hc => ?_) (fun hc => ?_)
  · have hw := mm_in hc hw
    exact B3_newName_50 cx _ hw _ _ _ hM hS (lv_sub hl [0] rfl)
  · have hw := mm_ip hc hw
    refine lv_aload_n hx hb dX3_newName_40 rfl (lv_at hl 0 rfl) ?_
    refine mg_3 cx hM dX3_newName_41 ?_
    refine lv_iload_n hx hb dX3_newName_44 rfl (lv_at hl 1 rfl) ?_
    refine lv_aload_n hx hb dX3_newName_45 rfl (lv_at hl 0 rfl) ?_
    refine mg_21 cx hM dX3_newName_46 ?_
    obtain ⟨hi, hw⟩ := hw
    refine mm_last cx hM hS 3 (Or.inr rfl) hi dX3_newName_49 (fun H locs hM hS => ?_)
    exact B3_newName_50 cx _ hw _ _ _ hM hS (lv_sub hl [0] rfl)
def w3_newName_28 (Q : MS → Prop) (x1 : Int32) (σ : MS) : Prop :=
  w3_wrong (3 : Int32) σ (fun s2 => w3_newName_33 Q x1 s2)
set_option maxHeartbeats 4000000 in
theorem B3_newName_28 {l : Launch} {p : Program} {e : Env} {s : State} {m : MethodId} {args : Array Value} {below : List Frame} {meth : Method} {c : Code} {G : mm_G} {Q : MS → Prop} (cx : mm_X cX3_newName 2 none G p s m args meth c) : ∀ (x1 : Int32) (σ : MS), w3_newName_28 Q x1 σ → mm_T p l e ({ frames := 10, cells := 0, slots := 0, locals := 400 } : Room) s m args below meth c G (mm_Qv G Q) 2 28 σ [(0, .ref (mm_o G)), (1, .int x1)] [] := by
  intro x1 σ hw H locs ls hM hS hl
  unfold w3_newName_28 at hw
  obtain ⟨hx, hb, hml, hown, hts, hr, hlk, hMK, hZ⟩ := id cx
  refine lv_aload_n hx hb dX3_newName_28 rfl (lv_at hl 0 rfl) ?_
  refine lv_iconst (v := (3 : Int32)) hx hb dX3_newName_29 (by decide) ?_
  refine C3_wrong cx hM hS hw ⟨Nat.le_of_ble_eq_true rfl, Nat.le_of_ble_eq_true rfl⟩ (Nat.le_of_ble_eq_true rfl) hl.1 ⟨Nat.zero_le _, Nat.zero_le _⟩ dX3_newName_30 (fun s2 H locs hw hM hS => ?_)
  exact B3_newName_33 cx _ _ hw _ _ _ hM hS (lv_sub hl [0, 1] rfl)
def w3_newName_12 (Q : MS → Prop) (x1 : Int32) (σ : MS) : Prop :=
  w3_factNamed σ (fun r3 s3 => if r3 = (-1 : Int32) then (w3_countNamed s3 (fun r4 s4 => if r4 = (-1 : Int32) then (w3_newName_33 Q x1 s4) else (w3_newName_28 Q x1 s4))) else (w3_newName_28 Q x1 s3))
set_option maxHeartbeats 4000000 in
theorem B3_newName_12 {l : Launch} {p : Program} {e : Env} {s : State} {m : MethodId} {args : Array Value} {below : List Frame} {meth : Method} {c : Code} {G : mm_G} {Q : MS → Prop} (cx : mm_X cX3_newName 2 none G p s m args meth c) : ∀ (x1 : Int32) (σ : MS), w3_newName_12 Q x1 σ → mm_T p l e ({ frames := 10, cells := 0, slots := 0, locals := 400 } : Room) s m args below meth c G (mm_Qv G Q) 2 12 σ [(0, .ref (mm_o G)), (1, .int x1)] [] := by
  intro x1 σ hw H locs ls hM hS hl
  unfold w3_newName_12 at hw
  obtain ⟨hx, hb, hml, hown, hts, hr, hlk, hMK, hZ⟩ := id cx
  refine lv_aload_n hx hb dX3_newName_12 rfl (lv_at hl 0 rfl) ?_
  refine C3_factNamed cx hM hS hw ⟨Nat.le_of_ble_eq_true rfl, Nat.le_of_ble_eq_true rfl⟩ (Nat.le_of_ble_eq_true rfl) hl.1 ⟨Nat.zero_le _, Nat.zero_le _⟩ dX3_newName_13 (fun r3 s3 H locs hw hM hS => ?_)
  refine lv_iconst (v := (-1 : Int32)) hx hb dX3_newName_16 (by decide) ?_
  refine lv_icmp_ne (tgt := 28) hx hb dX3_newName_17 (by decide) (fun hc => ?_) (fun hc => ?_)
  · have hw := mm_in hc hw
    exact B3_newName_28 cx _ _ hw _ _ _ hM hS (lv_sub hl [0, 1] rfl)
  · have hw := mm_ip hc hw
    refine lv_aload_n hx hb dX3_newName_20 rfl (lv_at hl 0 rfl) ?_
    refine C3_countNamed cx hM hS hw ⟨Nat.le_of_ble_eq_true rfl, Nat.le_of_ble_eq_true rfl⟩ (Nat.le_of_ble_eq_true rfl) hl.1 ⟨Nat.zero_le _, Nat.zero_le _⟩ dX3_newName_21 (fun r4 s4 H locs hw hM hS => ?_)
    refine lv_iconst (v := (-1 : Int32)) hx hb dX3_newName_24 (by decide) ?_
    refine lv_icmp_eq (tgt := 33) hx hb dX3_newName_25 (by decide) (fun hc => ?_) (fun hc => ?_)
    · have hw := mm_ip hc hw
      exact B3_newName_33 cx _ _ hw _ _ _ hM hS (lv_sub hl [0, 1] rfl)
    · have hw := mm_in hc hw
      exact B3_newName_28 cx _ _ hw _ _ _ hM hS (lv_sub hl [0, 1] rfl)
def w3_newName (x1 : Int32) (σ : MS) (Q : MS → Prop) : Prop :=
  w3_isName σ (fun r5 s5 => if r5 = 0 then (w3_wrong (1 : Int32) s5 (fun s6 => w3_newName_12 Q x1 s6)) else (w3_newName_12 Q x1 s5))
set_option maxHeartbeats 4000000 in
theorem M3_newName (l : Launch) (G : mm_G) (x1 : Int32) (σ : MS) (Q : MS → Prop) (hw : w3_newName x1 σ Q) : mm_Mv l yX3_newName (ws_ yX3_newName cX3_newName 2 none) ({ frames := 10, cells := 0, slots := 0, locals := 400 } : Room) G [.ref (mm_o G), .int x1] σ Q := by
  refine mm_of (by decide) rfl ?_
  intro p e s m args below meth c cx hM ha
  refine mm_entry [.ref (mm_o G), .int x1] 2 [(0, .ref (mm_o G)), (1, .int x1)] ha (Nat.le_of_ble_eq_true rfl) rfl (fun ls hl => ?_)
  have hS : va_S (mm_A G) s.heap s.heap [] := va_S.rf
  unfold w3_newName at hw
  obtain ⟨hx, hb, hml, hown, hts, hr, hlk, hMK, hZ⟩ := id cx
  refine lv_aload_n hx hb dX3_newName_0 rfl (lv_at hl 0 rfl) ?_
  refine C3_isName cx hM hS hw ⟨Nat.le_of_ble_eq_true rfl, Nat.le_of_ble_eq_true rfl⟩ (Nat.le_of_ble_eq_true rfl) hl.1 ⟨Nat.zero_le _, Nat.zero_le _⟩ dX3_newName_1 (fun r5 s5 H locs hw hM hS => ?_)
  refine lv_if_ne (tgt := 12) hx hb dX3_newName_4 (by decide) (fun hc => ?_) (fun hc => ?_)
  · have hw := mm_in hc hw
    exact B3_newName_12 cx _ _ hw _ _ _ hM hS (lv_sub hl [0, 1] rfl)
  · have hw := mm_ip hc hw
    refine lv_aload_n hx hb dX3_newName_7 rfl (lv_at hl 0 rfl) ?_
    refine lv_iconst (v := (1 : Int32)) hx hb dX3_newName_8 (by decide) ?_
    refine C3_wrong cx hM hS hw ⟨Nat.le_of_ble_eq_true rfl, Nat.le_of_ble_eq_true rfl⟩ (Nat.le_of_ble_eq_true rfl) hl.1 ⟨Nat.zero_le _, Nat.zero_le _⟩ dX3_newName_9 (fun s6 H locs hw hM hS => ?_)
    exact B3_newName_12 cx _ _ hw _ _ _ hM hS (lv_sub hl [0, 1] rfl)
theorem C3_newName {l : Launch} {p : Program} {e : Env} {R : Room} {s : State} {m : MethodId} {args : Array Value} {below : List Frame} {meth : Method} {c : Code} {H : Heap} {locs : List Loc} {cells slots : Nat} {Qz : State → Prop} {cc : ByteArray} {nL : Nat} {ret : Option FieldType} {G : mm_G} {pc : Nat} {ls : Array Slot} {rest : List Value} {x1 : Int32} {σ : MS} (cx : mm_X cc nL ret G p s m args meth c) (hM : mm_R G σ H) (hS0 : va_S (mm_A G) s.heap H locs) {Qf : MS → Prop} (hw : w3_newName x1 σ Qf) (hR : (({ frames := 10, cells := 0, slots := 0, locals := 400 } : Room)).frames + 1 ≤ R.frames ∧ 8 + (2 + 11) + (({ frames := 10, cells := 0, slots := 0, locals := 400 } : Room)).locals ≤ R.locals) (hroom : (rest.map fun v => v.category).sum ≤ 8) (hsize : ls.size = nL) (hf : cells ≤ R.cells ∧ slots ≤ R.slots) (hdg : decode cc pc = .ok (.invokevirtual 229, 3))
    (kk : ∀ (σ1 : MS) (H1 : Heap) (locs1 : List Loc), Qf σ1 → mm_R G σ1 H1 → va_S (mm_A G) s.heap H1 locs1 → W p l e R s m args below meth c H1 locs1 cells slots Qz (F0 m (pc + 3) ls rest)) : W p l e R s m args below meth c H locs cells slots Qz (F0 m pc ls (.int x1 :: .ref (mm_o G) :: rest)) := by
  obtain ⟨hx, hb, hml, hown, hts, hr, hlk, hK, hZ⟩ := id cx
  exact mm_Vv cx hM hS0 (As := [.int x1]) (M3_newName l G x1 σ Qf hw) (cwV 1 hts (lw_V q2611 q2613 qs90 q172 q2614) rfl rfl rfl (by decide +kernel) hR) rfl hsize rfl hroom hf hdg kk
def w3_number_33 (Q : Int32 → MS → Prop) (σ : MS) : Prop :=
  ∀ v1 : Int32, v1 = (gI σ 15) → w3_passes σ (fun s2 => Q v1 s2)
set_option maxHeartbeats 4000000 in
theorem B3_number_33 {l : Launch} {p : Program} {e : Env} {s : State} {m : MethodId} {args : Array Value} {below : List Frame} {meth : Method} {c : Code} {G : mm_G} {Q : Int32 → MS → Prop} (cx : mm_X cX3_number 4 (some .int) G p s m args meth c) : ∀ (σ : MS), w3_number_33 Q σ → mm_T p l e ({ frames := 3, cells := 0, slots := 0, locals := 120 } : Room) s m args below meth c G (mm_Qi G Q) 4 33 σ [(0, .ref (mm_o G))] [] := by
  intro σ hw H locs ls hM hS hl
  unfold w3_number_33 at hw
  obtain ⟨hx, hb, hml, hown, hts, hr, hlk, hMK, hZ⟩ := id cx
  refine lv_aload_n hx hb dX3_number_33 rfl (lv_at hl 0 rfl) ?_
  refine mg_15 cx hM dX3_number_34 ?_
  refine lv_topi (fun v1 hv1 => ?_)
  have hw := hw v1 hv1
  refine lv_istore_n (lv' := [(3, .int v1), (0, .ref (mm_o G))]) hx hb dX3_number_37 rfl hl (by decide) rfl (fun ls hl => ?_)
  refine lv_aload_n hx hb dX3_number_38 rfl (lv_at hl 1 rfl) ?_
  refine C3_passes cx hM hS hw ⟨Nat.le_of_ble_eq_true rfl, Nat.le_of_ble_eq_true rfl⟩ (Nat.le_of_ble_eq_true rfl) hl.1 ⟨Nat.zero_le _, Nat.zero_le _⟩ dX3_number_39 (fun s2 H locs hw hM hS => ?_)
  refine lv_iload_n hx hb dX3_number_42 rfl (lv_at hl 0 rfl) ?_
  exact mm_iret cx hM hS hw dX3_number_43
def w3_number (x1 : Int32) (x2 : Int32) (σ : MS) (Q : Int32 → MS → Prop) : Prop :=
  if (gI σ 14) = (3 : Int32) then (w3_in (gI σ 15) x1 x2 σ (fun r3 s3 => if r3 = 0 then (w3_wrong (2 : Int32) s3 (fun s4 => w3_number_33 Q s4)) else (w3_number_33 Q s3))) else (w3_wrong (1 : Int32) σ (fun s5 => w3_number_33 Q s5))
set_option maxHeartbeats 4000000 in
theorem M3_number (l : Launch) (G : mm_G) (x1 : Int32) (x2 : Int32) (σ : MS) (Q : Int32 → MS → Prop) (hw : w3_number x1 x2 σ Q) : mm_Mi l yX3_number (ws_ yX3_number cX3_number 4 (some .int)) ({ frames := 3, cells := 0, slots := 0, locals := 120 } : Room) G [.ref (mm_o G), .int x1, .int x2] σ Q := by
  refine mm_of (by decide) rfl ?_
  intro p e s m args below meth c cx hM ha
  refine mm_entry [.ref (mm_o G), .int x1, .int x2] 4 [(0, .ref (mm_o G)), (1, .int x1), (2, .int x2)] ha (Nat.le_of_ble_eq_true rfl) rfl (fun ls hl => ?_)
  have hS : va_S (mm_A G) s.heap s.heap [] := va_S.rf
  unfold w3_number at hw
  obtain ⟨hx, hb, hml, hown, hts, hr, hlk, hMK, hZ⟩ := id cx
  refine lv_aload_n hx hb dX3_number_0 rfl (lv_at hl 0 rfl) ?_
  refine mg_14 cx hM dX3_number_1 ?_
  refine lv_iconst (v := (3 : Int32)) hx hb dX3_number_4 (by decide) ?_
  refine lv_icmp_eq (tgt := 16) hx hb dX3_number_5 (by decide) (fun hc => ?_) (fun hc => ?_)
  · have hw := mm_ip hc hw
    refine lv_aload_n hx hb dX3_number_16 rfl (lv_at hl 0 rfl) ?_
    refine mg_15 cx hM dX3_number_17 ?_
    refine lv_iload_n hx hb dX3_number_20 rfl (lv_at hl 1 rfl) ?_
    refine lv_iload_n hx hb dX3_number_21 rfl (lv_at hl 2 rfl) ?_
    refine C3_in cx hM hS hw ⟨Nat.le_of_ble_eq_true rfl, Nat.le_of_ble_eq_true rfl⟩ (Nat.le_of_ble_eq_true rfl) hl.1 ⟨Nat.zero_le _, Nat.zero_le _⟩ dX3_number_22 (fun r3 s3 H locs hw hM hS => ?_)
    refine lv_if_ne (tgt := 33) hx hb dX3_number_25 (by decide) (fun hc => ?_) (fun hc => ?_)
    · have hw := mm_in hc hw
      exact B3_number_33 cx _ hw _ _ _ hM hS (lv_sub hl [0] rfl)
    · have hw := mm_ip hc hw
      refine lv_aload_n hx hb dX3_number_28 rfl (lv_at hl 0 rfl) ?_
      refine lv_iconst (v := (2 : Int32)) hx hb dX3_number_29 (by decide) ?_
      refine C3_wrong cx hM hS hw ⟨Nat.le_of_ble_eq_true rfl, Nat.le_of_ble_eq_true rfl⟩ (Nat.le_of_ble_eq_true rfl) hl.1 ⟨Nat.zero_le _, Nat.zero_le _⟩ dX3_number_30 (fun s4 H locs hw hM hS => ?_)
      exact B3_number_33 cx _ hw _ _ _ hM hS (lv_sub hl [0] rfl)
  · have hw := mm_in hc hw
    refine lv_aload_n hx hb dX3_number_8 rfl (lv_at hl 0 rfl) ?_
    refine lv_iconst (v := (1 : Int32)) hx hb dX3_number_9 (by decide) ?_
    refine C3_wrong cx hM hS hw ⟨Nat.le_of_ble_eq_true rfl, Nat.le_of_ble_eq_true rfl⟩ (Nat.le_of_ble_eq_true rfl) hl.1 ⟨Nat.zero_le _, Nat.zero_le _⟩ dX3_number_10 (fun s5 H locs hw hM hS => ?_)
    refine lv_goto (tgt := 33) hx hb dX3_number_13 (by decide) ?_
    exact B3_number_33 cx _ hw _ _ _ hM hS (lv_sub hl [0] rfl)
theorem C3_number {l : Launch} {p : Program} {e : Env} {R : Room} {s : State} {m : MethodId} {args : Array Value} {below : List Frame} {meth : Method} {c : Code} {H : Heap} {locs : List Loc} {cells slots : Nat} {Qz : State → Prop} {cc : ByteArray} {nL : Nat} {ret : Option FieldType} {G : mm_G} {pc : Nat} {ls : Array Slot} {rest : List Value} {x1 : Int32} {x2 : Int32} {σ : MS} (cx : mm_X cc nL ret G p s m args meth c) (hM : mm_R G σ H) (hS0 : va_S (mm_A G) s.heap H locs) {Qf : Int32 → MS → Prop} (hw : w3_number x1 x2 σ Qf) (hR : (({ frames := 3, cells := 0, slots := 0, locals := 120 } : Room)).frames + 1 ≤ R.frames ∧ 8 + (4 + 11) + (({ frames := 3, cells := 0, slots := 0, locals := 120 } : Room)).locals ≤ R.locals) (hroom : (rest.map fun v => v.category).sum ≤ 8) (hsize : ls.size = nL) (hf : cells ≤ R.cells ∧ slots ≤ R.slots) (hdg : decode cc pc = .ok (.invokevirtual 219, 3))
    (kk : ∀ (r : Int32) (σ1 : MS) (H1 : Heap) (locs1 : List Loc), Qf r σ1 → mm_R G σ1 H1 → va_S (mm_A G) s.heap H1 locs1 → W p l e R s m args below meth c H1 locs1 cells slots Qz (F0 m (pc + 3) ls (.int r :: rest))) : W p l e R s m args below meth c H locs cells slots Qz (F0 m pc ls (.int x2 :: .int x1 :: .ref (mm_o G) :: rest)) := by
  obtain ⟨hx, hb, hml, hown, hts, hr, hlk, hK, hZ⟩ := id cx
  exact mm_Vi cx hM hS0 (As := [.int x1, .int x2]) (M3_number l G x1 x2 σ Qf hw) (cwV 2 hts (lw_V q2637 q2639 qs94 q172 q2640) rfl rfl rfl (by decide +kernel) hR) rfl hsize rfl hroom hf hdg kk
def w3_isSign (x1 : Int32) (σ : MS) (Q : Int32 → MS → Prop) : Prop :=
  if (gI σ 17) = 0 then (if (gI σ 14) = (4 : Int32) then (if (gI σ 15) = x1 then (Q (1 : Int32) σ) else (Q (0 : Int32) σ)) else (Q (0 : Int32) σ)) else (Q (0 : Int32) σ)
set_option maxHeartbeats 4000000 in
theorem M3_isSign (l : Launch) (G : mm_G) (x1 : Int32) (σ : MS) (Q : Int32 → MS → Prop) (hw : w3_isSign x1 σ Q) : mm_Mi l yX3_isSign (ws_ yX3_isSign cX3_isSign 2 (some .boolean)) ({ frames := 0, cells := 0, slots := 0, locals := 0 } : Room) G [.ref (mm_o G), .int x1] σ Q := by
  refine mm_of (by decide) rfl ?_
  intro p e s m args below meth c cx hM ha
  refine mm_entry [.ref (mm_o G), .int x1] 2 [(0, .ref (mm_o G)), (1, .int x1)] ha (Nat.le_of_ble_eq_true rfl) rfl (fun ls hl => ?_)
  have hS : va_S (mm_A G) s.heap s.heap [] := va_S.rf
  unfold w3_isSign at hw
  obtain ⟨hx, hb, hml, hown, hts, hr, hlk, hMK, hZ⟩ := id cx
  refine lv_aload_n hx hb dX3_isSign_0 rfl (lv_at hl 0 rfl) ?_
  refine mg_17 cx hM dX3_isSign_1 ?_
  refine lv_if_ne (tgt := 27) hx hb dX3_isSign_4 (by decide) (fun hc => ?_) (fun hc => ?_)
  · have hw := mm_in hc hw
    refine lv_iconst (v := (0 : Int32)) hx hb dX3_isSign_27 (by decide) ?_
    exact mm_zret cx hM hS (Or.inl rfl) hw dX3_isSign_28
  · have hw := mm_ip hc hw
    refine lv_aload_n hx hb dX3_isSign_7 rfl (lv_at hl 0 rfl) ?_
    refine mg_14 cx hM dX3_isSign_8 ?_
    refine lv_iconst (v := (4 : Int32)) hx hb dX3_isSign_11 (by decide) ?_
    refine lv_icmp_ne (tgt := 27) hx hb dX3_isSign_12 (by decide) (fun hc => ?_) (fun hc => ?_)
    · have hw := mm_in hc hw
      refine lv_iconst (v := (0 : Int32)) hx hb dX3_isSign_27 (by decide) ?_
      exact mm_zret cx hM hS (Or.inl rfl) hw dX3_isSign_28
    · have hw := mm_ip hc hw
      refine lv_aload_n hx hb dX3_isSign_15 rfl (lv_at hl 0 rfl) ?_
      refine mg_15 cx hM dX3_isSign_16 ?_
      refine lv_iload_n hx hb dX3_isSign_19 rfl (lv_at hl 1 rfl) ?_
      refine lv_icmp_ne (tgt := 27) hx hb dX3_isSign_20 (by decide) (fun hc => ?_) (fun hc => ?_)
      · have hw := mm_in hc hw
        refine lv_iconst (v := (0 : Int32)) hx hb dX3_isSign_27 (by decide) ?_
        exact mm_zret cx hM hS (Or.inl rfl) hw dX3_isSign_28
      · have hw := mm_ip hc hw
        refine lv_iconst (v := (1 : Int32)) hx hb dX3_isSign_23 (by decide) ?_
        refine lv_goto (tgt := 28) hx hb dX3_isSign_24 (by decide) ?_
        exact mm_zret cx hM hS (Or.inr rfl) hw dX3_isSign_28
theorem C3_isSign {l : Launch} {p : Program} {e : Env} {R : Room} {s : State} {m : MethodId} {args : Array Value} {below : List Frame} {meth : Method} {c : Code} {H : Heap} {locs : List Loc} {cells slots : Nat} {Qz : State → Prop} {cc : ByteArray} {nL : Nat} {ret : Option FieldType} {G : mm_G} {pc : Nat} {ls : Array Slot} {rest : List Value} {x1 : Int32} {σ : MS} (cx : mm_X cc nL ret G p s m args meth c) (hM : mm_R G σ H) (hS0 : va_S (mm_A G) s.heap H locs) {Qf : Int32 → MS → Prop} (hw : w3_isSign x1 σ Qf) (hR : (({ frames := 0, cells := 0, slots := 0, locals := 0 } : Room)).frames + 1 ≤ R.frames ∧ 8 + (2 + 11) + (({ frames := 0, cells := 0, slots := 0, locals := 0 } : Room)).locals ≤ R.locals) (hroom : (rest.map fun v => v.category).sum ≤ 8) (hsize : ls.size = nL) (hf : cells ≤ R.cells ∧ slots ≤ R.slots) (hdg : decode cc pc = .ok (.invokevirtual 195, 3))
    (kk : ∀ (r : Int32) (σ1 : MS) (H1 : Heap) (locs1 : List Loc), Qf r σ1 → mm_R G σ1 H1 → va_S (mm_A G) s.heap H1 locs1 → W p l e R s m args below meth c H1 locs1 cells slots Qz (F0 m (pc + 3) ls (.int r :: rest))) : W p l e R s m args below meth c H locs cells slots Qz (F0 m pc ls (.int x1 :: .ref (mm_o G) :: rest)) := by
  obtain ⟨hx, hb, hml, hown, hts, hr, hlk, hK, hZ⟩ := id cx
  exact mm_Vi cx hM hS0 (As := [.int x1]) (M3_isSign l G x1 σ Qf hw) (cwV 1 hts (lw_V q2641 q2643 qs95 q172 q2644) rfl rfl rfl (by decide +kernel) hR) rfl hsize rfl hroom hf hdg kk
def w3_must_9 (Q : MS → Prop) (σ : MS) : Prop :=
  w3_passes σ (fun s1 => Q s1)
set_option maxHeartbeats 4000000 in
theorem B3_must_9 {l : Launch} {p : Program} {e : Env} {s : State} {m : MethodId} {args : Array Value} {below : List Frame} {meth : Method} {c : Code} {G : mm_G} {Q : MS → Prop} (cx : mm_X cX3_must 2 none G p s m args meth c) : ∀ (σ : MS), w3_must_9 Q σ → mm_T p l e ({ frames := 3, cells := 0, slots := 0, locals := 120 } : Room) s m args below meth c G (mm_Qv G Q) 2 9 σ [(0, .ref (mm_o G))] [] := by
  intro σ hw H locs ls hM hS hl
  unfold w3_must_9 at hw
  obtain ⟨hx, hb, hml, hown, hts, hr, hlk, hMK, hZ⟩ := id cx
  refine lv_aload_n hx hb dX3_must_9 rfl (lv_at hl 0 rfl) ?_
  refine C3_passes cx hM hS hw ⟨Nat.le_of_ble_eq_true rfl, Nat.le_of_ble_eq_true rfl⟩ (Nat.le_of_ble_eq_true rfl) hl.1 ⟨Nat.zero_le _, Nat.zero_le _⟩ dX3_must_10 (fun s1 H locs hw hM hS => ?_)
  exact mm_vret cx hM hS hw dX3_must_13
def w3_must (x1 : Int32) (σ : MS) (Q : MS → Prop) : Prop :=
  if x1 = 0 then (w3_wrong (1 : Int32) σ (fun s2 => w3_must_9 Q s2)) else (w3_must_9 Q σ)
set_option maxHeartbeats 4000000 in
theorem M3_must (l : Launch) (G : mm_G) (x1 : Int32) (σ : MS) (Q : MS → Prop) (hw : w3_must x1 σ Q) : mm_Mv l yX3_must (ws_ yX3_must cX3_must 2 none) ({ frames := 3, cells := 0, slots := 0, locals := 120 } : Room) G [.ref (mm_o G), .int x1] σ Q := by
  refine mm_of (by decide) rfl ?_
  intro p e s m args below meth c cx hM ha
  refine mm_entry [.ref (mm_o G), .int x1] 2 [(0, .ref (mm_o G)), (1, .int x1)] ha (Nat.le_of_ble_eq_true rfl) rfl (fun ls hl => ?_)
  have hS : va_S (mm_A G) s.heap s.heap [] := va_S.rf
  unfold w3_must at hw
  obtain ⟨hx, hb, hml, hown, hts, hr, hlk, hMK, hZ⟩ := id cx
  refine lv_iload_n hx hb dX3_must_0 rfl (lv_at hl 1 rfl) ?_
  refine lv_if_ne (tgt := 9) hx hb dX3_must_1 (by decide) (fun hc => ?_) (fun hc => ?_)
  · have hw := mm_in hc hw
    exact B3_must_9 cx _ hw _ _ _ hM hS (lv_sub hl [0] rfl)
  · have hw := mm_ip hc hw
    refine lv_aload_n hx hb dX3_must_4 rfl (lv_at hl 0 rfl) ?_
    refine lv_iconst (v := (1 : Int32)) hx hb dX3_must_5 (by decide) ?_
    refine C3_wrong cx hM hS hw ⟨Nat.le_of_ble_eq_true rfl, Nat.le_of_ble_eq_true rfl⟩ (Nat.le_of_ble_eq_true rfl) hl.1 ⟨Nat.zero_le _, Nat.zero_le _⟩ dX3_must_6 (fun s2 H locs hw hM hS => ?_)
    exact B3_must_9 cx _ hw _ _ _ hM hS (lv_sub hl [0] rfl)
theorem C3_must {l : Launch} {p : Program} {e : Env} {R : Room} {s : State} {m : MethodId} {args : Array Value} {below : List Frame} {meth : Method} {c : Code} {H : Heap} {locs : List Loc} {cells slots : Nat} {Qz : State → Prop} {cc : ByteArray} {nL : Nat} {ret : Option FieldType} {G : mm_G} {pc : Nat} {ls : Array Slot} {rest : List Value} {x1 : Int32} {σ : MS} (cx : mm_X cc nL ret G p s m args meth c) (hM : mm_R G σ H) (hS0 : va_S (mm_A G) s.heap H locs) {Qf : MS → Prop} (hw : w3_must x1 σ Qf) (hR : (({ frames := 3, cells := 0, slots := 0, locals := 120 } : Room)).frames + 1 ≤ R.frames ∧ 8 + (2 + 11) + (({ frames := 3, cells := 0, slots := 0, locals := 120 } : Room)).locals ≤ R.locals) (hroom : (rest.map fun v => v.category).sum ≤ 8) (hsize : ls.size = nL) (hf : cells ≤ R.cells ∧ slots ≤ R.slots) (hdg : decode cc pc = .ok (.invokevirtual 209, 3))
    (kk : ∀ (σ1 : MS) (H1 : Heap) (locs1 : List Loc), Qf σ1 → mm_R G σ1 H1 → va_S (mm_A G) s.heap H1 locs1 → W p l e R s m args below meth c H1 locs1 cells slots Qz (F0 m (pc + 3) ls rest)) : W p l e R s m args below meth c H locs cells slots Qz (F0 m pc ls (.int x1 :: .ref (mm_o G) :: rest)) := by
  obtain ⟨hx, hb, hml, hown, hts, hr, hlk, hK, hZ⟩ := id cx
  exact mm_Vv cx hM hS0 (As := [.int x1]) (M3_must l G x1 σ Qf hw) (cwV 1 hts (lw_V q2645 q2647 qs96 q172 q2648) rfl rfl rfl (by decide +kernel) hR) rfl hsize rfl hroom hf hdg kk
def w3_readFact_38 (Q : MS → Prop) (x1 : Int32) (t0 : Int32) (σ : MS) : Prop :=
  w3_isSign (59 : Int32) σ (fun r1 s1 => w3_must r1 s1 (fun s2 => if (gI s2 17) = 0 then (vp_in ((8 : Int32) + x1) 640 ∧ (Q (sA (sA s2 1 ((8 : Int32) + x1).toNatClampNeg t0) 1 1 ((gA (sA s2 1 ((8 : Int32) + x1).toNatClampNeg t0) 1 1) + (1 : Int32))))) else (Q s2)))
set_option maxHeartbeats 4000000 in
theorem B3_readFact_38 {l : Launch} {p : Program} {e : Env} {s : State} {m : MethodId} {args : Array Value} {below : List Frame} {meth : Method} {c : Code} {G : mm_G} {Q : MS → Prop} (cx : mm_X cX3_readFact 3 none G p s m args meth c) : ∀ (x1 : Int32) (t0 : Int32) (σ : MS), w3_readFact_38 Q x1 t0 σ → mm_T p l e ({ frames := 11, cells := 0, slots := 0, locals := 440 } : Room) s m args below meth c G (mm_Qv G Q) 3 38 σ [(0, .ref (mm_o G)), (1, .int x1)] [.int t0] := by
  intro x1 t0 σ hw H locs ls hM hS hl
  unfold w3_readFact_38 at hw
  obtain ⟨hx, hb, hml, hown, hts, hr, hlk, hMK, hZ⟩ := id cx
  refine lv_istore_n (lv' := [(2, .int t0), (0, .ref (mm_o G)), (1, .int x1)]) hx hb dX3_readFact_38 rfl hl (by decide) rfl (fun ls hl => ?_)
  refine lv_aload_n hx hb dX3_readFact_39 rfl (lv_at hl 1 rfl) ?_
  refine lv_aload_n hx hb dX3_readFact_40 rfl (lv_at hl 1 rfl) ?_
  refine lv_bipush (v := (59 : Int32)) hx hb dX3_readFact_41 (by decide) ?_
  refine C3_isSign cx hM hS hw ⟨Nat.le_of_ble_eq_true rfl, Nat.le_of_ble_eq_true rfl⟩ (Nat.le_of_ble_eq_true rfl) hl.1 ⟨Nat.zero_le _, Nat.zero_le _⟩ dX3_readFact_43 (fun r1 s1 H locs hw hM hS => ?_)
  refine C3_must cx hM hS hw ⟨Nat.le_of_ble_eq_true rfl, Nat.le_of_ble_eq_true rfl⟩ (Nat.le_of_ble_eq_true rfl) hl.1 ⟨Nat.zero_le _, Nat.zero_le _⟩ dX3_readFact_46 (fun s2 H locs hw hM hS => ?_)
  refine lv_aload_n hx hb dX3_readFact_49 rfl (lv_at hl 1 rfl) ?_
  refine mg_17 cx hM dX3_readFact_50 ?_
  refine lv_if_ne (tgt := 76) hx hb dX3_readFact_53 (by decide) (fun hc => ?_) (fun hc => ?_)
  · have hw := mm_in hc hw
    exact mm_vret cx hM hS hw dX3_readFact_76
  · have hw := mm_ip hc hw
    refine lv_aload_n hx hb dX3_readFact_56 rfl (lv_at hl 1 rfl) ?_
    refine mg_1 cx hM dX3_readFact_57 ?_
    refine lv_bipush (v := (8 : Int32)) hx hb dX3_readFact_60 (by decide) ?_
    refine lv_iload_n hx hb dX3_readFact_62 rfl (lv_at hl 2 rfl) ?_
    refine lv_iadd hx hb dX3_readFact_63 ?_
    refine lv_iload_n hx hb dX3_readFact_64 rfl (lv_at hl 0 rfl) ?_
    obtain ⟨hi, hw⟩ := hw
    refine mm_iast cx hM hS 1 rfl rfl hi dX3_readFact_65 (fun H locs hM hS => ?_)
    refine lv_aload_n hx hb dX3_readFact_66 rfl (lv_at hl 1 rfl) ?_
    refine mg_1 cx hM dX3_readFact_67 ?_
    refine lv_iconst (v := (1 : Int32)) hx hb dX3_readFact_70 (by decide) ?_
    refine lv_dup2_11 hx hb dX3_readFact_71 rfl rfl ?_
    refine mm_iald cx hM 1 rfl (j := 1) (by decide) (vp_lit (by decide)) dX3_readFact_72 ?_
    refine lv_iconst (v := (1 : Int32)) hx hb dX3_readFact_73 (by decide) ?_
    refine lv_iadd hx hb dX3_readFact_74 ?_
    refine mm_iast cx hM hS 1 rfl (j0 := 1) (by decide) (vp_lit (by decide)) dX3_readFact_75 (fun H locs hM hS => ?_)
    exact mm_vret cx hM hS hw dX3_readFact_76
def w3_readFact (σ : MS) (Q : MS → Prop) : Prop :=
  ∀ v3 : Int32, v3 = (gA σ 1 1) → w3_room v3 (8 : Int32) σ (fun s4 => w3_newName v3 s4 (fun s5 => if (gI s5 14) = (3 : Int32) then (w3_number (1 : Int32) (9 : Int32) s5 (fun r6 s6 => w3_readFact_38 Q v3 r6 s6)) else (w3_readFact_38 Q v3 (5 : Int32) s5)))
set_option maxHeartbeats 4000000 in
theorem M3_readFact (l : Launch) (G : mm_G) (σ : MS) (Q : MS → Prop) (hw : w3_readFact σ Q) : mm_Mv l yX3_readFact (ws_ yX3_readFact cX3_readFact 3 none) ({ frames := 11, cells := 0, slots := 0, locals := 440 } : Room) G [.ref (mm_o G)] σ Q := by
  refine mm_of (by decide) rfl ?_
  intro p e s m args below meth c cx hM ha
  refine mm_entry [.ref (mm_o G)] 3 [(0, .ref (mm_o G))] ha (Nat.le_of_ble_eq_true rfl) rfl (fun ls hl => ?_)
  have hS : va_S (mm_A G) s.heap s.heap [] := va_S.rf
  unfold w3_readFact at hw
  obtain ⟨hx, hb, hml, hown, hts, hr, hlk, hMK, hZ⟩ := id cx
  refine lv_aload_n hx hb dX3_readFact_0 rfl (lv_at hl 0 rfl) ?_
  refine mg_1 cx hM dX3_readFact_1 ?_
  refine lv_iconst (v := (1 : Int32)) hx hb dX3_readFact_4 (by decide) ?_
  refine mm_iald cx hM 1 rfl (j := 1) (by decide) (vp_lit (by decide)) dX3_readFact_5 ?_
  refine lv_topi (fun v3 hv3 => ?_)
  have hw := hw v3 hv3
  refine lv_istore_n (lv' := [(1, .int v3), (0, .ref (mm_o G))]) hx hb dX3_readFact_6 rfl hl (by decide) rfl (fun ls hl => ?_)
  refine lv_aload_n hx hb dX3_readFact_7 rfl (lv_at hl 1 rfl) ?_
  refine lv_iload_n hx hb dX3_readFact_8 rfl (lv_at hl 0 rfl) ?_
  refine lv_bipush (v := (8 : Int32)) hx hb dX3_readFact_9 (by decide) ?_
  refine C3_room cx hM hS hw ⟨Nat.le_of_ble_eq_true rfl, Nat.le_of_ble_eq_true rfl⟩ (Nat.le_of_ble_eq_true rfl) hl.1 ⟨Nat.zero_le _, Nat.zero_le _⟩ dX3_readFact_11 (fun s4 H locs hw hM hS => ?_)
  refine lv_aload_n hx hb dX3_readFact_14 rfl (lv_at hl 1 rfl) ?_
  refine lv_iload_n hx hb dX3_readFact_15 rfl (lv_at hl 0 rfl) ?_
  refine C3_newName cx hM hS hw ⟨Nat.le_of_ble_eq_true rfl, Nat.le_of_ble_eq_true rfl⟩ (Nat.le_of_ble_eq_true rfl) hl.1 ⟨Nat.zero_le _, Nat.zero_le _⟩ dX3_readFact_16 (fun s5 H locs hw hM hS => ?_)
  refine lv_aload_n hx hb dX3_readFact_19 rfl (lv_at hl 1 rfl) ?_
  refine mg_14 cx hM dX3_readFact_20 ?_
  refine lv_iconst (v := (3 : Int32)) hx hb dX3_readFact_23 (by decide) ?_
  refine lv_icmp_ne (tgt := 37) hx hb dX3_readFact_24 (by decide) (fun hc => ?_) (fun hc => ?_)
  · have hw := mm_in hc hw
    refine lv_iconst (v := (5 : Int32)) hx hb dX3_readFact_37 (by decide) ?_
    exact B3_readFact_38 cx _ _ _ hw _ _ _ hM hS (lv_sub hl [1, 0] rfl)
  · have hw := mm_ip hc hw
    refine lv_aload_n hx hb dX3_readFact_27 rfl (lv_at hl 1 rfl) ?_
    refine lv_iconst (v := (1 : Int32)) hx hb dX3_readFact_28 (by decide) ?_
    refine lv_bipush (v := (9 : Int32)) hx hb dX3_readFact_29 (by decide) ?_
    refine C3_number cx hM hS hw ⟨Nat.le_of_ble_eq_true rfl, Nat.le_of_ble_eq_true rfl⟩ (Nat.le_of_ble_eq_true rfl) hl.1 ⟨Nat.zero_le _, Nat.zero_le _⟩ dX3_readFact_31 (fun r6 s6 H locs hw hM hS => ?_)
    refine lv_goto (tgt := 38) hx hb dX3_readFact_34 (by decide) ?_
    exact B3_readFact_38 cx _ _ _ hw _ _ _ hM hS (lv_sub hl [1, 0] rfl)
theorem C3_readFact {l : Launch} {p : Program} {e : Env} {R : Room} {s : State} {m : MethodId} {args : Array Value} {below : List Frame} {meth : Method} {c : Code} {H : Heap} {locs : List Loc} {cells slots : Nat} {Qz : State → Prop} {cc : ByteArray} {nL : Nat} {ret : Option FieldType} {G : mm_G} {pc : Nat} {ls : Array Slot} {rest : List Value} {σ : MS} (cx : mm_X cc nL ret G p s m args meth c) (hM : mm_R G σ H) (hS0 : va_S (mm_A G) s.heap H locs) {Qf : MS → Prop} (hw : w3_readFact σ Qf) (hR : (({ frames := 11, cells := 0, slots := 0, locals := 440 } : Room)).frames + 1 ≤ R.frames ∧ 8 + (3 + 11) + (({ frames := 11, cells := 0, slots := 0, locals := 440 } : Room)).locals ≤ R.locals) (hroom : (rest.map fun v => v.category).sum ≤ 8) (hsize : ls.size = nL) (hf : cells ≤ R.cells ∧ slots ≤ R.slots) (hdg : decode cc pc = .ok (.invokevirtual 247, 3))
    (kk : ∀ (σ1 : MS) (H1 : Heap) (locs1 : List Loc), Qf σ1 → mm_R G σ1 H1 → va_S (mm_A G) s.heap H1 locs1 → W p l e R s m args below meth c H1 locs1 cells slots Qz (F0 m (pc + 3) ls rest)) : W p l e R s m args below meth c H locs cells slots Qz (F0 m pc ls (.ref (mm_o G) :: rest)) := by
  obtain ⟨hx, hb, hml, hown, hts, hr, hlk, hK, hZ⟩ := id cx
  exact mm_Vv cx hM hS0 (As := []) (M3_readFact l G σ Qf hw) (cwV 0 hts (lw_V q2595 q2597 qs86 q172 q2598) rfl rfl rfl (by decide +kernel) hR) rfl hsize rfl hroom hf hdg kk
def w3_step (x1 : Int32) (x2 : Int32) (σ : MS) (Q : MS → Prop) : Prop :=
  if (gI σ 17) = 0 then (vp_in ((150 : Int32) + (gA σ 1 7)) 640 ∧ (Q (sA (sA σ 1 ((150 : Int32) + (gA σ 1 7)).toNatClampNeg (((100 : Int32) * x1) + x2)) 1 7 ((gA (sA σ 1 ((150 : Int32) + (gA σ 1 7)).toNatClampNeg (((100 : Int32) * x1) + x2)) 1 7) + (1 : Int32))))) else (Q σ)
set_option maxHeartbeats 4000000 in
theorem M3_step (l : Launch) (G : mm_G) (x1 : Int32) (x2 : Int32) (σ : MS) (Q : MS → Prop) (hw : w3_step x1 x2 σ Q) : mm_Mv l yX3_step (ws_ yX3_step cX3_step 3 none) ({ frames := 0, cells := 0, slots := 0, locals := 0 } : Room) G [.ref (mm_o G), .int x1, .int x2] σ Q := by
  refine mm_of (by decide) rfl ?_
  intro p e s m args below meth c cx hM ha
  refine mm_entry [.ref (mm_o G), .int x1, .int x2] 3 [(0, .ref (mm_o G)), (1, .int x1), (2, .int x2)] ha (Nat.le_of_ble_eq_true rfl) rfl (fun ls hl => ?_)
  have hS : va_S (mm_A G) s.heap s.heap [] := va_S.rf
  unfold w3_step at hw
  obtain ⟨hx, hb, hml, hown, hts, hr, hlk, hMK, hZ⟩ := id cx
  refine lv_aload_n hx hb dX3_step_0 rfl (lv_at hl 0 rfl) ?_
  refine mg_17 cx hM dX3_step_1 ?_
  refine lv_if_eq (tgt := 8) hx hb dX3_step_4 (by decide) (fun hc => ?_) (fun hc => ?_)
  · have hw := mm_ip hc hw
    refine lv_aload_n hx hb dX3_step_8 rfl (lv_at hl 0 rfl) ?_
    refine mg_1 cx hM dX3_step_9 ?_
    refine lv_sipush (v := (150 : Int32)) hx hb dX3_step_12 (by decide) ?_
    refine lv_aload_n hx hb dX3_step_15 rfl (lv_at hl 0 rfl) ?_
    refine mg_1 cx hM dX3_step_16 ?_
    refine lv_bipush (v := (7 : Int32)) hx hb dX3_step_19 (by decide) ?_
    refine mm_iald cx hM 1 rfl (j := 7) (by decide) (vp_lit (by decide)) dX3_step_21 ?_
    refine lv_iadd hx hb dX3_step_22 ?_
    refine lv_bipush (v := (100 : Int32)) hx hb dX3_step_23 (by decide) ?_
    refine lv_iload_n hx hb dX3_step_25 rfl (lv_at hl 1 rfl) ?_
    refine lv_imul hx hb dX3_step_26 ?_
    refine lv_iload_n hx hb dX3_step_27 rfl (lv_at hl 2 rfl) ?_
    refine lv_iadd hx hb dX3_step_28 ?_
    obtain ⟨hi, hw⟩ := hw
    refine mm_iast cx hM hS 1 rfl rfl hi dX3_step_29 (fun H locs hM hS => ?_)
    refine lv_aload_n hx hb dX3_step_30 rfl (lv_at hl 0 rfl) ?_
    refine mg_1 cx hM dX3_step_31 ?_
    refine lv_bipush (v := (7 : Int32)) hx hb dX3_step_34 (by decide) ?_
    refine lv_dup2_11 hx hb dX3_step_36 rfl rfl ?_
    refine mm_iald cx hM 1 rfl (j := 7) (by decide) (vp_lit (by decide)) dX3_step_37 ?_
    refine lv_iconst (v := (1 : Int32)) hx hb dX3_step_38 (by decide) ?_
    refine lv_iadd hx hb dX3_step_39 ?_
    refine mm_iast cx hM hS 1 rfl (j0 := 7) (by decide) (vp_lit (by decide)) dX3_step_40 (fun H locs hM hS => ?_)
    exact mm_vret cx hM hS hw dX3_step_41
  · have hw := mm_in hc hw
    exact mm_vret cx hM hS hw dX3_step_7
theorem C3_step {l : Launch} {p : Program} {e : Env} {R : Room} {s : State} {m : MethodId} {args : Array Value} {below : List Frame} {meth : Method} {c : Code} {H : Heap} {locs : List Loc} {cells slots : Nat} {Qz : State → Prop} {cc : ByteArray} {nL : Nat} {ret : Option FieldType} {G : mm_G} {pc : Nat} {ls : Array Slot} {rest : List Value} {x1 : Int32} {x2 : Int32} {σ : MS} (cx : mm_X cc nL ret G p s m args meth c) (hM : mm_R G σ H) (hS0 : va_S (mm_A G) s.heap H locs) {Qf : MS → Prop} (hw : w3_step x1 x2 σ Qf) (hR : (({ frames := 0, cells := 0, slots := 0, locals := 0 } : Room)).frames + 1 ≤ R.frames ∧ 8 + (3 + 11) + (({ frames := 0, cells := 0, slots := 0, locals := 0 } : Room)).locals ≤ R.locals) (hroom : (rest.map fun v => v.category).sum ≤ 8) (hsize : ls.size = nL) (hf : cells ≤ R.cells ∧ slots ≤ R.slots) (hdg : decode cc pc = .ok (.invokevirtual 199, 3))
    (kk : ∀ (σ1 : MS) (H1 : Heap) (locs1 : List Loc), Qf σ1 → mm_R G σ1 H1 → va_S (mm_A G) s.heap H1 locs1 → W p l e R s m args below meth c H1 locs1 cells slots Qz (F0 m (pc + 3) ls rest)) : W p l e R s m args below meth c H locs cells slots Qz (F0 m pc ls (.int x2 :: .int x1 :: .ref (mm_o G) :: rest)) := by
  obtain ⟨hx, hb, hml, hown, hts, hr, hlk, hK, hZ⟩ := id cx
  exact mm_Vv cx hM hS0 (As := [.int x1, .int x2]) (M3_step l G x1 x2 σ Qf hw) (cwV 2 hts (lw_V q2673 q2675 qs103 q172 q2676) rfl rfl rfl (by decide +kernel) hR) rfl hsize rfl hroom hf hdg kk
def w3_opens_13 (Q : MS → Prop) (σ : MS) : Prop :=
  w3_passes (sI σ 16 ((gI σ 16) + (1 : Int32))) (fun s1 => Q s1)
set_option maxHeartbeats 4000000 in
theorem B3_opens_13 {l : Launch} {p : Program} {e : Env} {s : State} {m : MethodId} {args : Array Value} {below : List Frame} {meth : Method} {c : Code} {G : mm_G} {Q : MS → Prop} (cx : mm_X cX3_opens 1 none G p s m args meth c) : ∀ (σ : MS), w3_opens_13 Q σ → mm_T p l e ({ frames := 3, cells := 0, slots := 0, locals := 120 } : Room) s m args below meth c G (mm_Qv G Q) 1 13 σ [(0, .ref (mm_o G))] [] := by
  intro σ hw H locs ls hM hS hl
  unfold w3_opens_13 at hw
  obtain ⟨hx, hb, hml, hown, hts, hr, hlk, hMK, hZ⟩ := id cx
  refine lv_aload_n hx hb dX3_opens_13 rfl (lv_at hl 0 rfl) ?_
  refine lv_dup hx hb dX3_opens_14 rfl ?_
  refine mg_16 cx hM dX3_opens_15 ?_
  refine lv_iconst (v := (1 : Int32)) hx hb dX3_opens_18 (by decide) ?_
  refine lv_iadd hx hb dX3_opens_19 ?_
  refine mp_16 cx hM hS dX3_opens_20 (fun H locs hM hS => ?_)
  refine lv_aload_n hx hb dX3_opens_23 rfl (lv_at hl 0 rfl) ?_
  refine C3_passes cx hM hS hw ⟨Nat.le_of_ble_eq_true rfl, Nat.le_of_ble_eq_true rfl⟩ (Nat.le_of_ble_eq_true rfl) hl.1 ⟨Nat.zero_le _, Nat.zero_le _⟩ dX3_opens_24 (fun s1 H locs hw hM hS => ?_)
  exact mm_vret cx hM hS hw dX3_opens_27
def w3_opens (σ : MS) (Q : MS → Prop) : Prop :=
  if (gI σ 16) = (5 : Int32) then (w3_wrong (4 : Int32) σ (fun s2 => w3_opens_13 Q s2)) else (w3_opens_13 Q σ)
set_option maxHeartbeats 4000000 in
theorem M3_opens (l : Launch) (G : mm_G) (σ : MS) (Q : MS → Prop) (hw : w3_opens σ Q) : mm_Mv l yX3_opens (ws_ yX3_opens cX3_opens 1 none) ({ frames := 3, cells := 0, slots := 0, locals := 120 } : Room) G [.ref (mm_o G)] σ Q := by
  refine mm_of (by decide) rfl ?_
  intro p e s m args below meth c cx hM ha
  refine mm_entry [.ref (mm_o G)] 1 [(0, .ref (mm_o G))] ha (Nat.le_of_ble_eq_true rfl) rfl (fun ls hl => ?_)
  have hS : va_S (mm_A G) s.heap s.heap [] := va_S.rf
  unfold w3_opens at hw
  obtain ⟨hx, hb, hml, hown, hts, hr, hlk, hMK, hZ⟩ := id cx
  refine lv_aload_n hx hb dX3_opens_0 rfl (lv_at hl 0 rfl) ?_
  refine mg_16 cx hM dX3_opens_1 ?_
  refine lv_iconst (v := (5 : Int32)) hx hb dX3_opens_4 (by decide) ?_
  refine lv_icmp_ne (tgt := 13) hx hb dX3_opens_5 (by decide) (fun hc => ?_) (fun hc => ?_)
  · have hw := mm_in hc hw
    exact B3_opens_13 cx _ hw _ _ _ hM hS (lv_sub hl [0] rfl)
  · have hw := mm_ip hc hw
    refine lv_aload_n hx hb dX3_opens_8 rfl (lv_at hl 0 rfl) ?_
    refine lv_iconst (v := (4 : Int32)) hx hb dX3_opens_9 (by decide) ?_
    refine C3_wrong cx hM hS hw ⟨Nat.le_of_ble_eq_true rfl, Nat.le_of_ble_eq_true rfl⟩ (Nat.le_of_ble_eq_true rfl) hl.1 ⟨Nat.zero_le _, Nat.zero_le _⟩ dX3_opens_10 (fun s2 H locs hw hM hS => ?_)
    exact B3_opens_13 cx _ hw _ _ _ hM hS (lv_sub hl [0] rfl)
theorem C3_opens {l : Launch} {p : Program} {e : Env} {R : Room} {s : State} {m : MethodId} {args : Array Value} {below : List Frame} {meth : Method} {c : Code} {H : Heap} {locs : List Loc} {cells slots : Nat} {Qz : State → Prop} {cc : ByteArray} {nL : Nat} {ret : Option FieldType} {G : mm_G} {pc : Nat} {ls : Array Slot} {rest : List Value} {σ : MS} (cx : mm_X cc nL ret G p s m args meth c) (hM : mm_R G σ H) (hS0 : va_S (mm_A G) s.heap H locs) {Qf : MS → Prop} (hw : w3_opens σ Qf) (hR : (({ frames := 3, cells := 0, slots := 0, locals := 120 } : Room)).frames + 1 ≤ R.frames ∧ 8 + (1 + 11) + (({ frames := 3, cells := 0, slots := 0, locals := 120 } : Room)).locals ≤ R.locals) (hroom : (rest.map fun v => v.category).sum ≤ 8) (hsize : ls.size = nL) (hf : cells ≤ R.cells ∧ slots ≤ R.slots) (hdg : decode cc pc = .ok (.invokevirtual 206, 3))
    (kk : ∀ (σ1 : MS) (H1 : Heap) (locs1 : List Loc), Qf σ1 → mm_R G σ1 H1 → va_S (mm_A G) s.heap H1 locs1 → W p l e R s m args below meth c H1 locs1 cells slots Qz (F0 m (pc + 3) ls rest)) : W p l e R s m args below meth c H locs cells slots Qz (F0 m pc ls (.ref (mm_o G) :: rest)) := by
  obtain ⟨hx, hb, hml, hown, hts, hr, hlk, hK, hZ⟩ := id cx
  exact mm_Vv cx hM hS0 (As := []) (M3_opens l G σ Qf hw) (cwV 0 hts (lw_V q2669 q2671 qs102 q172 q2672) rfl rfl rfl (by decide +kernel) hR) rfl hsize rfl hroom hf hdg kk
def w3_here_38 (Q : Int32 → MS → Prop) (x2 : Int32) (σ : MS) : Prop :=
  if (gI σ 17) = 0 then (Q x2 σ) else (Q (0 : Int32) σ)
set_option maxHeartbeats 4000000 in
theorem B3_here_38 {l : Launch} {p : Program} {e : Env} {s : State} {m : MethodId} {args : Array Value} {below : List Frame} {meth : Method} {c : Code} {G : mm_G} {Q : Int32 → MS → Prop} (cx : mm_X cX3_here 3 (some .int) G p s m args meth c) : ∀ (x2 : Int32) (σ : MS), w3_here_38 Q x2 σ → mm_T p l e ({ frames := 10, cells := 0, slots := 0, locals := 400 } : Room) s m args below meth c G (mm_Qi G Q) 3 38 σ [(0, .ref (mm_o G)), (2, .int x2)] [] := by
  intro x2 σ hw H locs ls hM hS hl
  unfold w3_here_38 at hw
  obtain ⟨hx, hb, hml, hown, hts, hr, hlk, hMK, hZ⟩ := id cx
  refine lv_aload_n hx hb dX3_here_38 rfl (lv_at hl 0 rfl) ?_
  refine mg_17 cx hM dX3_here_39 ?_
  refine lv_if_ne (tgt := 49) hx hb dX3_here_42 (by decide) (fun hc => ?_) (fun hc => ?_)
  · have hw := mm_in hc hw
    refine lv_iconst (v := (0 : Int32)) hx hb dX3_here_49 (by decide) ?_
    exact mm_iret cx hM hS hw dX3_here_50
  · have hw := mm_ip hc hw
    refine lv_iload_n hx hb dX3_here_45 rfl (lv_at hl 1 rfl) ?_
    refine lv_goto (tgt := 50) hx hb dX3_here_46 (by decide) ?_
    exact mm_iret cx hM hS hw dX3_here_50
def w3_here_27 (Q : Int32 → MS → Prop) (t0 : Int32) (σ : MS) : Prop :=
  if t0 = (-1 : Int32) then (w3_wrong (3 : Int32) σ (fun s1 => w3_here_38 Q t0 s1)) else (w3_here_38 Q t0 σ)
set_option maxHeartbeats 4000000 in
theorem B3_here_27 {l : Launch} {p : Program} {e : Env} {s : State} {m : MethodId} {args : Array Value} {below : List Frame} {meth : Method} {c : Code} {G : mm_G} {Q : Int32 → MS → Prop} (cx : mm_X cX3_here 3 (some .int) G p s m args meth c) : ∀ (t0 : Int32) (σ : MS), w3_here_27 Q t0 σ → mm_T p l e ({ frames := 10, cells := 0, slots := 0, locals := 400 } : Room) s m args below meth c G (mm_Qi G Q) 3 27 σ [(0, .ref (mm_o G))] [.int t0] := by
  intro t0 σ hw H locs ls hM hS hl
  unfold w3_here_27 at hw
  obtain ⟨hx, hb, hml, hown, hts, hr, hlk, hMK, hZ⟩ := id cx
  refine lv_istore_n (lv' := [(2, .int t0), (0, .ref (mm_o G))]) hx hb dX3_here_27 rfl hl (by decide) rfl (fun ls hl => ?_)
  refine lv_iload_n hx hb dX3_here_28 rfl (lv_at hl 0 rfl) ?_
  refine lv_iconst (v := (-1 : Int32)) hx hb dX3_here_29 (by decide) ?_
  refine lv_icmp_ne (tgt := 38) hx hb dX3_here_30 (by decide) (fun hc => ?_) (fun hc => ?_)
  · have hw := mm_in hc hw
    exact B3_here_38 cx _ _ hw _ _ _ hM hS (lv_sub hl [1, 0] rfl)
  · have hw := mm_ip hc hw
    refine lv_aload_n hx hb dX3_here_33 rfl (lv_at hl 1 rfl) ?_
    refine lv_iconst (v := (3 : Int32)) hx hb dX3_here_34 (by decide) ?_
    refine C3_wrong cx hM hS hw ⟨Nat.le_of_ble_eq_true rfl, Nat.le_of_ble_eq_true rfl⟩ (Nat.le_of_ble_eq_true rfl) hl.1 ⟨Nat.zero_le _, Nat.zero_le _⟩ dX3_here_35 (fun s1 H locs hw hM hS => ?_)
    exact B3_here_38 cx _ _ hw _ _ _ hM hS (lv_sub hl [1, 0] rfl)
def w3_here_12 (Q : Int32 → MS → Prop) (x1 : Int32) (σ : MS) : Prop :=
  if x1 = 0 then (w3_countNamed σ (fun r2 s2 => w3_here_27 Q r2 s2)) else (w3_factNamed σ (fun r3 s3 => w3_here_27 Q r3 s3))
set_option maxHeartbeats 4000000 in
theorem B3_here_12 {l : Launch} {p : Program} {e : Env} {s : State} {m : MethodId} {args : Array Value} {below : List Frame} {meth : Method} {c : Code} {G : mm_G} {Q : Int32 → MS → Prop} (cx : mm_X cX3_here 3 (some .int) G p s m args meth c) : ∀ (x1 : Int32) (σ : MS), w3_here_12 Q x1 σ → mm_T p l e ({ frames := 10, cells := 0, slots := 0, locals := 400 } : Room) s m args below meth c G (mm_Qi G Q) 3 12 σ [(0, .ref (mm_o G)), (1, .int x1)] [] := by
  intro x1 σ hw H locs ls hM hS hl
  unfold w3_here_12 at hw
  obtain ⟨hx, hb, hml, hown, hts, hr, hlk, hMK, hZ⟩ := id cx
  refine lv_iload_n hx hb dX3_here_12 rfl (lv_at hl 1 rfl) ?_
  refine lv_if_eq (tgt := 23) hx hb dX3_here_13 (by decide) (fun hc => ?_) (fun hc => ?_)
  · have hw := mm_ip hc hw
    refine lv_aload_n hx hb dX3_here_23 rfl (lv_at hl 0 rfl) ?_
    refine C3_countNamed cx hM hS hw ⟨Nat.le_of_ble_eq_true rfl, Nat.le_of_ble_eq_true rfl⟩ (Nat.le_of_ble_eq_true rfl) hl.1 ⟨Nat.zero_le _, Nat.zero_le _⟩ dX3_here_24 (fun r2 s2 H locs hw hM hS => ?_)
    exact B3_here_27 cx _ _ hw _ _ _ hM hS (lv_sub hl [0] rfl)
  · have hw := mm_in hc hw
    refine lv_aload_n hx hb dX3_here_16 rfl (lv_at hl 0 rfl) ?_
    refine C3_factNamed cx hM hS hw ⟨Nat.le_of_ble_eq_true rfl, Nat.le_of_ble_eq_true rfl⟩ (Nat.le_of_ble_eq_true rfl) hl.1 ⟨Nat.zero_le _, Nat.zero_le _⟩ dX3_here_17 (fun r3 s3 H locs hw hM hS => ?_)
    refine lv_goto (tgt := 27) hx hb dX3_here_20 (by decide) ?_
    exact B3_here_27 cx _ _ hw _ _ _ hM hS (lv_sub hl [0] rfl)
def w3_here (x1 : Int32) (σ : MS) (Q : Int32 → MS → Prop) : Prop :=
  w3_isName σ (fun r4 s4 => if r4 = 0 then (w3_wrong (1 : Int32) s4 (fun s5 => w3_here_12 Q x1 s5)) else (w3_here_12 Q x1 s4))
set_option maxHeartbeats 4000000 in
theorem M3_here (l : Launch) (G : mm_G) (x1 : Int32) (σ : MS) (Q : Int32 → MS → Prop) (hw : w3_here x1 σ Q) : mm_Mi l yX3_here (ws_ yX3_here cX3_here 3 (some .int)) ({ frames := 10, cells := 0, slots := 0, locals := 400 } : Room) G [.ref (mm_o G), .int x1] σ Q := by
  refine mm_of (by decide) rfl ?_
  intro p e s m args below meth c cx hM ha
  refine mm_entry [.ref (mm_o G), .int x1] 3 [(0, .ref (mm_o G)), (1, .int x1)] ha (Nat.le_of_ble_eq_true rfl) rfl (fun ls hl => ?_)
  have hS : va_S (mm_A G) s.heap s.heap [] := va_S.rf
  unfold w3_here at hw
  obtain ⟨hx, hb, hml, hown, hts, hr, hlk, hMK, hZ⟩ := id cx
  refine lv_aload_n hx hb dX3_here_0 rfl (lv_at hl 0 rfl) ?_
  refine C3_isName cx hM hS hw ⟨Nat.le_of_ble_eq_true rfl, Nat.le_of_ble_eq_true rfl⟩ (Nat.le_of_ble_eq_true rfl) hl.1 ⟨Nat.zero_le _, Nat.zero_le _⟩ dX3_here_1 (fun r4 s4 H locs hw hM hS => ?_)
  refine lv_if_ne (tgt := 12) hx hb dX3_here_4 (by decide) (fun hc => ?_) (fun hc => ?_)
  · have hw := mm_in hc hw
    exact B3_here_12 cx _ _ hw _ _ _ hM hS (lv_sub hl [0, 1] rfl)
  · have hw := mm_ip hc hw
    refine lv_aload_n hx hb dX3_here_7 rfl (lv_at hl 0 rfl) ?_
    refine lv_iconst (v := (1 : Int32)) hx hb dX3_here_8 (by decide) ?_
    refine C3_wrong cx hM hS hw ⟨Nat.le_of_ble_eq_true rfl, Nat.le_of_ble_eq_true rfl⟩ (Nat.le_of_ble_eq_true rfl) hl.1 ⟨Nat.zero_le _, Nat.zero_le _⟩ dX3_here_9 (fun s5 H locs hw hM hS => ?_)
    exact B3_here_12 cx _ _ hw _ _ _ hM hS (lv_sub hl [0, 1] rfl)
theorem C3_here {l : Launch} {p : Program} {e : Env} {R : Room} {s : State} {m : MethodId} {args : Array Value} {below : List Frame} {meth : Method} {c : Code} {H : Heap} {locs : List Loc} {cells slots : Nat} {Qz : State → Prop} {cc : ByteArray} {nL : Nat} {ret : Option FieldType} {G : mm_G} {pc : Nat} {ls : Array Slot} {rest : List Value} {x1 : Int32} {σ : MS} (cx : mm_X cc nL ret G p s m args meth c) (hM : mm_R G σ H) (hS0 : va_S (mm_A G) s.heap H locs) {Qf : Int32 → MS → Prop} (hw : w3_here x1 σ Qf) (hR : (({ frames := 10, cells := 0, slots := 0, locals := 400 } : Room)).frames + 1 ≤ R.frames ∧ 8 + (3 + 11) + (({ frames := 10, cells := 0, slots := 0, locals := 400 } : Room)).locals ≤ R.locals) (hroom : (rest.map fun v => v.category).sum ≤ 8) (hsize : ls.size = nL) (hf : cells ≤ R.cells ∧ slots ≤ R.slots) (hdg : decode cc pc = .ok (.invokevirtual 182, 3))
    (kk : ∀ (r : Int32) (σ1 : MS) (H1 : Heap) (locs1 : List Loc), Qf r σ1 → mm_R G σ1 H1 → va_S (mm_A G) s.heap H1 locs1 → W p l e R s m args below meth c H1 locs1 cells slots Qz (F0 m (pc + 3) ls (.int r :: rest))) : W p l e R s m args below meth c H locs cells slots Qz (F0 m pc ls (.int x1 :: .ref (mm_o G) :: rest)) := by
  obtain ⟨hx, hb, hml, hown, hts, hr, hlk, hK, hZ⟩ := id cx
  exact mm_Vi cx hM hS0 (As := [.int x1]) (M3_here l G x1 σ Qf hw) (cwV 1 hts (lw_V q2685 q2687 qs106 q172 q2688) rfl rfl rfl (by decide +kernel) hR) rfl hsize rfl hroom hf hdg kk
def w3_oneTooMany_57 (Q : MS → Prop) (σ : MS) : Prop :=
  w3_wrong (4 : Int32) σ (fun s1 => Q s1)
set_option maxHeartbeats 4000000 in
theorem B3_oneTooMany_57 {l : Launch} {p : Program} {e : Env} {s : State} {m : MethodId} {args : Array Value} {below : List Frame} {meth : Method} {c : Code} {G : mm_G} {Q : MS → Prop} (cx : mm_X cX3_oneTooMany 1 none G p s m args meth c) : ∀ (σ : MS), w3_oneTooMany_57 Q σ → mm_T p l e ({ frames := 11, cells := 0, slots := 0, locals := 440 } : Room) s m args below meth c G (mm_Qv G Q) 1 57 σ [(0, .ref (mm_o G))] [] := by
  intro σ hw H locs ls hM hS hl
  unfold w3_oneTooMany_57 at hw
  obtain ⟨hx, hb, hml, hown, hts, hr, hlk, hMK, hZ⟩ := id cx
  refine lv_aload_n hx hb dX3_oneTooMany_57 rfl (lv_at hl 0 rfl) ?_
  refine lv_iconst (v := (4 : Int32)) hx hb dX3_oneTooMany_58 (by decide) ?_
  refine C3_wrong cx hM hS hw ⟨Nat.le_of_ble_eq_true rfl, Nat.le_of_ble_eq_true rfl⟩ (Nat.le_of_ble_eq_true rfl) hl.1 ⟨Nat.zero_le _, Nat.zero_le _⟩ dX3_oneTooMany_59 (fun s1 H locs hw hM hS => ?_)
  exact mm_vret cx hM hS hw dX3_oneTooMany_62
def w3_oneTooMany_27 (Q : MS → Prop) (t1 : Int32) (σ : MS) : Prop :=
  w3_wrong t1 σ (fun s2 => w3_oneTooMany_57 Q s2)
set_option maxHeartbeats 4000000 in
theorem B3_oneTooMany_27 {l : Launch} {p : Program} {e : Env} {s : State} {m : MethodId} {args : Array Value} {below : List Frame} {meth : Method} {c : Code} {G : mm_G} {Q : MS → Prop} (cx : mm_X cX3_oneTooMany 1 none G p s m args meth c) : ∀ (t1 : Int32) (σ : MS), w3_oneTooMany_27 Q t1 σ → mm_T p l e ({ frames := 11, cells := 0, slots := 0, locals := 440 } : Room) s m args below meth c G (mm_Qv G Q) 1 27 σ [(0, .ref (mm_o G))] [.int t1, .ref (mm_o G)] := by
  intro t1 σ hw H locs ls hM hS hl
  unfold w3_oneTooMany_27 at hw
  obtain ⟨hx, hb, hml, hown, hts, hr, hlk, hMK, hZ⟩ := id cx
  refine C3_wrong cx hM hS hw ⟨Nat.le_of_ble_eq_true rfl, Nat.le_of_ble_eq_true rfl⟩ (Nat.le_of_ble_eq_true rfl) hl.1 ⟨Nat.zero_le _, Nat.zero_le _⟩ dX3_oneTooMany_27 (fun s2 H locs hw hM hS => ?_)
  refine lv_goto (tgt := 57) hx hb dX3_oneTooMany_30 (by decide) ?_
  exact B3_oneTooMany_57 cx _ hw _ _ _ hM hS (lv_sub hl [0] rfl)
def w3_oneTooMany (σ : MS) (Q : MS → Prop) : Prop :=
  if (gI σ 14) = (3 : Int32) then (w3_in (gI σ 15) (0 : Int32) (6 : Int32) σ (fun r6 s6 => if r6 = 0 then (w3_oneTooMany_27 Q (2 : Int32) s6) else (w3_oneTooMany_27 Q (4 : Int32) s6))) else (w3_isSign (33 : Int32) σ (fun r3 s3 => if r3 = 0 then (w3_isSign (40 : Int32) s3 (fun r4 s4 => if r4 = 0 then (w3_here (1 : Int32) s4 (fun r5 s5 => w3_oneTooMany_57 Q s5)) else (w3_oneTooMany_57 Q s4))) else (w3_oneTooMany_57 Q s3)))
set_option maxHeartbeats 4000000 in
theorem M3_oneTooMany (l : Launch) (G : mm_G) (σ : MS) (Q : MS → Prop) (hw : w3_oneTooMany σ Q) : mm_Mv l yX3_oneTooMany (ws_ yX3_oneTooMany cX3_oneTooMany 1 none) ({ frames := 11, cells := 0, slots := 0, locals := 440 } : Room) G [.ref (mm_o G)] σ Q := by
  refine mm_of (by decide) rfl ?_
  intro p e s m args below meth c cx hM ha
  refine mm_entry [.ref (mm_o G)] 1 [(0, .ref (mm_o G))] ha (Nat.le_of_ble_eq_true rfl) rfl (fun ls hl => ?_)
  have hS : va_S (mm_A G) s.heap s.heap [] := va_S.rf
  unfold w3_oneTooMany at hw
  obtain ⟨hx, hb, hml, hown, hts, hr, hlk, hMK, hZ⟩ := id cx
  refine lv_aload_n hx hb dX3_oneTooMany_0 rfl (lv_at hl 0 rfl) ?_
  refine mg_14 cx hM dX3_oneTooMany_1 ?_
  refine lv_iconst (v := (3 : Int32)) hx hb dX3_oneTooMany_4 (by decide) ?_
  refine lv_icmp_ne (tgt := 33) hx hb dX3_oneTooMany_5 (by decide) (fun hc => ?_) (fun hc => ?_)
  · have hw := mm_in hc hw
    refine lv_aload_n hx hb dX3_oneTooMany_33 rfl (lv_at hl 0 rfl) ?_
    refine lv_bipush (v := (33 : Int32)) hx hb dX3_oneTooMany_34 (by decide) ?_
    refine C3_isSign cx hM hS hw ⟨Nat.le_of_ble_eq_true rfl, Nat.le_of_ble_eq_true rfl⟩ (Nat.le_of_ble_eq_true rfl) hl.1 ⟨Nat.zero_le _, Nat.zero_le _⟩ dX3_oneTooMany_36 (fun r3 s3 H locs hw hM hS => ?_)
    refine lv_if_ne (tgt := 57) hx hb dX3_oneTooMany_39 (by decide) (fun hc => ?_) (fun hc => ?_)
    · have hw := mm_in hc hw
      exact B3_oneTooMany_57 cx _ hw _ _ _ hM hS (lv_sub hl [0] rfl)
    · have hw := mm_ip hc hw
      refine lv_aload_n hx hb dX3_oneTooMany_42 rfl (lv_at hl 0 rfl) ?_
      refine lv_bipush (v := (40 : Int32)) hx hb dX3_oneTooMany_43 (by decide) ?_
      refine C3_isSign cx hM hS hw ⟨Nat.le_of_ble_eq_true rfl, Nat.le_of_ble_eq_true rfl⟩ (Nat.le_of_ble_eq_true rfl) hl.1 ⟨Nat.zero_le _, Nat.zero_le _⟩ dX3_oneTooMany_45 (fun r4 s4 H locs hw hM hS => ?_)
      refine lv_if_ne (tgt := 57) hx hb dX3_oneTooMany_48 (by decide) (fun hc => ?_) (fun hc => ?_)
      · have hw := mm_in hc hw
        exact B3_oneTooMany_57 cx _ hw _ _ _ hM hS (lv_sub hl [0] rfl)
      · have hw := mm_ip hc hw
        refine lv_aload_n hx hb dX3_oneTooMany_51 rfl (lv_at hl 0 rfl) ?_
        refine lv_iconst (v := (1 : Int32)) hx hb dX3_oneTooMany_52 (by decide) ?_
        refine C3_here cx hM hS hw ⟨Nat.le_of_ble_eq_true rfl, Nat.le_of_ble_eq_true rfl⟩ (Nat.le_of_ble_eq_true rfl) hl.1 ⟨Nat.zero_le _, Nat.zero_le _⟩ dX3_oneTooMany_53 (fun r5 s5 H locs hw hM hS => ?_)
        refine lv_pop hx hb dX3_oneTooMany_56 rfl ?_
        exact B3_oneTooMany_57 cx _ hw _ _ _ hM hS (lv_sub hl [0] rfl)
  · have hw := mm_ip hc hw
    refine lv_aload_n hx hb dX3_oneTooMany_8 rfl (lv_at hl 0 rfl) ?_
    refine lv_aload_n hx hb dX3_oneTooMany_9 rfl (lv_at hl 0 rfl) ?_
    refine mg_15 cx hM dX3_oneTooMany_10 ?_
    refine lv_iconst (v := (0 : Int32)) hx hb dX3_oneTooMany_13 (by decide) ?_
    refine lv_bipush (v := (6 : Int32)) hx hb dX3_oneTooMany_14 (by decide) ?_
    refine C3_in cx hM hS hw ⟨Nat.le_of_ble_eq_true rfl, Nat.le_of_ble_eq_true rfl⟩ (Nat.le_of_ble_eq_true rfl) hl.1 ⟨Nat.zero_le _, Nat.zero_le _⟩ dX3_oneTooMany_16 (fun r6 s6 H locs hw hM hS => ?_)
    refine lv_if_eq (tgt := 26) hx hb dX3_oneTooMany_19 (by decide) (fun hc => ?_) (fun hc => ?_)
    · have hw := mm_ip hc hw
      refine lv_iconst (v := (2 : Int32)) hx hb dX3_oneTooMany_26 (by decide) ?_
      exact B3_oneTooMany_27 cx _ _ hw _ _ _ hM hS (lv_sub hl [0] rfl)
    · have hw := mm_in hc hw
      refine lv_iconst (v := (4 : Int32)) hx hb dX3_oneTooMany_22 (by decide) ?_
      refine lv_goto (tgt := 27) hx hb dX3_oneTooMany_23 (by decide) ?_
      exact B3_oneTooMany_27 cx _ _ hw _ _ _ hM hS (lv_sub hl [0] rfl)
theorem C3_oneTooMany {l : Launch} {p : Program} {e : Env} {R : Room} {s : State} {m : MethodId} {args : Array Value} {below : List Frame} {meth : Method} {c : Code} {H : Heap} {locs : List Loc} {cells slots : Nat} {Qz : State → Prop} {cc : ByteArray} {nL : Nat} {ret : Option FieldType} {G : mm_G} {pc : Nat} {ls : Array Slot} {rest : List Value} {σ : MS} (cx : mm_X cc nL ret G p s m args meth c) (hM : mm_R G σ H) (hS0 : va_S (mm_A G) s.heap H locs) {Qf : MS → Prop} (hw : w3_oneTooMany σ Qf) (hR : (({ frames := 11, cells := 0, slots := 0, locals := 440 } : Room)).frames + 1 ≤ R.frames ∧ 8 + (1 + 11) + (({ frames := 11, cells := 0, slots := 0, locals := 440 } : Room)).locals ≤ R.locals) (hroom : (rest.map fun v => v.category).sum ≤ 8) (hsize : ls.size = nL) (hf : cells ≤ R.cells ∧ slots ≤ R.slots) (hdg : decode cc pc = .ok (.invokevirtual 223, 3))
    (kk : ∀ (σ1 : MS) (H1 : Heap) (locs1 : List Loc), Qf σ1 → mm_R G σ1 H1 → va_S (mm_A G) s.heap H1 locs1 → W p l e R s m args below meth c H1 locs1 cells slots Qz (F0 m (pc + 3) ls rest)) : W p l e R s m args below meth c H locs cells slots Qz (F0 m pc ls (.ref (mm_o G) :: rest)) := by
  obtain ⟨hx, hb, hml, hown, hts, hr, hlk, hK, hZ⟩ := id cx
  exact mm_Vv cx hM hS0 (As := []) (M3_oneTooMany l G σ Qf hw) (cwV 0 hts (lw_V q2681 q2683 qs105 q172 q2684) rfl rfl rfl (by decide +kernel) hR) rfl hsize rfl hroom hf hdg kk
def w3_known (x1 : Int32) (σ : MS) (Q : Int32 → MS → Prop) : Prop :=
  w3_here x1 σ (fun r1 s1 => w3_passes s1 (fun s2 => Q r1 s2))
set_option maxHeartbeats 4000000 in
theorem M3_known (l : Launch) (G : mm_G) (x1 : Int32) (σ : MS) (Q : Int32 → MS → Prop) (hw : w3_known x1 σ Q) : mm_Mi l yX3_known (ws_ yX3_known cX3_known 3 (some .int)) ({ frames := 11, cells := 0, slots := 0, locals := 440 } : Room) G [.ref (mm_o G), .int x1] σ Q := by
  refine mm_of (by decide) rfl ?_
  intro p e s m args below meth c cx hM ha
  refine mm_entry [.ref (mm_o G), .int x1] 3 [(0, .ref (mm_o G)), (1, .int x1)] ha (Nat.le_of_ble_eq_true rfl) rfl (fun ls hl => ?_)
  have hS : va_S (mm_A G) s.heap s.heap [] := va_S.rf
  unfold w3_known at hw
  obtain ⟨hx, hb, hml, hown, hts, hr, hlk, hMK, hZ⟩ := id cx
  refine lv_aload_n hx hb dX3_known_0 rfl (lv_at hl 0 rfl) ?_
  refine lv_iload_n hx hb dX3_known_1 rfl (lv_at hl 1 rfl) ?_
  refine C3_here cx hM hS hw ⟨Nat.le_of_ble_eq_true rfl, Nat.le_of_ble_eq_true rfl⟩ (Nat.le_of_ble_eq_true rfl) hl.1 ⟨Nat.zero_le _, Nat.zero_le _⟩ dX3_known_2 (fun r1 s1 H locs hw hM hS => ?_)
  refine lv_istore_n (lv' := [(2, .int r1), (0, .ref (mm_o G)), (1, .int x1)]) hx hb dX3_known_5 rfl hl (by decide) rfl (fun ls hl => ?_)
  refine lv_aload_n hx hb dX3_known_6 rfl (lv_at hl 1 rfl) ?_
  refine C3_passes cx hM hS hw ⟨Nat.le_of_ble_eq_true rfl, Nat.le_of_ble_eq_true rfl⟩ (Nat.le_of_ble_eq_true rfl) hl.1 ⟨Nat.zero_le _, Nat.zero_le _⟩ dX3_known_7 (fun s2 H locs hw hM hS => ?_)
  refine lv_iload_n hx hb dX3_known_10 rfl (lv_at hl 0 rfl) ?_
  exact mm_iret cx hM hS hw dX3_known_11
theorem C3_known {l : Launch} {p : Program} {e : Env} {R : Room} {s : State} {m : MethodId} {args : Array Value} {below : List Frame} {meth : Method} {c : Code} {H : Heap} {locs : List Loc} {cells slots : Nat} {Qz : State → Prop} {cc : ByteArray} {nL : Nat} {ret : Option FieldType} {G : mm_G} {pc : Nat} {ls : Array Slot} {rest : List Value} {x1 : Int32} {σ : MS} (cx : mm_X cc nL ret G p s m args meth c) (hM : mm_R G σ H) (hS0 : va_S (mm_A G) s.heap H locs) {Qf : Int32 → MS → Prop} (hw : w3_known x1 σ Qf) (hR : (({ frames := 11, cells := 0, slots := 0, locals := 440 } : Room)).frames + 1 ≤ R.frames ∧ 8 + (3 + 11) + (({ frames := 11, cells := 0, slots := 0, locals := 440 } : Room)).locals ≤ R.locals) (hroom : (rest.map fun v => v.category).sum ≤ 8) (hsize : ls.size = nL) (hf : cells ≤ R.cells ∧ slots ≤ R.slots) (hdg : decode cc pc = .ok (.invokevirtual 216, 3))
    (kk : ∀ (r : Int32) (σ1 : MS) (H1 : Heap) (locs1 : List Loc), Qf r σ1 → mm_R G σ1 H1 → va_S (mm_A G) s.heap H1 locs1 → W p l e R s m args below meth c H1 locs1 cells slots Qz (F0 m (pc + 3) ls (.int r :: rest))) : W p l e R s m args below meth c H locs cells slots Qz (F0 m pc ls (.int x1 :: .ref (mm_o G) :: rest)) := by
  obtain ⟨hx, hb, hml, hown, hts, hr, hlk, hK, hZ⟩ := id cx
  exact mm_Vi cx hM hS0 (As := [.int x1]) (M3_known l G x1 σ Qf hw) (cwV 1 hts (lw_V q2689 q2691 qs107 q172 q2692) rfl rfl rfl (by decide +kernel) hR) rfl hsize rfl hroom hf hdg kk
theorem C3_one {l : Launch} {p : Program} {e : Env} {R : Room} {s : State} {m : MethodId} {args : Array Value} {below : List Frame} {meth : Method} {c : Code} {H : Heap} {locs : List Loc} {cells slots : Nat} {Qz : State → Prop} {cc : ByteArray} {nL : Nat} {ret : Option FieldType} {G : mm_G} {pc : Nat} {ls : Array Slot} {rest : List Value} {F : MS → (MS → Prop) → Prop} (d : Nat) (hF : ∀ (σ : MS) (Q : MS → Prop), F σ Q → mm_Mv l yX3_one (ws_ yX3_one cX3_one 1 none) ({ frames := 13 + 4 * d, cells := 0, slots := 0, locals := 40 * (13 + 4 * d) } : Room) G [.ref (mm_o G)] σ Q) {σ : MS} (cx : mm_X cc nL ret G p s m args meth c) (hM : mm_R G σ H) (hS0 : va_S (mm_A G) s.heap H locs) {Qf : MS → Prop} (hw : F σ Qf) (hR : (({ frames := 13 + 4 * d, cells := 0, slots := 0, locals := 40 * (13 + 4 * d) } : Room)).frames + 1 ≤ R.frames ∧ 8 + (1 + 11) + (({ frames := 13 + 4 * d, cells := 0, slots := 0, locals := 40 * (13 + 4 * d) } : Room)).locals ≤ R.locals) (hroom : (rest.map fun v => v.category).sum ≤ 8) (hsize : ls.size = nL) (hf : cells ≤ R.cells ∧ slots ≤ R.slots) (hdg : decode cc pc = .ok (.invokevirtual 203, 3))
    (kk : ∀ (σ1 : MS) (H1 : Heap) (locs1 : List Loc), Qf σ1 → mm_R G σ1 H1 → va_S (mm_A G) s.heap H1 locs1 → W p l e R s m args below meth c H1 locs1 cells slots Qz (F0 m (pc + 3) ls rest)) : W p l e R s m args below meth c H locs cells slots Qz (F0 m pc ls (.ref (mm_o G) :: rest)) := by
  obtain ⟨hx, hb, hml, hown, hts, hr, hlk, hK, hZ⟩ := id cx
  exact mm_Vv cx hM hS0 (As := []) (hF σ Qf hw) (cwV 0 hts (lw_V q2665 q2667 qs101 q172 q2668) rfl rfl rfl (by decide +kernel) hR) rfl hsize rfl hroom hf hdg kk
def w3_both_4 (F : MS → (MS → Prop) → Prop) (Q : MS → Prop) (K4 : MS → Prop) (σ : MS) : Prop :=
  w3_isSign (38 : Int32) σ (fun r1 s1 => if r1 = 0 then (Q s1) else (w3_next s1 (fun s2 => F s2 (fun s3 => w3_step (2 : Int32) (0 : Int32) s3 (fun s4 => K4 s4)))))
set_option maxHeartbeats 4000000 in
theorem B3_both_4 {l : Launch} {p : Program} {e : Env} {s : State} {m : MethodId} {args : Array Value} {below : List Frame} {meth : Method} {c : Code} {G : mm_G} {F : MS → (MS → Prop) → Prop} {Q : MS → Prop} {K4 : MS → Prop} (d : Nat) (hF : ∀ (σ : MS) (Q : MS → Prop), F σ Q → mm_Mv l yX3_one (ws_ yX3_one cX3_one 1 none) ({ frames := 13 + 4 * d, cells := 0, slots := 0, locals := 40 * (13 + 4 * d) } : Room) G [.ref (mm_o G)] σ Q) (cx : mm_X cX3_both 1 none G p s m args meth c) (hK4 : ∀ (σ : MS), K4 σ → mm_T p l e ({ frames := 14 + 4 * d, cells := 0, slots := 0, locals := 40 * (14 + 4 * d) } : Room) s m args below meth c G (mm_Qv G Q) 1 4 σ [(0, .ref (mm_o G))] []) : ∀ (σ : MS), w3_both_4 F Q K4 σ → mm_T p l e ({ frames := 14 + 4 * d, cells := 0, slots := 0, locals := 40 * (14 + 4 * d) } : Room) s m args below meth c G (mm_Qv G Q) 1 4 σ [(0, .ref (mm_o G))] [] := by
  intro σ hw H locs ls hM hS hl
  unfold w3_both_4 at hw
  obtain ⟨hx, hb, hml, hown, hts, hr, hlk, hMK, hZ⟩ := id cx
  refine lv_aload_n hx hb dX3_both_4 rfl (lv_at hl 0 rfl) ?_
  refine lv_bipush (v := (38 : Int32)) hx hb dX3_both_5 (by decide) ?_
  refine C3_isSign cx hM hS hw (by constructor <;> dsimp only <;> omega) (Nat.le_of_ble_eq_true rfl) hl.1 ⟨Nat.zero_le _, Nat.zero_le _⟩ dX3_both_7 (fun r1 s1 H locs hw hM hS => ?_)
  refine lv_if_eq (tgt := 30) hx hb dX3_both_10 (by decide) (fun hc => ?_) (fun hc => ?_)
  · have hw := mm_ip hc hw
    exact mm_vret cx hM hS hw dX3_both_30
  · have hw := mm_in hc hw
    refine lv_aload_n hx hb dX3_both_13 rfl (lv_at hl 0 rfl) ?_
    refine C3_next cx hM hS hw (by constructor <;> dsimp only <;> omega) (Nat.le_of_ble_eq_true rfl) hl.1 ⟨Nat.zero_le _, Nat.zero_le _⟩ dX3_both_14 (fun s2 H locs hw hM hS => ?_)
    refine lv_aload_n hx hb dX3_both_17 rfl (lv_at hl 0 rfl) ?_
    refine C3_one d hF cx hM hS hw (by constructor <;> dsimp only <;> omega) (Nat.le_of_ble_eq_true rfl) hl.1 ⟨Nat.zero_le _, Nat.zero_le _⟩ dX3_both_18 (fun s3 H locs hw hM hS => ?_)
    refine lv_aload_n hx hb dX3_both_21 rfl (lv_at hl 0 rfl) ?_
    refine lv_iconst (v := (2 : Int32)) hx hb dX3_both_22 (by decide) ?_
    refine lv_iconst (v := (0 : Int32)) hx hb dX3_both_23 (by decide) ?_
    refine C3_step cx hM hS hw (by constructor <;> dsimp only <;> omega) (Nat.le_of_ble_eq_true rfl) hl.1 ⟨Nat.zero_le _, Nat.zero_le _⟩ dX3_both_24 (fun s4 H locs hw hM hS => ?_)
    refine lv_goto (tgt := 4) hx hb dX3_both_27 (by decide) ?_
    exact hK4 _ hw _ _ _ hM hS (lv_sub hl [0] rfl)
theorem L3_both_4 {l : Launch} {p : Program} {e : Env} {s : State} {m : MethodId} {args : Array Value} {below : List Frame} {meth : Method} {c : Code} {G : mm_G} {F : MS → (MS → Prop) → Prop} {Q : MS → Prop} (d : Nat) (hF : ∀ (σ : MS) (Q : MS → Prop), F σ Q → mm_Mv l yX3_one (ws_ yX3_one cX3_one 1 none) ({ frames := 13 + 4 * d, cells := 0, slots := 0, locals := 40 * (13 + 4 * d) } : Room) G [.ref (mm_o G)] σ Q) (cx : mm_X cX3_both 1 none G p s m args meth c) : ∀ (σ : MS), lp1F (w3_both_4 F Q) σ → mm_T p l e ({ frames := 14 + 4 * d, cells := 0, slots := 0, locals := 40 * (14 + 4 * d) } : Room) s m args below meth c G (mm_Qv G Q) 1 4 σ [(0, .ref (mm_o G))] [] :=
  lp1F_of (fun K hK => B3_both_4 d hF cx hK)
def w3_both (F : MS → (MS → Prop) → Prop) (σ : MS) (Q : MS → Prop) : Prop :=
  F σ (fun s5 => lp1F (w3_both_4 F Q) s5)
set_option maxHeartbeats 4000000 in
theorem M3_both (l : Launch) (G : mm_G) {F : MS → (MS → Prop) → Prop} (d : Nat) (hF : ∀ (σ : MS) (Q : MS → Prop), F σ Q → mm_Mv l yX3_one (ws_ yX3_one cX3_one 1 none) ({ frames := 13 + 4 * d, cells := 0, slots := 0, locals := 40 * (13 + 4 * d) } : Room) G [.ref (mm_o G)] σ Q) (σ : MS) (Q : MS → Prop) (hw : w3_both F σ Q) : mm_Mv l yX3_both (ws_ yX3_both cX3_both 1 none) ({ frames := 14 + 4 * d, cells := 0, slots := 0, locals := 40 * (14 + 4 * d) } : Room) G [.ref (mm_o G)] σ Q := by
  refine mm_of (by decide) rfl ?_
  intro p e s m args below meth c cx hM ha
  refine mm_entry [.ref (mm_o G)] 1 [(0, .ref (mm_o G))] ha (Nat.le_of_ble_eq_true rfl) rfl (fun ls hl => ?_)
  have hS : va_S (mm_A G) s.heap s.heap [] := va_S.rf
  unfold w3_both at hw
  obtain ⟨hx, hb, hml, hown, hts, hr, hlk, hMK, hZ⟩ := id cx
  refine lv_aload_n hx hb dX3_both_0 rfl (lv_at hl 0 rfl) ?_
  refine C3_one d hF cx hM hS hw (by constructor <;> dsimp only <;> omega) (Nat.le_of_ble_eq_true rfl) hl.1 ⟨Nat.zero_le _, Nat.zero_le _⟩ dX3_both_1 (fun s5 H locs hw hM hS => ?_)
  exact L3_both_4 d hF cx _ hw _ _ _ hM hS (lv_sub hl [0] rfl)
theorem C3_both {l : Launch} {p : Program} {e : Env} {R : Room} {s : State} {m : MethodId} {args : Array Value} {below : List Frame} {meth : Method} {c : Code} {H : Heap} {locs : List Loc} {cells slots : Nat} {Qz : State → Prop} {cc : ByteArray} {nL : Nat} {ret : Option FieldType} {G : mm_G} {pc : Nat} {ls : Array Slot} {rest : List Value} {F : MS → (MS → Prop) → Prop} (d : Nat) (hF : ∀ (σ : MS) (Q : MS → Prop), F σ Q → mm_Mv l yX3_one (ws_ yX3_one cX3_one 1 none) ({ frames := 13 + 4 * d, cells := 0, slots := 0, locals := 40 * (13 + 4 * d) } : Room) G [.ref (mm_o G)] σ Q) {σ : MS} (cx : mm_X cc nL ret G p s m args meth c) (hM : mm_R G σ H) (hS0 : va_S (mm_A G) s.heap H locs) {Qf : MS → Prop} (hw : w3_both F σ Qf) (hR : (({ frames := 14 + 4 * d, cells := 0, slots := 0, locals := 40 * (14 + 4 * d) } : Room)).frames + 1 ≤ R.frames ∧ 8 + (1 + 11) + (({ frames := 14 + 4 * d, cells := 0, slots := 0, locals := 40 * (14 + 4 * d) } : Room)).locals ≤ R.locals) (hroom : (rest.map fun v => v.category).sum ≤ 8) (hsize : ls.size = nL) (hf : cells ≤ R.cells ∧ slots ≤ R.slots) (hdg : decode cc pc = .ok (.invokevirtual 192, 3))
    (kk : ∀ (σ1 : MS) (H1 : Heap) (locs1 : List Loc), Qf σ1 → mm_R G σ1 H1 → va_S (mm_A G) s.heap H1 locs1 → W p l e R s m args below meth c H1 locs1 cells slots Qz (F0 m (pc + 3) ls rest)) : W p l e R s m args below meth c H locs cells slots Qz (F0 m pc ls (.ref (mm_o G) :: rest)) := by
  obtain ⟨hx, hb, hml, hown, hts, hr, hlk, hK, hZ⟩ := id cx
  exact mm_Vv cx hM hS0 (As := []) (M3_both l G d hF σ Qf hw) (cwV 0 hts (lw_V q2661 q2663 qs100 q172 q2664) rfl rfl rfl (by decide +kernel) hR) rfl hsize rfl hroom hf hdg kk
def w3_either_4 (F : MS → (MS → Prop) → Prop) (Q : MS → Prop) (K4 : MS → Prop) (σ : MS) : Prop :=
  w3_isSign (124 : Int32) σ (fun r1 s1 => if r1 = 0 then (Q s1) else (w3_next s1 (fun s2 => w3_both F s2 (fun s3 => w3_step (3 : Int32) (0 : Int32) s3 (fun s4 => K4 s4)))))
set_option maxHeartbeats 4000000 in
theorem B3_either_4 {l : Launch} {p : Program} {e : Env} {s : State} {m : MethodId} {args : Array Value} {below : List Frame} {meth : Method} {c : Code} {G : mm_G} {F : MS → (MS → Prop) → Prop} {Q : MS → Prop} {K4 : MS → Prop} (d : Nat) (hF : ∀ (σ : MS) (Q : MS → Prop), F σ Q → mm_Mv l yX3_one (ws_ yX3_one cX3_one 1 none) ({ frames := 13 + 4 * d, cells := 0, slots := 0, locals := 40 * (13 + 4 * d) } : Room) G [.ref (mm_o G)] σ Q) (cx : mm_X cX3_either 1 none G p s m args meth c) (hK4 : ∀ (σ : MS), K4 σ → mm_T p l e ({ frames := 15 + 4 * d, cells := 0, slots := 0, locals := 40 * (15 + 4 * d) } : Room) s m args below meth c G (mm_Qv G Q) 1 4 σ [(0, .ref (mm_o G))] []) : ∀ (σ : MS), w3_either_4 F Q K4 σ → mm_T p l e ({ frames := 15 + 4 * d, cells := 0, slots := 0, locals := 40 * (15 + 4 * d) } : Room) s m args below meth c G (mm_Qv G Q) 1 4 σ [(0, .ref (mm_o G))] [] := by
  intro σ hw H locs ls hM hS hl
  unfold w3_either_4 at hw
  obtain ⟨hx, hb, hml, hown, hts, hr, hlk, hMK, hZ⟩ := id cx
  refine lv_aload_n hx hb dX3_either_4 rfl (lv_at hl 0 rfl) ?_
  refine lv_bipush (v := (124 : Int32)) hx hb dX3_either_5 (by decide) ?_
  refine C3_isSign cx hM hS hw (by constructor <;> dsimp only <;> omega) (Nat.le_of_ble_eq_true rfl) hl.1 ⟨Nat.zero_le _, Nat.zero_le _⟩ dX3_either_7 (fun r1 s1 H locs hw hM hS => ?_)
  refine lv_if_eq (tgt := 30) hx hb dX3_either_10 (by decide) (fun hc => ?_) (fun hc => ?_)
  · have hw := mm_ip hc hw
    exact mm_vret cx hM hS hw dX3_either_30
  · have hw := mm_in hc hw
    refine lv_aload_n hx hb dX3_either_13 rfl (lv_at hl 0 rfl) ?_
    refine C3_next cx hM hS hw (by constructor <;> dsimp only <;> omega) (Nat.le_of_ble_eq_true rfl) hl.1 ⟨Nat.zero_le _, Nat.zero_le _⟩ dX3_either_14 (fun s2 H locs hw hM hS => ?_)
    refine lv_aload_n hx hb dX3_either_17 rfl (lv_at hl 0 rfl) ?_
    refine C3_both d hF cx hM hS hw (by constructor <;> dsimp only <;> omega) (Nat.le_of_ble_eq_true rfl) hl.1 ⟨Nat.zero_le _, Nat.zero_le _⟩ dX3_either_18 (fun s3 H locs hw hM hS => ?_)
    refine lv_aload_n hx hb dX3_either_21 rfl (lv_at hl 0 rfl) ?_
    refine lv_iconst (v := (3 : Int32)) hx hb dX3_either_22 (by decide) ?_
    refine lv_iconst (v := (0 : Int32)) hx hb dX3_either_23 (by decide) ?_
    refine C3_step cx hM hS hw (by constructor <;> dsimp only <;> omega) (Nat.le_of_ble_eq_true rfl) hl.1 ⟨Nat.zero_le _, Nat.zero_le _⟩ dX3_either_24 (fun s4 H locs hw hM hS => ?_)
    refine lv_goto (tgt := 4) hx hb dX3_either_27 (by decide) ?_
    exact hK4 _ hw _ _ _ hM hS (lv_sub hl [0] rfl)
theorem L3_either_4 {l : Launch} {p : Program} {e : Env} {s : State} {m : MethodId} {args : Array Value} {below : List Frame} {meth : Method} {c : Code} {G : mm_G} {F : MS → (MS → Prop) → Prop} {Q : MS → Prop} (d : Nat) (hF : ∀ (σ : MS) (Q : MS → Prop), F σ Q → mm_Mv l yX3_one (ws_ yX3_one cX3_one 1 none) ({ frames := 13 + 4 * d, cells := 0, slots := 0, locals := 40 * (13 + 4 * d) } : Room) G [.ref (mm_o G)] σ Q) (cx : mm_X cX3_either 1 none G p s m args meth c) : ∀ (σ : MS), lp1F (w3_either_4 F Q) σ → mm_T p l e ({ frames := 15 + 4 * d, cells := 0, slots := 0, locals := 40 * (15 + 4 * d) } : Room) s m args below meth c G (mm_Qv G Q) 1 4 σ [(0, .ref (mm_o G))] [] :=
  lp1F_of (fun K hK => B3_either_4 d hF cx hK)
def w3_either (F : MS → (MS → Prop) → Prop) (σ : MS) (Q : MS → Prop) : Prop :=
  w3_both F σ (fun s5 => lp1F (w3_either_4 F Q) s5)
set_option maxHeartbeats 4000000 in
theorem M3_either (l : Launch) (G : mm_G) {F : MS → (MS → Prop) → Prop} (d : Nat) (hF : ∀ (σ : MS) (Q : MS → Prop), F σ Q → mm_Mv l yX3_one (ws_ yX3_one cX3_one 1 none) ({ frames := 13 + 4 * d, cells := 0, slots := 0, locals := 40 * (13 + 4 * d) } : Room) G [.ref (mm_o G)] σ Q) (σ : MS) (Q : MS → Prop) (hw : w3_either F σ Q) : mm_Mv l yX3_either (ws_ yX3_either cX3_either 1 none) ({ frames := 15 + 4 * d, cells := 0, slots := 0, locals := 40 * (15 + 4 * d) } : Room) G [.ref (mm_o G)] σ Q := by
  refine mm_of (by decide) rfl ?_
  intro p e s m args below meth c cx hM ha
  refine mm_entry [.ref (mm_o G)] 1 [(0, .ref (mm_o G))] ha (Nat.le_of_ble_eq_true rfl) rfl (fun ls hl => ?_)
  have hS : va_S (mm_A G) s.heap s.heap [] := va_S.rf
  unfold w3_either at hw
  obtain ⟨hx, hb, hml, hown, hts, hr, hlk, hMK, hZ⟩ := id cx
  refine lv_aload_n hx hb dX3_either_0 rfl (lv_at hl 0 rfl) ?_
  refine C3_both d hF cx hM hS hw (by constructor <;> dsimp only <;> omega) (Nat.le_of_ble_eq_true rfl) hl.1 ⟨Nat.zero_le _, Nat.zero_le _⟩ dX3_either_1 (fun s5 H locs hw hM hS => ?_)
  exact L3_either_4 d hF cx _ hw _ _ _ hM hS (lv_sub hl [0] rfl)
theorem C3_either {l : Launch} {p : Program} {e : Env} {R : Room} {s : State} {m : MethodId} {args : Array Value} {below : List Frame} {meth : Method} {c : Code} {H : Heap} {locs : List Loc} {cells slots : Nat} {Qz : State → Prop} {cc : ByteArray} {nL : Nat} {ret : Option FieldType} {G : mm_G} {pc : Nat} {ls : Array Slot} {rest : List Value} {F : MS → (MS → Prop) → Prop} (d : Nat) (hF : ∀ (σ : MS) (Q : MS → Prop), F σ Q → mm_Mv l yX3_one (ws_ yX3_one cX3_one 1 none) ({ frames := 13 + 4 * d, cells := 0, slots := 0, locals := 40 * (13 + 4 * d) } : Room) G [.ref (mm_o G)] σ Q) {σ : MS} (cx : mm_X cc nL ret G p s m args meth c) (hM : mm_R G σ H) (hS0 : va_S (mm_A G) s.heap H locs) {Qf : MS → Prop} (hw : w3_either F σ Qf) (hR : (({ frames := 15 + 4 * d, cells := 0, slots := 0, locals := 40 * (15 + 4 * d) } : Room)).frames + 1 ≤ R.frames ∧ 8 + (1 + 11) + (({ frames := 15 + 4 * d, cells := 0, slots := 0, locals := 40 * (15 + 4 * d) } : Room)).locals ≤ R.locals) (hroom : (rest.map fun v => v.category).sum ≤ 8) (hsize : ls.size = nL) (hf : cells ≤ R.cells ∧ slots ≤ R.slots) (hdg : decode cc pc = .ok (.invokevirtual 189, 3))
    (kk : ∀ (σ1 : MS) (H1 : Heap) (locs1 : List Loc), Qf σ1 → mm_R G σ1 H1 → va_S (mm_A G) s.heap H1 locs1 → W p l e R s m args below meth c H1 locs1 cells slots Qz (F0 m (pc + 3) ls rest)) : W p l e R s m args below meth c H locs cells slots Qz (F0 m pc ls (.ref (mm_o G) :: rest)) := by
  obtain ⟨hx, hb, hml, hown, hts, hr, hlk, hK, hZ⟩ := id cx
  exact mm_Vv cx hM hS0 (As := []) (M3_either l G d hF σ Qf hw) (cwV 0 hts (lw_V q2657 q2659 qs99 q172 q2660) rfl rfl rfl (by decide +kernel) hR) rfl hsize rfl hroom hf hdg kk
