/-! walks of the model's methods (printed by gen/mparts.py): standing laysWins awardOf award meant firstLike outcomes outcome together elect ask asked count -/
set_option maxRecDepth 100000
def w3_standing_31 (Q : Int32 → MS → Prop) (K4 : Int32 → Int32 → MS → Prop) (x2 : Int32) (t0 : Int32) (t1 : Int32) (σ : MS) : Prop :=
  ∀ v1 : Int32, v1 = (t0 ||| t1) → ∀ v2 : Int32, v2 = x2 + (1 : Int32) → K4 v1 v2 σ
set_option maxHeartbeats 4000000 in
theorem B3_standing_31 {l : Launch} {p : Program} {e : Env} {s : State} {m : MethodId} {args : Array Value} {below : List Frame} {meth : Method} {c : Code} {G : mm_G} {Q : Int32 → MS → Prop} {K4 : Int32 → Int32 → MS → Prop} (cx : mm_X cX3_standing 3 (some .int) G p s m args meth c) (hK4 : ∀ (x1 : Int32) (x2 : Int32) (σ : MS), K4 x1 x2 σ → mm_T p l e ({ frames := 5, cells := 0, slots := 0, locals := 200 } : Room) s m args below meth c G (mm_Qi G Q) 3 4 σ [(0, .ref (mm_o G)), (1, .int x1), (2, .int x2)] []) : ∀ (x2 : Int32) (t0 : Int32) (t1 : Int32) (σ : MS), w3_standing_31 Q K4 x2 t0 t1 σ → mm_T p l e ({ frames := 5, cells := 0, slots := 0, locals := 200 } : Room) s m args below meth c G (mm_Qi G Q) 3 31 σ [(0, .ref (mm_o G)), (2, .int x2)] [.int t1, .int t0] := by
  intro x2 t0 t1 σ hw H locs ls hM hS hl
  unfold w3_standing_31 at hw
  obtain ⟨hx, hb, hml, hown, hts, hr, hlk, hMK, hZ⟩ := id cx
  refine lv_ior hx hb dX3_standing_31 ?_
  refine lv_topi (fun v1 hv1 => ?_)
  have hw := hw v1 hv1
  refine lv_istore_n (lv' := [(1, .int v1), (0, .ref (mm_o G)), (2, .int x2)]) hx hb dX3_standing_32 rfl hl (by decide) rfl (fun ls hl => ?_)
  obtain ⟨v2, hv2⟩ : ∃ v : Int32, v = x2 + (1 : Int32) := ⟨_, rfl⟩
  have hw := hw v2 hv2
  refine lv_iinc (v := v2) (lv' := [(2, .int v2), (1, .int v1), (0, .ref (mm_o G))]) hx hb dX3_standing_33 hl (k := 2) rfl (by rw [hv2]; rfl) (by decide) rfl (fun ls hl => ?_)
  refine lv_goto (tgt := 4) hx hb dX3_standing_36 (by decide) ?_
  exact hK4 _ _ _ hw _ _ _ hM hS (lv_sub hl [2, 1, 0] rfl)
def w3_standing_4 (Q : Int32 → MS → Prop) (K4 : Int32 → Int32 → MS → Prop) (x1 : Int32) (x2 : Int32) (σ : MS) : Prop :=
  if (gA σ 4 18) ≤ x2 then (Q x1 σ) else (w3_failing x2 σ (fun r3 s3 => if r3 = 0 then (w3_standing_31 Q K4 x2 x1 ((1 : Int32) <<< (x2 &&& 31)) s3) else (w3_standing_31 Q K4 x2 x1 (0 : Int32) s3)))
set_option maxHeartbeats 4000000 in
theorem B3_standing_4 {l : Launch} {p : Program} {e : Env} {s : State} {m : MethodId} {args : Array Value} {below : List Frame} {meth : Method} {c : Code} {G : mm_G} {Q : Int32 → MS → Prop} {K4 : Int32 → Int32 → MS → Prop} (cx : mm_X cX3_standing 3 (some .int) G p s m args meth c) (hK4 : ∀ (x1 : Int32) (x2 : Int32) (σ : MS), K4 x1 x2 σ → mm_T p l e ({ frames := 5, cells := 0, slots := 0, locals := 200 } : Room) s m args below meth c G (mm_Qi G Q) 3 4 σ [(0, .ref (mm_o G)), (1, .int x1), (2, .int x2)] []) : ∀ (x1 : Int32) (x2 : Int32) (σ : MS), w3_standing_4 Q K4 x1 x2 σ → mm_T p l e ({ frames := 5, cells := 0, slots := 0, locals := 200 } : Room) s m args below meth c G (mm_Qi G Q) 3 4 σ [(0, .ref (mm_o G)), (1, .int x1), (2, .int x2)] [] := by
  intro x1 x2 σ hw H locs ls hM hS hl
  unfold w3_standing_4 at hw
  obtain ⟨hx, hb, hml, hown, hts, hr, hlk, hMK, hZ⟩ := id cx
  refine lv_iload_n hx hb dX3_standing_4 rfl (lv_at hl 2 rfl) ?_
  refine lv_aload_n hx hb dX3_standing_5 rfl (lv_at hl 0 rfl) ?_
  refine mg_4 cx hM dX3_standing_6 ?_
  refine lv_bipush (v := (18 : Int32)) hx hb dX3_standing_9 (by decide) ?_
  refine mm_iald cx hM 4 rfl (j := 18) (by decide) (vp_lit (by decide)) dX3_standing_11 ?_
  refine lv_icmp_ge (tgt := 39) hx hb dX3_standing_12 (by decide) (fun hc => ?_) (fun hc => ?_)
  · have hw := mm_ip hc hw
    refine lv_iload_n hx hb dX3_standing_39 rfl (lv_at hl 1 rfl) ?_
    exact mm_iret cx hM hS hw dX3_standing_40
  · have hw := mm_in hc hw
    refine lv_iload_n hx hb dX3_standing_15 rfl (lv_at hl 1 rfl) ?_
    refine lv_aload_n hx hb dX3_standing_16 rfl (lv_at hl 0 rfl) ?_
    refine lv_iload_n hx hb dX3_standing_17 rfl (lv_at hl 2 rfl) ?_
    refine C3_failing cx hM hS hw ⟨Nat.le_of_ble_eq_true rfl, Nat.le_of_ble_eq_true rfl⟩ (Nat.le_of_ble_eq_true rfl) hl.1 ⟨Nat.zero_le _, Nat.zero_le _⟩ dX3_standing_18 (fun r3 s3 H locs hw hM hS => ?_)
    refine lv_if_ne (tgt := 30) hx hb dX3_standing_21 (by decide) (fun hc => ?_) (fun hc => ?_)
    · have hw := mm_in hc hw
      refine lv_iconst (v := (0 : Int32)) hx hb dX3_standing_30 (by decide) ?_
      exact B3_standing_31 cx hK4 _ _ _ _ hw _ _ _ hM hS (lv_sub hl [0, 2] rfl)
    · have hw := mm_ip hc hw
      refine lv_iconst (v := (1 : Int32)) hx hb dX3_standing_24 (by decide) ?_
      refine lv_iload_n hx hb dX3_standing_25 rfl (lv_at hl 2 rfl) ?_
      refine lv_ishl hx hb dX3_standing_26 ?_
      refine lv_goto (tgt := 31) hx hb dX3_standing_27 (by decide) ?_
      exact B3_standing_31 cx hK4 _ _ _ _ hw _ _ _ hM hS (lv_sub hl [0, 2] rfl)
theorem L3_standing_4 {l : Launch} {p : Program} {e : Env} {s : State} {m : MethodId} {args : Array Value} {below : List Frame} {meth : Method} {c : Code} {G : mm_G} {Q : Int32 → MS → Prop} (cx : mm_X cX3_standing 3 (some .int) G p s m args meth c) : ∀ (x1 : Int32) (x2 : Int32) (σ : MS), lp3F (w3_standing_4 Q) x1 x2 σ → mm_T p l e ({ frames := 5, cells := 0, slots := 0, locals := 200 } : Room) s m args below meth c G (mm_Qi G Q) 3 4 σ [(0, .ref (mm_o G)), (1, .int x1), (2, .int x2)] [] :=
  lp3F_of (fun K hK => B3_standing_4 cx hK)
def w3_standing (σ : MS) (Q : Int32 → MS → Prop) : Prop :=
  lp3F (w3_standing_4 Q) (0 : Int32) (0 : Int32) σ
set_option maxHeartbeats 4000000 in
theorem M3_standing (l : Launch) (G : mm_G) (σ : MS) (Q : Int32 → MS → Prop) (hw : w3_standing σ Q) : mm_Mi l yX3_standing (ws_ yX3_standing cX3_standing 3 (some .int)) ({ frames := 5, cells := 0, slots := 0, locals := 200 } : Room) G [.ref (mm_o G)] σ Q := by
  refine mm_of (by decide) rfl ?_
  intro p e s m args below meth c cx hM ha
  refine mm_entry [.ref (mm_o G)] 3 [(0, .ref (mm_o G))] ha (Nat.le_of_ble_eq_true rfl) rfl (fun ls hl => ?_)
  have hS : va_S (mm_A G) s.heap s.heap [] := va_S.rf
  unfold w3_standing at hw
  obtain ⟨hx, hb, hml, hown, hts, hr, hlk, hMK, hZ⟩ := id cx
  refine lv_iconst (v := (0 : Int32)) hx hb dX3_standing_0 (by decide) ?_
  refine lv_istore_n (lv' := [(1, .int (0 : Int32)), (0, .ref (mm_o G))]) hx hb dX3_standing_1 rfl hl (by decide) rfl (fun ls hl => ?_)
  refine lv_iconst (v := (0 : Int32)) hx hb dX3_standing_2 (by decide) ?_
  refine lv_istore_n (lv' := [(2, .int (0 : Int32)), (1, .int (0 : Int32)), (0, .ref (mm_o G))]) hx hb dX3_standing_3 rfl hl (by decide) rfl (fun ls hl => ?_)
  exact L3_standing_4 cx _ _ _ hw _ _ _ hM hS (lv_sub hl [2, 1, 0] rfl)
theorem C3_standing {l : Launch} {p : Program} {e : Env} {R : Room} {s : State} {m : MethodId} {args : Array Value} {below : List Frame} {meth : Method} {c : Code} {H : Heap} {locs : List Loc} {cells slots : Nat} {Qz : State → Prop} {cc : ByteArray} {nL : Nat} {ret : Option FieldType} {G : mm_G} {pc : Nat} {ls : Array Slot} {rest : List Value} {σ : MS} (cx : mm_X cc nL ret G p s m args meth c) (hM : mm_R G σ H) (hS0 : va_S (mm_A G) s.heap H locs) {Qf : Int32 → MS → Prop} (hw : w3_standing σ Qf) (hR : (({ frames := 5, cells := 0, slots := 0, locals := 200 } : Room)).frames + 1 ≤ R.frames ∧ 8 + (3 + 11) + (({ frames := 5, cells := 0, slots := 0, locals := 200 } : Room)).locals ≤ R.locals) (hroom : (rest.map fun v => v.category).sum ≤ 8) (hsize : ls.size = nL) (hf : cells ≤ R.cells ∧ slots ≤ R.slots) (hdg : decode cc pc = .ok (.invokevirtual 485, 3))
    (kk : ∀ (r : Int32) (σ1 : MS) (H1 : Heap) (locs1 : List Loc), Qf r σ1 → mm_R G σ1 H1 → va_S (mm_A G) s.heap H1 locs1 → W p l e R s m args below meth c H1 locs1 cells slots Qz (F0 m (pc + 3) ls (.int r :: rest))) : W p l e R s m args below meth c H locs cells slots Qz (F0 m pc ls (.ref (mm_o G) :: rest)) := by
  obtain ⟨hx, hb, hml, hown, hts, hr, hlk, hK, hZ⟩ := id cx
  exact mm_Vi cx hM hS0 (As := []) (M3_standing l G σ Qf hw) (cwV 0 hts (lw_V q3016 q3018 qs152 q172 q3019) rfl rfl rfl (by decide +kernel) hR) rfl hsize rfl hroom hf hdg kk
def w3_laysWins_69 (Q : MS → Prop) (K11 : Int32 → Int32 → MS → Prop) (K27 : Int32 → Int32 → Int32 → MS → Prop) (x1 : Int32) (x2 : Int32) (x3 : Int32) (t0 : Nat) (t1 : Int32) (t2 : Int32) (t3 : Int32) (σ : MS) : Prop :=
  mm_w t0 = true ∧ (vp_in t1 (mm_z t0) ∧ (∀ v1 : Int32, v1 = x3 + (1 : Int32) → K27 x1 x2 v1 (sA σ t0 t1.toNatClampNeg (t2 ||| t3))))
set_option maxHeartbeats 4000000 in
theorem B3_laysWins_69 {l : Launch} {p : Program} {e : Env} {s : State} {m : MethodId} {args : Array Value} {below : List Frame} {meth : Method} {c : Code} {G : mm_G} {Q : MS → Prop} {K11 : Int32 → Int32 → MS → Prop} {K27 : Int32 → Int32 → Int32 → MS → Prop} (cx : mm_X cX3_laysWins 4 none G p s m args meth c) (hK11 : ∀ (x1 : Int32) (x2 : Int32) (σ : MS), K11 x1 x2 σ → mm_T p l e ({ frames := 6, cells := 0, slots := 0, locals := 240 } : Room) s m args below meth c G (mm_Qv G Q) 4 11 σ [(0, .ref (mm_o G)), (1, .int x1), (2, .int x2)] []) (hK27 : ∀ (x1 : Int32) (x2 : Int32) (x3 : Int32) (σ : MS), K27 x1 x2 x3 σ → mm_T p l e ({ frames := 6, cells := 0, slots := 0, locals := 240 } : Room) s m args below meth c G (mm_Qv G Q) 4 27 σ [(0, .ref (mm_o G)), (1, .int x1), (2, .int x2), (3, .int x3)] []) : ∀ (x1 : Int32) (x2 : Int32) (x3 : Int32) (t0 : Nat) (t1 : Int32) (t2 : Int32) (t3 : Int32) (σ : MS), w3_laysWins_69 Q K11 K27 x1 x2 x3 t0 t1 t2 t3 σ → mm_T p l e ({ frames := 6, cells := 0, slots := 0, locals := 240 } : Room) s m args below meth c G (mm_Qv G Q) 4 69 σ [(0, .ref (mm_o G)), (1, .int x1), (2, .int x2), (3, .int x3)] [.int t3, .int t2, .int t1, .ref (mm_a G t0)] := by
  intro x1 x2 x3 t0 t1 t2 t3 σ hw H locs ls hM hS hl
  unfold w3_laysWins_69 at hw
  obtain ⟨hx, hb, hml, hown, hts, hr, hlk, hMK, hZ⟩ := id cx
  refine lv_ior hx hb dX3_laysWins_69 ?_
  obtain ⟨hk, hw⟩ := hw
  obtain ⟨hi, hw⟩ := hw
  refine mm_iast cx hM hS t0 hk rfl hi dX3_laysWins_70 (fun H locs hM hS => ?_)
  obtain ⟨v1, hv1⟩ : ∃ v : Int32, v = x3 + (1 : Int32) := ⟨_, rfl⟩
  have hw := hw v1 hv1
  refine lv_iinc (v := v1) (lv' := [(3, .int v1), (0, .ref (mm_o G)), (1, .int x1), (2, .int x2)]) hx hb dX3_laysWins_71 hl (k := 3) rfl (by rw [hv1]; rfl) (by decide) rfl (fun ls hl => ?_)
  refine lv_goto (tgt := 27) hx hb dX3_laysWins_74 (by decide) ?_
  exact hK27 _ _ _ _ hw _ _ _ hM hS (lv_sub hl [1, 2, 3, 0] rfl)
def w3_laysWins_68 (Q : MS → Prop) (K11 : Int32 → Int32 → MS → Prop) (K27 : Int32 → Int32 → Int32 → MS → Prop) (x1 : Int32) (x2 : Int32) (x3 : Int32) (t0 : Nat) (t1 : Int32) (t2 : Int32) (σ : MS) : Prop :=
  w3_laysWins_69 Q K11 K27 x1 x2 x3 t0 t1 t2 (0 : Int32) σ
set_option maxHeartbeats 4000000 in
theorem B3_laysWins_68 {l : Launch} {p : Program} {e : Env} {s : State} {m : MethodId} {args : Array Value} {below : List Frame} {meth : Method} {c : Code} {G : mm_G} {Q : MS → Prop} {K11 : Int32 → Int32 → MS → Prop} {K27 : Int32 → Int32 → Int32 → MS → Prop} (cx : mm_X cX3_laysWins 4 none G p s m args meth c) (hK11 : ∀ (x1 : Int32) (x2 : Int32) (σ : MS), K11 x1 x2 σ → mm_T p l e ({ frames := 6, cells := 0, slots := 0, locals := 240 } : Room) s m args below meth c G (mm_Qv G Q) 4 11 σ [(0, .ref (mm_o G)), (1, .int x1), (2, .int x2)] []) (hK27 : ∀ (x1 : Int32) (x2 : Int32) (x3 : Int32) (σ : MS), K27 x1 x2 x3 σ → mm_T p l e ({ frames := 6, cells := 0, slots := 0, locals := 240 } : Room) s m args below meth c G (mm_Qv G Q) 4 27 σ [(0, .ref (mm_o G)), (1, .int x1), (2, .int x2), (3, .int x3)] []) : ∀ (x1 : Int32) (x2 : Int32) (x3 : Int32) (t0 : Nat) (t1 : Int32) (t2 : Int32) (σ : MS), w3_laysWins_68 Q K11 K27 x1 x2 x3 t0 t1 t2 σ → mm_T p l e ({ frames := 6, cells := 0, slots := 0, locals := 240 } : Room) s m args below meth c G (mm_Qv G Q) 4 68 σ [(0, .ref (mm_o G)), (1, .int x1), (2, .int x2), (3, .int x3)] [.int t2, .int t1, .ref (mm_a G t0)] := by
  intro x1 x2 x3 t0 t1 t2 σ hw H locs ls hM hS hl
  unfold w3_laysWins_68 at hw
  obtain ⟨hx, hb, hml, hown, hts, hr, hlk, hMK, hZ⟩ := id cx
  refine lv_iconst (v := (0 : Int32)) hx hb dX3_laysWins_68 (by decide) ?_
  exact B3_laysWins_69 cx hK11 hK27 _ _ _ _ _ _ _ _ hw _ _ _ hM hS (lv_sub hl [0, 1, 2, 3] rfl)
def w3_laysWins_27 (Q : MS → Prop) (K11 : Int32 → Int32 → MS → Prop) (K27 : Int32 → Int32 → Int32 → MS → Prop) (x1 : Int32) (x2 : Int32) (x3 : Int32) (σ : MS) : Prop :=
  if (gA σ 4 18) ≤ x3 then (∀ v2 : Int32, v2 = x2 + (1 : Int32) → K11 x1 v2 σ) else (vp_in x2 256 ∧ (w3_has x1 x3 σ (fun r3 s3 => if r3 = 0 then (w3_laysWins_68 Q K11 K27 x1 x2 x3 38 x2 (gA σ 38 x2.toNatClampNeg) s3) else (w3_isWon x3 x2 s3 (fun r4 s4 => if r4 = 0 then (w3_laysWins_68 Q K11 K27 x1 x2 x3 38 x2 (gA σ 38 x2.toNatClampNeg) s4) else (w3_laysWins_69 Q K11 K27 x1 x2 x3 38 x2 (gA σ 38 x2.toNatClampNeg) ((1 : Int32) <<< (x3 &&& 31)) s4))))))
set_option maxHeartbeats 4000000 in
theorem B3_laysWins_27 {l : Launch} {p : Program} {e : Env} {s : State} {m : MethodId} {args : Array Value} {below : List Frame} {meth : Method} {c : Code} {G : mm_G} {Q : MS → Prop} {K11 : Int32 → Int32 → MS → Prop} {K27 : Int32 → Int32 → Int32 → MS → Prop} (cx : mm_X cX3_laysWins 4 none G p s m args meth c) (hK11 : ∀ (x1 : Int32) (x2 : Int32) (σ : MS), K11 x1 x2 σ → mm_T p l e ({ frames := 6, cells := 0, slots := 0, locals := 240 } : Room) s m args below meth c G (mm_Qv G Q) 4 11 σ [(0, .ref (mm_o G)), (1, .int x1), (2, .int x2)] []) (hK27 : ∀ (x1 : Int32) (x2 : Int32) (x3 : Int32) (σ : MS), K27 x1 x2 x3 σ → mm_T p l e ({ frames := 6, cells := 0, slots := 0, locals := 240 } : Room) s m args below meth c G (mm_Qv G Q) 4 27 σ [(0, .ref (mm_o G)), (1, .int x1), (2, .int x2), (3, .int x3)] []) : ∀ (x1 : Int32) (x2 : Int32) (x3 : Int32) (σ : MS), w3_laysWins_27 Q K11 K27 x1 x2 x3 σ → mm_T p l e ({ frames := 6, cells := 0, slots := 0, locals := 240 } : Room) s m args below meth c G (mm_Qv G Q) 4 27 σ [(0, .ref (mm_o G)), (1, .int x1), (2, .int x2), (3, .int x3)] [] := by
  intro x1 x2 x3 σ hw H locs ls hM hS hl
  unfold w3_laysWins_27 at hw
  obtain ⟨hx, hb, hml, hown, hts, hr, hlk, hMK, hZ⟩ := id cx
  refine lv_iload_n hx hb dX3_laysWins_27 rfl (lv_at hl 3 rfl) ?_
  refine lv_aload_n hx hb dX3_laysWins_28 rfl (lv_at hl 0 rfl) ?_
  refine mg_4 cx hM dX3_laysWins_29 ?_
  refine lv_bipush (v := (18 : Int32)) hx hb dX3_laysWins_32 (by decide) ?_
  refine mm_iald cx hM 4 rfl (j := 18) (by decide) (vp_lit (by decide)) dX3_laysWins_34 ?_
  refine lv_icmp_ge (tgt := 77) hx hb dX3_laysWins_35 (by decide) (fun hc => ?_) (fun hc => ?_)
  · have hw := mm_ip hc hw
    obtain ⟨v2, hv2⟩ : ∃ v : Int32, v = x2 + (1 : Int32) := ⟨_, rfl⟩
    have hw := hw v2 hv2
    refine lv_iinc (v := v2) (lv' := [(2, .int v2), (0, .ref (mm_o G)), (1, .int x1), (3, .int x3)]) hx hb dX3_laysWins_77 hl (k := 2) rfl (by rw [hv2]; rfl) (by decide) rfl (fun ls hl => ?_)
    refine lv_goto (tgt := 11) hx hb dX3_laysWins_80 (by decide) ?_
    exact hK11 _ _ _ hw _ _ _ hM hS (lv_sub hl [1, 2, 0] rfl)
  · have hw := mm_in hc hw
    refine lv_aload_n hx hb dX3_laysWins_38 rfl (lv_at hl 0 rfl) ?_
    refine mg_38 cx hM dX3_laysWins_39 ?_
    refine lv_iload_n hx hb dX3_laysWins_42 rfl (lv_at hl 2 rfl) ?_
    refine lv_dup2_11 hx hb dX3_laysWins_43 rfl rfl ?_
    obtain ⟨hi, hw⟩ := hw
    refine mm_iald cx hM 38 rfl rfl hi dX3_laysWins_44 ?_
    refine lv_iload_n hx hb dX3_laysWins_45 rfl (lv_at hl 1 rfl) ?_
    refine lv_iload_n hx hb dX3_laysWins_46 rfl (lv_at hl 3 rfl) ?_
    refine C3_has cx hM hS hw ⟨Nat.le_of_ble_eq_true rfl, Nat.le_of_ble_eq_true rfl⟩ (Nat.le_of_ble_eq_true rfl) hl.1 ⟨Nat.zero_le _, Nat.zero_le _⟩ dX3_laysWins_47 (fun r3 s3 H locs hw hM hS => ?_)
    refine lv_if_eq (tgt := 68) hx hb dX3_laysWins_50 (by decide) (fun hc => ?_) (fun hc => ?_)
    · have hw := mm_ip hc hw
      exact B3_laysWins_68 cx hK11 hK27 _ _ _ _ _ _ _ hw _ _ _ hM hS (lv_sub hl [0, 1, 2, 3] rfl)
    · have hw := mm_in hc hw
      refine lv_aload_n hx hb dX3_laysWins_53 rfl (lv_at hl 0 rfl) ?_
      refine lv_iload_n hx hb dX3_laysWins_54 rfl (lv_at hl 3 rfl) ?_
      refine lv_iload_n hx hb dX3_laysWins_55 rfl (lv_at hl 2 rfl) ?_
      refine C3_isWon cx hM hS hw ⟨Nat.le_of_ble_eq_true rfl, Nat.le_of_ble_eq_true rfl⟩ (Nat.le_of_ble_eq_true rfl) hl.1 ⟨Nat.zero_le _, Nat.zero_le _⟩ dX3_laysWins_56 (fun r4 s4 H locs hw hM hS => ?_)
      refine lv_if_eq (tgt := 68) hx hb dX3_laysWins_59 (by decide) (fun hc => ?_) (fun hc => ?_)
      · have hw := mm_ip hc hw
        exact B3_laysWins_68 cx hK11 hK27 _ _ _ _ _ _ _ hw _ _ _ hM hS (lv_sub hl [0, 1, 2, 3] rfl)
      · have hw := mm_in hc hw
        refine lv_iconst (v := (1 : Int32)) hx hb dX3_laysWins_62 (by decide) ?_
        refine lv_iload_n hx hb dX3_laysWins_63 rfl (lv_at hl 3 rfl) ?_
        refine lv_ishl hx hb dX3_laysWins_64 ?_
        refine lv_goto (tgt := 69) hx hb dX3_laysWins_65 (by decide) ?_
        exact B3_laysWins_69 cx hK11 hK27 _ _ _ _ _ _ _ _ hw _ _ _ hM hS (lv_sub hl [0, 1, 2, 3] rfl)
theorem L3_laysWins_27 {l : Launch} {p : Program} {e : Env} {s : State} {m : MethodId} {args : Array Value} {below : List Frame} {meth : Method} {c : Code} {G : mm_G} {Q : MS → Prop} {K11 : Int32 → Int32 → MS → Prop} (cx : mm_X cX3_laysWins 4 none G p s m args meth c) (hK11 : ∀ (x1 : Int32) (x2 : Int32) (σ : MS), K11 x1 x2 σ → mm_T p l e ({ frames := 6, cells := 0, slots := 0, locals := 240 } : Room) s m args below meth c G (mm_Qv G Q) 4 11 σ [(0, .ref (mm_o G)), (1, .int x1), (2, .int x2)] []) : ∀ (x1 : Int32) (x2 : Int32) (x3 : Int32) (σ : MS), lp4F (w3_laysWins_27 Q K11) x1 x2 x3 σ → mm_T p l e ({ frames := 6, cells := 0, slots := 0, locals := 240 } : Room) s m args below meth c G (mm_Qv G Q) 4 27 σ [(0, .ref (mm_o G)), (1, .int x1), (2, .int x2), (3, .int x3)] [] :=
  lp4F_of (fun K hK => B3_laysWins_27 cx hK11 hK)
def w3_laysWins_11 (Q : MS → Prop) (K11 : Int32 → Int32 → MS → Prop) (x1 : Int32) (x2 : Int32) (σ : MS) : Prop :=
  if (256 : Int32) ≤ x2 then (Q σ) else (vp_in x2 256 ∧ (lp4F (w3_laysWins_27 Q K11) x1 x2 (0 : Int32) (sA σ 38 x2.toNatClampNeg (0 : Int32))))
set_option maxHeartbeats 4000000 in
theorem B3_laysWins_11 {l : Launch} {p : Program} {e : Env} {s : State} {m : MethodId} {args : Array Value} {below : List Frame} {meth : Method} {c : Code} {G : mm_G} {Q : MS → Prop} {K11 : Int32 → Int32 → MS → Prop} (cx : mm_X cX3_laysWins 4 none G p s m args meth c) (hK11 : ∀ (x1 : Int32) (x2 : Int32) (σ : MS), K11 x1 x2 σ → mm_T p l e ({ frames := 6, cells := 0, slots := 0, locals := 240 } : Room) s m args below meth c G (mm_Qv G Q) 4 11 σ [(0, .ref (mm_o G)), (1, .int x1), (2, .int x2)] []) : ∀ (x1 : Int32) (x2 : Int32) (σ : MS), w3_laysWins_11 Q K11 x1 x2 σ → mm_T p l e ({ frames := 6, cells := 0, slots := 0, locals := 240 } : Room) s m args below meth c G (mm_Qv G Q) 4 11 σ [(0, .ref (mm_o G)), (1, .int x1), (2, .int x2)] [] := by
  intro x1 x2 σ hw H locs ls hM hS hl
  unfold w3_laysWins_11 at hw
  obtain ⟨hx, hb, hml, hown, hts, hr, hlk, hMK, hZ⟩ := id cx
  refine lv_iload_n hx hb dX3_laysWins_11 rfl (lv_at hl 2 rfl) ?_
  refine lv_sipush (v := (256 : Int32)) hx hb dX3_laysWins_12 (by decide) ?_
  refine lv_icmp_ge (tgt := 83) hx hb dX3_laysWins_15 (by decide) (fun hc => ?_) (fun hc => ?_)
  · have hw := mm_ip hc hw
    exact mm_vret cx hM hS hw dX3_laysWins_83
  · have hw := mm_in hc hw
    refine lv_aload_n hx hb dX3_laysWins_18 rfl (lv_at hl 0 rfl) ?_
    refine mg_38 cx hM dX3_laysWins_19 ?_
    refine lv_iload_n hx hb dX3_laysWins_22 rfl (lv_at hl 2 rfl) ?_
    refine lv_iconst (v := (0 : Int32)) hx hb dX3_laysWins_23 (by decide) ?_
    obtain ⟨hi, hw⟩ := hw
    refine mm_iast cx hM hS 38 rfl rfl hi dX3_laysWins_24 (fun H locs hM hS => ?_)
    refine lv_iconst (v := (0 : Int32)) hx hb dX3_laysWins_25 (by decide) ?_
    refine lv_istore_n (lv' := [(3, .int (0 : Int32)), (0, .ref (mm_o G)), (1, .int x1), (2, .int x2)]) hx hb dX3_laysWins_26 rfl hl (by decide) rfl (fun ls hl => ?_)
    exact L3_laysWins_27 cx hK11 _ _ _ _ hw _ _ _ hM hS (lv_sub hl [1, 2, 3, 0] rfl)
theorem L3_laysWins_11 {l : Launch} {p : Program} {e : Env} {s : State} {m : MethodId} {args : Array Value} {below : List Frame} {meth : Method} {c : Code} {G : mm_G} {Q : MS → Prop} (cx : mm_X cX3_laysWins 4 none G p s m args meth c) : ∀ (x1 : Int32) (x2 : Int32) (σ : MS), lp3F (w3_laysWins_11 Q) x1 x2 σ → mm_T p l e ({ frames := 6, cells := 0, slots := 0, locals := 240 } : Room) s m args below meth c G (mm_Qv G Q) 4 11 σ [(0, .ref (mm_o G)), (1, .int x1), (2, .int x2)] [] :=
  lp3F_of (fun K hK => B3_laysWins_11 cx hK)
def w3_laysWins (σ : MS) (Q : MS → Prop) : Prop :=
  w3_standing σ (fun r5 s5 => w3_laysInjuries s5 (fun s6 => lp3F (w3_laysWins_11 Q) r5 (0 : Int32) s6))
set_option maxHeartbeats 4000000 in
theorem M3_laysWins (l : Launch) (G : mm_G) (σ : MS) (Q : MS → Prop) (hw : w3_laysWins σ Q) : mm_Mv l yX3_laysWins (ws_ yX3_laysWins cX3_laysWins 4 none) ({ frames := 6, cells := 0, slots := 0, locals := 240 } : Room) G [.ref (mm_o G)] σ Q := by
  refine mm_of (by decide) rfl ?_
  intro p e s m args below meth c cx hM ha
  refine mm_entry [.ref (mm_o G)] 4 [(0, .ref (mm_o G))] ha (Nat.le_of_ble_eq_true rfl) rfl (fun ls hl => ?_)
  have hS : va_S (mm_A G) s.heap s.heap [] := va_S.rf
  unfold w3_laysWins at hw
  obtain ⟨hx, hb, hml, hown, hts, hr, hlk, hMK, hZ⟩ := id cx
  refine lv_aload_n hx hb dX3_laysWins_0 rfl (lv_at hl 0 rfl) ?_
  refine C3_standing cx hM hS hw ⟨Nat.le_of_ble_eq_true rfl, Nat.le_of_ble_eq_true rfl⟩ (Nat.le_of_ble_eq_true rfl) hl.1 ⟨Nat.zero_le _, Nat.zero_le _⟩ dX3_laysWins_1 (fun r5 s5 H locs hw hM hS => ?_)
  refine lv_istore_n (lv' := [(1, .int r5), (0, .ref (mm_o G))]) hx hb dX3_laysWins_4 rfl hl (by decide) rfl (fun ls hl => ?_)
  refine lv_aload_n hx hb dX3_laysWins_5 rfl (lv_at hl 1 rfl) ?_
  refine C3_laysInjuries cx hM hS hw ⟨Nat.le_of_ble_eq_true rfl, Nat.le_of_ble_eq_true rfl⟩ (Nat.le_of_ble_eq_true rfl) hl.1 ⟨Nat.zero_le _, Nat.zero_le _⟩ dX3_laysWins_6 (fun s6 H locs hw hM hS => ?_)
  refine lv_iconst (v := (0 : Int32)) hx hb dX3_laysWins_9 (by decide) ?_
  refine lv_istore_n (lv' := [(2, .int (0 : Int32)), (1, .int r5), (0, .ref (mm_o G))]) hx hb dX3_laysWins_10 rfl hl (by decide) rfl (fun ls hl => ?_)
  exact L3_laysWins_11 cx _ _ _ hw _ _ _ hM hS (lv_sub hl [2, 1, 0] rfl)
theorem C3_laysWins {l : Launch} {p : Program} {e : Env} {R : Room} {s : State} {m : MethodId} {args : Array Value} {below : List Frame} {meth : Method} {c : Code} {H : Heap} {locs : List Loc} {cells slots : Nat} {Qz : State → Prop} {cc : ByteArray} {nL : Nat} {ret : Option FieldType} {G : mm_G} {pc : Nat} {ls : Array Slot} {rest : List Value} {σ : MS} (cx : mm_X cc nL ret G p s m args meth c) (hM : mm_R G σ H) (hS0 : va_S (mm_A G) s.heap H locs) {Qf : MS → Prop} (hw : w3_laysWins σ Qf) (hR : (({ frames := 6, cells := 0, slots := 0, locals := 240 } : Room)).frames + 1 ≤ R.frames ∧ 8 + (4 + 11) + (({ frames := 6, cells := 0, slots := 0, locals := 240 } : Room)).locals ≤ R.locals) (hroom : (rest.map fun v => v.category).sum ≤ 8) (hsize : ls.size = nL) (hf : cells ≤ R.cells ∧ slots ≤ R.slots) (hdg : decode cc pc = .ok (.invokevirtual 488, 3))
    (kk : ∀ (σ1 : MS) (H1 : Heap) (locs1 : List Loc), Qf σ1 → mm_R G σ1 H1 → va_S (mm_A G) s.heap H1 locs1 → W p l e R s m args below meth c H1 locs1 cells slots Qz (F0 m (pc + 3) ls rest)) : W p l e R s m args below meth c H locs cells slots Qz (F0 m pc ls (.ref (mm_o G) :: rest)) := by
  obtain ⟨hx, hb, hml, hown, hts, hr, hlk, hK, hZ⟩ := id cx
  exact mm_Vv cx hM hS0 (As := []) (M3_laysWins l G σ Qf hw) (cwV 0 hts (lw_V q3012 q3014 qs151 q172 q3015) rfl rfl rfl (by decide +kernel) hR) rfl hsize rfl hroom hf hdg kk
def w3_awardOf_75 (Q : Int32 → MS → Prop) (K4 : Int32 → Int32 → Int32 → MS → Prop) (K21 : Int32 → Int32 → Int32 → Int32 → Int32 → MS → Prop) (x1 : Int32) (x2 : Int32) (x3 : Int32) (x5 : Int32) (t0 : Int32) (σ : MS) : Prop :=
  ∀ v1 : Int32, v1 = x5 + (1 : Int32) → K21 x1 x2 x3 t0 v1 σ
set_option maxHeartbeats 4000000 in
theorem B3_awardOf_75 {l : Launch} {p : Program} {e : Env} {s : State} {m : MethodId} {args : Array Value} {below : List Frame} {meth : Method} {c : Code} {G : mm_G} {Q : Int32 → MS → Prop} {K4 : Int32 → Int32 → Int32 → MS → Prop} {K21 : Int32 → Int32 → Int32 → Int32 → Int32 → MS → Prop} (cx : mm_X cX3_awardOf 6 (some .int) G p s m args meth c) (hK4 : ∀ (x1 : Int32) (x2 : Int32) (x3 : Int32) (σ : MS), K4 x1 x2 x3 σ → mm_T p l e ({ frames := 1, cells := 0, slots := 0, locals := 40 } : Room) s m args below meth c G (mm_Qi G Q) 6 4 σ [(0, .ref (mm_o G)), (1, .int x1), (2, .int x2), (3, .int x3)] []) (hK21 : ∀ (x1 : Int32) (x2 : Int32) (x3 : Int32) (x4 : Int32) (x5 : Int32) (σ : MS), K21 x1 x2 x3 x4 x5 σ → mm_T p l e ({ frames := 1, cells := 0, slots := 0, locals := 40 } : Room) s m args below meth c G (mm_Qi G Q) 6 21 σ [(0, .ref (mm_o G)), (1, .int x1), (2, .int x2), (3, .int x3), (4, .int x4), (5, .int x5)] []) : ∀ (x1 : Int32) (x2 : Int32) (x3 : Int32) (x5 : Int32) (t0 : Int32) (σ : MS), w3_awardOf_75 Q K4 K21 x1 x2 x3 x5 t0 σ → mm_T p l e ({ frames := 1, cells := 0, slots := 0, locals := 40 } : Room) s m args below meth c G (mm_Qi G Q) 6 75 σ [(0, .ref (mm_o G)), (1, .int x1), (2, .int x2), (3, .int x3), (5, .int x5)] [.int t0] := by
  intro x1 x2 x3 x5 t0 σ hw H locs ls hM hS hl
  unfold w3_awardOf_75 at hw
  obtain ⟨hx, hb, hml, hown, hts, hr, hlk, hMK, hZ⟩ := id cx
  refine lv_istore (lv' := [(4, .int t0), (0, .ref (mm_o G)), (1, .int x1), (2, .int x2), (3, .int x3), (5, .int x5)]) hx hb dX3_awardOf_75 hl (by decide) rfl (fun ls hl => ?_)
  obtain ⟨v1, hv1⟩ : ∃ v : Int32, v = x5 + (1 : Int32) := ⟨_, rfl⟩
  have hw := hw v1 hv1
  refine lv_iinc (v := v1) (lv' := [(5, .int v1), (4, .int t0), (0, .ref (mm_o G)), (1, .int x1), (2, .int x2), (3, .int x3)]) hx hb dX3_awardOf_77 hl (k := 5) rfl (by rw [hv1]; rfl) (by decide) rfl (fun ls hl => ?_)
  refine lv_goto (tgt := 21) hx hb dX3_awardOf_80 (by decide) ?_
  exact hK21 _ _ _ _ _ _ hw _ _ _ hM hS (lv_sub hl [2, 3, 4, 5, 1, 0] rfl)
def w3_awardOf_73 (Q : Int32 → MS → Prop) (K4 : Int32 → Int32 → Int32 → MS → Prop) (K21 : Int32 → Int32 → Int32 → Int32 → Int32 → MS → Prop) (x1 : Int32) (x2 : Int32) (x3 : Int32) (x4 : Int32) (x5 : Int32) (σ : MS) : Prop :=
  w3_awardOf_75 Q K4 K21 x1 x2 x3 x5 x4 σ
set_option maxHeartbeats 4000000 in
theorem B3_awardOf_73 {l : Launch} {p : Program} {e : Env} {s : State} {m : MethodId} {args : Array Value} {below : List Frame} {meth : Method} {c : Code} {G : mm_G} {Q : Int32 → MS → Prop} {K4 : Int32 → Int32 → Int32 → MS → Prop} {K21 : Int32 → Int32 → Int32 → Int32 → Int32 → MS → Prop} (cx : mm_X cX3_awardOf 6 (some .int) G p s m args meth c) (hK4 : ∀ (x1 : Int32) (x2 : Int32) (x3 : Int32) (σ : MS), K4 x1 x2 x3 σ → mm_T p l e ({ frames := 1, cells := 0, slots := 0, locals := 40 } : Room) s m args below meth c G (mm_Qi G Q) 6 4 σ [(0, .ref (mm_o G)), (1, .int x1), (2, .int x2), (3, .int x3)] []) (hK21 : ∀ (x1 : Int32) (x2 : Int32) (x3 : Int32) (x4 : Int32) (x5 : Int32) (σ : MS), K21 x1 x2 x3 x4 x5 σ → mm_T p l e ({ frames := 1, cells := 0, slots := 0, locals := 40 } : Room) s m args below meth c G (mm_Qi G Q) 6 21 σ [(0, .ref (mm_o G)), (1, .int x1), (2, .int x2), (3, .int x3), (4, .int x4), (5, .int x5)] []) : ∀ (x1 : Int32) (x2 : Int32) (x3 : Int32) (x4 : Int32) (x5 : Int32) (σ : MS), w3_awardOf_73 Q K4 K21 x1 x2 x3 x4 x5 σ → mm_T p l e ({ frames := 1, cells := 0, slots := 0, locals := 40 } : Room) s m args below meth c G (mm_Qi G Q) 6 73 σ [(0, .ref (mm_o G)), (1, .int x1), (2, .int x2), (3, .int x3), (4, .int x4), (5, .int x5)] [] := by
  intro x1 x2 x3 x4 x5 σ hw H locs ls hM hS hl
  unfold w3_awardOf_73 at hw
  obtain ⟨hx, hb, hml, hown, hts, hr, hlk, hMK, hZ⟩ := id cx
  refine lv_iload hx hb dX3_awardOf_73 (lv_at hl 4 rfl) ?_
  exact B3_awardOf_75 cx hK4 hK21 _ _ _ _ _ _ hw _ _ _ hM hS (lv_sub hl [0, 1, 2, 3, 5] rfl)
def w3_awardOf_21 (Q : Int32 → MS → Prop) (K4 : Int32 → Int32 → Int32 → MS → Prop) (K21 : Int32 → Int32 → Int32 → Int32 → Int32 → MS → Prop) (x1 : Int32) (x2 : Int32) (x3 : Int32) (x4 : Int32) (x5 : Int32) (σ : MS) : Prop :=
  if (gA σ 4 18) ≤ x5 then (∀ v2 : Int32, v2 = (x2 + x4) → ∀ v3 : Int32, v3 = x3 + (1 : Int32) → K4 x1 v2 v3 σ) else (vp_in x1 256 ∧ (w3_has (gA σ 38 x1.toNatClampNeg) x5 σ (fun r4 s4 => if r4 = 0 then (w3_awardOf_73 Q K4 K21 x1 x2 x3 x4 x5 s4) else (vp_in x5 8 ∧ (if (gA s4 30 x5.toNatClampNeg) = x3 then (w3_its x5 (2 : Int32) s4 (fun r5 s5 => w3_awardOf_75 Q K4 K21 x1 x2 x3 x5 (imax x4 r5) s5)) else (w3_awardOf_73 Q K4 K21 x1 x2 x3 x4 x5 s4))))))
set_option maxHeartbeats 4000000 in
theorem B3_awardOf_21 {l : Launch} {p : Program} {e : Env} {s : State} {m : MethodId} {args : Array Value} {below : List Frame} {meth : Method} {c : Code} {G : mm_G} {Q : Int32 → MS → Prop} {K4 : Int32 → Int32 → Int32 → MS → Prop} {K21 : Int32 → Int32 → Int32 → Int32 → Int32 → MS → Prop} (cx : mm_X cX3_awardOf 6 (some .int) G p s m args meth c) (hK4 : ∀ (x1 : Int32) (x2 : Int32) (x3 : Int32) (σ : MS), K4 x1 x2 x3 σ → mm_T p l e ({ frames := 1, cells := 0, slots := 0, locals := 40 } : Room) s m args below meth c G (mm_Qi G Q) 6 4 σ [(0, .ref (mm_o G)), (1, .int x1), (2, .int x2), (3, .int x3)] []) (hK21 : ∀ (x1 : Int32) (x2 : Int32) (x3 : Int32) (x4 : Int32) (x5 : Int32) (σ : MS), K21 x1 x2 x3 x4 x5 σ → mm_T p l e ({ frames := 1, cells := 0, slots := 0, locals := 40 } : Room) s m args below meth c G (mm_Qi G Q) 6 21 σ [(0, .ref (mm_o G)), (1, .int x1), (2, .int x2), (3, .int x3), (4, .int x4), (5, .int x5)] []) : ∀ (x1 : Int32) (x2 : Int32) (x3 : Int32) (x4 : Int32) (x5 : Int32) (σ : MS), w3_awardOf_21 Q K4 K21 x1 x2 x3 x4 x5 σ → mm_T p l e ({ frames := 1, cells := 0, slots := 0, locals := 40 } : Room) s m args below meth c G (mm_Qi G Q) 6 21 σ [(0, .ref (mm_o G)), (1, .int x1), (2, .int x2), (3, .int x3), (4, .int x4), (5, .int x5)] [] := by
  intro x1 x2 x3 x4 x5 σ hw H locs ls hM hS hl
  unfold w3_awardOf_21 at hw
  obtain ⟨hx, hb, hml, hown, hts, hr, hlk, hMK, hZ⟩ := id cx
  refine lv_iload hx hb dX3_awardOf_21 (lv_at hl 5 rfl) ?_
  refine lv_aload_n hx hb dX3_awardOf_23 rfl (lv_at hl 0 rfl) ?_
  refine mg_4 cx hM dX3_awardOf_24 ?_
  refine lv_bipush (v := (18 : Int32)) hx hb dX3_awardOf_27 (by decide) ?_
  refine mm_iald cx hM 4 rfl (j := 18) (by decide) (vp_lit (by decide)) dX3_awardOf_29 ?_
  refine lv_icmp_ge (tgt := 83) hx hb dX3_awardOf_30 (by decide) (fun hc => ?_) (fun hc => ?_)
  · have hw := mm_ip hc hw
    refine lv_iload_n hx hb dX3_awardOf_83 rfl (lv_at hl 2 rfl) ?_
    refine lv_iload hx hb dX3_awardOf_84 (lv_at hl 4 rfl) ?_
    refine lv_iadd hx hb dX3_awardOf_86 ?_
    refine lv_topi (fun v2 hv2 => ?_)
    have hw := hw v2 hv2
    refine lv_istore_n (lv' := [(2, .int v2), (0, .ref (mm_o G)), (1, .int x1), (3, .int x3), (4, .int x4), (5, .int x5)]) hx hb dX3_awardOf_87 rfl hl (by decide) rfl (fun ls hl => ?_)
    obtain ⟨v3, hv3⟩ : ∃ v : Int32, v = x3 + (1 : Int32) := ⟨_, rfl⟩
    have hw := hw v3 hv3
    refine lv_iinc (v := v3) (lv' := [(3, .int v3), (2, .int v2), (0, .ref (mm_o G)), (1, .int x1), (4, .int x4), (5, .int x5)]) hx hb dX3_awardOf_88 hl (k := 3) rfl (by rw [hv3]; rfl) (by decide) rfl (fun ls hl => ?_)
    refine lv_goto (tgt := 4) hx hb dX3_awardOf_91 (by decide) ?_
    exact hK4 _ _ _ _ hw _ _ _ hM hS (lv_sub hl [2, 3, 1, 0] rfl)
  · have hw := mm_in hc hw
    refine lv_aload_n hx hb dX3_awardOf_33 rfl (lv_at hl 0 rfl) ?_
    refine mg_38 cx hM dX3_awardOf_34 ?_
    refine lv_iload_n hx hb dX3_awardOf_37 rfl (lv_at hl 1 rfl) ?_
    obtain ⟨hi, hw⟩ := hw
    refine mm_iald cx hM 38 rfl rfl hi dX3_awardOf_38 ?_
    refine lv_iload hx hb dX3_awardOf_39 (lv_at hl 5 rfl) ?_
    refine C3_has cx hM hS hw ⟨Nat.le_of_ble_eq_true rfl, Nat.le_of_ble_eq_true rfl⟩ (Nat.le_of_ble_eq_true rfl) hl.1 ⟨Nat.zero_le _, Nat.zero_le _⟩ dX3_awardOf_41 (fun r4 s4 H locs hw hM hS => ?_)
    refine lv_if_eq (tgt := 73) hx hb dX3_awardOf_44 (by decide) (fun hc => ?_) (fun hc => ?_)
    · have hw := mm_ip hc hw
      exact B3_awardOf_73 cx hK4 hK21 _ _ _ _ _ _ hw _ _ _ hM hS (lv_sub hl [0, 1, 2, 3, 4, 5] rfl)
    · have hw := mm_in hc hw
      refine lv_aload_n hx hb dX3_awardOf_47 rfl (lv_at hl 0 rfl) ?_
      refine mg_30 cx hM dX3_awardOf_48 ?_
      refine lv_iload hx hb dX3_awardOf_51 (lv_at hl 5 rfl) ?_
      obtain ⟨hi, hw⟩ := hw
      refine mm_iald cx hM 30 rfl rfl hi dX3_awardOf_53 ?_
      refine lv_iload_n hx hb dX3_awardOf_54 rfl (lv_at hl 3 rfl) ?_
      refine lv_icmp_ne (tgt := 73) hx hb dX3_awardOf_55 (by decide) (fun hc => ?_) (fun hc => ?_)
      · have hw := mm_in hc hw
        exact B3_awardOf_73 cx hK4 hK21 _ _ _ _ _ _ hw _ _ _ hM hS (lv_sub hl [0, 1, 2, 3, 4, 5] rfl)
      · have hw := mm_ip hc hw
        refine lv_iload hx hb dX3_awardOf_58 (lv_at hl 4 rfl) ?_
        refine lv_aload_n hx hb dX3_awardOf_60 rfl (lv_at hl 0 rfl) ?_
        refine lv_iload hx hb dX3_awardOf_61 (lv_at hl 5 rfl) ?_
        refine lv_iconst (v := (2 : Int32)) hx hb dX3_awardOf_63 (by decide) ?_
        refine C3_its cx hM hS hw ⟨Nat.le_of_ble_eq_true rfl, Nat.le_of_ble_eq_true rfl⟩ (Nat.le_of_ble_eq_true rfl) hl.1 ⟨Nat.zero_le _, Nat.zero_le _⟩ dX3_awardOf_64 (fun r5 s5 H locs hw hM hS => ?_)
        refine mm_max cx hl.1 (Nat.le_of_ble_eq_true rfl) (Nat.le_of_ble_eq_true rfl) dX3_awardOf_67 ?_
        refine lv_goto (tgt := 75) hx hb dX3_awardOf_70 (by decide) ?_
        exact B3_awardOf_75 cx hK4 hK21 _ _ _ _ _ _ hw _ _ _ hM hS (lv_sub hl [0, 1, 2, 3, 5] rfl)
theorem L3_awardOf_21 {l : Launch} {p : Program} {e : Env} {s : State} {m : MethodId} {args : Array Value} {below : List Frame} {meth : Method} {c : Code} {G : mm_G} {Q : Int32 → MS → Prop} {K4 : Int32 → Int32 → Int32 → MS → Prop} (cx : mm_X cX3_awardOf 6 (some .int) G p s m args meth c) (hK4 : ∀ (x1 : Int32) (x2 : Int32) (x3 : Int32) (σ : MS), K4 x1 x2 x3 σ → mm_T p l e ({ frames := 1, cells := 0, slots := 0, locals := 40 } : Room) s m args below meth c G (mm_Qi G Q) 6 4 σ [(0, .ref (mm_o G)), (1, .int x1), (2, .int x2), (3, .int x3)] []) : ∀ (x1 : Int32) (x2 : Int32) (x3 : Int32) (x4 : Int32) (x5 : Int32) (σ : MS), lp6F (w3_awardOf_21 Q K4) x1 x2 x3 x4 x5 σ → mm_T p l e ({ frames := 1, cells := 0, slots := 0, locals := 40 } : Room) s m args below meth c G (mm_Qi G Q) 6 21 σ [(0, .ref (mm_o G)), (1, .int x1), (2, .int x2), (3, .int x3), (4, .int x4), (5, .int x5)] [] :=
  lp6F_of (fun K hK => B3_awardOf_21 cx hK4 hK)
def w3_awardOf_4 (Q : Int32 → MS → Prop) (K4 : Int32 → Int32 → Int32 → MS → Prop) (x1 : Int32) (x2 : Int32) (x3 : Int32) (σ : MS) : Prop :=
  if (gA σ 4 18) ≤ x3 then (Q x2 σ) else (lp6F (w3_awardOf_21 Q K4) x1 x2 x3 (0 : Int32) (0 : Int32) σ)
set_option maxHeartbeats 4000000 in
theorem B3_awardOf_4 {l : Launch} {p : Program} {e : Env} {s : State} {m : MethodId} {args : Array Value} {below : List Frame} {meth : Method} {c : Code} {G : mm_G} {Q : Int32 → MS → Prop} {K4 : Int32 → Int32 → Int32 → MS → Prop} (cx : mm_X cX3_awardOf 6 (some .int) G p s m args meth c) (hK4 : ∀ (x1 : Int32) (x2 : Int32) (x3 : Int32) (σ : MS), K4 x1 x2 x3 σ → mm_T p l e ({ frames := 1, cells := 0, slots := 0, locals := 40 } : Room) s m args below meth c G (mm_Qi G Q) 6 4 σ [(0, .ref (mm_o G)), (1, .int x1), (2, .int x2), (3, .int x3)] []) : ∀ (x1 : Int32) (x2 : Int32) (x3 : Int32) (σ : MS), w3_awardOf_4 Q K4 x1 x2 x3 σ → mm_T p l e ({ frames := 1, cells := 0, slots := 0, locals := 40 } : Room) s m args below meth c G (mm_Qi G Q) 6 4 σ [(0, .ref (mm_o G)), (1, .int x1), (2, .int x2), (3, .int x3)] [] := by
  intro x1 x2 x3 σ hw H locs ls hM hS hl
  unfold w3_awardOf_4 at hw
  obtain ⟨hx, hb, hml, hown, hts, hr, hlk, hMK, hZ⟩ := id cx
  refine lv_iload_n hx hb dX3_awardOf_4 rfl (lv_at hl 3 rfl) ?_
  refine lv_aload_n hx hb dX3_awardOf_5 rfl (lv_at hl 0 rfl) ?_
  refine mg_4 cx hM dX3_awardOf_6 ?_
  refine lv_bipush (v := (18 : Int32)) hx hb dX3_awardOf_9 (by decide) ?_
  refine mm_iald cx hM 4 rfl (j := 18) (by decide) (vp_lit (by decide)) dX3_awardOf_11 ?_
  refine lv_icmp_ge (tgt := 94) hx hb dX3_awardOf_12 (by decide) (fun hc => ?_) (fun hc => ?_)
  · have hw := mm_ip hc hw
    refine lv_iload_n hx hb dX3_awardOf_94 rfl (lv_at hl 2 rfl) ?_
    exact mm_iret cx hM hS hw dX3_awardOf_95
  · have hw := mm_in hc hw
    refine lv_iconst (v := (0 : Int32)) hx hb dX3_awardOf_15 (by decide) ?_
    refine lv_istore (lv' := [(4, .int (0 : Int32)), (0, .ref (mm_o G)), (1, .int x1), (2, .int x2), (3, .int x3)]) hx hb dX3_awardOf_16 hl (by decide) rfl (fun ls hl => ?_)
    refine lv_iconst (v := (0 : Int32)) hx hb dX3_awardOf_18 (by decide) ?_
    refine lv_istore (lv' := [(5, .int (0 : Int32)), (4, .int (0 : Int32)), (0, .ref (mm_o G)), (1, .int x1), (2, .int x2), (3, .int x3)]) hx hb dX3_awardOf_19 hl (by decide) rfl (fun ls hl => ?_)
    exact L3_awardOf_21 cx hK4 _ _ _ _ _ _ hw _ _ _ hM hS (lv_sub hl [2, 3, 4, 5, 1, 0] rfl)
theorem L3_awardOf_4 {l : Launch} {p : Program} {e : Env} {s : State} {m : MethodId} {args : Array Value} {below : List Frame} {meth : Method} {c : Code} {G : mm_G} {Q : Int32 → MS → Prop} (cx : mm_X cX3_awardOf 6 (some .int) G p s m args meth c) : ∀ (x1 : Int32) (x2 : Int32) (x3 : Int32) (σ : MS), lp4F (w3_awardOf_4 Q) x1 x2 x3 σ → mm_T p l e ({ frames := 1, cells := 0, slots := 0, locals := 40 } : Room) s m args below meth c G (mm_Qi G Q) 6 4 σ [(0, .ref (mm_o G)), (1, .int x1), (2, .int x2), (3, .int x3)] [] :=
  lp4F_of (fun K hK => B3_awardOf_4 cx hK)
def w3_awardOf (x1 : Int32) (σ : MS) (Q : Int32 → MS → Prop) : Prop :=
  lp4F (w3_awardOf_4 Q) x1 (0 : Int32) (0 : Int32) σ
set_option maxHeartbeats 4000000 in
theorem M3_awardOf (l : Launch) (G : mm_G) (x1 : Int32) (σ : MS) (Q : Int32 → MS → Prop) (hw : w3_awardOf x1 σ Q) : mm_Mi l yX3_awardOf (ws_ yX3_awardOf cX3_awardOf 6 (some .int)) ({ frames := 1, cells := 0, slots := 0, locals := 40 } : Room) G [.ref (mm_o G), .int x1] σ Q := by
  refine mm_of (by decide) rfl ?_
  intro p e s m args below meth c cx hM ha
  refine mm_entry [.ref (mm_o G), .int x1] 6 [(0, .ref (mm_o G)), (1, .int x1)] ha (Nat.le_of_ble_eq_true rfl) rfl (fun ls hl => ?_)
  have hS : va_S (mm_A G) s.heap s.heap [] := va_S.rf
  unfold w3_awardOf at hw
  obtain ⟨hx, hb, hml, hown, hts, hr, hlk, hMK, hZ⟩ := id cx
  refine lv_iconst (v := (0 : Int32)) hx hb dX3_awardOf_0 (by decide) ?_
  refine lv_istore_n (lv' := [(2, .int (0 : Int32)), (0, .ref (mm_o G)), (1, .int x1)]) hx hb dX3_awardOf_1 rfl hl (by decide) rfl (fun ls hl => ?_)
  refine lv_iconst (v := (0 : Int32)) hx hb dX3_awardOf_2 (by decide) ?_
  refine lv_istore_n (lv' := [(3, .int (0 : Int32)), (2, .int (0 : Int32)), (0, .ref (mm_o G)), (1, .int x1)]) hx hb dX3_awardOf_3 rfl hl (by decide) rfl (fun ls hl => ?_)
  exact L3_awardOf_4 cx _ _ _ _ hw _ _ _ hM hS (lv_sub hl [2, 3, 1, 0] rfl)
theorem C3_awardOf {l : Launch} {p : Program} {e : Env} {R : Room} {s : State} {m : MethodId} {args : Array Value} {below : List Frame} {meth : Method} {c : Code} {H : Heap} {locs : List Loc} {cells slots : Nat} {Qz : State → Prop} {cc : ByteArray} {nL : Nat} {ret : Option FieldType} {G : mm_G} {pc : Nat} {ls : Array Slot} {rest : List Value} {x1 : Int32} {σ : MS} (cx : mm_X cc nL ret G p s m args meth c) (hM : mm_R G σ H) (hS0 : va_S (mm_A G) s.heap H locs) {Qf : Int32 → MS → Prop} (hw : w3_awardOf x1 σ Qf) (hR : (({ frames := 1, cells := 0, slots := 0, locals := 40 } : Room)).frames + 1 ≤ R.frames ∧ 8 + (6 + 11) + (({ frames := 1, cells := 0, slots := 0, locals := 40 } : Room)).locals ≤ R.locals) (hroom : (rest.map fun v => v.category).sum ≤ 8) (hsize : ls.size = nL) (hf : cells ≤ R.cells ∧ slots ≤ R.slots) (hdg : decode cc pc = .ok (.invokevirtual 491, 3))
    (kk : ∀ (r : Int32) (σ1 : MS) (H1 : Heap) (locs1 : List Loc), Qf r σ1 → mm_R G σ1 H1 → va_S (mm_A G) s.heap H1 locs1 → W p l e R s m args below meth c H1 locs1 cells slots Qz (F0 m (pc + 3) ls (.int r :: rest))) : W p l e R s m args below meth c H locs cells slots Qz (F0 m pc ls (.int x1 :: .ref (mm_o G) :: rest)) := by
  obtain ⟨hx, hb, hml, hown, hts, hr, hlk, hK, hZ⟩ := id cx
  exact mm_Vi cx hM hS0 (As := [.int x1]) (M3_awardOf l G x1 σ Qf hw) (cwV 1 hts (lw_V q3020 q3022 qs153 q172 q3023) rfl rfl rfl (by decide +kernel) hR) rfl hsize rfl hroom hf hdg kk
def w3_award_91 (Q : Int32 → MS → Prop) (K25 : Int32 → Int32 → Int32 → Int32 → Int32 → MS → Prop) (x1 : Int32) (x2 : Int32) (x3 : Int32) (x5 : Int32) (x6 : Int32) (t0 : Int32) (σ : MS) : Prop :=
  ∀ v1 : Int32, v1 = (imax x3 x6) → ∀ v2 : Int32, v2 = x5 + (1 : Int32) → K25 x1 x2 v1 t0 v2 σ
set_option maxHeartbeats 4000000 in
theorem B3_award_91 {l : Launch} {p : Program} {e : Env} {s : State} {m : MethodId} {args : Array Value} {below : List Frame} {meth : Method} {c : Code} {G : mm_G} {Q : Int32 → MS → Prop} {K25 : Int32 → Int32 → Int32 → Int32 → Int32 → MS → Prop} (cx : mm_X cX3_award 7 (some .int) G p s m args meth c) (hK25 : ∀ (x1 : Int32) (x2 : Int32) (x3 : Int32) (x4 : Int32) (x5 : Int32) (σ : MS), K25 x1 x2 x3 x4 x5 σ → mm_T p l e ({ frames := 7, cells := 0, slots := 0, locals := 280 } : Room) s m args below meth c G (mm_Qi G Q) 7 25 σ [(0, .ref (mm_o G)), (1, .int x1), (2, .int x2), (3, .int x3), (4, .int x4), (5, .int x5)] []) : ∀ (x1 : Int32) (x2 : Int32) (x3 : Int32) (x5 : Int32) (x6 : Int32) (t0 : Int32) (σ : MS), w3_award_91 Q K25 x1 x2 x3 x5 x6 t0 σ → mm_T p l e ({ frames := 7, cells := 0, slots := 0, locals := 280 } : Room) s m args below meth c G (mm_Qi G Q) 7 91 σ [(0, .ref (mm_o G)), (1, .int x1), (2, .int x2), (3, .int x3), (5, .int x5), (6, .int x6)] [.int t0] := by
  intro x1 x2 x3 x5 x6 t0 σ hw H locs ls hM hS hl
  unfold w3_award_91 at hw
  obtain ⟨hx, hb, hml, hown, hts, hr, hlk, hMK, hZ⟩ := id cx
  refine lv_istore (lv' := [(4, .int t0), (0, .ref (mm_o G)), (1, .int x1), (2, .int x2), (3, .int x3), (5, .int x5), (6, .int x6)]) hx hb dX3_award_91 hl (by decide) rfl (fun ls hl => ?_)
  refine lv_iload_n hx hb dX3_award_93 rfl (lv_at hl 4 rfl) ?_
  refine lv_iload hx hb dX3_award_94 (lv_at hl 6 rfl) ?_
  refine mm_max cx hl.1 (Nat.le_of_ble_eq_true rfl) (Nat.le_of_ble_eq_true rfl) dX3_award_96 ?_
  refine lv_topi (fun v1 hv1 => ?_)
  have hw := hw v1 hv1
  refine lv_istore_n (lv' := [(3, .int v1), (4, .int t0), (0, .ref (mm_o G)), (1, .int x1), (2, .int x2), (5, .int x5), (6, .int x6)]) hx hb dX3_award_99 rfl hl (by decide) rfl (fun ls hl => ?_)
  obtain ⟨v2, hv2⟩ : ∃ v : Int32, v = x5 + (1 : Int32) := ⟨_, rfl⟩
  have hw := hw v2 hv2
  refine lv_iinc (v := v2) (lv' := [(5, .int v2), (3, .int v1), (4, .int t0), (0, .ref (mm_o G)), (1, .int x1), (2, .int x2), (6, .int x6)]) hx hb dX3_award_100 hl (k := 5) rfl (by rw [hv2]; rfl) (by decide) rfl (fun ls hl => ?_)
  refine lv_goto (tgt := 25) hx hb dX3_award_103 (by decide) ?_
  exact hK25 _ _ _ _ _ _ hw _ _ _ hM hS (lv_sub hl [3, 4, 5, 1, 2, 0] rfl)
def w3_award_77 (Q : Int32 → MS → Prop) (K25 : Int32 → Int32 → Int32 → Int32 → Int32 → MS → Prop) (x1 : Int32) (x3 : Int32) (x4 : Int32) (x5 : Int32) (x6 : Int32) (t0 : Int32) (σ : MS) : Prop :=
  if x6 ≤ x3 then (w3_award_91 Q K25 x1 t0 x3 x5 x6 x4 σ) else (w3_award_91 Q K25 x1 t0 x3 x5 x6 x5 σ)
set_option maxHeartbeats 4000000 in
theorem B3_award_77 {l : Launch} {p : Program} {e : Env} {s : State} {m : MethodId} {args : Array Value} {below : List Frame} {meth : Method} {c : Code} {G : mm_G} {Q : Int32 → MS → Prop} {K25 : Int32 → Int32 → Int32 → Int32 → Int32 → MS → Prop} (cx : mm_X cX3_award 7 (some .int) G p s m args meth c) (hK25 : ∀ (x1 : Int32) (x2 : Int32) (x3 : Int32) (x4 : Int32) (x5 : Int32) (σ : MS), K25 x1 x2 x3 x4 x5 σ → mm_T p l e ({ frames := 7, cells := 0, slots := 0, locals := 280 } : Room) s m args below meth c G (mm_Qi G Q) 7 25 σ [(0, .ref (mm_o G)), (1, .int x1), (2, .int x2), (3, .int x3), (4, .int x4), (5, .int x5)] []) : ∀ (x1 : Int32) (x3 : Int32) (x4 : Int32) (x5 : Int32) (x6 : Int32) (t0 : Int32) (σ : MS), w3_award_77 Q K25 x1 x3 x4 x5 x6 t0 σ → mm_T p l e ({ frames := 7, cells := 0, slots := 0, locals := 280 } : Room) s m args below meth c G (mm_Qi G Q) 7 77 σ [(0, .ref (mm_o G)), (1, .int x1), (3, .int x3), (4, .int x4), (5, .int x5), (6, .int x6)] [.int t0] := by
  intro x1 x3 x4 x5 x6 t0 σ hw H locs ls hM hS hl
  unfold w3_award_77 at hw
  obtain ⟨hx, hb, hml, hown, hts, hr, hlk, hMK, hZ⟩ := id cx
  refine lv_istore_n (lv' := [(2, .int t0), (0, .ref (mm_o G)), (1, .int x1), (3, .int x3), (4, .int x4), (5, .int x5), (6, .int x6)]) hx hb dX3_award_77 rfl hl (by decide) rfl (fun ls hl => ?_)
  refine lv_iload hx hb dX3_award_78 (lv_at hl 6 rfl) ?_
  refine lv_iload_n hx hb dX3_award_80 rfl (lv_at hl 3 rfl) ?_
  refine lv_icmp_le (tgt := 89) hx hb dX3_award_81 (by decide) (fun hc => ?_) (fun hc => ?_)
  · have hw := mm_ip hc hw
    refine lv_iload hx hb dX3_award_89 (lv_at hl 4 rfl) ?_
    exact B3_award_91 cx hK25 _ _ _ _ _ _ _ hw _ _ _ hM hS (lv_sub hl [1, 2, 0, 3, 5, 6] rfl)
  · have hw := mm_in hc hw
    refine lv_iload hx hb dX3_award_84 (lv_at hl 5 rfl) ?_
    refine lv_goto (tgt := 91) hx hb dX3_award_86 (by decide) ?_
    exact B3_award_91 cx hK25 _ _ _ _ _ _ _ hw _ _ _ hM hS (lv_sub hl [1, 2, 0, 3, 5, 6] rfl)
def w3_award_76 (Q : Int32 → MS → Prop) (K25 : Int32 → Int32 → Int32 → Int32 → Int32 → MS → Prop) (x1 : Int32) (x2 : Int32) (x3 : Int32) (x4 : Int32) (x5 : Int32) (x6 : Int32) (σ : MS) : Prop :=
  w3_award_77 Q K25 x1 x3 x4 x5 x6 x2 σ
set_option maxHeartbeats 4000000 in
theorem B3_award_76 {l : Launch} {p : Program} {e : Env} {s : State} {m : MethodId} {args : Array Value} {below : List Frame} {meth : Method} {c : Code} {G : mm_G} {Q : Int32 → MS → Prop} {K25 : Int32 → Int32 → Int32 → Int32 → Int32 → MS → Prop} (cx : mm_X cX3_award 7 (some .int) G p s m args meth c) (hK25 : ∀ (x1 : Int32) (x2 : Int32) (x3 : Int32) (x4 : Int32) (x5 : Int32) (σ : MS), K25 x1 x2 x3 x4 x5 σ → mm_T p l e ({ frames := 7, cells := 0, slots := 0, locals := 280 } : Room) s m args below meth c G (mm_Qi G Q) 7 25 σ [(0, .ref (mm_o G)), (1, .int x1), (2, .int x2), (3, .int x3), (4, .int x4), (5, .int x5)] []) : ∀ (x1 : Int32) (x2 : Int32) (x3 : Int32) (x4 : Int32) (x5 : Int32) (x6 : Int32) (σ : MS), w3_award_76 Q K25 x1 x2 x3 x4 x5 x6 σ → mm_T p l e ({ frames := 7, cells := 0, slots := 0, locals := 280 } : Room) s m args below meth c G (mm_Qi G Q) 7 76 σ [(0, .ref (mm_o G)), (1, .int x1), (2, .int x2), (3, .int x3), (4, .int x4), (5, .int x5), (6, .int x6)] [] := by
  intro x1 x2 x3 x4 x5 x6 σ hw H locs ls hM hS hl
  unfold w3_award_76 at hw
  obtain ⟨hx, hb, hml, hown, hts, hr, hlk, hMK, hZ⟩ := id cx
  refine lv_iload_n hx hb dX3_award_76 rfl (lv_at hl 2 rfl) ?_
  exact B3_award_77 cx hK25 _ _ _ _ _ _ _ hw _ _ _ hM hS (lv_sub hl [0, 1, 3, 4, 5, 6] rfl)
def w3_award_71 (Q : Int32 → MS → Prop) (K25 : Int32 → Int32 → Int32 → Int32 → Int32 → MS → Prop) (x1 : Int32) (x3 : Int32) (x4 : Int32) (x5 : Int32) (x6 : Int32) (σ : MS) : Prop :=
  w3_award_77 Q K25 x1 x3 x4 x5 x6 x6 σ
set_option maxHeartbeats 4000000 in
theorem B3_award_71 {l : Launch} {p : Program} {e : Env} {s : State} {m : MethodId} {args : Array Value} {below : List Frame} {meth : Method} {c : Code} {G : mm_G} {Q : Int32 → MS → Prop} {K25 : Int32 → Int32 → Int32 → Int32 → Int32 → MS → Prop} (cx : mm_X cX3_award 7 (some .int) G p s m args meth c) (hK25 : ∀ (x1 : Int32) (x2 : Int32) (x3 : Int32) (x4 : Int32) (x5 : Int32) (σ : MS), K25 x1 x2 x3 x4 x5 σ → mm_T p l e ({ frames := 7, cells := 0, slots := 0, locals := 280 } : Room) s m args below meth c G (mm_Qi G Q) 7 25 σ [(0, .ref (mm_o G)), (1, .int x1), (2, .int x2), (3, .int x3), (4, .int x4), (5, .int x5)] []) : ∀ (x1 : Int32) (x3 : Int32) (x4 : Int32) (x5 : Int32) (x6 : Int32) (σ : MS), w3_award_71 Q K25 x1 x3 x4 x5 x6 σ → mm_T p l e ({ frames := 7, cells := 0, slots := 0, locals := 280 } : Room) s m args below meth c G (mm_Qi G Q) 7 71 σ [(0, .ref (mm_o G)), (1, .int x1), (3, .int x3), (4, .int x4), (5, .int x5), (6, .int x6)] [] := by
  intro x1 x3 x4 x5 x6 σ hw H locs ls hM hS hl
  unfold w3_award_71 at hw
  obtain ⟨hx, hb, hml, hown, hts, hr, hlk, hMK, hZ⟩ := id cx
  refine lv_iload hx hb dX3_award_71 (lv_at hl 5 rfl) ?_
  refine lv_goto (tgt := 77) hx hb dX3_award_73 (by decide) ?_
  exact B3_award_77 cx hK25 _ _ _ _ _ _ _ hw _ _ _ hM hS (lv_sub hl [0, 1, 2, 3, 4, 5] rfl)
def w3_award_52 (Q : Int32 → MS → Prop) (K25 : Int32 → Int32 → Int32 → Int32 → Int32 → MS → Prop) (x1 : Int32) (x2 : Int32) (x3 : Int32) (x4 : Int32) (x5 : Int32) (t0 : Int32) (σ : MS) : Prop :=
  if t0 = (-1 : Int32) then (w3_award_76 Q K25 x1 x2 x3 x4 x5 t0 σ) else (if x2 = (-1 : Int32) then (w3_award_71 Q K25 x1 x3 x4 x5 t0 σ) else (if x2 ≤ t0 then (w3_award_76 Q K25 x1 x2 x3 x4 x5 t0 σ) else (w3_award_71 Q K25 x1 x3 x4 x5 t0 σ)))
set_option maxHeartbeats 4000000 in
theorem B3_award_52 {l : Launch} {p : Program} {e : Env} {s : State} {m : MethodId} {args : Array Value} {below : List Frame} {meth : Method} {c : Code} {G : mm_G} {Q : Int32 → MS → Prop} {K25 : Int32 → Int32 → Int32 → Int32 → Int32 → MS → Prop} (cx : mm_X cX3_award 7 (some .int) G p s m args meth c) (hK25 : ∀ (x1 : Int32) (x2 : Int32) (x3 : Int32) (x4 : Int32) (x5 : Int32) (σ : MS), K25 x1 x2 x3 x4 x5 σ → mm_T p l e ({ frames := 7, cells := 0, slots := 0, locals := 280 } : Room) s m args below meth c G (mm_Qi G Q) 7 25 σ [(0, .ref (mm_o G)), (1, .int x1), (2, .int x2), (3, .int x3), (4, .int x4), (5, .int x5)] []) : ∀ (x1 : Int32) (x2 : Int32) (x3 : Int32) (x4 : Int32) (x5 : Int32) (t0 : Int32) (σ : MS), w3_award_52 Q K25 x1 x2 x3 x4 x5 t0 σ → mm_T p l e ({ frames := 7, cells := 0, slots := 0, locals := 280 } : Room) s m args below meth c G (mm_Qi G Q) 7 52 σ [(0, .ref (mm_o G)), (1, .int x1), (2, .int x2), (3, .int x3), (4, .int x4), (5, .int x5)] [.int t0] := by
  intro x1 x2 x3 x4 x5 t0 σ hw H locs ls hM hS hl
  unfold w3_award_52 at hw
  obtain ⟨hx, hb, hml, hown, hts, hr, hlk, hMK, hZ⟩ := id cx
  refine lv_istore (lv' := [(6, .int t0), (0, .ref (mm_o G)), (1, .int x1), (2, .int x2), (3, .int x3), (4, .int x4), (5, .int x5)]) hx hb dX3_award_52 hl (by decide) rfl (fun ls hl => ?_)
  refine lv_iload hx hb dX3_award_54 (lv_at hl 0 rfl) ?_
  refine lv_iconst (v := (-1 : Int32)) hx hb dX3_award_56 (by decide) ?_
  refine lv_icmp_eq (tgt := 76) hx hb dX3_award_57 (by decide) (fun hc => ?_) (fun hc => ?_)
  · have hw := mm_ip hc hw
    exact B3_award_76 cx hK25 _ _ _ _ _ _ _ hw _ _ _ hM hS (lv_sub hl [1, 2, 3, 4, 5, 6, 0] rfl)
  · have hw := mm_in hc hw
    refine lv_iload_n hx hb dX3_award_60 rfl (lv_at hl 3 rfl) ?_
    refine lv_iconst (v := (-1 : Int32)) hx hb dX3_award_61 (by decide) ?_
    refine lv_icmp_eq (tgt := 71) hx hb dX3_award_62 (by decide) (fun hc => ?_) (fun hc => ?_)
    · have hw := mm_ip hc hw
      exact B3_award_71 cx hK25 _ _ _ _ _ _ hw _ _ _ hM hS (lv_sub hl [1, 2, 4, 5, 6, 0] rfl)
    · have hw := mm_in hc hw
      refine lv_iload hx hb dX3_award_65 (lv_at hl 0 rfl) ?_
      refine lv_iload_n hx hb dX3_award_67 rfl (lv_at hl 3 rfl) ?_
      refine lv_icmp_ge (tgt := 76) hx hb dX3_award_68 (by decide) (fun hc => ?_) (fun hc => ?_)
      · have hw := mm_ip hc hw
        exact B3_award_76 cx hK25 _ _ _ _ _ _ _ hw _ _ _ hM hS (lv_sub hl [1, 2, 3, 4, 5, 6, 0] rfl)
      · have hw := mm_in hc hw
        exact B3_award_71 cx hK25 _ _ _ _ _ _ hw _ _ _ hM hS (lv_sub hl [1, 2, 4, 5, 6, 0] rfl)
def w3_award_25 (Q : Int32 → MS → Prop) (K25 : Int32 → Int32 → Int32 → Int32 → Int32 → MS → Prop) (x1 : Int32) (x2 : Int32) (x3 : Int32) (x4 : Int32) (x5 : Int32) (σ : MS) : Prop :=
  if (256 : Int32) ≤ x5 then (if x1 = 0 then (Q x2 σ) else (if x1 = (1 : Int32) then (Q x3 σ) else (Q x4 σ))) else (w3_isLeft x5 σ (fun r3 s3 => if r3 = 0 then (w3_award_52 Q K25 x1 x2 x3 x4 x5 (-1 : Int32) s3) else (w3_awardOf x5 s3 (fun r4 s4 => w3_award_52 Q K25 x1 x2 x3 x4 x5 r4 s4))))
set_option maxHeartbeats 4000000 in
theorem B3_award_25 {l : Launch} {p : Program} {e : Env} {s : State} {m : MethodId} {args : Array Value} {below : List Frame} {meth : Method} {c : Code} {G : mm_G} {Q : Int32 → MS → Prop} {K25 : Int32 → Int32 → Int32 → Int32 → Int32 → MS → Prop} (cx : mm_X cX3_award 7 (some .int) G p s m args meth c) (hK25 : ∀ (x1 : Int32) (x2 : Int32) (x3 : Int32) (x4 : Int32) (x5 : Int32) (σ : MS), K25 x1 x2 x3 x4 x5 σ → mm_T p l e ({ frames := 7, cells := 0, slots := 0, locals := 280 } : Room) s m args below meth c G (mm_Qi G Q) 7 25 σ [(0, .ref (mm_o G)), (1, .int x1), (2, .int x2), (3, .int x3), (4, .int x4), (5, .int x5)] []) : ∀ (x1 : Int32) (x2 : Int32) (x3 : Int32) (x4 : Int32) (x5 : Int32) (σ : MS), w3_award_25 Q K25 x1 x2 x3 x4 x5 σ → mm_T p l e ({ frames := 7, cells := 0, slots := 0, locals := 280 } : Room) s m args below meth c G (mm_Qi G Q) 7 25 σ [(0, .ref (mm_o G)), (1, .int x1), (2, .int x2), (3, .int x3), (4, .int x4), (5, .int x5)] [] := by
  intro x1 x2 x3 x4 x5 σ hw H locs ls hM hS hl
  unfold w3_award_25 at hw
  obtain ⟨hx, hb, hml, hown, hts, hr, hlk, hMK, hZ⟩ := id cx
  refine lv_iload hx hb dX3_award_25 (lv_at hl 5 rfl) ?_
  refine lv_sipush (v := (256 : Int32)) hx hb dX3_award_27 (by decide) ?_
  refine lv_icmp_ge (tgt := 106) hx hb dX3_award_30 (by decide) (fun hc => ?_) (fun hc => ?_)
  · have hw := mm_ip hc hw
    refine lv_iload_n hx hb dX3_award_106 rfl (lv_at hl 1 rfl) ?_
    refine lv_if_ne (tgt := 114) hx hb dX3_award_107 (by decide) (fun hc => ?_) (fun hc => ?_)
    · have hw := mm_in hc hw
      refine lv_iload_n hx hb dX3_award_114 rfl (lv_at hl 1 rfl) ?_
      refine lv_iconst (v := (1 : Int32)) hx hb dX3_award_115 (by decide) ?_
      refine lv_icmp_ne (tgt := 123) hx hb dX3_award_116 (by decide) (fun hc => ?_) (fun hc => ?_)
      · have hw := mm_in hc hw
        refine lv_iload hx hb dX3_award_123 (lv_at hl 4 rfl) ?_
        exact mm_iret cx hM hS hw dX3_award_125
      · have hw := mm_ip hc hw
        refine lv_iload_n hx hb dX3_award_119 rfl (lv_at hl 3 rfl) ?_
        refine lv_goto (tgt := 125) hx hb dX3_award_120 (by decide) ?_
        exact mm_iret cx hM hS hw dX3_award_125
    · have hw := mm_ip hc hw
      refine lv_iload_n hx hb dX3_award_110 rfl (lv_at hl 2 rfl) ?_
      refine lv_goto (tgt := 125) hx hb dX3_award_111 (by decide) ?_
      exact mm_iret cx hM hS hw dX3_award_125
  · have hw := mm_in hc hw
    refine lv_aload_n hx hb dX3_award_33 rfl (lv_at hl 0 rfl) ?_
    refine lv_iload hx hb dX3_award_34 (lv_at hl 5 rfl) ?_
    refine C3_isLeft cx hM hS hw ⟨Nat.le_of_ble_eq_true rfl, Nat.le_of_ble_eq_true rfl⟩ (Nat.le_of_ble_eq_true rfl) hl.1 ⟨Nat.zero_le _, Nat.zero_le _⟩ dX3_award_36 (fun r3 s3 H locs hw hM hS => ?_)
    refine lv_if_eq (tgt := 51) hx hb dX3_award_39 (by decide) (fun hc => ?_) (fun hc => ?_)
    · have hw := mm_ip hc hw
      refine lv_iconst (v := (-1 : Int32)) hx hb dX3_award_51 (by decide) ?_
      exact B3_award_52 cx hK25 _ _ _ _ _ _ _ hw _ _ _ hM hS (lv_sub hl [0, 1, 2, 3, 4, 5] rfl)
    · have hw := mm_in hc hw
      refine lv_aload_n hx hb dX3_award_42 rfl (lv_at hl 0 rfl) ?_
      refine lv_iload hx hb dX3_award_43 (lv_at hl 5 rfl) ?_
      refine C3_awardOf cx hM hS hw ⟨Nat.le_of_ble_eq_true rfl, Nat.le_of_ble_eq_true rfl⟩ (Nat.le_of_ble_eq_true rfl) hl.1 ⟨Nat.zero_le _, Nat.zero_le _⟩ dX3_award_45 (fun r4 s4 H locs hw hM hS => ?_)
      refine lv_goto (tgt := 52) hx hb dX3_award_48 (by decide) ?_
      exact B3_award_52 cx hK25 _ _ _ _ _ _ _ hw _ _ _ hM hS (lv_sub hl [0, 1, 2, 3, 4, 5] rfl)
theorem L3_award_25 {l : Launch} {p : Program} {e : Env} {s : State} {m : MethodId} {args : Array Value} {below : List Frame} {meth : Method} {c : Code} {G : mm_G} {Q : Int32 → MS → Prop} (cx : mm_X cX3_award 7 (some .int) G p s m args meth c) : ∀ (x1 : Int32) (x2 : Int32) (x3 : Int32) (x4 : Int32) (x5 : Int32) (σ : MS), lp6F (w3_award_25 Q) x1 x2 x3 x4 x5 σ → mm_T p l e ({ frames := 7, cells := 0, slots := 0, locals := 280 } : Room) s m args below meth c G (mm_Qi G Q) 7 25 σ [(0, .ref (mm_o G)), (1, .int x1), (2, .int x2), (3, .int x3), (4, .int x4), (5, .int x5)] [] :=
  lp6F_of (fun K hK => B3_award_25 cx hK)
def w3_award (x1 : Int32) (σ : MS) (Q : Int32 → MS → Prop) : Prop :=
  w3_in x1 (0 : Int32) (2 : Int32) σ (fun r5 s5 => if r5 = 0 then (Q (-1 : Int32) s5) else (w3_laysWins s5 (fun s6 => lp6F (w3_award_25 Q) x1 (-1 : Int32) (-1 : Int32) (0 : Int32) (0 : Int32) s6)))
set_option maxHeartbeats 4000000 in
theorem M3_award (l : Launch) (G : mm_G) (x1 : Int32) (σ : MS) (Q : Int32 → MS → Prop) (hw : w3_award x1 σ Q) : mm_Mi l yX3_award (ws_ yX3_award cX3_award 7 (some .int)) ({ frames := 7, cells := 0, slots := 0, locals := 280 } : Room) G [.ref (mm_o G), .int x1] σ Q := by
  refine mm_of (by decide) rfl ?_
  intro p e s m args below meth c cx hM ha
  refine mm_entry [.ref (mm_o G), .int x1] 7 [(0, .ref (mm_o G)), (1, .int x1)] ha (Nat.le_of_ble_eq_true rfl) rfl (fun ls hl => ?_)
  have hS : va_S (mm_A G) s.heap s.heap [] := va_S.rf
  unfold w3_award at hw
  obtain ⟨hx, hb, hml, hown, hts, hr, hlk, hMK, hZ⟩ := id cx
  refine lv_iload_n hx hb dX3_award_0 rfl (lv_at hl 1 rfl) ?_
  refine lv_iconst (v := (0 : Int32)) hx hb dX3_award_1 (by decide) ?_
  refine lv_iconst (v := (2 : Int32)) hx hb dX3_award_2 (by decide) ?_
  refine C3_in cx hM hS hw ⟨Nat.le_of_ble_eq_true rfl, Nat.le_of_ble_eq_true rfl⟩ (Nat.le_of_ble_eq_true rfl) hl.1 ⟨Nat.zero_le _, Nat.zero_le _⟩ dX3_award_3 (fun r5 s5 H locs hw hM hS => ?_)
  refine lv_if_ne (tgt := 11) hx hb dX3_award_6 (by decide) (fun hc => ?_) (fun hc => ?_)
  · have hw := mm_in hc hw
    refine lv_aload_n hx hb dX3_award_11 rfl (lv_at hl 0 rfl) ?_
    refine C3_laysWins cx hM hS hw ⟨Nat.le_of_ble_eq_true rfl, Nat.le_of_ble_eq_true rfl⟩ (Nat.le_of_ble_eq_true rfl) hl.1 ⟨Nat.zero_le _, Nat.zero_le _⟩ dX3_award_12 (fun s6 H locs hw hM hS => ?_)
    refine lv_iconst (v := (-1 : Int32)) hx hb dX3_award_15 (by decide) ?_
    refine lv_istore_n (lv' := [(2, .int (-1 : Int32)), (0, .ref (mm_o G)), (1, .int x1)]) hx hb dX3_award_16 rfl hl (by decide) rfl (fun ls hl => ?_)
    refine lv_iconst (v := (-1 : Int32)) hx hb dX3_award_17 (by decide) ?_
    refine lv_istore_n (lv' := [(3, .int (-1 : Int32)), (2, .int (-1 : Int32)), (0, .ref (mm_o G)), (1, .int x1)]) hx hb dX3_award_18 rfl hl (by decide) rfl (fun ls hl => ?_)
    refine lv_iconst (v := (0 : Int32)) hx hb dX3_award_19 (by decide) ?_
    refine lv_istore (lv' := [(4, .int (0 : Int32)), (3, .int (-1 : Int32)), (2, .int (-1 : Int32)), (0, .ref (mm_o G)), (1, .int x1)]) hx hb dX3_award_20 hl (by decide) rfl (fun ls hl => ?_)
    refine lv_iconst (v := (0 : Int32)) hx hb dX3_award_22 (by decide) ?_
    refine lv_istore (lv' := [(5, .int (0 : Int32)), (4, .int (0 : Int32)), (3, .int (-1 : Int32)), (2, .int (-1 : Int32)), (0, .ref (mm_o G)), (1, .int x1)]) hx hb dX3_award_23 hl (by decide) rfl (fun ls hl => ?_)
    exact L3_award_25 cx _ _ _ _ _ _ hw _ _ _ hM hS (lv_sub hl [4, 5, 3, 2, 1, 0] rfl)
  · have hw := mm_ip hc hw
    refine lv_iconst (v := (-1 : Int32)) hx hb dX3_award_9 (by decide) ?_
    exact mm_iret cx hM hS hw dX3_award_10
-- no call of award
def w3_meant_84 (Q : Int64 → MS → Prop) (K25 : Int32 → Int64 → Int64 → Int32 → MS → Prop) (x1 : Int32) (x2 : Int64) (x6 : Int32) (t0 : Int64) (t1 : Int64) (σ : MS) : Prop :=
  ∀ v1 : Int64, v1 = (t0 + t1) → ∀ v2 : Int32, v2 = x6 + (1 : Int32) → K25 x1 x2 v1 v2 σ
set_option maxHeartbeats 4000000 in
theorem B3_meant_84 {l : Launch} {p : Program} {e : Env} {s : State} {m : MethodId} {args : Array Value} {below : List Frame} {meth : Method} {c : Code} {G : mm_G} {Q : Int64 → MS → Prop} {K25 : Int32 → Int64 → Int64 → Int32 → MS → Prop} (cx : mm_X cX3_meant 7 (some .long) G p s m args meth c) (hK25 : ∀ (x1 : Int32) (x2 : Int64) (x4 : Int64) (x6 : Int32) (σ : MS), K25 x1 x2 x4 x6 σ → mm_T p l e ({ frames := 7, cells := 0, slots := 0, locals := 280 } : Room) s m args below meth c G (mm_Ql G Q) 7 25 σ [(0, .ref (mm_o G)), (1, .int x1), (2, .long x2), (4, .long x4), (6, .int x6)] []) : ∀ (x1 : Int32) (x2 : Int64) (x6 : Int32) (t0 : Int64) (t1 : Int64) (σ : MS), w3_meant_84 Q K25 x1 x2 x6 t0 t1 σ → mm_T p l e ({ frames := 7, cells := 0, slots := 0, locals := 280 } : Room) s m args below meth c G (mm_Ql G Q) 7 84 σ [(0, .ref (mm_o G)), (1, .int x1), (2, .long x2), (6, .int x6)] [.long t1, .long t0] := by
  intro x1 x2 x6 t0 t1 σ hw H locs ls hM hS hl
  unfold w3_meant_84 at hw
  obtain ⟨hx, hb, hml, hown, hts, hr, hlk, hMK, hZ⟩ := id cx
  refine lv_ladd hx hb dX3_meant_84 ?_
  refine lv_topl (fun v1 hv1 => ?_)
  have hw := hw v1 hv1
  refine lv_lstore (lv' := [(4, .long v1), (0, .ref (mm_o G)), (1, .int x1), (2, .long x2), (6, .int x6)]) hx hb dX3_meant_85 hl (by decide) rfl (fun ls hl => ?_)
  obtain ⟨v2, hv2⟩ : ∃ v : Int32, v = x6 + (1 : Int32) := ⟨_, rfl⟩
  have hw := hw v2 hv2
  refine lv_iinc (v := v2) (lv' := [(6, .int v2), (4, .long v1), (0, .ref (mm_o G)), (1, .int x1), (2, .long x2)]) hx hb dX3_meant_87 hl (k := 4) rfl (by rw [hv2]; rfl) (by decide) rfl (fun ls hl => ?_)
  refine lv_goto (tgt := 25) hx hb dX3_meant_90 (by decide) ?_
  exact hK25 _ _ _ _ _ hw _ _ _ hM hS (lv_sub hl [2, 3, 4, 1, 0] rfl)
def w3_meant_61 (Q : Int64 → MS → Prop) (K25 : Int32 → Int64 → Int64 → Int32 → MS → Prop) (x1 : Int32) (x4 : Int64) (x6 : Int32) (t0 : Int64) (t1 : Int64) (σ : MS) : Prop :=
  ∀ v3 : Int64, v3 = (t0 + t1) → w3_isLeft x6 σ (fun r4 s4 => if r4 = 0 then (w3_meant_84 Q K25 x1 v3 x6 x4 (0 : Int64) s4) else (w3_weight x6 s4 (fun r5 s5 => w3_meant_84 Q K25 x1 v3 x6 x4 r5 s5)))
set_option maxHeartbeats 4000000 in
theorem B3_meant_61 {l : Launch} {p : Program} {e : Env} {s : State} {m : MethodId} {args : Array Value} {below : List Frame} {meth : Method} {c : Code} {G : mm_G} {Q : Int64 → MS → Prop} {K25 : Int32 → Int64 → Int64 → Int32 → MS → Prop} (cx : mm_X cX3_meant 7 (some .long) G p s m args meth c) (hK25 : ∀ (x1 : Int32) (x2 : Int64) (x4 : Int64) (x6 : Int32) (σ : MS), K25 x1 x2 x4 x6 σ → mm_T p l e ({ frames := 7, cells := 0, slots := 0, locals := 280 } : Room) s m args below meth c G (mm_Ql G Q) 7 25 σ [(0, .ref (mm_o G)), (1, .int x1), (2, .long x2), (4, .long x4), (6, .int x6)] []) : ∀ (x1 : Int32) (x4 : Int64) (x6 : Int32) (t0 : Int64) (t1 : Int64) (σ : MS), w3_meant_61 Q K25 x1 x4 x6 t0 t1 σ → mm_T p l e ({ frames := 7, cells := 0, slots := 0, locals := 280 } : Room) s m args below meth c G (mm_Ql G Q) 7 61 σ [(0, .ref (mm_o G)), (1, .int x1), (4, .long x4), (6, .int x6)] [.long t1, .long t0] := by
  intro x1 x4 x6 t0 t1 σ hw H locs ls hM hS hl
  unfold w3_meant_61 at hw
  obtain ⟨hx, hb, hml, hown, hts, hr, hlk, hMK, hZ⟩ := id cx
  refine lv_ladd hx hb dX3_meant_61 ?_
  refine lv_topl (fun v3 hv3 => ?_)
  have hw := hw v3 hv3
  refine lv_lstore_n (lv' := [(2, .long v3), (0, .ref (mm_o G)), (1, .int x1), (4, .long x4), (6, .int x6)]) hx hb dX3_meant_62 rfl hl (by decide) rfl (fun ls hl => ?_)
  refine lv_lload hx hb dX3_meant_63 (lv_at hl 3 rfl) ?_
  refine lv_aload_n hx hb dX3_meant_65 rfl (lv_at hl 1 rfl) ?_
  refine lv_iload hx hb dX3_meant_66 (lv_at hl 4 rfl) ?_
  refine C3_isLeft cx hM hS hw ⟨Nat.le_of_ble_eq_true rfl, Nat.le_of_ble_eq_true rfl⟩ (Nat.le_of_ble_eq_true rfl) hl.1 ⟨Nat.zero_le _, Nat.zero_le _⟩ dX3_meant_68 (fun r4 s4 H locs hw hM hS => ?_)
  refine lv_if_eq (tgt := 83) hx hb dX3_meant_71 (by decide) (fun hc => ?_) (fun hc => ?_)
  · have hw := mm_ip hc hw
    refine lv_lconst (v := (0 : Int64)) hx hb dX3_meant_83 rfl ?_
    exact B3_meant_84 cx hK25 _ _ _ _ _ _ hw _ _ _ hM hS (lv_sub hl [1, 2, 0, 4] rfl)
  · have hw := mm_in hc hw
    refine lv_aload_n hx hb dX3_meant_74 rfl (lv_at hl 1 rfl) ?_
    refine lv_iload hx hb dX3_meant_75 (lv_at hl 4 rfl) ?_
    refine C3_weight cx hM hS hw ⟨Nat.le_of_ble_eq_true rfl, Nat.le_of_ble_eq_true rfl⟩ (Nat.le_of_ble_eq_true rfl) hl.1 ⟨Nat.zero_le _, Nat.zero_le _⟩ dX3_meant_77 (fun r5 s5 H locs hw hM hS => ?_)
    refine lv_goto (tgt := 84) hx hb dX3_meant_80 (by decide) ?_
    exact B3_meant_84 cx hK25 _ _ _ _ _ _ hw _ _ _ hM hS (lv_sub hl [1, 2, 0, 4] rfl)
def w3_meant_25 (Q : Int64 → MS → Prop) (K25 : Int32 → Int64 → Int64 → Int32 → MS → Prop) (x1 : Int32) (x2 : Int64) (x4 : Int64) (x6 : Int32) (σ : MS) : Prop :=
  if (256 : Int32) ≤ x6 then (w3_tellsBy x2 x4 σ (fun s6 => if x1 = 0 then (Q (gL s6 36) s6) else (Q (gL s6 37) s6))) else (w3_isLeft x6 σ (fun r7 s7 => if r7 = 0 then (w3_meant_61 Q K25 x1 x4 x6 x2 (0 : Int64) s7) else (w3_awardOf x6 s7 (fun r8 s8 => w3_weight x6 s8 (fun r9 s9 => w3_meant_61 Q K25 x1 x4 x6 x2 ((r8).toInt64 * r9) s9)))))
set_option maxHeartbeats 4000000 in
theorem B3_meant_25 {l : Launch} {p : Program} {e : Env} {s : State} {m : MethodId} {args : Array Value} {below : List Frame} {meth : Method} {c : Code} {G : mm_G} {Q : Int64 → MS → Prop} {K25 : Int32 → Int64 → Int64 → Int32 → MS → Prop} (cx : mm_X cX3_meant 7 (some .long) G p s m args meth c) (hK25 : ∀ (x1 : Int32) (x2 : Int64) (x4 : Int64) (x6 : Int32) (σ : MS), K25 x1 x2 x4 x6 σ → mm_T p l e ({ frames := 7, cells := 0, slots := 0, locals := 280 } : Room) s m args below meth c G (mm_Ql G Q) 7 25 σ [(0, .ref (mm_o G)), (1, .int x1), (2, .long x2), (4, .long x4), (6, .int x6)] []) : ∀ (x1 : Int32) (x2 : Int64) (x4 : Int64) (x6 : Int32) (σ : MS), w3_meant_25 Q K25 x1 x2 x4 x6 σ → mm_T p l e ({ frames := 7, cells := 0, slots := 0, locals := 280 } : Room) s m args below meth c G (mm_Ql G Q) 7 25 σ [(0, .ref (mm_o G)), (1, .int x1), (2, .long x2), (4, .long x4), (6, .int x6)] [] := by
  intro x1 x2 x4 x6 σ hw H locs ls hM hS hl
  unfold w3_meant_25 at hw
  obtain ⟨hx, hb, hml, hown, hts, hr, hlk, hMK, hZ⟩ := id cx
  refine lv_iload hx hb dX3_meant_25 (lv_at hl 4 rfl) ?_
  refine lv_sipush (v := (256 : Int32)) hx hb dX3_meant_27 (by decide) ?_
  refine lv_icmp_ge (tgt := 93) hx hb dX3_meant_30 (by decide) (fun hc => ?_) (fun hc => ?_)
  · have hw := mm_ip hc hw
    refine lv_aload_n hx hb dX3_meant_93 rfl (lv_at hl 0 rfl) ?_
    refine lv_lload_n hx hb dX3_meant_94 rfl (lv_at hl 2 rfl) ?_
    refine lv_lload hx hb dX3_meant_95 (lv_at hl 3 rfl) ?_
    refine C3_tellsBy cx hM hS hw ⟨Nat.le_of_ble_eq_true rfl, Nat.le_of_ble_eq_true rfl⟩ (Nat.le_of_ble_eq_true rfl) hl.1 ⟨Nat.zero_le _, Nat.zero_le _⟩ dX3_meant_97 (fun s6 H locs hw hM hS => ?_)
    refine lv_iload_n hx hb dX3_meant_100 rfl (lv_at hl 1 rfl) ?_
    refine lv_if_ne (tgt := 111) hx hb dX3_meant_101 (by decide) (fun hc => ?_) (fun hc => ?_)
    · have hw := mm_in hc hw
      refine lv_aload_n hx hb dX3_meant_111 rfl (lv_at hl 0 rfl) ?_
      refine mg_37 cx hM dX3_meant_112 ?_
      exact mm_lret cx hM hS hw dX3_meant_115
    · have hw := mm_ip hc hw
      refine lv_aload_n hx hb dX3_meant_104 rfl (lv_at hl 0 rfl) ?_
      refine mg_36 cx hM dX3_meant_105 ?_
      refine lv_goto (tgt := 115) hx hb dX3_meant_108 (by decide) ?_
      exact mm_lret cx hM hS hw dX3_meant_115
  · have hw := mm_in hc hw
    refine lv_lload_n hx hb dX3_meant_33 rfl (lv_at hl 2 rfl) ?_
    refine lv_aload_n hx hb dX3_meant_34 rfl (lv_at hl 0 rfl) ?_
    refine lv_iload hx hb dX3_meant_35 (lv_at hl 4 rfl) ?_
    refine C3_isLeft cx hM hS hw ⟨Nat.le_of_ble_eq_true rfl, Nat.le_of_ble_eq_true rfl⟩ (Nat.le_of_ble_eq_true rfl) hl.1 ⟨Nat.zero_le _, Nat.zero_le _⟩ dX3_meant_37 (fun r7 s7 H locs hw hM hS => ?_)
    refine lv_if_eq (tgt := 60) hx hb dX3_meant_40 (by decide) (fun hc => ?_) (fun hc => ?_)
    · have hw := mm_ip hc hw
      refine lv_lconst (v := (0 : Int64)) hx hb dX3_meant_60 rfl ?_
      exact B3_meant_61 cx hK25 _ _ _ _ _ _ hw _ _ _ hM hS (lv_sub hl [0, 1, 3, 4] rfl)
    · have hw := mm_in hc hw
      refine lv_aload_n hx hb dX3_meant_43 rfl (lv_at hl 0 rfl) ?_
      refine lv_iload hx hb dX3_meant_44 (lv_at hl 4 rfl) ?_
      refine C3_awardOf cx hM hS hw ⟨Nat.le_of_ble_eq_true rfl, Nat.le_of_ble_eq_true rfl⟩ (Nat.le_of_ble_eq_true rfl) hl.1 ⟨Nat.zero_le _, Nat.zero_le _⟩ dX3_meant_46 (fun r8 s8 H locs hw hM hS => ?_)
      refine lv_i2l hx hb dX3_meant_49 rfl ?_
      refine lv_aload_n hx hb dX3_meant_50 rfl (lv_at hl 0 rfl) ?_
      refine lv_iload hx hb dX3_meant_51 (lv_at hl 4 rfl) ?_
      refine C3_weight cx hM hS hw ⟨Nat.le_of_ble_eq_true rfl, Nat.le_of_ble_eq_true rfl⟩ (Nat.le_of_ble_eq_true rfl) hl.1 ⟨Nat.zero_le _, Nat.zero_le _⟩ dX3_meant_53 (fun r9 s9 H locs hw hM hS => ?_)
      refine lv_lmul hx hb dX3_meant_56 ?_
      refine lv_goto (tgt := 61) hx hb dX3_meant_57 (by decide) ?_
      exact B3_meant_61 cx hK25 _ _ _ _ _ _ hw _ _ _ hM hS (lv_sub hl [0, 1, 3, 4] rfl)
theorem L3_meant_25 {l : Launch} {p : Program} {e : Env} {s : State} {m : MethodId} {args : Array Value} {below : List Frame} {meth : Method} {c : Code} {G : mm_G} {Q : Int64 → MS → Prop} (cx : mm_X cX3_meant 7 (some .long) G p s m args meth c) : ∀ (x1 : Int32) (x2 : Int64) (x4 : Int64) (x6 : Int32) (σ : MS), lp5F (w3_meant_25 Q) x1 x2 x4 x6 σ → mm_T p l e ({ frames := 7, cells := 0, slots := 0, locals := 280 } : Room) s m args below meth c G (mm_Ql G Q) 7 25 σ [(0, .ref (mm_o G)), (1, .int x1), (2, .long x2), (4, .long x4), (6, .int x6)] [] :=
  lp5F_of (fun K hK => B3_meant_25 cx hK)
def w3_meant (x1 : Int32) (σ : MS) (Q : Int64 → MS → Prop) : Prop :=
  w3_in x1 (0 : Int32) (1 : Int32) σ (fun r10 s10 => if r10 = 0 then (Q (-1 : Int64) s10) else (w3_laysWins s10 (fun s11 => lp5F (w3_meant_25 Q) x1 (0 : Int64) (0 : Int64) (0 : Int32) s11)))
set_option maxHeartbeats 4000000 in
theorem M3_meant (l : Launch) (G : mm_G) (x1 : Int32) (σ : MS) (Q : Int64 → MS → Prop) (hw : w3_meant x1 σ Q) : mm_Ml l yX3_meant (ws_ yX3_meant cX3_meant 7 (some .long)) ({ frames := 7, cells := 0, slots := 0, locals := 280 } : Room) G [.ref (mm_o G), .int x1] σ Q := by
  refine mm_of (by decide) rfl ?_
  intro p e s m args below meth c cx hM ha
  refine mm_entry [.ref (mm_o G), .int x1] 7 [(0, .ref (mm_o G)), (1, .int x1)] ha (Nat.le_of_ble_eq_true rfl) rfl (fun ls hl => ?_)
  have hS : va_S (mm_A G) s.heap s.heap [] := va_S.rf
  unfold w3_meant at hw
  obtain ⟨hx, hb, hml, hown, hts, hr, hlk, hMK, hZ⟩ := id cx
  refine lv_iload_n hx hb dX3_meant_0 rfl (lv_at hl 1 rfl) ?_
  refine lv_iconst (v := (0 : Int32)) hx hb dX3_meant_1 (by decide) ?_
  refine lv_iconst (v := (1 : Int32)) hx hb dX3_meant_2 (by decide) ?_
  refine C3_in cx hM hS hw ⟨Nat.le_of_ble_eq_true rfl, Nat.le_of_ble_eq_true rfl⟩ (Nat.le_of_ble_eq_true rfl) hl.1 ⟨Nat.zero_le _, Nat.zero_le _⟩ dX3_meant_3 (fun r10 s10 H locs hw hM hS => ?_)
  refine lv_if_ne (tgt := 13) hx hb dX3_meant_6 (by decide) (fun hc => ?_) (fun hc => ?_)
  · have hw := mm_in hc hw
    refine lv_aload_n hx hb dX3_meant_13 rfl (lv_at hl 0 rfl) ?_
    refine C3_laysWins cx hM hS hw ⟨Nat.le_of_ble_eq_true rfl, Nat.le_of_ble_eq_true rfl⟩ (Nat.le_of_ble_eq_true rfl) hl.1 ⟨Nat.zero_le _, Nat.zero_le _⟩ dX3_meant_14 (fun s11 H locs hw hM hS => ?_)
    refine lv_lconst (v := (0 : Int64)) hx hb dX3_meant_17 rfl ?_
    refine lv_lstore_n (lv' := [(2, .long (0 : Int64)), (0, .ref (mm_o G)), (1, .int x1)]) hx hb dX3_meant_18 rfl hl (by decide) rfl (fun ls hl => ?_)
    refine lv_lconst (v := (0 : Int64)) hx hb dX3_meant_19 rfl ?_
    refine lv_lstore (lv' := [(4, .long (0 : Int64)), (2, .long (0 : Int64)), (0, .ref (mm_o G)), (1, .int x1)]) hx hb dX3_meant_20 hl (by decide) rfl (fun ls hl => ?_)
    refine lv_iconst (v := (0 : Int32)) hx hb dX3_meant_22 (by decide) ?_
    refine lv_istore (lv' := [(6, .int (0 : Int32)), (4, .long (0 : Int64)), (2, .long (0 : Int64)), (0, .ref (mm_o G)), (1, .int x1)]) hx hb dX3_meant_23 hl (by decide) rfl (fun ls hl => ?_)
    exact L3_meant_25 cx _ _ _ _ _ hw _ _ _ hM hS (lv_sub hl [3, 4, 2, 1, 0] rfl)
  · have hw := mm_ip hc hw
    refine lv_ldc2 (v := (-1 : Int64)) hx hb hown (hts _ q3028) dX3_meant_9 ?_
    exact mm_lret cx hM hS hw dX3_meant_12
-- no call of meant
def w3_firstLike_25 (Q : Int32 → MS → Prop) (K2 : Int32 → Int32 → MS → Prop) (x1 : Int32) (x2 : Int32) (σ : MS) : Prop :=
  ∀ v1 : Int32, v1 = x2 + (1 : Int32) → K2 x1 v1 σ
set_option maxHeartbeats 4000000 in
theorem B3_firstLike_25 {l : Launch} {p : Program} {e : Env} {s : State} {m : MethodId} {args : Array Value} {below : List Frame} {meth : Method} {c : Code} {G : mm_G} {Q : Int32 → MS → Prop} {K2 : Int32 → Int32 → MS → Prop} (cx : mm_X cX3_firstLike 3 (some .int) G p s m args meth c) (hK2 : ∀ (x1 : Int32) (x2 : Int32) (σ : MS), K2 x1 x2 σ → mm_T p l e ({ frames := 2, cells := 0, slots := 0, locals := 80 } : Room) s m args below meth c G (mm_Qi G Q) 3 2 σ [(0, .ref (mm_o G)), (1, .int x1), (2, .int x2)] []) : ∀ (x1 : Int32) (x2 : Int32) (σ : MS), w3_firstLike_25 Q K2 x1 x2 σ → mm_T p l e ({ frames := 2, cells := 0, slots := 0, locals := 80 } : Room) s m args below meth c G (mm_Qi G Q) 3 25 σ [(0, .ref (mm_o G)), (1, .int x1), (2, .int x2)] [] := by
  intro x1 x2 σ hw H locs ls hM hS hl
  unfold w3_firstLike_25 at hw
  obtain ⟨hx, hb, hml, hown, hts, hr, hlk, hMK, hZ⟩ := id cx
  obtain ⟨v1, hv1⟩ : ∃ v : Int32, v = x2 + (1 : Int32) := ⟨_, rfl⟩
  have hw := hw v1 hv1
  refine lv_iinc (v := v1) (lv' := [(2, .int v1), (0, .ref (mm_o G)), (1, .int x1)]) hx hb dX3_firstLike_25 hl (k := 2) rfl (by rw [hv1]; rfl) (by decide) rfl (fun ls hl => ?_)
  refine lv_goto (tgt := 2) hx hb dX3_firstLike_28 (by decide) ?_
  exact hK2 _ _ _ hw _ _ _ hM hS (lv_sub hl [1, 2, 0] rfl)
def w3_firstLike_2 (Q : Int32 → MS → Prop) (K2 : Int32 → Int32 → MS → Prop) (x1 : Int32) (x2 : Int32) (σ : MS) : Prop :=
  w3_isLeft x2 σ (fun r2 s2 => if r2 = 0 then (w3_firstLike_25 Q K2 x1 x2 s2) else (vp_in x2 256 ∧ (vp_in x1 256 ∧ (if (gA s2 38 x2.toNatClampNeg) = (gA s2 38 x1.toNatClampNeg) then (Q x2 s2) else (w3_firstLike_25 Q K2 x1 x2 s2)))))
set_option maxHeartbeats 4000000 in
theorem B3_firstLike_2 {l : Launch} {p : Program} {e : Env} {s : State} {m : MethodId} {args : Array Value} {below : List Frame} {meth : Method} {c : Code} {G : mm_G} {Q : Int32 → MS → Prop} {K2 : Int32 → Int32 → MS → Prop} (cx : mm_X cX3_firstLike 3 (some .int) G p s m args meth c) (hK2 : ∀ (x1 : Int32) (x2 : Int32) (σ : MS), K2 x1 x2 σ → mm_T p l e ({ frames := 2, cells := 0, slots := 0, locals := 80 } : Room) s m args below meth c G (mm_Qi G Q) 3 2 σ [(0, .ref (mm_o G)), (1, .int x1), (2, .int x2)] []) : ∀ (x1 : Int32) (x2 : Int32) (σ : MS), w3_firstLike_2 Q K2 x1 x2 σ → mm_T p l e ({ frames := 2, cells := 0, slots := 0, locals := 80 } : Room) s m args below meth c G (mm_Qi G Q) 3 2 σ [(0, .ref (mm_o G)), (1, .int x1), (2, .int x2)] [] := by
  intro x1 x2 σ hw H locs ls hM hS hl
  unfold w3_firstLike_2 at hw
  obtain ⟨hx, hb, hml, hown, hts, hr, hlk, hMK, hZ⟩ := id cx
  refine lv_aload_n hx hb dX3_firstLike_2 rfl (lv_at hl 0 rfl) ?_
  refine lv_iload_n hx hb dX3_firstLike_3 rfl (lv_at hl 2 rfl) ?_
  refine C3_isLeft cx hM hS hw ⟨Nat.le_of_ble_eq_true rfl, Nat.le_of_ble_eq_true rfl⟩ (Nat.le_of_ble_eq_true rfl) hl.1 ⟨Nat.zero_le _, Nat.zero_le _⟩ dX3_firstLike_4 (fun r2 s2 H locs hw hM hS => ?_)
  refine lv_if_eq (tgt := 25) hx hb dX3_firstLike_7 (by decide) (fun hc => ?_) (fun hc => ?_)
  · have hw := mm_ip hc hw
    exact B3_firstLike_25 cx hK2 _ _ _ hw _ _ _ hM hS (lv_sub hl [0, 1, 2] rfl)
  · have hw := mm_in hc hw
    refine lv_aload_n hx hb dX3_firstLike_10 rfl (lv_at hl 0 rfl) ?_
    refine mg_38 cx hM dX3_firstLike_11 ?_
    refine lv_iload_n hx hb dX3_firstLike_14 rfl (lv_at hl 2 rfl) ?_
    obtain ⟨hi, hw⟩ := hw
    refine mm_iald cx hM 38 rfl rfl hi dX3_firstLike_15 ?_
    refine lv_aload_n hx hb dX3_firstLike_16 rfl (lv_at hl 0 rfl) ?_
    refine mg_38 cx hM dX3_firstLike_17 ?_
    refine lv_iload_n hx hb dX3_firstLike_20 rfl (lv_at hl 1 rfl) ?_
    obtain ⟨hi, hw⟩ := hw
    refine mm_iald cx hM 38 rfl rfl hi dX3_firstLike_21 ?_
    refine lv_icmp_eq (tgt := 31) hx hb dX3_firstLike_22 (by decide) (fun hc => ?_) (fun hc => ?_)
    · have hw := mm_ip hc hw
      refine lv_iload_n hx hb dX3_firstLike_31 rfl (lv_at hl 2 rfl) ?_
      exact mm_iret cx hM hS hw dX3_firstLike_32
    · have hw := mm_in hc hw
      exact B3_firstLike_25 cx hK2 _ _ _ hw _ _ _ hM hS (lv_sub hl [0, 1, 2] rfl)
theorem L3_firstLike_2 {l : Launch} {p : Program} {e : Env} {s : State} {m : MethodId} {args : Array Value} {below : List Frame} {meth : Method} {c : Code} {G : mm_G} {Q : Int32 → MS → Prop} (cx : mm_X cX3_firstLike 3 (some .int) G p s m args meth c) : ∀ (x1 : Int32) (x2 : Int32) (σ : MS), lp3F (w3_firstLike_2 Q) x1 x2 σ → mm_T p l e ({ frames := 2, cells := 0, slots := 0, locals := 80 } : Room) s m args below meth c G (mm_Qi G Q) 3 2 σ [(0, .ref (mm_o G)), (1, .int x1), (2, .int x2)] [] :=
  lp3F_of (fun K hK => B3_firstLike_2 cx hK)
def w3_firstLike (x1 : Int32) (σ : MS) (Q : Int32 → MS → Prop) : Prop :=
  lp3F (w3_firstLike_2 Q) x1 (0 : Int32) σ
set_option maxHeartbeats 4000000 in
theorem M3_firstLike (l : Launch) (G : mm_G) (x1 : Int32) (σ : MS) (Q : Int32 → MS → Prop) (hw : w3_firstLike x1 σ Q) : mm_Mi l yX3_firstLike (ws_ yX3_firstLike cX3_firstLike 3 (some .int)) ({ frames := 2, cells := 0, slots := 0, locals := 80 } : Room) G [.ref (mm_o G), .int x1] σ Q := by
  refine mm_of (by decide) rfl ?_
  intro p e s m args below meth c cx hM ha
  refine mm_entry [.ref (mm_o G), .int x1] 3 [(0, .ref (mm_o G)), (1, .int x1)] ha (Nat.le_of_ble_eq_true rfl) rfl (fun ls hl => ?_)
  have hS : va_S (mm_A G) s.heap s.heap [] := va_S.rf
  unfold w3_firstLike at hw
  obtain ⟨hx, hb, hml, hown, hts, hr, hlk, hMK, hZ⟩ := id cx
  refine lv_iconst (v := (0 : Int32)) hx hb dX3_firstLike_0 (by decide) ?_
  refine lv_istore_n (lv' := [(2, .int (0 : Int32)), (0, .ref (mm_o G)), (1, .int x1)]) hx hb dX3_firstLike_1 rfl hl (by decide) rfl (fun ls hl => ?_)
  exact L3_firstLike_2 cx _ _ _ hw _ _ _ hM hS (lv_sub hl [1, 2, 0] rfl)
theorem C3_firstLike {l : Launch} {p : Program} {e : Env} {R : Room} {s : State} {m : MethodId} {args : Array Value} {below : List Frame} {meth : Method} {c : Code} {H : Heap} {locs : List Loc} {cells slots : Nat} {Qz : State → Prop} {cc : ByteArray} {nL : Nat} {ret : Option FieldType} {G : mm_G} {pc : Nat} {ls : Array Slot} {rest : List Value} {x1 : Int32} {σ : MS} (cx : mm_X cc nL ret G p s m args meth c) (hM : mm_R G σ H) (hS0 : va_S (mm_A G) s.heap H locs) {Qf : Int32 → MS → Prop} (hw : w3_firstLike x1 σ Qf) (hR : (({ frames := 2, cells := 0, slots := 0, locals := 80 } : Room)).frames + 1 ≤ R.frames ∧ 8 + (3 + 11) + (({ frames := 2, cells := 0, slots := 0, locals := 80 } : Room)).locals ≤ R.locals) (hroom : (rest.map fun v => v.category).sum ≤ 8) (hsize : ls.size = nL) (hf : cells ≤ R.cells ∧ slots ≤ R.slots) (hdg : decode cc pc = .ok (.invokevirtual 496, 3))
    (kk : ∀ (r : Int32) (σ1 : MS) (H1 : Heap) (locs1 : List Loc), Qf r σ1 → mm_R G σ1 H1 → va_S (mm_A G) s.heap H1 locs1 → W p l e R s m args below meth c H1 locs1 cells slots Qz (F0 m (pc + 3) ls (.int r :: rest))) : W p l e R s m args below meth c H locs cells slots Qz (F0 m pc ls (.int x1 :: .ref (mm_o G) :: rest)) := by
  obtain ⟨hx, hb, hml, hown, hts, hr, hlk, hK, hZ⟩ := id cx
  exact mm_Vi cx hM hS0 (As := [.int x1]) (M3_firstLike l G x1 σ Qf hw) (cwV 1 hts (lw_V q3033 q3035 qs154 q172 q3036) rfl rfl rfl (by decide +kernel) hR) rfl hsize rfl hroom hf hdg kk
def w3_outcomes_38 (Q : Int32 → MS → Prop) (K8 : Int32 → Int32 → MS → Prop) (x2 : Int32) (t0 : Int32) (t1 : Int32) (σ : MS) : Prop :=
  ∀ v1 : Int32, v1 = (t0 + t1) → ∀ v2 : Int32, v2 = x2 + (1 : Int32) → K8 v1 v2 σ
set_option maxHeartbeats 4000000 in
theorem B3_outcomes_38 {l : Launch} {p : Program} {e : Env} {s : State} {m : MethodId} {args : Array Value} {below : List Frame} {meth : Method} {c : Code} {G : mm_G} {Q : Int32 → MS → Prop} {K8 : Int32 → Int32 → MS → Prop} (cx : mm_X cX3_outcomes 3 (some .int) G p s m args meth c) (hK8 : ∀ (x1 : Int32) (x2 : Int32) (σ : MS), K8 x1 x2 σ → mm_T p l e ({ frames := 7, cells := 0, slots := 0, locals := 280 } : Room) s m args below meth c G (mm_Qi G Q) 3 8 σ [(0, .ref (mm_o G)), (1, .int x1), (2, .int x2)] []) : ∀ (x2 : Int32) (t0 : Int32) (t1 : Int32) (σ : MS), w3_outcomes_38 Q K8 x2 t0 t1 σ → mm_T p l e ({ frames := 7, cells := 0, slots := 0, locals := 280 } : Room) s m args below meth c G (mm_Qi G Q) 3 38 σ [(0, .ref (mm_o G)), (2, .int x2)] [.int t1, .int t0] := by
  intro x2 t0 t1 σ hw H locs ls hM hS hl
  unfold w3_outcomes_38 at hw
  obtain ⟨hx, hb, hml, hown, hts, hr, hlk, hMK, hZ⟩ := id cx
  refine lv_iadd hx hb dX3_outcomes_38 ?_
  refine lv_topi (fun v1 hv1 => ?_)
  have hw := hw v1 hv1
  refine lv_istore_n (lv' := [(1, .int v1), (0, .ref (mm_o G)), (2, .int x2)]) hx hb dX3_outcomes_39 rfl hl (by decide) rfl (fun ls hl => ?_)
  obtain ⟨v2, hv2⟩ : ∃ v : Int32, v = x2 + (1 : Int32) := ⟨_, rfl⟩
  have hw := hw v2 hv2
  refine lv_iinc (v := v2) (lv' := [(2, .int v2), (1, .int v1), (0, .ref (mm_o G))]) hx hb dX3_outcomes_40 hl (k := 2) rfl (by rw [hv2]; rfl) (by decide) rfl (fun ls hl => ?_)
  refine lv_goto (tgt := 8) hx hb dX3_outcomes_43 (by decide) ?_
  exact hK8 _ _ _ hw _ _ _ hM hS (lv_sub hl [2, 1, 0] rfl)
def w3_outcomes_37 (Q : Int32 → MS → Prop) (K8 : Int32 → Int32 → MS → Prop) (x2 : Int32) (t0 : Int32) (σ : MS) : Prop :=
  w3_outcomes_38 Q K8 x2 t0 (0 : Int32) σ
set_option maxHeartbeats 4000000 in
theorem B3_outcomes_37 {l : Launch} {p : Program} {e : Env} {s : State} {m : MethodId} {args : Array Value} {below : List Frame} {meth : Method} {c : Code} {G : mm_G} {Q : Int32 → MS → Prop} {K8 : Int32 → Int32 → MS → Prop} (cx : mm_X cX3_outcomes 3 (some .int) G p s m args meth c) (hK8 : ∀ (x1 : Int32) (x2 : Int32) (σ : MS), K8 x1 x2 σ → mm_T p l e ({ frames := 7, cells := 0, slots := 0, locals := 280 } : Room) s m args below meth c G (mm_Qi G Q) 3 8 σ [(0, .ref (mm_o G)), (1, .int x1), (2, .int x2)] []) : ∀ (x2 : Int32) (t0 : Int32) (σ : MS), w3_outcomes_37 Q K8 x2 t0 σ → mm_T p l e ({ frames := 7, cells := 0, slots := 0, locals := 280 } : Room) s m args below meth c G (mm_Qi G Q) 3 37 σ [(0, .ref (mm_o G)), (2, .int x2)] [.int t0] := by
  intro x2 t0 σ hw H locs ls hM hS hl
  unfold w3_outcomes_37 at hw
  obtain ⟨hx, hb, hml, hown, hts, hr, hlk, hMK, hZ⟩ := id cx
  refine lv_iconst (v := (0 : Int32)) hx hb dX3_outcomes_37 (by decide) ?_
  exact B3_outcomes_38 cx hK8 _ _ _ _ hw _ _ _ hM hS (lv_sub hl [0, 1] rfl)
def w3_outcomes_8 (Q : Int32 → MS → Prop) (K8 : Int32 → Int32 → MS → Prop) (x1 : Int32) (x2 : Int32) (σ : MS) : Prop :=
  if (256 : Int32) ≤ x2 then (Q x1 σ) else (w3_isLeft x2 σ (fun r3 s3 => if r3 = 0 then (w3_outcomes_37 Q K8 x2 x1 s3) else (w3_firstLike x2 s3 (fun r4 s4 => if r4 = x2 then (w3_outcomes_38 Q K8 x2 x1 (1 : Int32) s4) else (w3_outcomes_37 Q K8 x2 x1 s4)))))
set_option maxHeartbeats 4000000 in
theorem B3_outcomes_8 {l : Launch} {p : Program} {e : Env} {s : State} {m : MethodId} {args : Array Value} {below : List Frame} {meth : Method} {c : Code} {G : mm_G} {Q : Int32 → MS → Prop} {K8 : Int32 → Int32 → MS → Prop} (cx : mm_X cX3_outcomes 3 (some .int) G p s m args meth c) (hK8 : ∀ (x1 : Int32) (x2 : Int32) (σ : MS), K8 x1 x2 σ → mm_T p l e ({ frames := 7, cells := 0, slots := 0, locals := 280 } : Room) s m args below meth c G (mm_Qi G Q) 3 8 σ [(0, .ref (mm_o G)), (1, .int x1), (2, .int x2)] []) : ∀ (x1 : Int32) (x2 : Int32) (σ : MS), w3_outcomes_8 Q K8 x1 x2 σ → mm_T p l e ({ frames := 7, cells := 0, slots := 0, locals := 280 } : Room) s m args below meth c G (mm_Qi G Q) 3 8 σ [(0, .ref (mm_o G)), (1, .int x1), (2, .int x2)] [] := by
  intro x1 x2 σ hw H locs ls hM hS hl
  unfold w3_outcomes_8 at hw
  obtain ⟨hx, hb, hml, hown, hts, hr, hlk, hMK, hZ⟩ := id cx
  refine lv_iload_n hx hb dX3_outcomes_8 rfl (lv_at hl 2 rfl) ?_
  refine lv_sipush (v := (256 : Int32)) hx hb dX3_outcomes_9 (by decide) ?_
  refine lv_icmp_ge (tgt := 46) hx hb dX3_outcomes_12 (by decide) (fun hc => ?_) (fun hc => ?_)
  · have hw := mm_ip hc hw
    refine lv_iload_n hx hb dX3_outcomes_46 rfl (lv_at hl 1 rfl) ?_
    exact mm_iret cx hM hS hw dX3_outcomes_47
  · have hw := mm_in hc hw
    refine lv_iload_n hx hb dX3_outcomes_15 rfl (lv_at hl 1 rfl) ?_
    refine lv_aload_n hx hb dX3_outcomes_16 rfl (lv_at hl 0 rfl) ?_
    refine lv_iload_n hx hb dX3_outcomes_17 rfl (lv_at hl 2 rfl) ?_
    refine C3_isLeft cx hM hS hw ⟨Nat.le_of_ble_eq_true rfl, Nat.le_of_ble_eq_true rfl⟩ (Nat.le_of_ble_eq_true rfl) hl.1 ⟨Nat.zero_le _, Nat.zero_le _⟩ dX3_outcomes_18 (fun r3 s3 H locs hw hM hS => ?_)
    refine lv_if_eq (tgt := 37) hx hb dX3_outcomes_21 (by decide) (fun hc => ?_) (fun hc => ?_)
    · have hw := mm_ip hc hw
      exact B3_outcomes_37 cx hK8 _ _ _ hw _ _ _ hM hS (lv_sub hl [0, 2] rfl)
    · have hw := mm_in hc hw
      refine lv_aload_n hx hb dX3_outcomes_24 rfl (lv_at hl 0 rfl) ?_
      refine lv_iload_n hx hb dX3_outcomes_25 rfl (lv_at hl 2 rfl) ?_
      refine C3_firstLike cx hM hS hw ⟨Nat.le_of_ble_eq_true rfl, Nat.le_of_ble_eq_true rfl⟩ (Nat.le_of_ble_eq_true rfl) hl.1 ⟨Nat.zero_le _, Nat.zero_le _⟩ dX3_outcomes_26 (fun r4 s4 H locs hw hM hS => ?_)
      refine lv_iload_n hx hb dX3_outcomes_29 rfl (lv_at hl 2 rfl) ?_
      refine lv_icmp_ne (tgt := 37) hx hb dX3_outcomes_30 (by decide) (fun hc => ?_) (fun hc => ?_)
      · have hw := mm_in hc hw
        exact B3_outcomes_37 cx hK8 _ _ _ hw _ _ _ hM hS (lv_sub hl [0, 2] rfl)
      · have hw := mm_ip hc hw
        refine lv_iconst (v := (1 : Int32)) hx hb dX3_outcomes_33 (by decide) ?_
        refine lv_goto (tgt := 38) hx hb dX3_outcomes_34 (by decide) ?_
        exact B3_outcomes_38 cx hK8 _ _ _ _ hw _ _ _ hM hS (lv_sub hl [0, 2] rfl)
theorem L3_outcomes_8 {l : Launch} {p : Program} {e : Env} {s : State} {m : MethodId} {args : Array Value} {below : List Frame} {meth : Method} {c : Code} {G : mm_G} {Q : Int32 → MS → Prop} (cx : mm_X cX3_outcomes 3 (some .int) G p s m args meth c) : ∀ (x1 : Int32) (x2 : Int32) (σ : MS), lp3F (w3_outcomes_8 Q) x1 x2 σ → mm_T p l e ({ frames := 7, cells := 0, slots := 0, locals := 280 } : Room) s m args below meth c G (mm_Qi G Q) 3 8 σ [(0, .ref (mm_o G)), (1, .int x1), (2, .int x2)] [] :=
  lp3F_of (fun K hK => B3_outcomes_8 cx hK)
def w3_outcomes (σ : MS) (Q : Int32 → MS → Prop) : Prop :=
  w3_laysWins σ (fun s5 => lp3F (w3_outcomes_8 Q) (0 : Int32) (0 : Int32) s5)
set_option maxHeartbeats 4000000 in
theorem M3_outcomes (l : Launch) (G : mm_G) (σ : MS) (Q : Int32 → MS → Prop) (hw : w3_outcomes σ Q) : mm_Mi l yX3_outcomes (ws_ yX3_outcomes cX3_outcomes 3 (some .int)) ({ frames := 7, cells := 0, slots := 0, locals := 280 } : Room) G [.ref (mm_o G)] σ Q := by
  refine mm_of (by decide) rfl ?_
  intro p e s m args below meth c cx hM ha
  refine mm_entry [.ref (mm_o G)] 3 [(0, .ref (mm_o G))] ha (Nat.le_of_ble_eq_true rfl) rfl (fun ls hl => ?_)
  have hS : va_S (mm_A G) s.heap s.heap [] := va_S.rf
  unfold w3_outcomes at hw
  obtain ⟨hx, hb, hml, hown, hts, hr, hlk, hMK, hZ⟩ := id cx
  refine lv_aload_n hx hb dX3_outcomes_0 rfl (lv_at hl 0 rfl) ?_
  refine C3_laysWins cx hM hS hw ⟨Nat.le_of_ble_eq_true rfl, Nat.le_of_ble_eq_true rfl⟩ (Nat.le_of_ble_eq_true rfl) hl.1 ⟨Nat.zero_le _, Nat.zero_le _⟩ dX3_outcomes_1 (fun s5 H locs hw hM hS => ?_)
  refine lv_iconst (v := (0 : Int32)) hx hb dX3_outcomes_4 (by decide) ?_
  refine lv_istore_n (lv' := [(1, .int (0 : Int32)), (0, .ref (mm_o G))]) hx hb dX3_outcomes_5 rfl hl (by decide) rfl (fun ls hl => ?_)
  refine lv_iconst (v := (0 : Int32)) hx hb dX3_outcomes_6 (by decide) ?_
  refine lv_istore_n (lv' := [(2, .int (0 : Int32)), (1, .int (0 : Int32)), (0, .ref (mm_o G))]) hx hb dX3_outcomes_7 rfl hl (by decide) rfl (fun ls hl => ?_)
  exact L3_outcomes_8 cx _ _ _ hw _ _ _ hM hS (lv_sub hl [2, 1, 0] rfl)
theorem C3_outcomes {l : Launch} {p : Program} {e : Env} {R : Room} {s : State} {m : MethodId} {args : Array Value} {below : List Frame} {meth : Method} {c : Code} {H : Heap} {locs : List Loc} {cells slots : Nat} {Qz : State → Prop} {cc : ByteArray} {nL : Nat} {ret : Option FieldType} {G : mm_G} {pc : Nat} {ls : Array Slot} {rest : List Value} {σ : MS} (cx : mm_X cc nL ret G p s m args meth c) (hM : mm_R G σ H) (hS0 : va_S (mm_A G) s.heap H locs) {Qf : Int32 → MS → Prop} (hw : w3_outcomes σ Qf) (hR : (({ frames := 7, cells := 0, slots := 0, locals := 280 } : Room)).frames + 1 ≤ R.frames ∧ 8 + (3 + 11) + (({ frames := 7, cells := 0, slots := 0, locals := 280 } : Room)).locals ≤ R.locals) (hroom : (rest.map fun v => v.category).sum ≤ 8) (hsize : ls.size = nL) (hf : cells ≤ R.cells ∧ slots ≤ R.slots) (hdg : decode cc pc = .ok (.invokevirtual 499, 3))
    (kk : ∀ (r : Int32) (σ1 : MS) (H1 : Heap) (locs1 : List Loc), Qf r σ1 → mm_R G σ1 H1 → va_S (mm_A G) s.heap H1 locs1 → W p l e R s m args below meth c H1 locs1 cells slots Qz (F0 m (pc + 3) ls (.int r :: rest))) : W p l e R s m args below meth c H locs cells slots Qz (F0 m pc ls (.ref (mm_o G) :: rest)) := by
  obtain ⟨hx, hb, hml, hown, hts, hr, hlk, hK, hZ⟩ := id cx
  exact mm_Vi cx hM hS0 (As := []) (M3_outcomes l G σ Qf hw) (cwV 0 hts (lw_V q3041 q3030 q3031 q172 q3032) rfl rfl rfl (by decide +kernel) hR) rfl hsize rfl hroom hf hdg kk
def w3_outcome_114 (Q : Int32 → MS → Prop) (K74 : Int32 → Int32 → Int32 → Int32 → MS → Prop) (x2 : Int32) (x3 : Int32) (x5 : Int32) (t0 : Int32) (t1 : Int32) (σ : MS) : Prop :=
  ∀ v1 : Int32, v1 = (t0 + t1) → ∀ v2 : Int32, v2 = x5 + (1 : Int32) → K74 x2 x3 v1 v2 σ
set_option maxHeartbeats 4000000 in
theorem B3_outcome_114 {l : Launch} {p : Program} {e : Env} {s : State} {m : MethodId} {args : Array Value} {below : List Frame} {meth : Method} {c : Code} {G : mm_G} {Q : Int32 → MS → Prop} {K74 : Int32 → Int32 → Int32 → Int32 → MS → Prop} (cx : mm_X cX3_outcome 6 (some .int) G p s m args meth c) (hK74 : ∀ (x2 : Int32) (x3 : Int32) (x4 : Int32) (x5 : Int32) (σ : MS), K74 x2 x3 x4 x5 σ → mm_T p l e ({ frames := 8, cells := 0, slots := 0, locals := 320 } : Room) s m args below meth c G (mm_Qi G Q) 6 74 σ [(0, .ref (mm_o G)), (2, .int x2), (3, .int x3), (4, .int x4), (5, .int x5)] []) : ∀ (x2 : Int32) (x3 : Int32) (x5 : Int32) (t0 : Int32) (t1 : Int32) (σ : MS), w3_outcome_114 Q K74 x2 x3 x5 t0 t1 σ → mm_T p l e ({ frames := 8, cells := 0, slots := 0, locals := 320 } : Room) s m args below meth c G (mm_Qi G Q) 6 114 σ [(0, .ref (mm_o G)), (2, .int x2), (3, .int x3), (5, .int x5)] [.int t1, .int t0] := by
  intro x2 x3 x5 t0 t1 σ hw H locs ls hM hS hl
  unfold w3_outcome_114 at hw
  obtain ⟨hx, hb, hml, hown, hts, hr, hlk, hMK, hZ⟩ := id cx
  refine lv_iadd hx hb dX3_outcome_114 ?_
  refine lv_topi (fun v1 hv1 => ?_)
  have hw := hw v1 hv1
  refine lv_istore (lv' := [(4, .int v1), (0, .ref (mm_o G)), (2, .int x2), (3, .int x3), (5, .int x5)]) hx hb dX3_outcome_115 hl (by decide) rfl (fun ls hl => ?_)
  obtain ⟨v2, hv2⟩ : ∃ v : Int32, v = x5 + (1 : Int32) := ⟨_, rfl⟩
  have hw := hw v2 hv2
  refine lv_iinc (v := v2) (lv' := [(5, .int v2), (4, .int v1), (0, .ref (mm_o G)), (2, .int x2), (3, .int x3)]) hx hb dX3_outcome_117 hl (k := 4) rfl (by rw [hv2]; rfl) (by decide) rfl (fun ls hl => ?_)
  refine lv_goto (tgt := 74) hx hb dX3_outcome_120 (by decide) ?_
  exact hK74 _ _ _ _ _ hw _ _ _ hM hS (lv_sub hl [2, 3, 4, 1, 0] rfl)
def w3_outcome_113 (Q : Int32 → MS → Prop) (K74 : Int32 → Int32 → Int32 → Int32 → MS → Prop) (x2 : Int32) (x3 : Int32) (x5 : Int32) (t0 : Int32) (σ : MS) : Prop :=
  w3_outcome_114 Q K74 x2 x3 x5 t0 (0 : Int32) σ
set_option maxHeartbeats 4000000 in
theorem B3_outcome_113 {l : Launch} {p : Program} {e : Env} {s : State} {m : MethodId} {args : Array Value} {below : List Frame} {meth : Method} {c : Code} {G : mm_G} {Q : Int32 → MS → Prop} {K74 : Int32 → Int32 → Int32 → Int32 → MS → Prop} (cx : mm_X cX3_outcome 6 (some .int) G p s m args meth c) (hK74 : ∀ (x2 : Int32) (x3 : Int32) (x4 : Int32) (x5 : Int32) (σ : MS), K74 x2 x3 x4 x5 σ → mm_T p l e ({ frames := 8, cells := 0, slots := 0, locals := 320 } : Room) s m args below meth c G (mm_Qi G Q) 6 74 σ [(0, .ref (mm_o G)), (2, .int x2), (3, .int x3), (4, .int x4), (5, .int x5)] []) : ∀ (x2 : Int32) (x3 : Int32) (x5 : Int32) (t0 : Int32) (σ : MS), w3_outcome_113 Q K74 x2 x3 x5 t0 σ → mm_T p l e ({ frames := 8, cells := 0, slots := 0, locals := 320 } : Room) s m args below meth c G (mm_Qi G Q) 6 113 σ [(0, .ref (mm_o G)), (2, .int x2), (3, .int x3), (5, .int x5)] [.int t0] := by
  intro x2 x3 x5 t0 σ hw H locs ls hM hS hl
  unfold w3_outcome_113 at hw
  obtain ⟨hx, hb, hml, hown, hts, hr, hlk, hMK, hZ⟩ := id cx
  refine lv_iconst (v := (0 : Int32)) hx hb dX3_outcome_113 (by decide) ?_
  exact B3_outcome_114 cx hK74 _ _ _ _ _ _ hw _ _ _ hM hS (lv_sub hl [0, 1, 2, 3] rfl)
def w3_outcome_74 (Q : Int32 → MS → Prop) (K74 : Int32 → Int32 → Int32 → Int32 → MS → Prop) (x2 : Int32) (x3 : Int32) (x4 : Int32) (x5 : Int32) (σ : MS) : Prop :=
  if (256 : Int32) ≤ x5 then (if x2 = 0 then (vp_in x3 256 ∧ (Q (gA σ 38 x3.toNatClampNeg) σ)) else (if x2 = (1 : Int32) then (Q x4 σ) else (Q x3 σ))) else (w3_isLeft x5 σ (fun r3 s3 => if r3 = 0 then (w3_outcome_113 Q K74 x2 x3 x5 x4 s3) else (vp_in x5 256 ∧ (vp_in x3 256 ∧ (if (gA s3 38 x5.toNatClampNeg) = (gA s3 38 x3.toNatClampNeg) then (w3_outcome_114 Q K74 x2 x3 x5 x4 (1 : Int32) s3) else (w3_outcome_113 Q K74 x2 x3 x5 x4 s3))))))
set_option maxHeartbeats 4000000 in
theorem B3_outcome_74 {l : Launch} {p : Program} {e : Env} {s : State} {m : MethodId} {args : Array Value} {below : List Frame} {meth : Method} {c : Code} {G : mm_G} {Q : Int32 → MS → Prop} {K74 : Int32 → Int32 → Int32 → Int32 → MS → Prop} (cx : mm_X cX3_outcome 6 (some .int) G p s m args meth c) (hK74 : ∀ (x2 : Int32) (x3 : Int32) (x4 : Int32) (x5 : Int32) (σ : MS), K74 x2 x3 x4 x5 σ → mm_T p l e ({ frames := 8, cells := 0, slots := 0, locals := 320 } : Room) s m args below meth c G (mm_Qi G Q) 6 74 σ [(0, .ref (mm_o G)), (2, .int x2), (3, .int x3), (4, .int x4), (5, .int x5)] []) : ∀ (x2 : Int32) (x3 : Int32) (x4 : Int32) (x5 : Int32) (σ : MS), w3_outcome_74 Q K74 x2 x3 x4 x5 σ → mm_T p l e ({ frames := 8, cells := 0, slots := 0, locals := 320 } : Room) s m args below meth c G (mm_Qi G Q) 6 74 σ [(0, .ref (mm_o G)), (2, .int x2), (3, .int x3), (4, .int x4), (5, .int x5)] [] := by
  intro x2 x3 x4 x5 σ hw H locs ls hM hS hl
  unfold w3_outcome_74 at hw
  obtain ⟨hx, hb, hml, hown, hts, hr, hlk, hMK, hZ⟩ := id cx
  refine lv_iload hx hb dX3_outcome_74 (lv_at hl 4 rfl) ?_
  refine lv_sipush (v := (256 : Int32)) hx hb dX3_outcome_76 (by decide) ?_
  refine lv_icmp_ge (tgt := 123) hx hb dX3_outcome_79 (by decide) (fun hc => ?_) (fun hc => ?_)
  · have hw := mm_ip hc hw
    refine lv_iload_n hx hb dX3_outcome_123 rfl (lv_at hl 1 rfl) ?_
    refine lv_if_ne (tgt := 136) hx hb dX3_outcome_124 (by decide) (fun hc => ?_) (fun hc => ?_)
    · have hw := mm_in hc hw
      refine lv_iload_n hx hb dX3_outcome_136 rfl (lv_at hl 1 rfl) ?_
      refine lv_iconst (v := (1 : Int32)) hx hb dX3_outcome_137 (by decide) ?_
      refine lv_icmp_ne (tgt := 146) hx hb dX3_outcome_138 (by decide) (fun hc => ?_) (fun hc => ?_)
      · have hw := mm_in hc hw
        refine lv_iload_n hx hb dX3_outcome_146 rfl (lv_at hl 2 rfl) ?_
        exact mm_iret cx hM hS hw dX3_outcome_147
      · have hw := mm_ip hc hw
        refine lv_iload hx hb dX3_outcome_141 (lv_at hl 3 rfl) ?_
        refine lv_goto (tgt := 147) hx hb dX3_outcome_143 (by decide) ?_
        exact mm_iret cx hM hS hw dX3_outcome_147
    · have hw := mm_ip hc hw
      refine lv_aload_n hx hb dX3_outcome_127 rfl (lv_at hl 0 rfl) ?_
      refine mg_38 cx hM dX3_outcome_128 ?_
      refine lv_iload_n hx hb dX3_outcome_131 rfl (lv_at hl 2 rfl) ?_
      obtain ⟨hi, hw⟩ := hw
      refine mm_iald cx hM 38 rfl rfl hi dX3_outcome_132 ?_
      refine lv_goto (tgt := 147) hx hb dX3_outcome_133 (by decide) ?_
      exact mm_iret cx hM hS hw dX3_outcome_147
  · have hw := mm_in hc hw
    refine lv_iload hx hb dX3_outcome_82 (lv_at hl 3 rfl) ?_
    refine lv_aload_n hx hb dX3_outcome_84 rfl (lv_at hl 0 rfl) ?_
    refine lv_iload hx hb dX3_outcome_85 (lv_at hl 4 rfl) ?_
    refine C3_isLeft cx hM hS hw ⟨Nat.le_of_ble_eq_true rfl, Nat.le_of_ble_eq_true rfl⟩ (Nat.le_of_ble_eq_true rfl) hl.1 ⟨Nat.zero_le _, Nat.zero_le _⟩ dX3_outcome_87 (fun r3 s3 H locs hw hM hS => ?_)
    refine lv_if_eq (tgt := 113) hx hb dX3_outcome_90 (by decide) (fun hc => ?_) (fun hc => ?_)
    · have hw := mm_ip hc hw
      exact B3_outcome_113 cx hK74 _ _ _ _ _ hw _ _ _ hM hS (lv_sub hl [0, 1, 2, 4] rfl)
    · have hw := mm_in hc hw
      refine lv_aload_n hx hb dX3_outcome_93 rfl (lv_at hl 0 rfl) ?_
      refine mg_38 cx hM dX3_outcome_94 ?_
      refine lv_iload hx hb dX3_outcome_97 (lv_at hl 4 rfl) ?_
      obtain ⟨hi, hw⟩ := hw
      refine mm_iald cx hM 38 rfl rfl hi dX3_outcome_99 ?_
      refine lv_aload_n hx hb dX3_outcome_100 rfl (lv_at hl 0 rfl) ?_
      refine mg_38 cx hM dX3_outcome_101 ?_
      refine lv_iload_n hx hb dX3_outcome_104 rfl (lv_at hl 2 rfl) ?_
      obtain ⟨hi, hw⟩ := hw
      refine mm_iald cx hM 38 rfl rfl hi dX3_outcome_105 ?_
      refine lv_icmp_ne (tgt := 113) hx hb dX3_outcome_106 (by decide) (fun hc => ?_) (fun hc => ?_)
      · have hw := mm_in hc hw
        exact B3_outcome_113 cx hK74 _ _ _ _ _ hw _ _ _ hM hS (lv_sub hl [0, 1, 2, 4] rfl)
      · have hw := mm_ip hc hw
        refine lv_iconst (v := (1 : Int32)) hx hb dX3_outcome_109 (by decide) ?_
        refine lv_goto (tgt := 114) hx hb dX3_outcome_110 (by decide) ?_
        exact B3_outcome_114 cx hK74 _ _ _ _ _ _ hw _ _ _ hM hS (lv_sub hl [0, 1, 2, 4] rfl)
theorem L3_outcome_74 {l : Launch} {p : Program} {e : Env} {s : State} {m : MethodId} {args : Array Value} {below : List Frame} {meth : Method} {c : Code} {G : mm_G} {Q : Int32 → MS → Prop} (cx : mm_X cX3_outcome 6 (some .int) G p s m args meth c) : ∀ (x2 : Int32) (x3 : Int32) (x4 : Int32) (x5 : Int32) (σ : MS), lp5F (w3_outcome_74 Q) x2 x3 x4 x5 σ → mm_T p l e ({ frames := 8, cells := 0, slots := 0, locals := 320 } : Room) s m args below meth c G (mm_Qi G Q) 6 74 σ [(0, .ref (mm_o G)), (2, .int x2), (3, .int x3), (4, .int x4), (5, .int x5)] [] :=
  lp5F_of (fun K hK => B3_outcome_74 cx hK)
def w3_outcome_56 (Q : Int32 → MS → Prop) (K30 : Int32 → Int32 → Int32 → Int32 → MS → Prop) (K39 : Int32 → Int32 → Int32 → Int32 → MS → Prop) (x1 : Int32) (x2 : Int32) (x3 : Int32) (x4 : Int32) (σ : MS) : Prop :=
  ∀ v4 : Int32, v4 = x3 + (1 : Int32) → K39 x1 x2 v4 x4 σ
set_option maxHeartbeats 4000000 in
theorem B3_outcome_56 {l : Launch} {p : Program} {e : Env} {s : State} {m : MethodId} {args : Array Value} {below : List Frame} {meth : Method} {c : Code} {G : mm_G} {Q : Int32 → MS → Prop} {K30 : Int32 → Int32 → Int32 → Int32 → MS → Prop} {K39 : Int32 → Int32 → Int32 → Int32 → MS → Prop} (cx : mm_X cX3_outcome 6 (some .int) G p s m args meth c) (hK30 : ∀ (x1 : Int32) (x2 : Int32) (x3 : Int32) (x4 : Int32) (σ : MS), K30 x1 x2 x3 x4 σ → mm_T p l e ({ frames := 8, cells := 0, slots := 0, locals := 320 } : Room) s m args below meth c G (mm_Qi G Q) 6 30 σ [(0, .ref (mm_o G)), (1, .int x1), (2, .int x2), (3, .int x3), (4, .int x4)] []) (hK39 : ∀ (x1 : Int32) (x2 : Int32) (x3 : Int32) (x4 : Int32) (σ : MS), K39 x1 x2 x3 x4 σ → mm_T p l e ({ frames := 8, cells := 0, slots := 0, locals := 320 } : Room) s m args below meth c G (mm_Qi G Q) 6 39 σ [(0, .ref (mm_o G)), (1, .int x1), (2, .int x2), (3, .int x3), (4, .int x4)] []) : ∀ (x1 : Int32) (x2 : Int32) (x3 : Int32) (x4 : Int32) (σ : MS), w3_outcome_56 Q K30 K39 x1 x2 x3 x4 σ → mm_T p l e ({ frames := 8, cells := 0, slots := 0, locals := 320 } : Room) s m args below meth c G (mm_Qi G Q) 6 56 σ [(0, .ref (mm_o G)), (1, .int x1), (2, .int x2), (3, .int x3), (4, .int x4)] [] := by
  intro x1 x2 x3 x4 σ hw H locs ls hM hS hl
  unfold w3_outcome_56 at hw
  obtain ⟨hx, hb, hml, hown, hts, hr, hlk, hMK, hZ⟩ := id cx
  obtain ⟨v4, hv4⟩ : ∃ v : Int32, v = x3 + (1 : Int32) := ⟨_, rfl⟩
  have hw := hw v4 hv4
  refine lv_iinc (v := v4) (lv' := [(3, .int v4), (0, .ref (mm_o G)), (1, .int x1), (2, .int x2), (4, .int x4)]) hx hb dX3_outcome_56 hl (k := 3) rfl (by rw [hv4]; rfl) (by decide) rfl (fun ls hl => ?_)
  refine lv_goto (tgt := 39) hx hb dX3_outcome_59 (by decide) ?_
  exact hK39 _ _ _ _ _ hw _ _ _ hM hS (lv_sub hl [1, 2, 3, 0, 4] rfl)
def w3_outcome_39 (Q : Int32 → MS → Prop) (K30 : Int32 → Int32 → Int32 → Int32 → MS → Prop) (K39 : Int32 → Int32 → Int32 → Int32 → MS → Prop) (x1 : Int32) (x2 : Int32) (x3 : Int32) (x4 : Int32) (σ : MS) : Prop :=
  w3_isLeft x3 σ (fun r5 s5 => if r5 = 0 then (w3_outcome_56 Q K30 K39 x1 x2 x3 x4 s5) else (w3_firstLike x3 s5 (fun r6 s6 => if r6 = x3 then (∀ v7 : Int32, v7 = x4 + (1 : Int32) → K30 x1 x2 x3 v7 s6) else (w3_outcome_56 Q K30 K39 x1 x2 x3 x4 s6))))
set_option maxHeartbeats 4000000 in
theorem B3_outcome_39 {l : Launch} {p : Program} {e : Env} {s : State} {m : MethodId} {args : Array Value} {below : List Frame} {meth : Method} {c : Code} {G : mm_G} {Q : Int32 → MS → Prop} {K30 : Int32 → Int32 → Int32 → Int32 → MS → Prop} {K39 : Int32 → Int32 → Int32 → Int32 → MS → Prop} (cx : mm_X cX3_outcome 6 (some .int) G p s m args meth c) (hK30 : ∀ (x1 : Int32) (x2 : Int32) (x3 : Int32) (x4 : Int32) (σ : MS), K30 x1 x2 x3 x4 σ → mm_T p l e ({ frames := 8, cells := 0, slots := 0, locals := 320 } : Room) s m args below meth c G (mm_Qi G Q) 6 30 σ [(0, .ref (mm_o G)), (1, .int x1), (2, .int x2), (3, .int x3), (4, .int x4)] []) (hK39 : ∀ (x1 : Int32) (x2 : Int32) (x3 : Int32) (x4 : Int32) (σ : MS), K39 x1 x2 x3 x4 σ → mm_T p l e ({ frames := 8, cells := 0, slots := 0, locals := 320 } : Room) s m args below meth c G (mm_Qi G Q) 6 39 σ [(0, .ref (mm_o G)), (1, .int x1), (2, .int x2), (3, .int x3), (4, .int x4)] []) : ∀ (x1 : Int32) (x2 : Int32) (x3 : Int32) (x4 : Int32) (σ : MS), w3_outcome_39 Q K30 K39 x1 x2 x3 x4 σ → mm_T p l e ({ frames := 8, cells := 0, slots := 0, locals := 320 } : Room) s m args below meth c G (mm_Qi G Q) 6 39 σ [(0, .ref (mm_o G)), (1, .int x1), (2, .int x2), (3, .int x3), (4, .int x4)] [] := by
  intro x1 x2 x3 x4 σ hw H locs ls hM hS hl
  unfold w3_outcome_39 at hw
  obtain ⟨hx, hb, hml, hown, hts, hr, hlk, hMK, hZ⟩ := id cx
  refine lv_aload_n hx hb dX3_outcome_39 rfl (lv_at hl 0 rfl) ?_
  refine lv_iload_n hx hb dX3_outcome_40 rfl (lv_at hl 3 rfl) ?_
  refine C3_isLeft cx hM hS hw ⟨Nat.le_of_ble_eq_true rfl, Nat.le_of_ble_eq_true rfl⟩ (Nat.le_of_ble_eq_true rfl) hl.1 ⟨Nat.zero_le _, Nat.zero_le _⟩ dX3_outcome_41 (fun r5 s5 H locs hw hM hS => ?_)
  refine lv_if_eq (tgt := 56) hx hb dX3_outcome_44 (by decide) (fun hc => ?_) (fun hc => ?_)
  · have hw := mm_ip hc hw
    exact B3_outcome_56 cx hK30 hK39 _ _ _ _ _ hw _ _ _ hM hS (lv_sub hl [0, 1, 2, 3, 4] rfl)
  · have hw := mm_in hc hw
    refine lv_aload_n hx hb dX3_outcome_47 rfl (lv_at hl 0 rfl) ?_
    refine lv_iload_n hx hb dX3_outcome_48 rfl (lv_at hl 3 rfl) ?_
    refine C3_firstLike cx hM hS hw ⟨Nat.le_of_ble_eq_true rfl, Nat.le_of_ble_eq_true rfl⟩ (Nat.le_of_ble_eq_true rfl) hl.1 ⟨Nat.zero_le _, Nat.zero_le _⟩ dX3_outcome_49 (fun r6 s6 H locs hw hM hS => ?_)
    refine lv_iload_n hx hb dX3_outcome_52 rfl (lv_at hl 3 rfl) ?_
    refine lv_icmp_eq (tgt := 62) hx hb dX3_outcome_53 (by decide) (fun hc => ?_) (fun hc => ?_)
    · have hw := mm_ip hc hw
      obtain ⟨v7, hv7⟩ : ∃ v : Int32, v = x4 + (1 : Int32) := ⟨_, rfl⟩
      have hw := hw v7 hv7
      refine lv_iinc (v := v7) (lv' := [(4, .int v7), (0, .ref (mm_o G)), (1, .int x1), (2, .int x2), (3, .int x3)]) hx hb dX3_outcome_62 hl (k := 4) rfl (by rw [hv7]; rfl) (by decide) rfl (fun ls hl => ?_)
      refine lv_goto (tgt := 30) hx hb dX3_outcome_65 (by decide) ?_
      exact hK30 _ _ _ _ _ hw _ _ _ hM hS (lv_sub hl [1, 2, 3, 4, 0] rfl)
    · have hw := mm_in hc hw
      exact B3_outcome_56 cx hK30 hK39 _ _ _ _ _ hw _ _ _ hM hS (lv_sub hl [0, 1, 2, 3, 4] rfl)
theorem L3_outcome_39 {l : Launch} {p : Program} {e : Env} {s : State} {m : MethodId} {args : Array Value} {below : List Frame} {meth : Method} {c : Code} {G : mm_G} {Q : Int32 → MS → Prop} {K30 : Int32 → Int32 → Int32 → Int32 → MS → Prop} (cx : mm_X cX3_outcome 6 (some .int) G p s m args meth c) (hK30 : ∀ (x1 : Int32) (x2 : Int32) (x3 : Int32) (x4 : Int32) (σ : MS), K30 x1 x2 x3 x4 σ → mm_T p l e ({ frames := 8, cells := 0, slots := 0, locals := 320 } : Room) s m args below meth c G (mm_Qi G Q) 6 30 σ [(0, .ref (mm_o G)), (1, .int x1), (2, .int x2), (3, .int x3), (4, .int x4)] []) : ∀ (x1 : Int32) (x2 : Int32) (x3 : Int32) (x4 : Int32) (σ : MS), lp5F (w3_outcome_39 Q K30) x1 x2 x3 x4 σ → mm_T p l e ({ frames := 8, cells := 0, slots := 0, locals := 320 } : Room) s m args below meth c G (mm_Qi G Q) 6 39 σ [(0, .ref (mm_o G)), (1, .int x1), (2, .int x2), (3, .int x3), (4, .int x4)] [] :=
  lp5F_of (fun K hK => B3_outcome_39 cx hK30 hK)
def w3_outcome_30 (Q : Int32 → MS → Prop) (K30 : Int32 → Int32 → Int32 → Int32 → MS → Prop) (x1 : Int32) (x2 : Int32) (x3 : Int32) (x4 : Int32) (σ : MS) : Prop :=
  if x1 < x4 then (lp5F (w3_outcome_74 Q) x2 x3 (0 : Int32) (0 : Int32) σ) else (∀ v8 : Int32, v8 = x3 + (1 : Int32) → lp5F (w3_outcome_39 Q K30) x1 x2 v8 x4 σ)
set_option maxHeartbeats 4000000 in
theorem B3_outcome_30 {l : Launch} {p : Program} {e : Env} {s : State} {m : MethodId} {args : Array Value} {below : List Frame} {meth : Method} {c : Code} {G : mm_G} {Q : Int32 → MS → Prop} {K30 : Int32 → Int32 → Int32 → Int32 → MS → Prop} (cx : mm_X cX3_outcome 6 (some .int) G p s m args meth c) (hK30 : ∀ (x1 : Int32) (x2 : Int32) (x3 : Int32) (x4 : Int32) (σ : MS), K30 x1 x2 x3 x4 σ → mm_T p l e ({ frames := 8, cells := 0, slots := 0, locals := 320 } : Room) s m args below meth c G (mm_Qi G Q) 6 30 σ [(0, .ref (mm_o G)), (1, .int x1), (2, .int x2), (3, .int x3), (4, .int x4)] []) : ∀ (x1 : Int32) (x2 : Int32) (x3 : Int32) (x4 : Int32) (σ : MS), w3_outcome_30 Q K30 x1 x2 x3 x4 σ → mm_T p l e ({ frames := 8, cells := 0, slots := 0, locals := 320 } : Room) s m args below meth c G (mm_Qi G Q) 6 30 σ [(0, .ref (mm_o G)), (1, .int x1), (2, .int x2), (3, .int x3), (4, .int x4)] [] := by
  intro x1 x2 x3 x4 σ hw H locs ls hM hS hl
  unfold w3_outcome_30 at hw
  obtain ⟨hx, hb, hml, hown, hts, hr, hlk, hMK, hZ⟩ := id cx
  refine lv_iload hx hb dX3_outcome_30 (lv_at hl 4 rfl) ?_
  refine lv_iload_n hx hb dX3_outcome_32 rfl (lv_at hl 1 rfl) ?_
  refine lv_icmp_gt (tgt := 68) hx hb dX3_outcome_33 (by decide) (fun hc => ?_) (fun hc => ?_)
  · have hw := mm_ip hc hw
    refine lv_iconst (v := (0 : Int32)) hx hb dX3_outcome_68 (by decide) ?_
    refine lv_istore (lv' := [(4, .int (0 : Int32)), (0, .ref (mm_o G)), (1, .int x1), (2, .int x2), (3, .int x3)]) hx hb dX3_outcome_69 hl (by decide) rfl (fun ls hl => ?_)
    refine lv_iconst (v := (0 : Int32)) hx hb dX3_outcome_71 (by decide) ?_
    refine lv_istore (lv' := [(5, .int (0 : Int32)), (4, .int (0 : Int32)), (0, .ref (mm_o G)), (1, .int x1), (2, .int x2), (3, .int x3)]) hx hb dX3_outcome_72 hl (by decide) rfl (fun ls hl => ?_)
    exact L3_outcome_74 cx _ _ _ _ _ hw _ _ _ hM hS (lv_sub hl [2, 4, 5, 1, 0] rfl)
  · have hw := mm_in hc hw
    obtain ⟨v8, hv8⟩ : ∃ v : Int32, v = x3 + (1 : Int32) := ⟨_, rfl⟩
    have hw := hw v8 hv8
    refine lv_iinc (v := v8) (lv' := [(3, .int v8), (0, .ref (mm_o G)), (1, .int x1), (2, .int x2), (4, .int x4)]) hx hb dX3_outcome_36 hl (k := 3) rfl (by rw [hv8]; rfl) (by decide) rfl (fun ls hl => ?_)
    exact L3_outcome_39 cx hK30 _ _ _ _ _ hw _ _ _ hM hS (lv_sub hl [1, 2, 3, 0, 4] rfl)
theorem L3_outcome_30 {l : Launch} {p : Program} {e : Env} {s : State} {m : MethodId} {args : Array Value} {below : List Frame} {meth : Method} {c : Code} {G : mm_G} {Q : Int32 → MS → Prop} (cx : mm_X cX3_outcome 6 (some .int) G p s m args meth c) : ∀ (x1 : Int32) (x2 : Int32) (x3 : Int32) (x4 : Int32) (σ : MS), lp5F (w3_outcome_30 Q) x1 x2 x3 x4 σ → mm_T p l e ({ frames := 8, cells := 0, slots := 0, locals := 320 } : Room) s m args below meth c G (mm_Qi G Q) 6 30 σ [(0, .ref (mm_o G)), (1, .int x1), (2, .int x2), (3, .int x3), (4, .int x4)] [] :=
  lp5F_of (fun K hK => B3_outcome_30 cx hK)
def w3_outcome (x1 : Int32) (x2 : Int32) (σ : MS) (Q : Int32 → MS → Prop) : Prop :=
  w3_in x2 (0 : Int32) (2 : Int32) σ (fun r9 s9 => if r9 = 0 then (Q (-1 : Int32) s9) else (w3_outcomes s9 (fun r10 s10 => w3_in x1 (0 : Int32) (r10 - (1 : Int32)) s10 (fun r11 s11 => if r11 = 0 then (Q (-1 : Int32) s11) else (lp5F (w3_outcome_30 Q) x1 x2 (-1 : Int32) (0 : Int32) s11)))))
set_option maxHeartbeats 4000000 in
theorem M3_outcome (l : Launch) (G : mm_G) (x1 : Int32) (x2 : Int32) (σ : MS) (Q : Int32 → MS → Prop) (hw : w3_outcome x1 x2 σ Q) : mm_Mi l yX3_outcome (ws_ yX3_outcome cX3_outcome 6 (some .int)) ({ frames := 8, cells := 0, slots := 0, locals := 320 } : Room) G [.ref (mm_o G), .int x1, .int x2] σ Q := by
  refine mm_of (by decide) rfl ?_
  intro p e s m args below meth c cx hM ha
  refine mm_entry [.ref (mm_o G), .int x1, .int x2] 6 [(0, .ref (mm_o G)), (1, .int x1), (2, .int x2)] ha (Nat.le_of_ble_eq_true rfl) rfl (fun ls hl => ?_)
  have hS : va_S (mm_A G) s.heap s.heap [] := va_S.rf
  unfold w3_outcome at hw
  obtain ⟨hx, hb, hml, hown, hts, hr, hlk, hMK, hZ⟩ := id cx
  refine lv_iload_n hx hb dX3_outcome_0 rfl (lv_at hl 2 rfl) ?_
  refine lv_iconst (v := (0 : Int32)) hx hb dX3_outcome_1 (by decide) ?_
  refine lv_iconst (v := (2 : Int32)) hx hb dX3_outcome_2 (by decide) ?_
  refine C3_in cx hM hS hw ⟨Nat.le_of_ble_eq_true rfl, Nat.le_of_ble_eq_true rfl⟩ (Nat.le_of_ble_eq_true rfl) hl.1 ⟨Nat.zero_le _, Nat.zero_le _⟩ dX3_outcome_3 (fun r9 s9 H locs hw hM hS => ?_)
  refine lv_if_eq (tgt := 23) hx hb dX3_outcome_6 (by decide) (fun hc => ?_) (fun hc => ?_)
  · have hw := mm_ip hc hw
    refine lv_iconst (v := (-1 : Int32)) hx hb dX3_outcome_23 (by decide) ?_
    exact mm_iret cx hM hS hw dX3_outcome_24
  · have hw := mm_in hc hw
    refine lv_iload_n hx hb dX3_outcome_9 rfl (lv_at hl 1 rfl) ?_
    refine lv_iconst (v := (0 : Int32)) hx hb dX3_outcome_10 (by decide) ?_
    refine lv_aload_n hx hb dX3_outcome_11 rfl (lv_at hl 0 rfl) ?_
    refine C3_outcomes cx hM hS hw ⟨Nat.le_of_ble_eq_true rfl, Nat.le_of_ble_eq_true rfl⟩ (Nat.le_of_ble_eq_true rfl) hl.1 ⟨Nat.zero_le _, Nat.zero_le _⟩ dX3_outcome_12 (fun r10 s10 H locs hw hM hS => ?_)
    refine lv_iconst (v := (1 : Int32)) hx hb dX3_outcome_15 (by decide) ?_
    refine lv_isub hx hb dX3_outcome_16 ?_
    refine C3_in cx hM hS hw ⟨Nat.le_of_ble_eq_true rfl, Nat.le_of_ble_eq_true rfl⟩ (Nat.le_of_ble_eq_true rfl) hl.1 ⟨Nat.zero_le _, Nat.zero_le _⟩ dX3_outcome_17 (fun r11 s11 H locs hw hM hS => ?_)
    refine lv_if_ne (tgt := 25) hx hb dX3_outcome_20 (by decide) (fun hc => ?_) (fun hc => ?_)
    · have hw := mm_in hc hw
      refine lv_iconst (v := (-1 : Int32)) hx hb dX3_outcome_25 (by decide) ?_
      refine lv_istore_n (lv' := [(3, .int (-1 : Int32)), (0, .ref (mm_o G)), (1, .int x1), (2, .int x2)]) hx hb dX3_outcome_26 rfl hl (by decide) rfl (fun ls hl => ?_)
      refine lv_iconst (v := (0 : Int32)) hx hb dX3_outcome_27 (by decide) ?_
      refine lv_istore (lv' := [(4, .int (0 : Int32)), (3, .int (-1 : Int32)), (0, .ref (mm_o G)), (1, .int x1), (2, .int x2)]) hx hb dX3_outcome_28 hl (by decide) rfl (fun ls hl => ?_)
      exact L3_outcome_30 cx _ _ _ _ _ hw _ _ _ hM hS (lv_sub hl [2, 3, 4, 1, 0] rfl)
    · have hw := mm_ip hc hw
      refine lv_iconst (v := (-1 : Int32)) hx hb dX3_outcome_23 (by decide) ?_
      exact mm_iret cx hM hS hw dX3_outcome_24
-- no call of outcome
def w3_together_83 (Q : Int32 → MS → Prop) (K20 : Int32 → Int32 → MS → Prop) (x1 : Int32) (x2 : Int32) (x3 : Int32) (σ : MS) : Prop :=
  if x3 = 0 then (∀ v1 : Int32, v1 = x2 + (1 : Int32) → K20 x1 v1 σ) else (Q (1 : Int32) σ)
set_option maxHeartbeats 4000000 in
theorem B3_together_83 {l : Launch} {p : Program} {e : Env} {s : State} {m : MethodId} {args : Array Value} {below : List Frame} {meth : Method} {c : Code} {G : mm_G} {Q : Int32 → MS → Prop} {K20 : Int32 → Int32 → MS → Prop} (cx : mm_X cX3_together 5 (some .int) G p s m args meth c) (hK20 : ∀ (x1 : Int32) (x2 : Int32) (σ : MS), K20 x1 x2 σ → mm_T p l e ({ frames := 2, cells := 0, slots := 0, locals := 80 } : Room) s m args below meth c G (mm_Qi G Q) 5 20 σ [(0, .ref (mm_o G)), (1, .int x1), (2, .int x2)] []) : ∀ (x1 : Int32) (x2 : Int32) (x3 : Int32) (σ : MS), w3_together_83 Q K20 x1 x2 x3 σ → mm_T p l e ({ frames := 2, cells := 0, slots := 0, locals := 80 } : Room) s m args below meth c G (mm_Qi G Q) 5 83 σ [(0, .ref (mm_o G)), (1, .int x1), (2, .int x2), (3, .int x3)] [] := by
  intro x1 x2 x3 σ hw H locs ls hM hS hl
  unfold w3_together_83 at hw
  obtain ⟨hx, hb, hml, hown, hts, hr, hlk, hMK, hZ⟩ := id cx
  refine lv_iload_n hx hb dX3_together_83 rfl (lv_at hl 3 rfl) ?_
  refine lv_if_eq (tgt := 89) hx hb dX3_together_84 (by decide) (fun hc => ?_) (fun hc => ?_)
  · have hw := mm_ip hc hw
    obtain ⟨v1, hv1⟩ : ∃ v : Int32, v = x2 + (1 : Int32) := ⟨_, rfl⟩
    have hw := hw v1 hv1
    refine lv_iinc (v := v1) (lv' := [(2, .int v1), (0, .ref (mm_o G)), (1, .int x1), (3, .int x3)]) hx hb dX3_together_89 hl (k := 2) rfl (by rw [hv1]; rfl) (by decide) rfl (fun ls hl => ?_)
    refine lv_goto (tgt := 20) hx hb dX3_together_92 (by decide) ?_
    exact hK20 _ _ _ hw _ _ _ hM hS (lv_sub hl [1, 2, 0] rfl)
  · have hw := mm_in hc hw
    refine lv_iconst (v := (1 : Int32)) hx hb dX3_together_87 (by decide) ?_
    exact mm_iret cx hM hS hw dX3_together_88
def w3_together_76 (Q : Int32 → MS → Prop) (K20 : Int32 → Int32 → MS → Prop) (K36 : Int32 → Int32 → Int32 → Int32 → MS → Prop) (x1 : Int32) (x2 : Int32) (x4 : Int32) (t0 : Int32) (σ : MS) : Prop :=
  ∀ v2 : Int32, v2 = x4 + (1 : Int32) → K36 x1 x2 t0 v2 σ
set_option maxHeartbeats 4000000 in
theorem B3_together_76 {l : Launch} {p : Program} {e : Env} {s : State} {m : MethodId} {args : Array Value} {below : List Frame} {meth : Method} {c : Code} {G : mm_G} {Q : Int32 → MS → Prop} {K20 : Int32 → Int32 → MS → Prop} {K36 : Int32 → Int32 → Int32 → Int32 → MS → Prop} (cx : mm_X cX3_together 5 (some .int) G p s m args meth c) (hK20 : ∀ (x1 : Int32) (x2 : Int32) (σ : MS), K20 x1 x2 σ → mm_T p l e ({ frames := 2, cells := 0, slots := 0, locals := 80 } : Room) s m args below meth c G (mm_Qi G Q) 5 20 σ [(0, .ref (mm_o G)), (1, .int x1), (2, .int x2)] []) (hK36 : ∀ (x1 : Int32) (x2 : Int32) (x3 : Int32) (x4 : Int32) (σ : MS), K36 x1 x2 x3 x4 σ → mm_T p l e ({ frames := 2, cells := 0, slots := 0, locals := 80 } : Room) s m args below meth c G (mm_Qi G Q) 5 36 σ [(0, .ref (mm_o G)), (1, .int x1), (2, .int x2), (3, .int x3), (4, .int x4)] []) : ∀ (x1 : Int32) (x2 : Int32) (x4 : Int32) (t0 : Int32) (σ : MS), w3_together_76 Q K20 K36 x1 x2 x4 t0 σ → mm_T p l e ({ frames := 2, cells := 0, slots := 0, locals := 80 } : Room) s m args below meth c G (mm_Qi G Q) 5 76 σ [(0, .ref (mm_o G)), (1, .int x1), (2, .int x2), (4, .int x4)] [.int t0] := by
  intro x1 x2 x4 t0 σ hw H locs ls hM hS hl
  unfold w3_together_76 at hw
  obtain ⟨hx, hb, hml, hown, hts, hr, hlk, hMK, hZ⟩ := id cx
  refine lv_istore_n (lv' := [(3, .int t0), (0, .ref (mm_o G)), (1, .int x1), (2, .int x2), (4, .int x4)]) hx hb dX3_together_76 rfl hl (by decide) rfl (fun ls hl => ?_)
  obtain ⟨v2, hv2⟩ : ∃ v : Int32, v = x4 + (1 : Int32) := ⟨_, rfl⟩
  have hw := hw v2 hv2
  refine lv_iinc (v := v2) (lv' := [(4, .int v2), (3, .int t0), (0, .ref (mm_o G)), (1, .int x1), (2, .int x2)]) hx hb dX3_together_77 hl (k := 4) rfl (by rw [hv2]; rfl) (by decide) rfl (fun ls hl => ?_)
  refine lv_goto (tgt := 36) hx hb dX3_together_80 (by decide) ?_
  exact hK36 _ _ _ _ _ hw _ _ _ hM hS (lv_sub hl [2, 3, 4, 1, 0] rfl)
def w3_together_71 (Q : Int32 → MS → Prop) (K20 : Int32 → Int32 → MS → Prop) (K36 : Int32 → Int32 → Int32 → Int32 → MS → Prop) (x1 : Int32) (x2 : Int32) (x4 : Int32) (σ : MS) : Prop :=
  w3_together_76 Q K20 K36 x1 x2 x4 (1 : Int32) σ
set_option maxHeartbeats 4000000 in
theorem B3_together_71 {l : Launch} {p : Program} {e : Env} {s : State} {m : MethodId} {args : Array Value} {below : List Frame} {meth : Method} {c : Code} {G : mm_G} {Q : Int32 → MS → Prop} {K20 : Int32 → Int32 → MS → Prop} {K36 : Int32 → Int32 → Int32 → Int32 → MS → Prop} (cx : mm_X cX3_together 5 (some .int) G p s m args meth c) (hK20 : ∀ (x1 : Int32) (x2 : Int32) (σ : MS), K20 x1 x2 σ → mm_T p l e ({ frames := 2, cells := 0, slots := 0, locals := 80 } : Room) s m args below meth c G (mm_Qi G Q) 5 20 σ [(0, .ref (mm_o G)), (1, .int x1), (2, .int x2)] []) (hK36 : ∀ (x1 : Int32) (x2 : Int32) (x3 : Int32) (x4 : Int32) (σ : MS), K36 x1 x2 x3 x4 σ → mm_T p l e ({ frames := 2, cells := 0, slots := 0, locals := 80 } : Room) s m args below meth c G (mm_Qi G Q) 5 36 σ [(0, .ref (mm_o G)), (1, .int x1), (2, .int x2), (3, .int x3), (4, .int x4)] []) : ∀ (x1 : Int32) (x2 : Int32) (x4 : Int32) (σ : MS), w3_together_71 Q K20 K36 x1 x2 x4 σ → mm_T p l e ({ frames := 2, cells := 0, slots := 0, locals := 80 } : Room) s m args below meth c G (mm_Qi G Q) 5 71 σ [(0, .ref (mm_o G)), (1, .int x1), (2, .int x2), (4, .int x4)] [] := by
  intro x1 x2 x4 σ hw H locs ls hM hS hl
  unfold w3_together_71 at hw
  obtain ⟨hx, hb, hml, hown, hts, hr, hlk, hMK, hZ⟩ := id cx
  refine lv_iconst (v := (1 : Int32)) hx hb dX3_together_71 (by decide) ?_
  refine lv_goto (tgt := 76) hx hb dX3_together_72 (by decide) ?_
  exact B3_together_76 cx hK20 hK36 _ _ _ _ _ hw _ _ _ hM hS (lv_sub hl [0, 1, 2, 3] rfl)
def w3_together_36 (Q : Int32 → MS → Prop) (K20 : Int32 → Int32 → MS → Prop) (K36 : Int32 → Int32 → Int32 → Int32 → MS → Prop) (x1 : Int32) (x2 : Int32) (x3 : Int32) (x4 : Int32) (σ : MS) : Prop :=
  if (gA σ 4 18) ≤ x4 then (w3_together_83 Q K20 x1 x2 x3 σ) else (if x3 = 0 then (w3_together_83 Q K20 x1 x2 x3 σ) else (w3_has x1 x4 σ (fun r3 s3 => if r3 = 0 then (w3_together_71 Q K20 K36 x1 x2 x4 s3) else (w3_isWon x4 x2 s3 (fun r4 s4 => if r4 = 0 then (w3_together_76 Q K20 K36 x1 x2 x4 (0 : Int32) s4) else (w3_together_71 Q K20 K36 x1 x2 x4 s4))))))
set_option maxHeartbeats 4000000 in
theorem B3_together_36 {l : Launch} {p : Program} {e : Env} {s : State} {m : MethodId} {args : Array Value} {below : List Frame} {meth : Method} {c : Code} {G : mm_G} {Q : Int32 → MS → Prop} {K20 : Int32 → Int32 → MS → Prop} {K36 : Int32 → Int32 → Int32 → Int32 → MS → Prop} (cx : mm_X cX3_together 5 (some .int) G p s m args meth c) (hK20 : ∀ (x1 : Int32) (x2 : Int32) (σ : MS), K20 x1 x2 σ → mm_T p l e ({ frames := 2, cells := 0, slots := 0, locals := 80 } : Room) s m args below meth c G (mm_Qi G Q) 5 20 σ [(0, .ref (mm_o G)), (1, .int x1), (2, .int x2)] []) (hK36 : ∀ (x1 : Int32) (x2 : Int32) (x3 : Int32) (x4 : Int32) (σ : MS), K36 x1 x2 x3 x4 σ → mm_T p l e ({ frames := 2, cells := 0, slots := 0, locals := 80 } : Room) s m args below meth c G (mm_Qi G Q) 5 36 σ [(0, .ref (mm_o G)), (1, .int x1), (2, .int x2), (3, .int x3), (4, .int x4)] []) : ∀ (x1 : Int32) (x2 : Int32) (x3 : Int32) (x4 : Int32) (σ : MS), w3_together_36 Q K20 K36 x1 x2 x3 x4 σ → mm_T p l e ({ frames := 2, cells := 0, slots := 0, locals := 80 } : Room) s m args below meth c G (mm_Qi G Q) 5 36 σ [(0, .ref (mm_o G)), (1, .int x1), (2, .int x2), (3, .int x3), (4, .int x4)] [] := by
  intro x1 x2 x3 x4 σ hw H locs ls hM hS hl
  unfold w3_together_36 at hw
  obtain ⟨hx, hb, hml, hown, hts, hr, hlk, hMK, hZ⟩ := id cx
  refine lv_iload hx hb dX3_together_36 (lv_at hl 4 rfl) ?_
  refine lv_aload_n hx hb dX3_together_38 rfl (lv_at hl 0 rfl) ?_
  refine mg_4 cx hM dX3_together_39 ?_
  refine lv_bipush (v := (18 : Int32)) hx hb dX3_together_42 (by decide) ?_
  refine mm_iald cx hM 4 rfl (j := 18) (by decide) (vp_lit (by decide)) dX3_together_44 ?_
  refine lv_icmp_ge (tgt := 83) hx hb dX3_together_45 (by decide) (fun hc => ?_) (fun hc => ?_)
  · have hw := mm_ip hc hw
    exact B3_together_83 cx hK20 _ _ _ _ hw _ _ _ hM hS (lv_sub hl [0, 1, 2, 3] rfl)
  · have hw := mm_in hc hw
    refine lv_iload_n hx hb dX3_together_48 rfl (lv_at hl 3 rfl) ?_
    refine lv_if_eq (tgt := 83) hx hb dX3_together_49 (by decide) (fun hc => ?_) (fun hc => ?_)
    · have hw := mm_ip hc hw
      exact B3_together_83 cx hK20 _ _ _ _ hw _ _ _ hM hS (lv_sub hl [0, 1, 2, 3] rfl)
    · have hw := mm_in hc hw
      refine lv_iload_n hx hb dX3_together_52 rfl (lv_at hl 1 rfl) ?_
      refine lv_iload hx hb dX3_together_53 (lv_at hl 4 rfl) ?_
      refine C3_has cx hM hS hw ⟨Nat.le_of_ble_eq_true rfl, Nat.le_of_ble_eq_true rfl⟩ (Nat.le_of_ble_eq_true rfl) hl.1 ⟨Nat.zero_le _, Nat.zero_le _⟩ dX3_together_55 (fun r3 s3 H locs hw hM hS => ?_)
      refine lv_if_eq (tgt := 71) hx hb dX3_together_58 (by decide) (fun hc => ?_) (fun hc => ?_)
      · have hw := mm_ip hc hw
        exact B3_together_71 cx hK20 hK36 _ _ _ _ hw _ _ _ hM hS (lv_sub hl [0, 1, 2, 4] rfl)
      · have hw := mm_in hc hw
        refine lv_aload_n hx hb dX3_together_61 rfl (lv_at hl 0 rfl) ?_
        refine lv_iload hx hb dX3_together_62 (lv_at hl 4 rfl) ?_
        refine lv_iload_n hx hb dX3_together_64 rfl (lv_at hl 2 rfl) ?_
        refine C3_isWon cx hM hS hw ⟨Nat.le_of_ble_eq_true rfl, Nat.le_of_ble_eq_true rfl⟩ (Nat.le_of_ble_eq_true rfl) hl.1 ⟨Nat.zero_le _, Nat.zero_le _⟩ dX3_together_65 (fun r4 s4 H locs hw hM hS => ?_)
        refine lv_if_eq (tgt := 75) hx hb dX3_together_68 (by decide) (fun hc => ?_) (fun hc => ?_)
        · have hw := mm_ip hc hw
          refine lv_iconst (v := (0 : Int32)) hx hb dX3_together_75 (by decide) ?_
          exact B3_together_76 cx hK20 hK36 _ _ _ _ _ hw _ _ _ hM hS (lv_sub hl [0, 1, 2, 4] rfl)
        · have hw := mm_in hc hw
          exact B3_together_71 cx hK20 hK36 _ _ _ _ hw _ _ _ hM hS (lv_sub hl [0, 1, 2, 4] rfl)
theorem L3_together_36 {l : Launch} {p : Program} {e : Env} {s : State} {m : MethodId} {args : Array Value} {below : List Frame} {meth : Method} {c : Code} {G : mm_G} {Q : Int32 → MS → Prop} {K20 : Int32 → Int32 → MS → Prop} (cx : mm_X cX3_together 5 (some .int) G p s m args meth c) (hK20 : ∀ (x1 : Int32) (x2 : Int32) (σ : MS), K20 x1 x2 σ → mm_T p l e ({ frames := 2, cells := 0, slots := 0, locals := 80 } : Room) s m args below meth c G (mm_Qi G Q) 5 20 σ [(0, .ref (mm_o G)), (1, .int x1), (2, .int x2)] []) : ∀ (x1 : Int32) (x2 : Int32) (x3 : Int32) (x4 : Int32) (σ : MS), lp5F (w3_together_36 Q K20) x1 x2 x3 x4 σ → mm_T p l e ({ frames := 2, cells := 0, slots := 0, locals := 80 } : Room) s m args below meth c G (mm_Qi G Q) 5 36 σ [(0, .ref (mm_o G)), (1, .int x1), (2, .int x2), (3, .int x3), (4, .int x4)] [] :=
  lp5F_of (fun K hK => B3_together_36 cx hK20 hK)
def w3_together_20 (Q : Int32 → MS → Prop) (K20 : Int32 → Int32 → MS → Prop) (x1 : Int32) (x2 : Int32) (σ : MS) : Prop :=
  if (256 : Int32) ≤ x2 then (Q (0 : Int32) σ) else (w3_isLeft x2 σ (fun r5 s5 => lp5F (w3_together_36 Q K20) x1 x2 r5 (0 : Int32) s5))
set_option maxHeartbeats 4000000 in
theorem B3_together_20 {l : Launch} {p : Program} {e : Env} {s : State} {m : MethodId} {args : Array Value} {below : List Frame} {meth : Method} {c : Code} {G : mm_G} {Q : Int32 → MS → Prop} {K20 : Int32 → Int32 → MS → Prop} (cx : mm_X cX3_together 5 (some .int) G p s m args meth c) (hK20 : ∀ (x1 : Int32) (x2 : Int32) (σ : MS), K20 x1 x2 σ → mm_T p l e ({ frames := 2, cells := 0, slots := 0, locals := 80 } : Room) s m args below meth c G (mm_Qi G Q) 5 20 σ [(0, .ref (mm_o G)), (1, .int x1), (2, .int x2)] []) : ∀ (x1 : Int32) (x2 : Int32) (σ : MS), w3_together_20 Q K20 x1 x2 σ → mm_T p l e ({ frames := 2, cells := 0, slots := 0, locals := 80 } : Room) s m args below meth c G (mm_Qi G Q) 5 20 σ [(0, .ref (mm_o G)), (1, .int x1), (2, .int x2)] [] := by
  intro x1 x2 σ hw H locs ls hM hS hl
  unfold w3_together_20 at hw
  obtain ⟨hx, hb, hml, hown, hts, hr, hlk, hMK, hZ⟩ := id cx
  refine lv_iload_n hx hb dX3_together_20 rfl (lv_at hl 2 rfl) ?_
  refine lv_sipush (v := (256 : Int32)) hx hb dX3_together_21 (by decide) ?_
  refine lv_icmp_ge (tgt := 95) hx hb dX3_together_24 (by decide) (fun hc => ?_) (fun hc => ?_)
  · have hw := mm_ip hc hw
    refine lv_iconst (v := (0 : Int32)) hx hb dX3_together_95 (by decide) ?_
    exact mm_iret cx hM hS hw dX3_together_96
  · have hw := mm_in hc hw
    refine lv_aload_n hx hb dX3_together_27 rfl (lv_at hl 0 rfl) ?_
    refine lv_iload_n hx hb dX3_together_28 rfl (lv_at hl 2 rfl) ?_
    refine C3_isLeft cx hM hS hw ⟨Nat.le_of_ble_eq_true rfl, Nat.le_of_ble_eq_true rfl⟩ (Nat.le_of_ble_eq_true rfl) hl.1 ⟨Nat.zero_le _, Nat.zero_le _⟩ dX3_together_29 (fun r5 s5 H locs hw hM hS => ?_)
    refine lv_istore_n (lv' := [(3, .int r5), (0, .ref (mm_o G)), (1, .int x1), (2, .int x2)]) hx hb dX3_together_32 rfl hl (by decide) rfl (fun ls hl => ?_)
    refine lv_iconst (v := (0 : Int32)) hx hb dX3_together_33 (by decide) ?_
    refine lv_istore (lv' := [(4, .int (0 : Int32)), (3, .int r5), (0, .ref (mm_o G)), (1, .int x1), (2, .int x2)]) hx hb dX3_together_34 hl (by decide) rfl (fun ls hl => ?_)
    exact L3_together_36 cx hK20 _ _ _ _ _ hw _ _ _ hM hS (lv_sub hl [2, 3, 4, 1, 0] rfl)
theorem L3_together_20 {l : Launch} {p : Program} {e : Env} {s : State} {m : MethodId} {args : Array Value} {below : List Frame} {meth : Method} {c : Code} {G : mm_G} {Q : Int32 → MS → Prop} (cx : mm_X cX3_together 5 (some .int) G p s m args meth c) : ∀ (x1 : Int32) (x2 : Int32) (σ : MS), lp3F (w3_together_20 Q) x1 x2 σ → mm_T p l e ({ frames := 2, cells := 0, slots := 0, locals := 80 } : Room) s m args below meth c G (mm_Qi G Q) 5 20 σ [(0, .ref (mm_o G)), (1, .int x1), (2, .int x2)] [] :=
  lp3F_of (fun K hK => B3_together_20 cx hK)
def w3_together (x1 : Int32) (σ : MS) (Q : Int32 → MS → Prop) : Prop :=
  if x1 < 0 then (Q (-1 : Int32) σ) else (if (x1 >>> ((gA σ 4 18) &&& 31)) = 0 then (lp3F (w3_together_20 Q) x1 (0 : Int32) σ) else (Q (-1 : Int32) σ))
set_option maxHeartbeats 4000000 in
theorem M3_together (l : Launch) (G : mm_G) (x1 : Int32) (σ : MS) (Q : Int32 → MS → Prop) (hw : w3_together x1 σ Q) : mm_Mi l yX3_together (ws_ yX3_together cX3_together 5 (some .int)) ({ frames := 2, cells := 0, slots := 0, locals := 80 } : Room) G [.ref (mm_o G), .int x1] σ Q := by
  refine mm_of (by decide) rfl ?_
  intro p e s m args below meth c cx hM ha
  refine mm_entry [.ref (mm_o G), .int x1] 5 [(0, .ref (mm_o G)), (1, .int x1)] ha (Nat.le_of_ble_eq_true rfl) rfl (fun ls hl => ?_)
  have hS : va_S (mm_A G) s.heap s.heap [] := va_S.rf
  unfold w3_together at hw
  obtain ⟨hx, hb, hml, hown, hts, hr, hlk, hMK, hZ⟩ := id cx
  refine lv_iload_n hx hb dX3_together_0 rfl (lv_at hl 1 rfl) ?_
  refine lv_if_lt (tgt := 16) hx hb dX3_together_1 (by decide) (fun hc => ?_) (fun hc => ?_)
  · have hw := mm_ip hc hw
    refine lv_iconst (v := (-1 : Int32)) hx hb dX3_together_16 (by decide) ?_
    exact mm_iret cx hM hS hw dX3_together_17
  · have hw := mm_in hc hw
    refine lv_iload_n hx hb dX3_together_4 rfl (lv_at hl 1 rfl) ?_
    refine lv_aload_n hx hb dX3_together_5 rfl (lv_at hl 0 rfl) ?_
    refine mg_4 cx hM dX3_together_6 ?_
    refine lv_bipush (v := (18 : Int32)) hx hb dX3_together_9 (by decide) ?_
    refine mm_iald cx hM 4 rfl (j := 18) (by decide) (vp_lit (by decide)) dX3_together_11 ?_
    refine lv_ishr hx hb dX3_together_12 ?_
    refine lv_if_eq (tgt := 18) hx hb dX3_together_13 (by decide) (fun hc => ?_) (fun hc => ?_)
    · have hw := mm_ip hc hw
      refine lv_iconst (v := (0 : Int32)) hx hb dX3_together_18 (by decide) ?_
      refine lv_istore_n (lv' := [(2, .int (0 : Int32)), (0, .ref (mm_o G)), (1, .int x1)]) hx hb dX3_together_19 rfl hl (by decide) rfl (fun ls hl => ?_)
      exact L3_together_20 cx _ _ _ hw _ _ _ hM hS (lv_sub hl [1, 2, 0] rfl)
    · have hw := mm_in hc hw
      refine lv_iconst (v := (-1 : Int32)) hx hb dX3_together_16 (by decide) ?_
      exact mm_iret cx hM hS hw dX3_together_17
-- no call of together
def w3_elect_82 (Q : Int32 → MS → Prop) (K19 : Int32 → Int32 → Int32 → MS → Prop) (x1 : Int32) (x3 : Int32) (t0 : Int32) (σ : MS) : Prop :=
  ∀ v1 : Int32, v1 = x3 + (1 : Int32) → K19 x1 t0 v1 σ
set_option maxHeartbeats 4000000 in
theorem B3_elect_82 {l : Launch} {p : Program} {e : Env} {s : State} {m : MethodId} {args : Array Value} {below : List Frame} {meth : Method} {c : Code} {G : mm_G} {Q : Int32 → MS → Prop} {K19 : Int32 → Int32 → Int32 → MS → Prop} (cx : mm_X cX3_elect 5 (some .int) G p s m args meth c) (hK19 : ∀ (x1 : Int32) (x2 : Int32) (x3 : Int32) (σ : MS), K19 x1 x2 x3 σ → mm_T p l e ({ frames := 7, cells := 0, slots := 0, locals := 280 } : Room) s m args below meth c G (mm_Qi G Q) 5 19 σ [(0, .ref (mm_o G)), (1, .int x1), (2, .int x2), (3, .int x3)] []) : ∀ (x1 : Int32) (x3 : Int32) (t0 : Int32) (σ : MS), w3_elect_82 Q K19 x1 x3 t0 σ → mm_T p l e ({ frames := 7, cells := 0, slots := 0, locals := 280 } : Room) s m args below meth c G (mm_Qi G Q) 5 82 σ [(0, .ref (mm_o G)), (1, .int x1), (3, .int x3)] [.int t0] := by
  intro x1 x3 t0 σ hw H locs ls hM hS hl
  unfold w3_elect_82 at hw
  obtain ⟨hx, hb, hml, hown, hts, hr, hlk, hMK, hZ⟩ := id cx
  refine lv_istore_n (lv' := [(2, .int t0), (0, .ref (mm_o G)), (1, .int x1), (3, .int x3)]) hx hb dX3_elect_82 rfl hl (by decide) rfl (fun ls hl => ?_)
  obtain ⟨v1, hv1⟩ : ∃ v : Int32, v = x3 + (1 : Int32) := ⟨_, rfl⟩
  have hw := hw v1 hv1
  refine lv_iinc (v := v1) (lv' := [(3, .int v1), (2, .int t0), (0, .ref (mm_o G)), (1, .int x1)]) hx hb dX3_elect_83 hl (k := 3) rfl (by rw [hv1]; rfl) (by decide) rfl (fun ls hl => ?_)
  refine lv_goto (tgt := 19) hx hb dX3_elect_86 (by decide) ?_
  exact hK19 _ _ _ _ hw _ _ _ hM hS (lv_sub hl [2, 3, 1, 0] rfl)
def w3_elect_81 (Q : Int32 → MS → Prop) (K19 : Int32 → Int32 → Int32 → MS → Prop) (x1 : Int32) (x2 : Int32) (x3 : Int32) (σ : MS) : Prop :=
  w3_elect_82 Q K19 x1 x3 x2 σ
set_option maxHeartbeats 4000000 in
theorem B3_elect_81 {l : Launch} {p : Program} {e : Env} {s : State} {m : MethodId} {args : Array Value} {below : List Frame} {meth : Method} {c : Code} {G : mm_G} {Q : Int32 → MS → Prop} {K19 : Int32 → Int32 → Int32 → MS → Prop} (cx : mm_X cX3_elect 5 (some .int) G p s m args meth c) (hK19 : ∀ (x1 : Int32) (x2 : Int32) (x3 : Int32) (σ : MS), K19 x1 x2 x3 σ → mm_T p l e ({ frames := 7, cells := 0, slots := 0, locals := 280 } : Room) s m args below meth c G (mm_Qi G Q) 5 19 σ [(0, .ref (mm_o G)), (1, .int x1), (2, .int x2), (3, .int x3)] []) : ∀ (x1 : Int32) (x2 : Int32) (x3 : Int32) (σ : MS), w3_elect_81 Q K19 x1 x2 x3 σ → mm_T p l e ({ frames := 7, cells := 0, slots := 0, locals := 280 } : Room) s m args below meth c G (mm_Qi G Q) 5 81 σ [(0, .ref (mm_o G)), (1, .int x1), (2, .int x2), (3, .int x3)] [] := by
  intro x1 x2 x3 σ hw H locs ls hM hS hl
  unfold w3_elect_81 at hw
  obtain ⟨hx, hb, hml, hown, hts, hr, hlk, hMK, hZ⟩ := id cx
  refine lv_iload_n hx hb dX3_elect_81 rfl (lv_at hl 2 rfl) ?_
  exact B3_elect_82 cx hK19 _ _ _ _ hw _ _ _ hM hS (lv_sub hl [0, 1, 3] rfl)
def w3_elect_76 (Q : Int32 → MS → Prop) (K19 : Int32 → Int32 → Int32 → MS → Prop) (x1 : Int32) (x3 : Int32) (x4 : Int32) (σ : MS) : Prop :=
  w3_elect_82 Q K19 x1 x3 x4 σ
set_option maxHeartbeats 4000000 in
theorem B3_elect_76 {l : Launch} {p : Program} {e : Env} {s : State} {m : MethodId} {args : Array Value} {below : List Frame} {meth : Method} {c : Code} {G : mm_G} {Q : Int32 → MS → Prop} {K19 : Int32 → Int32 → Int32 → MS → Prop} (cx : mm_X cX3_elect 5 (some .int) G p s m args meth c) (hK19 : ∀ (x1 : Int32) (x2 : Int32) (x3 : Int32) (σ : MS), K19 x1 x2 x3 σ → mm_T p l e ({ frames := 7, cells := 0, slots := 0, locals := 280 } : Room) s m args below meth c G (mm_Qi G Q) 5 19 σ [(0, .ref (mm_o G)), (1, .int x1), (2, .int x2), (3, .int x3)] []) : ∀ (x1 : Int32) (x3 : Int32) (x4 : Int32) (σ : MS), w3_elect_76 Q K19 x1 x3 x4 σ → mm_T p l e ({ frames := 7, cells := 0, slots := 0, locals := 280 } : Room) s m args below meth c G (mm_Qi G Q) 5 76 σ [(0, .ref (mm_o G)), (1, .int x1), (3, .int x3), (4, .int x4)] [] := by
  intro x1 x3 x4 σ hw H locs ls hM hS hl
  unfold w3_elect_76 at hw
  obtain ⟨hx, hb, hml, hown, hts, hr, hlk, hMK, hZ⟩ := id cx
  refine lv_iload hx hb dX3_elect_76 (lv_at hl 3 rfl) ?_
  refine lv_goto (tgt := 82) hx hb dX3_elect_78 (by decide) ?_
  exact B3_elect_82 cx hK19 _ _ _ _ hw _ _ _ hM hS (lv_sub hl [0, 1, 2] rfl)
def w3_elect_44 (Q : Int32 → MS → Prop) (K19 : Int32 → Int32 → Int32 → MS → Prop) (x1 : Int32) (x2 : Int32) (x3 : Int32) (t0 : Int32) (σ : MS) : Prop :=
  w3_bits t0 σ (fun r2 s2 => w3_bits x2 s2 (fun r3 s3 => if r3 < r2 then (w3_elect_76 Q K19 x1 x3 t0 s3) else (w3_bits t0 s3 (fun r4 s4 => w3_bits x2 s4 (fun r5 s5 => if r4 = r5 then (if x2 ≤ t0 then (w3_elect_81 Q K19 x1 x2 x3 s5) else (w3_elect_76 Q K19 x1 x3 t0 s5)) else (w3_elect_81 Q K19 x1 x2 x3 s5))))))
set_option maxHeartbeats 4000000 in
theorem B3_elect_44 {l : Launch} {p : Program} {e : Env} {s : State} {m : MethodId} {args : Array Value} {below : List Frame} {meth : Method} {c : Code} {G : mm_G} {Q : Int32 → MS → Prop} {K19 : Int32 → Int32 → Int32 → MS → Prop} (cx : mm_X cX3_elect 5 (some .int) G p s m args meth c) (hK19 : ∀ (x1 : Int32) (x2 : Int32) (x3 : Int32) (σ : MS), K19 x1 x2 x3 σ → mm_T p l e ({ frames := 7, cells := 0, slots := 0, locals := 280 } : Room) s m args below meth c G (mm_Qi G Q) 5 19 σ [(0, .ref (mm_o G)), (1, .int x1), (2, .int x2), (3, .int x3)] []) : ∀ (x1 : Int32) (x2 : Int32) (x3 : Int32) (t0 : Int32) (σ : MS), w3_elect_44 Q K19 x1 x2 x3 t0 σ → mm_T p l e ({ frames := 7, cells := 0, slots := 0, locals := 280 } : Room) s m args below meth c G (mm_Qi G Q) 5 44 σ [(0, .ref (mm_o G)), (1, .int x1), (2, .int x2), (3, .int x3)] [.int t0] := by
  intro x1 x2 x3 t0 σ hw H locs ls hM hS hl
  unfold w3_elect_44 at hw
  obtain ⟨hx, hb, hml, hown, hts, hr, hlk, hMK, hZ⟩ := id cx
  refine lv_istore (lv' := [(4, .int t0), (0, .ref (mm_o G)), (1, .int x1), (2, .int x2), (3, .int x3)]) hx hb dX3_elect_44 hl (by decide) rfl (fun ls hl => ?_)
  refine lv_iload hx hb dX3_elect_46 (lv_at hl 0 rfl) ?_
  refine C3_bits cx hM hS hw ⟨Nat.le_of_ble_eq_true rfl, Nat.le_of_ble_eq_true rfl⟩ (Nat.le_of_ble_eq_true rfl) hl.1 ⟨Nat.zero_le _, Nat.zero_le _⟩ dX3_elect_48 (fun r2 s2 H locs hw hM hS => ?_)
  refine lv_iload_n hx hb dX3_elect_51 rfl (lv_at hl 3 rfl) ?_
  refine C3_bits cx hM hS hw ⟨Nat.le_of_ble_eq_true rfl, Nat.le_of_ble_eq_true rfl⟩ (Nat.le_of_ble_eq_true rfl) hl.1 ⟨Nat.zero_le _, Nat.zero_le _⟩ dX3_elect_52 (fun r3 s3 H locs hw hM hS => ?_)
  refine lv_icmp_gt (tgt := 76) hx hb dX3_elect_55 (by decide) (fun hc => ?_) (fun hc => ?_)
  · have hw := mm_ip hc hw
    exact B3_elect_76 cx hK19 _ _ _ _ hw _ _ _ hM hS (lv_sub hl [1, 2, 4, 0] rfl)
  · have hw := mm_in hc hw
    refine lv_iload hx hb dX3_elect_58 (lv_at hl 0 rfl) ?_
    refine C3_bits cx hM hS hw ⟨Nat.le_of_ble_eq_true rfl, Nat.le_of_ble_eq_true rfl⟩ (Nat.le_of_ble_eq_true rfl) hl.1 ⟨Nat.zero_le _, Nat.zero_le _⟩ dX3_elect_60 (fun r4 s4 H locs hw hM hS => ?_)
    refine lv_iload_n hx hb dX3_elect_63 rfl (lv_at hl 3 rfl) ?_
    refine C3_bits cx hM hS hw ⟨Nat.le_of_ble_eq_true rfl, Nat.le_of_ble_eq_true rfl⟩ (Nat.le_of_ble_eq_true rfl) hl.1 ⟨Nat.zero_le _, Nat.zero_le _⟩ dX3_elect_64 (fun r5 s5 H locs hw hM hS => ?_)
    refine lv_icmp_ne (tgt := 81) hx hb dX3_elect_67 (by decide) (fun hc => ?_) (fun hc => ?_)
    · have hw := mm_in hc hw
      exact B3_elect_81 cx hK19 _ _ _ _ hw _ _ _ hM hS (lv_sub hl [1, 2, 3, 4] rfl)
    · have hw := mm_ip hc hw
      refine lv_iload hx hb dX3_elect_70 (lv_at hl 0 rfl) ?_
      refine lv_iload_n hx hb dX3_elect_72 rfl (lv_at hl 3 rfl) ?_
      refine lv_icmp_ge (tgt := 81) hx hb dX3_elect_73 (by decide) (fun hc => ?_) (fun hc => ?_)
      · have hw := mm_ip hc hw
        exact B3_elect_81 cx hK19 _ _ _ _ hw _ _ _ hM hS (lv_sub hl [1, 2, 3, 4] rfl)
      · have hw := mm_in hc hw
        exact B3_elect_76 cx hK19 _ _ _ _ hw _ _ _ hM hS (lv_sub hl [1, 2, 4, 0] rfl)
def w3_elect_19 (Q : Int32 → MS → Prop) (K19 : Int32 → Int32 → Int32 → MS → Prop) (x1 : Int32) (x2 : Int32) (x3 : Int32) (σ : MS) : Prop :=
  if (256 : Int32) ≤ x3 then (if x1 = 0 then (w3_bits x2 σ (fun r6 s6 => Q r6 s6)) else (Q x2 σ)) else (w3_isLeft x3 σ (fun r7 s7 => if r7 = 0 then (w3_elect_44 Q K19 x1 x2 x3 (0 : Int32) s7) else (vp_in x3 256 ∧ (w3_elect_44 Q K19 x1 x2 x3 (gA s7 38 x3.toNatClampNeg) s7))))
set_option maxHeartbeats 4000000 in
theorem B3_elect_19 {l : Launch} {p : Program} {e : Env} {s : State} {m : MethodId} {args : Array Value} {below : List Frame} {meth : Method} {c : Code} {G : mm_G} {Q : Int32 → MS → Prop} {K19 : Int32 → Int32 → Int32 → MS → Prop} (cx : mm_X cX3_elect 5 (some .int) G p s m args meth c) (hK19 : ∀ (x1 : Int32) (x2 : Int32) (x3 : Int32) (σ : MS), K19 x1 x2 x3 σ → mm_T p l e ({ frames := 7, cells := 0, slots := 0, locals := 280 } : Room) s m args below meth c G (mm_Qi G Q) 5 19 σ [(0, .ref (mm_o G)), (1, .int x1), (2, .int x2), (3, .int x3)] []) : ∀ (x1 : Int32) (x2 : Int32) (x3 : Int32) (σ : MS), w3_elect_19 Q K19 x1 x2 x3 σ → mm_T p l e ({ frames := 7, cells := 0, slots := 0, locals := 280 } : Room) s m args below meth c G (mm_Qi G Q) 5 19 σ [(0, .ref (mm_o G)), (1, .int x1), (2, .int x2), (3, .int x3)] [] := by
  intro x1 x2 x3 σ hw H locs ls hM hS hl
  unfold w3_elect_19 at hw
  obtain ⟨hx, hb, hml, hown, hts, hr, hlk, hMK, hZ⟩ := id cx
  refine lv_iload_n hx hb dX3_elect_19 rfl (lv_at hl 3 rfl) ?_
  refine lv_sipush (v := (256 : Int32)) hx hb dX3_elect_20 (by decide) ?_
  refine lv_icmp_ge (tgt := 89) hx hb dX3_elect_23 (by decide) (fun hc => ?_) (fun hc => ?_)
  · have hw := mm_ip hc hw
    refine lv_iload_n hx hb dX3_elect_89 rfl (lv_at hl 1 rfl) ?_
    refine lv_if_ne (tgt := 100) hx hb dX3_elect_90 (by decide) (fun hc => ?_) (fun hc => ?_)
    · have hw := mm_in hc hw
      refine lv_iload_n hx hb dX3_elect_100 rfl (lv_at hl 2 rfl) ?_
      exact mm_iret cx hM hS hw dX3_elect_101
    · have hw := mm_ip hc hw
      refine lv_iload_n hx hb dX3_elect_93 rfl (lv_at hl 2 rfl) ?_
      refine C3_bits cx hM hS hw ⟨Nat.le_of_ble_eq_true rfl, Nat.le_of_ble_eq_true rfl⟩ (Nat.le_of_ble_eq_true rfl) hl.1 ⟨Nat.zero_le _, Nat.zero_le _⟩ dX3_elect_94 (fun r6 s6 H locs hw hM hS => ?_)
      refine lv_goto (tgt := 101) hx hb dX3_elect_97 (by decide) ?_
      exact mm_iret cx hM hS hw dX3_elect_101
  · have hw := mm_in hc hw
    refine lv_aload_n hx hb dX3_elect_26 rfl (lv_at hl 0 rfl) ?_
    refine lv_iload_n hx hb dX3_elect_27 rfl (lv_at hl 3 rfl) ?_
    refine C3_isLeft cx hM hS hw ⟨Nat.le_of_ble_eq_true rfl, Nat.le_of_ble_eq_true rfl⟩ (Nat.le_of_ble_eq_true rfl) hl.1 ⟨Nat.zero_le _, Nat.zero_le _⟩ dX3_elect_28 (fun r7 s7 H locs hw hM hS => ?_)
    refine lv_if_eq (tgt := 43) hx hb dX3_elect_31 (by decide) (fun hc => ?_) (fun hc => ?_)
    · have hw := mm_ip hc hw
      refine lv_iconst (v := (0 : Int32)) hx hb dX3_elect_43 (by decide) ?_
      exact B3_elect_44 cx hK19 _ _ _ _ _ hw _ _ _ hM hS (lv_sub hl [0, 1, 2, 3] rfl)
    · have hw := mm_in hc hw
      refine lv_aload_n hx hb dX3_elect_34 rfl (lv_at hl 0 rfl) ?_
      refine mg_38 cx hM dX3_elect_35 ?_
      refine lv_iload_n hx hb dX3_elect_38 rfl (lv_at hl 3 rfl) ?_
      obtain ⟨hi, hw⟩ := hw
      refine mm_iald cx hM 38 rfl rfl hi dX3_elect_39 ?_
      refine lv_goto (tgt := 44) hx hb dX3_elect_40 (by decide) ?_
      exact B3_elect_44 cx hK19 _ _ _ _ _ hw _ _ _ hM hS (lv_sub hl [0, 1, 2, 3] rfl)
theorem L3_elect_19 {l : Launch} {p : Program} {e : Env} {s : State} {m : MethodId} {args : Array Value} {below : List Frame} {meth : Method} {c : Code} {G : mm_G} {Q : Int32 → MS → Prop} (cx : mm_X cX3_elect 5 (some .int) G p s m args meth c) : ∀ (x1 : Int32) (x2 : Int32) (x3 : Int32) (σ : MS), lp4F (w3_elect_19 Q) x1 x2 x3 σ → mm_T p l e ({ frames := 7, cells := 0, slots := 0, locals := 280 } : Room) s m args below meth c G (mm_Qi G Q) 5 19 σ [(0, .ref (mm_o G)), (1, .int x1), (2, .int x2), (3, .int x3)] [] :=
  lp4F_of (fun K hK => B3_elect_19 cx hK)
def w3_elect (x1 : Int32) (σ : MS) (Q : Int32 → MS → Prop) : Prop :=
  w3_in x1 (0 : Int32) (1 : Int32) σ (fun r8 s8 => if r8 = 0 then (Q (-1 : Int32) s8) else (w3_laysWins s8 (fun s9 => lp4F (w3_elect_19 Q) x1 (0 : Int32) (0 : Int32) s9)))
set_option maxHeartbeats 4000000 in
theorem M3_elect (l : Launch) (G : mm_G) (x1 : Int32) (σ : MS) (Q : Int32 → MS → Prop) (hw : w3_elect x1 σ Q) : mm_Mi l yX3_elect (ws_ yX3_elect cX3_elect 5 (some .int)) ({ frames := 7, cells := 0, slots := 0, locals := 280 } : Room) G [.ref (mm_o G), .int x1] σ Q := by
  refine mm_of (by decide) rfl ?_
  intro p e s m args below meth c cx hM ha
  refine mm_entry [.ref (mm_o G), .int x1] 5 [(0, .ref (mm_o G)), (1, .int x1)] ha (Nat.le_of_ble_eq_true rfl) rfl (fun ls hl => ?_)
  have hS : va_S (mm_A G) s.heap s.heap [] := va_S.rf
  unfold w3_elect at hw
  obtain ⟨hx, hb, hml, hown, hts, hr, hlk, hMK, hZ⟩ := id cx
  refine lv_iload_n hx hb dX3_elect_0 rfl (lv_at hl 1 rfl) ?_
  refine lv_iconst (v := (0 : Int32)) hx hb dX3_elect_1 (by decide) ?_
  refine lv_iconst (v := (1 : Int32)) hx hb dX3_elect_2 (by decide) ?_
  refine C3_in cx hM hS hw ⟨Nat.le_of_ble_eq_true rfl, Nat.le_of_ble_eq_true rfl⟩ (Nat.le_of_ble_eq_true rfl) hl.1 ⟨Nat.zero_le _, Nat.zero_le _⟩ dX3_elect_3 (fun r8 s8 H locs hw hM hS => ?_)
  refine lv_if_ne (tgt := 11) hx hb dX3_elect_6 (by decide) (fun hc => ?_) (fun hc => ?_)
  · have hw := mm_in hc hw
    refine lv_aload_n hx hb dX3_elect_11 rfl (lv_at hl 0 rfl) ?_
    refine C3_laysWins cx hM hS hw ⟨Nat.le_of_ble_eq_true rfl, Nat.le_of_ble_eq_true rfl⟩ (Nat.le_of_ble_eq_true rfl) hl.1 ⟨Nat.zero_le _, Nat.zero_le _⟩ dX3_elect_12 (fun s9 H locs hw hM hS => ?_)
    refine lv_iconst (v := (0 : Int32)) hx hb dX3_elect_15 (by decide) ?_
    refine lv_istore_n (lv' := [(2, .int (0 : Int32)), (0, .ref (mm_o G)), (1, .int x1)]) hx hb dX3_elect_16 rfl hl (by decide) rfl (fun ls hl => ?_)
    refine lv_iconst (v := (0 : Int32)) hx hb dX3_elect_17 (by decide) ?_
    refine lv_istore_n (lv' := [(3, .int (0 : Int32)), (2, .int (0 : Int32)), (0, .ref (mm_o G)), (1, .int x1)]) hx hb dX3_elect_18 rfl hl (by decide) rfl (fun ls hl => ?_)
    exact L3_elect_19 cx _ _ _ _ hw _ _ _ hM hS (lv_sub hl [2, 3, 1, 0] rfl)
  · have hw := mm_ip hc hw
    refine lv_iconst (v := (-1 : Int32)) hx hb dX3_elect_9 (by decide) ?_
    exact mm_iret cx hM hS hw dX3_elect_10
-- no call of elect
def w3_ask_185 (d : Nat) (Q : Int32 → MS → Prop) (K94 : Int32 → Int64 → Int64 → Int32 → MS → Prop) (x1 : Int32) (x2 : Int64) (x6 : Int32) (t0 : Int64) (t1 : Int64) (σ : MS) : Prop :=
  ∀ v1 : Int64, v1 = (t0 + t1) → ∀ v2 : Int32, v2 = x6 + (1 : Int32) → K94 x1 x2 v1 v2 σ
set_option maxHeartbeats 4000000 in
theorem B3_ask_185 {l : Launch} {p : Program} {e : Env} {s : State} {m : MethodId} {args : Array Value} {below : List Frame} {meth : Method} {c : Code} {G : mm_G} {Q : Int32 → MS → Prop} {K94 : Int32 → Int64 → Int64 → Int32 → MS → Prop} (d : Nat) (cx : mm_X cX3_ask 8 (some .int) G p s m args meth c) (hK94 : ∀ (x1 : Int32) (x2 : Int64) (x4 : Int64) (x6 : Int32) (σ : MS), K94 x1 x2 x4 x6 σ → mm_T p l e ({ frames := 17 + 4 * d, cells := 0, slots := 0, locals := 40 * (17 + 4 * d) } : Room) s m args below meth c G (mm_Qi G Q) 8 94 σ [(0, .ref (mm_o G)), (1, .int x1), (2, .long x2), (4, .long x4), (6, .int x6)] []) : ∀ (x1 : Int32) (x2 : Int64) (x6 : Int32) (t0 : Int64) (t1 : Int64) (σ : MS), w3_ask_185 d Q K94 x1 x2 x6 t0 t1 σ → mm_T p l e ({ frames := 17 + 4 * d, cells := 0, slots := 0, locals := 40 * (17 + 4 * d) } : Room) s m args below meth c G (mm_Qi G Q) 8 185 σ [(0, .ref (mm_o G)), (1, .int x1), (2, .long x2), (6, .int x6)] [.long t1, .long t0] := by
  intro x1 x2 x6 t0 t1 σ hw H locs ls hM hS hl
  unfold w3_ask_185 at hw
  obtain ⟨hx, hb, hml, hown, hts, hr, hlk, hMK, hZ⟩ := id cx
  refine lv_ladd hx hb dX3_ask_185 ?_
  refine lv_topl (fun v1 hv1 => ?_)
  have hw := hw v1 hv1
  refine lv_lstore (lv' := [(4, .long v1), (0, .ref (mm_o G)), (1, .int x1), (2, .long x2), (6, .int x6)]) hx hb dX3_ask_186 hl (by decide) rfl (fun ls hl => ?_)
  obtain ⟨v2, hv2⟩ : ∃ v : Int32, v = x6 + (1 : Int32) := ⟨_, rfl⟩
  have hw := hw v2 hv2
  refine lv_iinc (v := v2) (lv' := [(6, .int v2), (4, .long v1), (0, .ref (mm_o G)), (1, .int x1), (2, .long x2)]) hx hb dX3_ask_188 hl (k := 4) rfl (by rw [hv2]; rfl) (by decide) rfl (fun ls hl => ?_)
  refine lv_goto (tgt := 94) hx hb dX3_ask_191 (by decide) ?_
  exact hK94 _ _ _ _ _ hw _ _ _ hM hS (lv_sub hl [2, 3, 4, 1, 0] rfl)
def w3_ask_162 (d : Nat) (Q : Int32 → MS → Prop) (K94 : Int32 → Int64 → Int64 → Int32 → MS → Prop) (x1 : Int32) (x4 : Int64) (x6 : Int32) (t0 : Int64) (t1 : Int64) (σ : MS) : Prop :=
  ∀ v3 : Int64, v3 = (t0 + t1) → w3_isLeft x6 σ (fun r4 s4 => if r4 = 0 then (w3_ask_185 d Q K94 x1 v3 x6 x4 (0 : Int64) s4) else (w3_weight x6 s4 (fun r5 s5 => w3_ask_185 d Q K94 x1 v3 x6 x4 r5 s5)))
set_option maxHeartbeats 4000000 in
theorem B3_ask_162 {l : Launch} {p : Program} {e : Env} {s : State} {m : MethodId} {args : Array Value} {below : List Frame} {meth : Method} {c : Code} {G : mm_G} {Q : Int32 → MS → Prop} {K94 : Int32 → Int64 → Int64 → Int32 → MS → Prop} (d : Nat) (cx : mm_X cX3_ask 8 (some .int) G p s m args meth c) (hK94 : ∀ (x1 : Int32) (x2 : Int64) (x4 : Int64) (x6 : Int32) (σ : MS), K94 x1 x2 x4 x6 σ → mm_T p l e ({ frames := 17 + 4 * d, cells := 0, slots := 0, locals := 40 * (17 + 4 * d) } : Room) s m args below meth c G (mm_Qi G Q) 8 94 σ [(0, .ref (mm_o G)), (1, .int x1), (2, .long x2), (4, .long x4), (6, .int x6)] []) : ∀ (x1 : Int32) (x4 : Int64) (x6 : Int32) (t0 : Int64) (t1 : Int64) (σ : MS), w3_ask_162 d Q K94 x1 x4 x6 t0 t1 σ → mm_T p l e ({ frames := 17 + 4 * d, cells := 0, slots := 0, locals := 40 * (17 + 4 * d) } : Room) s m args below meth c G (mm_Qi G Q) 8 162 σ [(0, .ref (mm_o G)), (1, .int x1), (4, .long x4), (6, .int x6)] [.long t1, .long t0] := by
  intro x1 x4 x6 t0 t1 σ hw H locs ls hM hS hl
  unfold w3_ask_162 at hw
  obtain ⟨hx, hb, hml, hown, hts, hr, hlk, hMK, hZ⟩ := id cx
  refine lv_ladd hx hb dX3_ask_162 ?_
  refine lv_topl (fun v3 hv3 => ?_)
  have hw := hw v3 hv3
  refine lv_lstore_n (lv' := [(2, .long v3), (0, .ref (mm_o G)), (1, .int x1), (4, .long x4), (6, .int x6)]) hx hb dX3_ask_163 rfl hl (by decide) rfl (fun ls hl => ?_)
  refine lv_lload hx hb dX3_ask_164 (lv_at hl 3 rfl) ?_
  refine lv_aload_n hx hb dX3_ask_166 rfl (lv_at hl 1 rfl) ?_
  refine lv_iload hx hb dX3_ask_167 (lv_at hl 4 rfl) ?_
  refine C3_isLeft cx hM hS hw (by constructor <;> dsimp only <;> omega) (Nat.le_of_ble_eq_true rfl) hl.1 ⟨Nat.zero_le _, Nat.zero_le _⟩ dX3_ask_169 (fun r4 s4 H locs hw hM hS => ?_)
  refine lv_if_eq (tgt := 184) hx hb dX3_ask_172 (by decide) (fun hc => ?_) (fun hc => ?_)
  · have hw := mm_ip hc hw
    refine lv_lconst (v := (0 : Int64)) hx hb dX3_ask_184 rfl ?_
    exact B3_ask_185 d cx hK94 _ _ _ _ _ _ hw _ _ _ hM hS (lv_sub hl [1, 2, 0, 4] rfl)
  · have hw := mm_in hc hw
    refine lv_aload_n hx hb dX3_ask_175 rfl (lv_at hl 1 rfl) ?_
    refine lv_iload hx hb dX3_ask_176 (lv_at hl 4 rfl) ?_
    refine C3_weight cx hM hS hw (by constructor <;> dsimp only <;> omega) (Nat.le_of_ble_eq_true rfl) hl.1 ⟨Nat.zero_le _, Nat.zero_le _⟩ dX3_ask_178 (fun r5 s5 H locs hw hM hS => ?_)
    refine lv_goto (tgt := 185) hx hb dX3_ask_181 (by decide) ?_
    exact B3_ask_185 d cx hK94 _ _ _ _ _ _ hw _ _ _ hM hS (lv_sub hl [1, 2, 0, 4] rfl)
def w3_ask_144 (d : Nat) (Q : Int32 → MS → Prop) (K94 : Int32 → Int64 → Int64 → Int32 → MS → Prop) (x2 : Int64) (x4 : Int64) (x6 : Int32) (x7 : Int32) (t0 : Int32) (t1 : Int32) (σ : MS) : Prop :=
  ∀ v6 : Int32, v6 = (t0 + t1) → if x7 = 0 then (w3_ask_162 d Q K94 v6 x4 x6 x2 (0 : Int64) σ) else (w3_weight x6 σ (fun r7 s7 => w3_ask_162 d Q K94 v6 x4 x6 x2 r7 s7))
set_option maxHeartbeats 4000000 in
theorem B3_ask_144 {l : Launch} {p : Program} {e : Env} {s : State} {m : MethodId} {args : Array Value} {below : List Frame} {meth : Method} {c : Code} {G : mm_G} {Q : Int32 → MS → Prop} {K94 : Int32 → Int64 → Int64 → Int32 → MS → Prop} (d : Nat) (cx : mm_X cX3_ask 8 (some .int) G p s m args meth c) (hK94 : ∀ (x1 : Int32) (x2 : Int64) (x4 : Int64) (x6 : Int32) (σ : MS), K94 x1 x2 x4 x6 σ → mm_T p l e ({ frames := 17 + 4 * d, cells := 0, slots := 0, locals := 40 * (17 + 4 * d) } : Room) s m args below meth c G (mm_Qi G Q) 8 94 σ [(0, .ref (mm_o G)), (1, .int x1), (2, .long x2), (4, .long x4), (6, .int x6)] []) : ∀ (x2 : Int64) (x4 : Int64) (x6 : Int32) (x7 : Int32) (t0 : Int32) (t1 : Int32) (σ : MS), w3_ask_144 d Q K94 x2 x4 x6 x7 t0 t1 σ → mm_T p l e ({ frames := 17 + 4 * d, cells := 0, slots := 0, locals := 40 * (17 + 4 * d) } : Room) s m args below meth c G (mm_Qi G Q) 8 144 σ [(0, .ref (mm_o G)), (2, .long x2), (4, .long x4), (6, .int x6), (7, .int x7)] [.int t1, .int t0] := by
  intro x2 x4 x6 x7 t0 t1 σ hw H locs ls hM hS hl
  unfold w3_ask_144 at hw
  obtain ⟨hx, hb, hml, hown, hts, hr, hlk, hMK, hZ⟩ := id cx
  refine lv_iadd hx hb dX3_ask_144 ?_
  refine lv_topi (fun v6 hv6 => ?_)
  have hw := hw v6 hv6
  refine lv_istore_n (lv' := [(1, .int v6), (0, .ref (mm_o G)), (2, .long x2), (4, .long x4), (6, .int x6), (7, .int x7)]) hx hb dX3_ask_145 rfl hl (by decide) rfl (fun ls hl => ?_)
  refine lv_lload_n hx hb dX3_ask_146 rfl (lv_at hl 2 rfl) ?_
  refine lv_iload hx hb dX3_ask_147 (lv_at hl 5 rfl) ?_
  refine lv_if_eq (tgt := 161) hx hb dX3_ask_149 (by decide) (fun hc => ?_) (fun hc => ?_)
  · have hw := mm_ip hc hw
    refine lv_lconst (v := (0 : Int64)) hx hb dX3_ask_161 rfl ?_
    exact B3_ask_162 d cx hK94 _ _ _ _ _ _ hw _ _ _ hM hS (lv_sub hl [1, 0, 3, 4] rfl)
  · have hw := mm_in hc hw
    refine lv_aload_n hx hb dX3_ask_152 rfl (lv_at hl 1 rfl) ?_
    refine lv_iload hx hb dX3_ask_153 (lv_at hl 4 rfl) ?_
    refine C3_weight cx hM hS hw (by constructor <;> dsimp only <;> omega) (Nat.le_of_ble_eq_true rfl) hl.1 ⟨Nat.zero_le _, Nat.zero_le _⟩ dX3_ask_155 (fun r7 s7 H locs hw hM hS => ?_)
    refine lv_goto (tgt := 162) hx hb dX3_ask_158 (by decide) ?_
    exact B3_ask_162 d cx hK94 _ _ _ _ _ _ hw _ _ _ hM hS (lv_sub hl [1, 0, 3, 4] rfl)
def w3_ask_131 (d : Nat) (Q : Int32 → MS → Prop) (K94 : Int32 → Int64 → Int64 → Int32 → MS → Prop) (x1 : Int32) (x2 : Int64) (x4 : Int64) (x6 : Int32) (t0 : Int32) (σ : MS) : Prop :=
  if t0 = 0 then (w3_ask_144 d Q K94 x2 x4 x6 t0 x1 (0 : Int32) σ) else (w3_ask_144 d Q K94 x2 x4 x6 t0 x1 (1 : Int32) σ)
set_option maxHeartbeats 4000000 in
theorem B3_ask_131 {l : Launch} {p : Program} {e : Env} {s : State} {m : MethodId} {args : Array Value} {below : List Frame} {meth : Method} {c : Code} {G : mm_G} {Q : Int32 → MS → Prop} {K94 : Int32 → Int64 → Int64 → Int32 → MS → Prop} (d : Nat) (cx : mm_X cX3_ask 8 (some .int) G p s m args meth c) (hK94 : ∀ (x1 : Int32) (x2 : Int64) (x4 : Int64) (x6 : Int32) (σ : MS), K94 x1 x2 x4 x6 σ → mm_T p l e ({ frames := 17 + 4 * d, cells := 0, slots := 0, locals := 40 * (17 + 4 * d) } : Room) s m args below meth c G (mm_Qi G Q) 8 94 σ [(0, .ref (mm_o G)), (1, .int x1), (2, .long x2), (4, .long x4), (6, .int x6)] []) : ∀ (x1 : Int32) (x2 : Int64) (x4 : Int64) (x6 : Int32) (t0 : Int32) (σ : MS), w3_ask_131 d Q K94 x1 x2 x4 x6 t0 σ → mm_T p l e ({ frames := 17 + 4 * d, cells := 0, slots := 0, locals := 40 * (17 + 4 * d) } : Room) s m args below meth c G (mm_Qi G Q) 8 131 σ [(0, .ref (mm_o G)), (1, .int x1), (2, .long x2), (4, .long x4), (6, .int x6)] [.int t0] := by
  intro x1 x2 x4 x6 t0 σ hw H locs ls hM hS hl
  unfold w3_ask_131 at hw
  obtain ⟨hx, hb, hml, hown, hts, hr, hlk, hMK, hZ⟩ := id cx
  refine lv_istore (lv' := [(7, .int t0), (0, .ref (mm_o G)), (1, .int x1), (2, .long x2), (4, .long x4), (6, .int x6)]) hx hb dX3_ask_131 hl (by decide) rfl (fun ls hl => ?_)
  refine lv_iload_n hx hb dX3_ask_133 rfl (lv_at hl 2 rfl) ?_
  refine lv_iload hx hb dX3_ask_134 (lv_at hl 0 rfl) ?_
  refine lv_if_eq (tgt := 143) hx hb dX3_ask_136 (by decide) (fun hc => ?_) (fun hc => ?_)
  · have hw := mm_ip hc hw
    refine lv_iconst (v := (0 : Int32)) hx hb dX3_ask_143 (by decide) ?_
    exact B3_ask_144 d cx hK94 _ _ _ _ _ _ _ hw _ _ _ hM hS (lv_sub hl [1, 3, 4, 5, 0] rfl)
  · have hw := mm_in hc hw
    refine lv_iconst (v := (1 : Int32)) hx hb dX3_ask_139 (by decide) ?_
    refine lv_goto (tgt := 144) hx hb dX3_ask_140 (by decide) ?_
    exact B3_ask_144 d cx hK94 _ _ _ _ _ _ _ hw _ _ _ hM hS (lv_sub hl [1, 3, 4, 5, 0] rfl)
def w3_ask_130 (d : Nat) (Q : Int32 → MS → Prop) (K94 : Int32 → Int64 → Int64 → Int32 → MS → Prop) (x1 : Int32) (x2 : Int64) (x4 : Int64) (x6 : Int32) (σ : MS) : Prop :=
  w3_ask_131 d Q K94 x1 x2 x4 x6 (0 : Int32) σ
set_option maxHeartbeats 4000000 in
theorem B3_ask_130 {l : Launch} {p : Program} {e : Env} {s : State} {m : MethodId} {args : Array Value} {below : List Frame} {meth : Method} {c : Code} {G : mm_G} {Q : Int32 → MS → Prop} {K94 : Int32 → Int64 → Int64 → Int32 → MS → Prop} (d : Nat) (cx : mm_X cX3_ask 8 (some .int) G p s m args meth c) (hK94 : ∀ (x1 : Int32) (x2 : Int64) (x4 : Int64) (x6 : Int32) (σ : MS), K94 x1 x2 x4 x6 σ → mm_T p l e ({ frames := 17 + 4 * d, cells := 0, slots := 0, locals := 40 * (17 + 4 * d) } : Room) s m args below meth c G (mm_Qi G Q) 8 94 σ [(0, .ref (mm_o G)), (1, .int x1), (2, .long x2), (4, .long x4), (6, .int x6)] []) : ∀ (x1 : Int32) (x2 : Int64) (x4 : Int64) (x6 : Int32) (σ : MS), w3_ask_130 d Q K94 x1 x2 x4 x6 σ → mm_T p l e ({ frames := 17 + 4 * d, cells := 0, slots := 0, locals := 40 * (17 + 4 * d) } : Room) s m args below meth c G (mm_Qi G Q) 8 130 σ [(0, .ref (mm_o G)), (1, .int x1), (2, .long x2), (4, .long x4), (6, .int x6)] [] := by
  intro x1 x2 x4 x6 σ hw H locs ls hM hS hl
  unfold w3_ask_130 at hw
  obtain ⟨hx, hb, hml, hown, hts, hr, hlk, hMK, hZ⟩ := id cx
  refine lv_iconst (v := (0 : Int32)) hx hb dX3_ask_130 (by decide) ?_
  exact B3_ask_131 d cx hK94 _ _ _ _ _ _ hw _ _ _ hM hS (lv_sub hl [0, 1, 2, 3, 4] rfl)
def w3_ask_94 (d : Nat) (Q : Int32 → MS → Prop) (K94 : Int32 → Int64 → Int64 → Int32 → MS → Prop) (x1 : Int32) (x2 : Int64) (x4 : Int64) (x6 : Int32) (σ : MS) : Prop :=
  if (256 : Int32) ≤ x6 then (w3_tellsBy x2 x4 σ (fun s8 => if x1 = 0 then (Q (0 : Int32) (sL (sL (sI s8 39 (1 : Int32)) 40 (gL (sI s8 39 (1 : Int32)) 36)) 41 (gL (sL (sI s8 39 (1 : Int32)) 40 (gL (sI s8 39 (1 : Int32)) 36)) 37))) else (w3_many 27 (sL (sL (sI s8 39 (1 : Int32)) 40 (gL (sI s8 39 (1 : Int32)) 36)) 41 (gL (sL (sI s8 39 (1 : Int32)) 40 (gL (sI s8 39 (1 : Int32)) 36)) 37)) (fun r9 s9 => if x1 = r9 then (Q (1 : Int32) s9) else (Q (2 : Int32) s9))))) else (w3_isLeft x6 σ (fun r10 s10 => if r10 = 0 then (w3_ask_130 d Q K94 x1 x2 x4 x6 s10) else (w3_holds 1 (0 : Int32) x6 s10 (fun r11 s11 => if r11 = (1 : Int32) then (w3_ask_131 d Q K94 x1 x2 x4 x6 (1 : Int32) s11) else (w3_ask_130 d Q K94 x1 x2 x4 x6 s11)))))
set_option maxHeartbeats 4000000 in
theorem B3_ask_94 {l : Launch} {p : Program} {e : Env} {s : State} {m : MethodId} {args : Array Value} {below : List Frame} {meth : Method} {c : Code} {G : mm_G} {Q : Int32 → MS → Prop} {K94 : Int32 → Int64 → Int64 → Int32 → MS → Prop} (d : Nat) (cx : mm_X cX3_ask 8 (some .int) G p s m args meth c) (hK94 : ∀ (x1 : Int32) (x2 : Int64) (x4 : Int64) (x6 : Int32) (σ : MS), K94 x1 x2 x4 x6 σ → mm_T p l e ({ frames := 17 + 4 * d, cells := 0, slots := 0, locals := 40 * (17 + 4 * d) } : Room) s m args below meth c G (mm_Qi G Q) 8 94 σ [(0, .ref (mm_o G)), (1, .int x1), (2, .long x2), (4, .long x4), (6, .int x6)] []) : ∀ (x1 : Int32) (x2 : Int64) (x4 : Int64) (x6 : Int32) (σ : MS), w3_ask_94 d Q K94 x1 x2 x4 x6 σ → mm_T p l e ({ frames := 17 + 4 * d, cells := 0, slots := 0, locals := 40 * (17 + 4 * d) } : Room) s m args below meth c G (mm_Qi G Q) 8 94 σ [(0, .ref (mm_o G)), (1, .int x1), (2, .long x2), (4, .long x4), (6, .int x6)] [] := by
  intro x1 x2 x4 x6 σ hw H locs ls hM hS hl
  unfold w3_ask_94 at hw
  obtain ⟨hx, hb, hml, hown, hts, hr, hlk, hMK, hZ⟩ := id cx
  refine lv_iload hx hb dX3_ask_94 (lv_at hl 4 rfl) ?_
  refine lv_sipush (v := (256 : Int32)) hx hb dX3_ask_96 (by decide) ?_
  refine lv_icmp_ge (tgt := 194) hx hb dX3_ask_99 (by decide) (fun hc => ?_) (fun hc => ?_)
  · have hw := mm_ip hc hw
    refine lv_aload_n hx hb dX3_ask_194 rfl (lv_at hl 0 rfl) ?_
    refine lv_lload_n hx hb dX3_ask_195 rfl (lv_at hl 2 rfl) ?_
    refine lv_lload hx hb dX3_ask_196 (lv_at hl 3 rfl) ?_
    refine C3_tellsBy cx hM hS hw (by constructor <;> dsimp only <;> omega) (Nat.le_of_ble_eq_true rfl) hl.1 ⟨Nat.zero_le _, Nat.zero_le _⟩ dX3_ask_198 (fun s8 H locs hw hM hS => ?_)
    refine lv_aload_n hx hb dX3_ask_201 rfl (lv_at hl 0 rfl) ?_
    refine lv_iconst (v := (1 : Int32)) hx hb dX3_ask_202 (by decide) ?_
    refine mp_39 cx hM hS (Or.inr rfl) dX3_ask_203 (fun H locs hM hS => ?_)
    refine lv_aload_n hx hb dX3_ask_206 rfl (lv_at hl 0 rfl) ?_
    refine lv_aload_n hx hb dX3_ask_207 rfl (lv_at hl 0 rfl) ?_
    refine mg_36 cx hM dX3_ask_208 ?_
    refine mp_40 cx hM hS dX3_ask_211 (fun H locs hM hS => ?_)
    refine lv_aload_n hx hb dX3_ask_214 rfl (lv_at hl 0 rfl) ?_
    refine lv_aload_n hx hb dX3_ask_215 rfl (lv_at hl 0 rfl) ?_
    refine mg_37 cx hM dX3_ask_216 ?_
    refine mp_41 cx hM hS dX3_ask_219 (fun H locs hM hS => ?_)
    refine lv_iload_n hx hb dX3_ask_222 rfl (lv_at hl 1 rfl) ?_
    refine lv_if_ne (tgt := 230) hx hb dX3_ask_223 (by decide) (fun hc => ?_) (fun hc => ?_)
    · have hw := mm_in hc hw
      refine lv_iload_n hx hb dX3_ask_230 rfl (lv_at hl 1 rfl) ?_
      refine lv_aload_n hx hb dX3_ask_231 rfl (lv_at hl 0 rfl) ?_
      refine mg_27 cx hM dX3_ask_232 ?_
      refine C3_many cx hM hS hw (by constructor <;> dsimp only <;> omega) (Nat.le_of_ble_eq_true rfl) hl.1 ⟨Nat.zero_le _, Nat.zero_le _⟩ dX3_ask_235 (fun r9 s9 H locs hw hM hS => ?_)
      refine lv_icmp_ne (tgt := 245) hx hb dX3_ask_238 (by decide) (fun hc => ?_) (fun hc => ?_)
      · have hw := mm_in hc hw
        refine lv_iconst (v := (2 : Int32)) hx hb dX3_ask_245 (by decide) ?_
        exact mm_iret cx hM hS hw dX3_ask_246
      · have hw := mm_ip hc hw
        refine lv_iconst (v := (1 : Int32)) hx hb dX3_ask_241 (by decide) ?_
        refine lv_goto (tgt := 246) hx hb dX3_ask_242 (by decide) ?_
        exact mm_iret cx hM hS hw dX3_ask_246
    · have hw := mm_ip hc hw
      refine lv_iconst (v := (0 : Int32)) hx hb dX3_ask_226 (by decide) ?_
      refine lv_goto (tgt := 246) hx hb dX3_ask_227 (by decide) ?_
      exact mm_iret cx hM hS hw dX3_ask_246
  · have hw := mm_in hc hw
    refine lv_aload_n hx hb dX3_ask_102 rfl (lv_at hl 0 rfl) ?_
    refine lv_iload hx hb dX3_ask_103 (lv_at hl 4 rfl) ?_
    refine C3_isLeft cx hM hS hw (by constructor <;> dsimp only <;> omega) (Nat.le_of_ble_eq_true rfl) hl.1 ⟨Nat.zero_le _, Nat.zero_le _⟩ dX3_ask_105 (fun r10 s10 H locs hw hM hS => ?_)
    refine lv_if_eq (tgt := 130) hx hb dX3_ask_108 (by decide) (fun hc => ?_) (fun hc => ?_)
    · have hw := mm_ip hc hw
      exact B3_ask_130 d cx hK94 _ _ _ _ _ hw _ _ _ hM hS (lv_sub hl [0, 1, 2, 3, 4] rfl)
    · have hw := mm_in hc hw
      refine lv_aload_n hx hb dX3_ask_111 rfl (lv_at hl 0 rfl) ?_
      refine lv_aload_n hx hb dX3_ask_112 rfl (lv_at hl 0 rfl) ?_
      refine mg_1 cx hM dX3_ask_113 ?_
      refine lv_iconst (v := (0 : Int32)) hx hb dX3_ask_116 (by decide) ?_
      refine lv_iload hx hb dX3_ask_117 (lv_at hl 4 rfl) ?_
      refine C3_holds cx hM hS hw (by constructor <;> dsimp only <;> omega) (Nat.le_of_ble_eq_true rfl) hl.1 ⟨Nat.zero_le _, Nat.zero_le _⟩ dX3_ask_119 (fun r11 s11 H locs hw hM hS => ?_)
      refine lv_iconst (v := (1 : Int32)) hx hb dX3_ask_122 (by decide) ?_
      refine lv_icmp_ne (tgt := 130) hx hb dX3_ask_123 (by decide) (fun hc => ?_) (fun hc => ?_)
      · have hw := mm_in hc hw
        exact B3_ask_130 d cx hK94 _ _ _ _ _ hw _ _ _ hM hS (lv_sub hl [0, 1, 2, 3, 4] rfl)
      · have hw := mm_ip hc hw
        refine lv_iconst (v := (1 : Int32)) hx hb dX3_ask_126 (by decide) ?_
        refine lv_goto (tgt := 131) hx hb dX3_ask_127 (by decide) ?_
        exact B3_ask_131 d cx hK94 _ _ _ _ _ _ hw _ _ _ hM hS (lv_sub hl [0, 1, 2, 3, 4] rfl)
theorem L3_ask_94 {l : Launch} {p : Program} {e : Env} {s : State} {m : MethodId} {args : Array Value} {below : List Frame} {meth : Method} {c : Code} {G : mm_G} {Q : Int32 → MS → Prop} (d : Nat) (cx : mm_X cX3_ask 8 (some .int) G p s m args meth c) : ∀ (x1 : Int32) (x2 : Int64) (x4 : Int64) (x6 : Int32) (σ : MS), lp5F (w3_ask_94 d Q) x1 x2 x4 x6 σ → mm_T p l e ({ frames := 17 + 4 * d, cells := 0, slots := 0, locals := 40 * (17 + 4 * d) } : Room) s m args below meth c G (mm_Qi G Q) 8 94 σ [(0, .ref (mm_o G)), (1, .int x1), (2, .long x2), (4, .long x4), (6, .int x6)] [] :=
  lp5F_of (fun K hK => B3_ask_94 d cx hK)
def w3_ask_75 (d : Nat) (Q : Int32 → MS → Prop) (σ : MS) : Prop :=
  w3_isRead σ (fun r12 s12 => if r12 = 0 then (Q (-1 : Int32) s12) else (lp5F (w3_ask_94 d Q) (0 : Int32) (0 : Int64) (0 : Int64) (0 : Int32) s12))
set_option maxHeartbeats 4000000 in
theorem B3_ask_75 {l : Launch} {p : Program} {e : Env} {s : State} {m : MethodId} {args : Array Value} {below : List Frame} {meth : Method} {c : Code} {G : mm_G} {Q : Int32 → MS → Prop} (d : Nat) (cx : mm_X cX3_ask 8 (some .int) G p s m args meth c) : ∀ (σ : MS), w3_ask_75 d Q σ → mm_T p l e ({ frames := 17 + 4 * d, cells := 0, slots := 0, locals := 40 * (17 + 4 * d) } : Room) s m args below meth c G (mm_Qi G Q) 8 75 σ [(0, .ref (mm_o G))] [] := by
  intro σ hw H locs ls hM hS hl
  unfold w3_ask_75 at hw
  obtain ⟨hx, hb, hml, hown, hts, hr, hlk, hMK, hZ⟩ := id cx
  refine lv_aload_n hx hb dX3_ask_75 rfl (lv_at hl 0 rfl) ?_
  refine C3_isRead cx hM hS hw (by constructor <;> dsimp only <;> omega) (Nat.le_of_ble_eq_true rfl) hl.1 ⟨Nat.zero_le _, Nat.zero_le _⟩ dX3_ask_76 (fun r12 s12 H locs hw hM hS => ?_)
  refine lv_if_ne (tgt := 84) hx hb dX3_ask_79 (by decide) (fun hc => ?_) (fun hc => ?_)
  · have hw := mm_in hc hw
    refine lv_iconst (v := (0 : Int32)) hx hb dX3_ask_84 (by decide) ?_
    refine lv_istore_n (lv' := [(1, .int (0 : Int32)), (0, .ref (mm_o G))]) hx hb dX3_ask_85 rfl hl (by decide) rfl (fun ls hl => ?_)
    refine lv_lconst (v := (0 : Int64)) hx hb dX3_ask_86 rfl ?_
    refine lv_lstore_n (lv' := [(2, .long (0 : Int64)), (1, .int (0 : Int32)), (0, .ref (mm_o G))]) hx hb dX3_ask_87 rfl hl (by decide) rfl (fun ls hl => ?_)
    refine lv_lconst (v := (0 : Int64)) hx hb dX3_ask_88 rfl ?_
    refine lv_lstore (lv' := [(4, .long (0 : Int64)), (2, .long (0 : Int64)), (1, .int (0 : Int32)), (0, .ref (mm_o G))]) hx hb dX3_ask_89 hl (by decide) rfl (fun ls hl => ?_)
    refine lv_iconst (v := (0 : Int32)) hx hb dX3_ask_91 (by decide) ?_
    refine lv_istore (lv' := [(6, .int (0 : Int32)), (4, .long (0 : Int64)), (2, .long (0 : Int64)), (1, .int (0 : Int32)), (0, .ref (mm_o G))]) hx hb dX3_ask_92 hl (by decide) rfl (fun ls hl => ?_)
    exact L3_ask_94 d cx _ _ _ _ _ hw _ _ _ hM hS (lv_sub hl [4, 3, 2, 1, 0] rfl)
  · have hw := mm_ip hc hw
    refine lv_iconst (v := (-1 : Int32)) hx hb dX3_ask_82 (by decide) ?_
    exact mm_iret cx hM hS hw dX3_ask_83
def w3_ask_34 (d : Nat) (Q : Int32 → MS → Prop) (K34 : Int32 → MS → Prop) (x1 : Int32) (σ : MS) : Prop :=
  if (8 : Int32) ≤ x1 then (w3_expr d σ (fun r13 s13 => if (gI s13 14) = 0 then (w3_ask_75 d Q s13) else (w3_wrong (1 : Int32) s13 (fun s14 => w3_ask_75 d Q s14)))) else (vp_in x1 13 ∧ (vp_in x1 13 ∧ (∀ v15 : Int32, v15 = x1 + (1 : Int32) → K34 v15 (sB σ 3 x1.toNatClampNeg (gB σ 2 x1.toNatClampNeg)))))
set_option maxHeartbeats 4000000 in
theorem B3_ask_34 {l : Launch} {p : Program} {e : Env} {s : State} {m : MethodId} {args : Array Value} {below : List Frame} {meth : Method} {c : Code} {G : mm_G} {Q : Int32 → MS → Prop} {K34 : Int32 → MS → Prop} (d : Nat) (cx : mm_X cX3_ask 8 (some .int) G p s m args meth c) (hK34 : ∀ (x1 : Int32) (σ : MS), K34 x1 σ → mm_T p l e ({ frames := 17 + 4 * d, cells := 0, slots := 0, locals := 40 * (17 + 4 * d) } : Room) s m args below meth c G (mm_Qi G Q) 8 34 σ [(0, .ref (mm_o G)), (1, .int x1)] []) : ∀ (x1 : Int32) (σ : MS), w3_ask_34 d Q K34 x1 σ → mm_T p l e ({ frames := 17 + 4 * d, cells := 0, slots := 0, locals := 40 * (17 + 4 * d) } : Room) s m args below meth c G (mm_Qi G Q) 8 34 σ [(0, .ref (mm_o G)), (1, .int x1)] [] := by
  intro x1 σ hw H locs ls hM hS hl
  unfold w3_ask_34 at hw
  obtain ⟨hx, hb, hml, hown, hts, hr, hlk, hMK, hZ⟩ := id cx
  refine lv_iload_n hx hb dX3_ask_34 rfl (lv_at hl 1 rfl) ?_
  refine lv_bipush (v := (8 : Int32)) hx hb dX3_ask_35 (by decide) ?_
  refine lv_icmp_ge (tgt := 58) hx hb dX3_ask_37 (by decide) (fun hc => ?_) (fun hc => ?_)
  · have hw := mm_ip hc hw
    refine lv_aload_n hx hb dX3_ask_58 rfl (lv_at hl 0 rfl) ?_
    refine C3_expr d cx hM hS hw (by constructor <;> dsimp only <;> omega) (Nat.le_of_ble_eq_true rfl) hl.1 ⟨Nat.zero_le _, Nat.zero_le _⟩ dX3_ask_59 (fun r13 s13 H locs hw hM hS => ?_)
    refine lv_pop hx hb dX3_ask_62 rfl ?_
    refine lv_aload_n hx hb dX3_ask_63 rfl (lv_at hl 0 rfl) ?_
    refine mg_14 cx hM dX3_ask_64 ?_
    refine lv_if_eq (tgt := 75) hx hb dX3_ask_67 (by decide) (fun hc => ?_) (fun hc => ?_)
    · have hw := mm_ip hc hw
      exact B3_ask_75 d cx _ hw _ _ _ hM hS (lv_sub hl [0] rfl)
    · have hw := mm_in hc hw
      refine lv_aload_n hx hb dX3_ask_70 rfl (lv_at hl 0 rfl) ?_
      refine lv_iconst (v := (1 : Int32)) hx hb dX3_ask_71 (by decide) ?_
      refine C3_wrong cx hM hS hw (by constructor <;> dsimp only <;> omega) (Nat.le_of_ble_eq_true rfl) hl.1 ⟨Nat.zero_le _, Nat.zero_le _⟩ dX3_ask_72 (fun s14 H locs hw hM hS => ?_)
      exact B3_ask_75 d cx _ hw _ _ _ hM hS (lv_sub hl [0] rfl)
  · have hw := mm_in hc hw
    refine lv_aload_n hx hb dX3_ask_40 rfl (lv_at hl 0 rfl) ?_
    refine mg_3 cx hM dX3_ask_41 ?_
    refine lv_iload_n hx hb dX3_ask_44 rfl (lv_at hl 1 rfl) ?_
    refine lv_aload_n hx hb dX3_ask_45 rfl (lv_at hl 0 rfl) ?_
    refine mg_2 cx hM dX3_ask_46 ?_
    refine lv_iload_n hx hb dX3_ask_49 rfl (lv_at hl 1 rfl) ?_
    obtain ⟨hi, hw⟩ := hw
    refine mm_lald cx hM 2 (Or.inl rfl) hi dX3_ask_50 ?_
    obtain ⟨hi, hw⟩ := hw
    refine mm_last cx hM hS 3 (Or.inr rfl) hi dX3_ask_51 (fun H locs hM hS => ?_)
    obtain ⟨v15, hv15⟩ : ∃ v : Int32, v = x1 + (1 : Int32) := ⟨_, rfl⟩
    have hw := hw v15 hv15
    refine lv_iinc (v := v15) (lv' := [(1, .int v15), (0, .ref (mm_o G))]) hx hb dX3_ask_52 hl (k := 1) rfl (by rw [hv15]; rfl) (by decide) rfl (fun ls hl => ?_)
    refine lv_goto (tgt := 34) hx hb dX3_ask_55 (by decide) ?_
    exact hK34 _ _ hw _ _ _ hM hS (lv_sub hl [1, 0] rfl)
theorem L3_ask_34 {l : Launch} {p : Program} {e : Env} {s : State} {m : MethodId} {args : Array Value} {below : List Frame} {meth : Method} {c : Code} {G : mm_G} {Q : Int32 → MS → Prop} (d : Nat) (cx : mm_X cX3_ask 8 (some .int) G p s m args meth c) : ∀ (x1 : Int32) (σ : MS), lp2F (w3_ask_34 d Q) x1 σ → mm_T p l e ({ frames := 17 + 4 * d, cells := 0, slots := 0, locals := 40 * (17 + 4 * d) } : Room) s m args below meth c G (mm_Qi G Q) 8 34 σ [(0, .ref (mm_o G)), (1, .int x1)] [] :=
  lp2F_of (fun K hK => B3_ask_34 d cx hK)
def w3_ask (d : Nat) (σ : MS) (Q : Int32 → MS → Prop) : Prop :=
  w3_takes σ (fun s16 => lp2F (w3_ask_34 d Q) (0 : Int32) (sA (sA (sA s16 1 1 (gA s16 0 1)) 1 6 (0 : Int32)) 1 7 (0 : Int32)))
set_option maxHeartbeats 4000000 in
theorem M3_ask (l : Launch) (G : mm_G) (d : Nat) (σ : MS) (Q : Int32 → MS → Prop) (hw : w3_ask d σ Q) : mm_Mi l yX3_ask (ws_ yX3_ask cX3_ask 8 (some .int)) ({ frames := 17 + 4 * d, cells := 0, slots := 0, locals := 40 * (17 + 4 * d) } : Room) G [.ref (mm_o G)] σ Q := by
  refine mm_of (by decide) rfl ?_
  intro p e s m args below meth c cx hM ha
  refine mm_entry [.ref (mm_o G)] 8 [(0, .ref (mm_o G))] ha (Nat.le_of_ble_eq_true rfl) rfl (fun ls hl => ?_)
  have hS : va_S (mm_A G) s.heap s.heap [] := va_S.rf
  unfold w3_ask at hw
  obtain ⟨hx, hb, hml, hown, hts, hr, hlk, hMK, hZ⟩ := id cx
  refine lv_aload_n hx hb dX3_ask_0 rfl (lv_at hl 0 rfl) ?_
  refine C3_takes cx hM hS hw (by constructor <;> dsimp only <;> omega) (Nat.le_of_ble_eq_true rfl) hl.1 ⟨Nat.zero_le _, Nat.zero_le _⟩ dX3_ask_1 (fun s16 H locs hw hM hS => ?_)
  refine lv_aload_n hx hb dX3_ask_4 rfl (lv_at hl 0 rfl) ?_
  refine mg_1 cx hM dX3_ask_5 ?_
  refine lv_iconst (v := (1 : Int32)) hx hb dX3_ask_8 (by decide) ?_
  refine lv_aload_n hx hb dX3_ask_9 rfl (lv_at hl 0 rfl) ?_
  refine mg_0 cx hM dX3_ask_10 ?_
  refine lv_iconst (v := (1 : Int32)) hx hb dX3_ask_13 (by decide) ?_
  refine mm_iald cx hM 0 rfl (j := 1) (by decide) (vp_lit (by decide)) dX3_ask_14 ?_
  refine mm_iast cx hM hS 1 rfl (j0 := 1) (by decide) (vp_lit (by decide)) dX3_ask_15 (fun H locs hM hS => ?_)
  refine lv_aload_n hx hb dX3_ask_16 rfl (lv_at hl 0 rfl) ?_
  refine mg_1 cx hM dX3_ask_17 ?_
  refine lv_bipush (v := (6 : Int32)) hx hb dX3_ask_20 (by decide) ?_
  refine lv_iconst (v := (0 : Int32)) hx hb dX3_ask_22 (by decide) ?_
  refine mm_iast cx hM hS 1 rfl (j0 := 6) (by decide) (vp_lit (by decide)) dX3_ask_23 (fun H locs hM hS => ?_)
  refine lv_aload_n hx hb dX3_ask_24 rfl (lv_at hl 0 rfl) ?_
  refine mg_1 cx hM dX3_ask_25 ?_
  refine lv_bipush (v := (7 : Int32)) hx hb dX3_ask_28 (by decide) ?_
  refine lv_iconst (v := (0 : Int32)) hx hb dX3_ask_30 (by decide) ?_
  refine mm_iast cx hM hS 1 rfl (j0 := 7) (by decide) (vp_lit (by decide)) dX3_ask_31 (fun H locs hM hS => ?_)
  refine lv_iconst (v := (0 : Int32)) hx hb dX3_ask_32 (by decide) ?_
  refine lv_istore_n (lv' := [(1, .int (0 : Int32)), (0, .ref (mm_o G))]) hx hb dX3_ask_33 rfl hl (by decide) rfl (fun ls hl => ?_)
  exact L3_ask_34 d cx _ _ hw _ _ _ hM hS (lv_sub hl [1, 0] rfl)
-- no call of ask
def w3_asked_35 (Q : Int32 → MS → Prop) (t0 : Int64) (σ : MS) : Prop :=
  Q ((t0).toInt32) σ
set_option maxHeartbeats 4000000 in
theorem B3_asked_35 {l : Launch} {p : Program} {e : Env} {s : State} {m : MethodId} {args : Array Value} {below : List Frame} {meth : Method} {c : Code} {G : mm_G} {Q : Int32 → MS → Prop} (cx : mm_X cX3_asked 2 (some .int) G p s m args meth c) : ∀ (t0 : Int64) (σ : MS), w3_asked_35 Q t0 σ → mm_T p l e ({ frames := 1, cells := 0, slots := 0, locals := 40 } : Room) s m args below meth c G (mm_Qi G Q) 2 35 σ [(0, .ref (mm_o G))] [.long t0] := by
  intro t0 σ hw H locs ls hM hS hl
  unfold w3_asked_35 at hw
  obtain ⟨hx, hb, hml, hown, hts, hr, hlk, hMK, hZ⟩ := id cx
  refine lv_l2i hx hb dX3_asked_35 rfl ?_
  exact mm_iret cx hM hS hw dX3_asked_36
def w3_asked_16 (Q : Int32 → MS → Prop) (σ : MS) : Prop :=
  Q (-1 : Int32) σ
set_option maxHeartbeats 4000000 in
theorem B3_asked_16 {l : Launch} {p : Program} {e : Env} {s : State} {m : MethodId} {args : Array Value} {below : List Frame} {meth : Method} {c : Code} {G : mm_G} {Q : Int32 → MS → Prop} (cx : mm_X cX3_asked 2 (some .int) G p s m args meth c) : ∀ (σ : MS), w3_asked_16 Q σ → mm_T p l e ({ frames := 1, cells := 0, slots := 0, locals := 40 } : Room) s m args below meth c G (mm_Qi G Q) 2 16 σ [(0, .ref (mm_o G))] [] := by
  intro σ hw H locs ls hM hS hl
  unfold w3_asked_16 at hw
  obtain ⟨hx, hb, hml, hown, hts, hr, hlk, hMK, hZ⟩ := id cx
  refine lv_iconst (v := (-1 : Int32)) hx hb dX3_asked_16 (by decide) ?_
  refine lv_goto (tgt := 36) hx hb dX3_asked_17 (by decide) ?_
  exact mm_iret cx hM hS hw dX3_asked_36
def w3_asked (x1 : Int32) (σ : MS) (Q : Int32 → MS → Prop) : Prop :=
  if (gI σ 39) = 0 then (w3_asked_16 Q σ) else (w3_in x1 (0 : Int32) (1 : Int32) σ (fun r1 s1 => if r1 = 0 then (w3_asked_16 Q s1) else (if x1 = 0 then (w3_asked_35 Q (gL s1 40) s1) else (w3_asked_35 Q (gL s1 41) s1))))
set_option maxHeartbeats 4000000 in
theorem M3_asked (l : Launch) (G : mm_G) (x1 : Int32) (σ : MS) (Q : Int32 → MS → Prop) (hw : w3_asked x1 σ Q) : mm_Mi l yX3_asked (ws_ yX3_asked cX3_asked 2 (some .int)) ({ frames := 1, cells := 0, slots := 0, locals := 40 } : Room) G [.ref (mm_o G), .int x1] σ Q := by
  refine mm_of (by decide) rfl ?_
  intro p e s m args below meth c cx hM ha
  refine mm_entry [.ref (mm_o G), .int x1] 2 [(0, .ref (mm_o G)), (1, .int x1)] ha (Nat.le_of_ble_eq_true rfl) rfl (fun ls hl => ?_)
  have hS : va_S (mm_A G) s.heap s.heap [] := va_S.rf
  unfold w3_asked at hw
  obtain ⟨hx, hb, hml, hown, hts, hr, hlk, hMK, hZ⟩ := id cx
  refine lv_aload_n hx hb dX3_asked_0 rfl (lv_at hl 0 rfl) ?_
  refine mg_39 cx hM dX3_asked_1 ?_
  refine lv_if_eq (tgt := 16) hx hb dX3_asked_4 (by decide) (fun hc => ?_) (fun hc => ?_)
  · have hw := mm_ip hc hw
    exact B3_asked_16 cx _ hw _ _ _ hM hS (lv_sub hl [0] rfl)
  · have hw := mm_in hc hw
    refine lv_iload_n hx hb dX3_asked_7 rfl (lv_at hl 1 rfl) ?_
    refine lv_iconst (v := (0 : Int32)) hx hb dX3_asked_8 (by decide) ?_
    refine lv_iconst (v := (1 : Int32)) hx hb dX3_asked_9 (by decide) ?_
    refine C3_in cx hM hS hw ⟨Nat.le_of_ble_eq_true rfl, Nat.le_of_ble_eq_true rfl⟩ (Nat.le_of_ble_eq_true rfl) hl.1 ⟨Nat.zero_le _, Nat.zero_le _⟩ dX3_asked_10 (fun r1 s1 H locs hw hM hS => ?_)
    refine lv_if_ne (tgt := 20) hx hb dX3_asked_13 (by decide) (fun hc => ?_) (fun hc => ?_)
    · have hw := mm_in hc hw
      refine lv_iload_n hx hb dX3_asked_20 rfl (lv_at hl 1 rfl) ?_
      refine lv_if_ne (tgt := 31) hx hb dX3_asked_21 (by decide) (fun hc => ?_) (fun hc => ?_)
      · have hw := mm_in hc hw
        refine lv_aload_n hx hb dX3_asked_31 rfl (lv_at hl 0 rfl) ?_
        refine mg_41 cx hM dX3_asked_32 ?_
        exact B3_asked_35 cx _ _ hw _ _ _ hM hS (lv_sub hl [0] rfl)
      · have hw := mm_ip hc hw
        refine lv_aload_n hx hb dX3_asked_24 rfl (lv_at hl 0 rfl) ?_
        refine mg_40 cx hM dX3_asked_25 ?_
        refine lv_goto (tgt := 35) hx hb dX3_asked_28 (by decide) ?_
        exact B3_asked_35 cx _ _ hw _ _ _ hM hS (lv_sub hl [0] rfl)
    · have hw := mm_ip hc hw
      exact B3_asked_16 cx _ hw _ _ _ hM hS (lv_sub hl [0] rfl)
-- no call of asked
def w3_count (x1 : Int32) (σ : MS) (Q : Int32 → MS → Prop) : Prop :=
  if x1 = 0 then (Q (gA σ 0 0) σ) else (if x1 = 1 then (Q (gA σ 0 1) σ) else (if x1 = 2 then (Q (gA σ 4 18) σ) else (if x1 = 3 then (w3_standing σ (fun r1 s1 => w3_bits r1 s1 (fun r2 s2 => Q r2 s2))) else (if x1 = 4 then (Q (gA σ 4 17) σ) else (if x1 = 5 then (Q (gA σ 4 16) σ) else (if x1 = 6 then (w3_knownFacts σ (fun r3 s3 => w3_bits r3 s3 (fun r4 s4 => Q r4 s4))) else (if x1 = 7 then (Q (gI σ 8) σ) else (if x1 = 8 then (Q (gI σ 10) σ) else (if x1 = 9 then (Q (gA σ 0 5) σ) else (Q (-1 : Int32) σ))))))))))
set_option maxHeartbeats 4000000 in
theorem M3_count (l : Launch) (G : mm_G) (x1 : Int32) (σ : MS) (Q : Int32 → MS → Prop) (hw : w3_count x1 σ Q) : mm_Mi l yX3_count (ws_ yX3_count cX3_count 2 (some .int)) ({ frames := 6, cells := 0, slots := 0, locals := 240 } : Room) G [.ref (mm_o G), .int x1] σ Q := by
  refine mm_of (by decide) rfl ?_
  intro p e s m args below meth c cx hM ha
  refine mm_entry [.ref (mm_o G), .int x1] 2 [(0, .ref (mm_o G)), (1, .int x1)] ha (Nat.le_of_ble_eq_true rfl) rfl (fun ls hl => ?_)
  have hS : va_S (mm_A G) s.heap s.heap [] := va_S.rf
  unfold w3_count at hw
  obtain ⟨hx, hb, hml, hown, hts, hr, hlk, hMK, hZ⟩ := id cx
  refine lv_iload_n hx hb dX3_count_0 rfl (lv_at hl 1 rfl) ?_
  by_cases hc0 : x1 = 0
  · have hw := mm_ip hc0 hw
    refine lv_tableIn (off := 55) (tgt := 56) hx hb dX3_count_1 (by rw [hc0]; decide) (by rw [hc0]; decide) (by rw [hc0]; decide) (by decide) ?_
    refine lv_aload_n hx hb dX3_count_56 rfl (lv_at hl 0 rfl) ?_
    refine mg_0 cx hM dX3_count_57 ?_
    refine lv_iconst (v := (0 : Int32)) hx hb dX3_count_60 (by decide) ?_
    refine mm_iald cx hM 0 rfl (j := 0) (by decide) (vp_lit (by decide)) dX3_count_61 ?_
    exact mm_iret cx hM hS hw dX3_count_62
  have hw := mm_in hc0 hw
  by_cases hc1 : x1 = 1
  · have hw := mm_ip hc1 hw
    refine lv_tableIn (off := 62) (tgt := 63) hx hb dX3_count_1 (by rw [hc1]; decide) (by rw [hc1]; decide) (by rw [hc1]; decide) (by decide) ?_
    refine lv_aload_n hx hb dX3_count_63 rfl (lv_at hl 0 rfl) ?_
    refine mg_0 cx hM dX3_count_64 ?_
    refine lv_iconst (v := (1 : Int32)) hx hb dX3_count_67 (by decide) ?_
    refine mm_iald cx hM 0 rfl (j := 1) (by decide) (vp_lit (by decide)) dX3_count_68 ?_
    exact mm_iret cx hM hS hw dX3_count_69
  have hw := mm_in hc1 hw
  by_cases hc2 : x1 = 2
  · have hw := mm_ip hc2 hw
    refine lv_tableIn (off := 69) (tgt := 70) hx hb dX3_count_1 (by rw [hc2]; decide) (by rw [hc2]; decide) (by rw [hc2]; decide) (by decide) ?_
    refine lv_aload_n hx hb dX3_count_70 rfl (lv_at hl 0 rfl) ?_
    refine mg_4 cx hM dX3_count_71 ?_
    refine lv_bipush (v := (18 : Int32)) hx hb dX3_count_74 (by decide) ?_
    refine mm_iald cx hM 4 rfl (j := 18) (by decide) (vp_lit (by decide)) dX3_count_76 ?_
    exact mm_iret cx hM hS hw dX3_count_77
  have hw := mm_in hc2 hw
  by_cases hc3 : x1 = 3
  · have hw := mm_ip hc3 hw
    refine lv_tableIn (off := 77) (tgt := 78) hx hb dX3_count_1 (by rw [hc3]; decide) (by rw [hc3]; decide) (by rw [hc3]; decide) (by decide) ?_
    refine lv_aload_n hx hb dX3_count_78 rfl (lv_at hl 0 rfl) ?_
    refine C3_standing cx hM hS hw ⟨Nat.le_of_ble_eq_true rfl, Nat.le_of_ble_eq_true rfl⟩ (Nat.le_of_ble_eq_true rfl) hl.1 ⟨Nat.zero_le _, Nat.zero_le _⟩ dX3_count_79 (fun r1 s1 H locs hw hM hS => ?_)
    refine C3_bits cx hM hS hw ⟨Nat.le_of_ble_eq_true rfl, Nat.le_of_ble_eq_true rfl⟩ (Nat.le_of_ble_eq_true rfl) hl.1 ⟨Nat.zero_le _, Nat.zero_le _⟩ dX3_count_82 (fun r2 s2 H locs hw hM hS => ?_)
    exact mm_iret cx hM hS hw dX3_count_85
  have hw := mm_in hc3 hw
  by_cases hc4 : x1 = 4
  · have hw := mm_ip hc4 hw
    refine lv_tableIn (off := 85) (tgt := 86) hx hb dX3_count_1 (by rw [hc4]; decide) (by rw [hc4]; decide) (by rw [hc4]; decide) (by decide) ?_
    refine lv_aload_n hx hb dX3_count_86 rfl (lv_at hl 0 rfl) ?_
    refine mg_4 cx hM dX3_count_87 ?_
    refine lv_bipush (v := (17 : Int32)) hx hb dX3_count_90 (by decide) ?_
    refine mm_iald cx hM 4 rfl (j := 17) (by decide) (vp_lit (by decide)) dX3_count_92 ?_
    exact mm_iret cx hM hS hw dX3_count_93
  have hw := mm_in hc4 hw
  by_cases hc5 : x1 = 5
  · have hw := mm_ip hc5 hw
    refine lv_tableIn (off := 93) (tgt := 94) hx hb dX3_count_1 (by rw [hc5]; decide) (by rw [hc5]; decide) (by rw [hc5]; decide) (by decide) ?_
    refine lv_aload_n hx hb dX3_count_94 rfl (lv_at hl 0 rfl) ?_
    refine mg_4 cx hM dX3_count_95 ?_
    refine lv_bipush (v := (16 : Int32)) hx hb dX3_count_98 (by decide) ?_
    refine mm_iald cx hM 4 rfl (j := 16) (by decide) (vp_lit (by decide)) dX3_count_100 ?_
    exact mm_iret cx hM hS hw dX3_count_101
  have hw := mm_in hc5 hw
  by_cases hc6 : x1 = 6
  · have hw := mm_ip hc6 hw
    refine lv_tableIn (off := 101) (tgt := 102) hx hb dX3_count_1 (by rw [hc6]; decide) (by rw [hc6]; decide) (by rw [hc6]; decide) (by decide) ?_
    refine lv_aload_n hx hb dX3_count_102 rfl (lv_at hl 0 rfl) ?_
    refine C3_knownFacts cx hM hS hw ⟨Nat.le_of_ble_eq_true rfl, Nat.le_of_ble_eq_true rfl⟩ (Nat.le_of_ble_eq_true rfl) hl.1 ⟨Nat.zero_le _, Nat.zero_le _⟩ dX3_count_103 (fun r3 s3 H locs hw hM hS => ?_)
    refine C3_bits cx hM hS hw ⟨Nat.le_of_ble_eq_true rfl, Nat.le_of_ble_eq_true rfl⟩ (Nat.le_of_ble_eq_true rfl) hl.1 ⟨Nat.zero_le _, Nat.zero_le _⟩ dX3_count_106 (fun r4 s4 H locs hw hM hS => ?_)
    exact mm_iret cx hM hS hw dX3_count_109
  have hw := mm_in hc6 hw
  by_cases hc7 : x1 = 7
  · have hw := mm_ip hc7 hw
    refine lv_tableIn (off := 109) (tgt := 110) hx hb dX3_count_1 (by rw [hc7]; decide) (by rw [hc7]; decide) (by rw [hc7]; decide) (by decide) ?_
    refine lv_aload_n hx hb dX3_count_110 rfl (lv_at hl 0 rfl) ?_
    refine mg_8 cx hM dX3_count_111 ?_
    exact mm_iret cx hM hS hw dX3_count_114
  have hw := mm_in hc7 hw
  by_cases hc8 : x1 = 8
  · have hw := mm_ip hc8 hw
    refine lv_tableIn (off := 114) (tgt := 115) hx hb dX3_count_1 (by rw [hc8]; decide) (by rw [hc8]; decide) (by rw [hc8]; decide) (by decide) ?_
    refine lv_aload_n hx hb dX3_count_115 rfl (lv_at hl 0 rfl) ?_
    refine mg_10 cx hM dX3_count_116 ?_
    exact mm_iret cx hM hS hw dX3_count_119
  have hw := mm_in hc8 hw
  by_cases hc9 : x1 = 9
  · have hw := mm_ip hc9 hw
    refine lv_tableIn (off := 119) (tgt := 120) hx hb dX3_count_1 (by rw [hc9]; decide) (by rw [hc9]; decide) (by rw [hc9]; decide) (by decide) ?_
    refine lv_aload_n hx hb dX3_count_120 rfl (lv_at hl 0 rfl) ?_
    refine mg_0 cx hM dX3_count_121 ?_
    refine lv_iconst (v := (5 : Int32)) hx hb dX3_count_124 (by decide) ?_
    refine mm_iald cx hM 0 rfl (j := 5) (by decide) (vp_lit (by decide)) dX3_count_125 ?_
    exact mm_iret cx hM hS hw dX3_count_126
  have hw := mm_in hc9 hw
  refine lv_tableOut (tgt := 127) hx hb dX3_count_1 (sw_out 0 9 [(0 : Int32), (1 : Int32), (2 : Int32), (3 : Int32), (4 : Int32), (5 : Int32), (6 : Int32), (7 : Int32), (8 : Int32), (9 : Int32)] (by simp only [List.all_cons, List.all_nil, Bool.and_true, Bool.and_eq_true, decide_eq_true_eq]; exact ⟨hc0, hc1, hc2, hc3, hc4, hc5, hc6, hc7, hc8, hc9⟩) (by intro z h1 h2; exact sw_in10 z h1 h2)) (by decide) ?_
  refine lv_iconst (v := (-1 : Int32)) hx hb dX3_count_127 (by decide) ?_
  exact mm_iret cx hM hS hw dX3_count_128
-- no call of count
