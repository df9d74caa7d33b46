/-! walks of the model's methods (printed by gen/mparts.py): implied lacksSo lacks grown issues tells untold laysWays judged triedBy laysTrials tries laysDuel duel turn wayOf isProved isProof findsProofs proofs proof weight tellsBy chance -/
set_option maxRecDepth 100000
def w3_implied_55 (Q : Int32 → MS → Prop) (K20 : Int32 → Int32 → Int32 → MS → Prop) (x1 : Int32) (x2 : Int32) (x3 : Int32) (σ : MS) : Prop :=
  ∀ v1 : Int32, v1 = x3 + (1 : Int32) → K20 x1 x2 v1 σ
set_option maxHeartbeats 4000000 in
theorem B3_implied_55 {l : Launch} {p : Program} {e : Env} {s : State} {m : MethodId} {args : Array Value} {below : List Frame} {meth : Method} {c : Code} {G : mm_G} {Q : Int32 → MS → Prop} {K20 : Int32 → Int32 → Int32 → MS → Prop} (cx : mm_X cX3_implied 4 (some .int) G p s m args meth c) (hK20 : ∀ (x1 : Int32) (x2 : Int32) (x3 : Int32) (σ : MS), K20 x1 x2 x3 σ → mm_T p l e ({ frames := 2, cells := 0, slots := 0, locals := 80 } : Room) s m args below meth c G (mm_Qi G Q) 4 20 σ [(0, .ref (mm_o G)), (1, .int x1), (2, .int x2), (3, .int x3)] []) : ∀ (x1 : Int32) (x2 : Int32) (x3 : Int32) (σ : MS), w3_implied_55 Q K20 x1 x2 x3 σ → mm_T p l e ({ frames := 2, cells := 0, slots := 0, locals := 80 } : Room) s m args below meth c G (mm_Qi G Q) 4 55 σ [(0, .ref (mm_o G)), (1, .int x1), (2, .int x2), (3, .int x3)] [] := by
  intro x1 x2 x3 σ hw H locs ls hM hS hl
  unfold w3_implied_55 at hw
  obtain ⟨hx, hb, hml, hown, hts, hr, hlk, hMK, hZ⟩ := id cx
  obtain ⟨v1, hv1⟩ : ∃ v : Int32, v = x3 + (1 : Int32) := ⟨_, rfl⟩
  have hw := hw v1 hv1
  refine lv_iinc (v := v1) (lv' := [(3, .int v1), (0, .ref (mm_o G)), (1, .int x1), (2, .int x2)]) hx hb dX3_implied_55 hl (k := 3) rfl (by rw [hv1]; rfl) (by decide) rfl (fun ls hl => ?_)
  refine lv_goto (tgt := 20) hx hb dX3_implied_58 (by decide) ?_
  exact hK20 _ _ _ _ hw _ _ _ hM hS (lv_sub hl [1, 2, 3, 0] rfl)
def w3_implied_20 (Q : Int32 → MS → Prop) (K20 : Int32 → Int32 → Int32 → MS → Prop) (x1 : Int32) (x2 : Int32) (x3 : Int32) (σ : MS) : Prop :=
  if (256 : Int32) ≤ x3 then (Q (1 : Int32) σ) else (w3_isLeft x3 σ (fun r2 s2 => if r2 = 0 then (w3_implied_55 Q K20 x1 x2 x3 s2) else (w3_isWon x1 x3 s2 (fun r3 s3 => if r3 = 0 then (w3_implied_55 Q K20 x1 x2 x3 s3) else (w3_isWon x2 x3 s3 (fun r4 s4 => if r4 = 0 then (Q (0 : Int32) s4) else (w3_implied_55 Q K20 x1 x2 x3 s4)))))))
set_option maxHeartbeats 4000000 in
theorem B3_implied_20 {l : Launch} {p : Program} {e : Env} {s : State} {m : MethodId} {args : Array Value} {below : List Frame} {meth : Method} {c : Code} {G : mm_G} {Q : Int32 → MS → Prop} {K20 : Int32 → Int32 → Int32 → MS → Prop} (cx : mm_X cX3_implied 4 (some .int) G p s m args meth c) (hK20 : ∀ (x1 : Int32) (x2 : Int32) (x3 : Int32) (σ : MS), K20 x1 x2 x3 σ → mm_T p l e ({ frames := 2, cells := 0, slots := 0, locals := 80 } : Room) s m args below meth c G (mm_Qi G Q) 4 20 σ [(0, .ref (mm_o G)), (1, .int x1), (2, .int x2), (3, .int x3)] []) : ∀ (x1 : Int32) (x2 : Int32) (x3 : Int32) (σ : MS), w3_implied_20 Q K20 x1 x2 x3 σ → mm_T p l e ({ frames := 2, cells := 0, slots := 0, locals := 80 } : Room) s m args below meth c G (mm_Qi G Q) 4 20 σ [(0, .ref (mm_o G)), (1, .int x1), (2, .int x2), (3, .int x3)] [] := by
  intro x1 x2 x3 σ hw H locs ls hM hS hl
  unfold w3_implied_20 at hw
  obtain ⟨hx, hb, hml, hown, hts, hr, hlk, hMK, hZ⟩ := id cx
  refine lv_iload_n hx hb dX3_implied_20 rfl (lv_at hl 3 rfl) ?_
  refine lv_sipush (v := (256 : Int32)) hx hb dX3_implied_21 (by decide) ?_
  refine lv_icmp_ge (tgt := 61) hx hb dX3_implied_24 (by decide) (fun hc => ?_) (fun hc => ?_)
  · have hw := mm_ip hc hw
    refine lv_iconst (v := (1 : Int32)) hx hb dX3_implied_61 (by decide) ?_
    exact mm_iret cx hM hS hw dX3_implied_62
  · have hw := mm_in hc hw
    refine lv_aload_n hx hb dX3_implied_27 rfl (lv_at hl 0 rfl) ?_
    refine lv_iload_n hx hb dX3_implied_28 rfl (lv_at hl 3 rfl) ?_
    refine C3_isLeft cx hM hS hw ⟨Nat.le_of_ble_eq_true rfl, Nat.le_of_ble_eq_true rfl⟩ (Nat.le_of_ble_eq_true rfl) hl.1 ⟨Nat.zero_le _, Nat.zero_le _⟩ dX3_implied_29 (fun r2 s2 H locs hw hM hS => ?_)
    refine lv_if_eq (tgt := 55) hx hb dX3_implied_32 (by decide) (fun hc => ?_) (fun hc => ?_)
    · have hw := mm_ip hc hw
      exact B3_implied_55 cx hK20 _ _ _ _ hw _ _ _ hM hS (lv_sub hl [0, 1, 2, 3] rfl)
    · have hw := mm_in hc hw
      refine lv_aload_n hx hb dX3_implied_35 rfl (lv_at hl 0 rfl) ?_
      refine lv_iload_n hx hb dX3_implied_36 rfl (lv_at hl 1 rfl) ?_
      refine lv_iload_n hx hb dX3_implied_37 rfl (lv_at hl 3 rfl) ?_
      refine C3_isWon cx hM hS hw ⟨Nat.le_of_ble_eq_true rfl, Nat.le_of_ble_eq_true rfl⟩ (Nat.le_of_ble_eq_true rfl) hl.1 ⟨Nat.zero_le _, Nat.zero_le _⟩ dX3_implied_38 (fun r3 s3 H locs hw hM hS => ?_)
      refine lv_if_eq (tgt := 55) hx hb dX3_implied_41 (by decide) (fun hc => ?_) (fun hc => ?_)
      · have hw := mm_ip hc hw
        exact B3_implied_55 cx hK20 _ _ _ _ hw _ _ _ hM hS (lv_sub hl [0, 1, 2, 3] rfl)
      · have hw := mm_in hc hw
        refine lv_aload_n hx hb dX3_implied_44 rfl (lv_at hl 0 rfl) ?_
        refine lv_iload_n hx hb dX3_implied_45 rfl (lv_at hl 2 rfl) ?_
        refine lv_iload_n hx hb dX3_implied_46 rfl (lv_at hl 3 rfl) ?_
        refine C3_isWon cx hM hS hw ⟨Nat.le_of_ble_eq_true rfl, Nat.le_of_ble_eq_true rfl⟩ (Nat.le_of_ble_eq_true rfl) hl.1 ⟨Nat.zero_le _, Nat.zero_le _⟩ dX3_implied_47 (fun r4 s4 H locs hw hM hS => ?_)
        refine lv_if_ne (tgt := 55) hx hb dX3_implied_50 (by decide) (fun hc => ?_) (fun hc => ?_)
        · have hw := mm_in hc hw
          exact B3_implied_55 cx hK20 _ _ _ _ hw _ _ _ hM hS (lv_sub hl [0, 1, 2, 3] rfl)
        · have hw := mm_ip hc hw
          refine lv_iconst (v := (0 : Int32)) hx hb dX3_implied_53 (by decide) ?_
          exact mm_iret cx hM hS hw dX3_implied_54
theorem L3_implied_20 {l : Launch} {p : Program} {e : Env} {s : State} {m : MethodId} {args : Array Value} {below : List Frame} {meth : Method} {c : Code} {G : mm_G} {Q : Int32 → MS → Prop} (cx : mm_X cX3_implied 4 (some .int) G p s m args meth c) : ∀ (x1 : Int32) (x2 : Int32) (x3 : Int32) (σ : MS), lp4F (w3_implied_20 Q) x1 x2 x3 σ → mm_T p l e ({ frames := 2, cells := 0, slots := 0, locals := 80 } : Room) s m args below meth c G (mm_Qi G Q) 4 20 σ [(0, .ref (mm_o G)), (1, .int x1), (2, .int x2), (3, .int x3)] [] :=
  lp4F_of (fun K hK => B3_implied_20 cx hK)
def w3_implied (x1 : Int32) (x2 : Int32) (σ : MS) (Q : Int32 → MS → Prop) : Prop :=
  w3_isCount x1 σ (fun r5 s5 => if r5 = 0 then (Q (-1 : Int32) s5) else (w3_isCount x2 s5 (fun r6 s6 => if r6 = 0 then (Q (-1 : Int32) s6) else (lp4F (w3_implied_20 Q) x1 x2 (0 : Int32) s6))))
set_option maxHeartbeats 4000000 in
theorem M3_implied (l : Launch) (G : mm_G) (x1 : Int32) (x2 : Int32) (σ : MS) (Q : Int32 → MS → Prop) (hw : w3_implied x1 x2 σ Q) : mm_Mi l yX3_implied (ws_ yX3_implied cX3_implied 4 (some .int)) ({ frames := 2, cells := 0, slots := 0, locals := 80 } : Room) G [.ref (mm_o G), .int x1, .int x2] σ Q := by
  refine mm_of (by decide) rfl ?_
  intro p e s m args below meth c cx hM ha
  refine mm_entry [.ref (mm_o G), .int x1, .int x2] 4 [(0, .ref (mm_o G)), (1, .int x1), (2, .int x2)] ha (Nat.le_of_ble_eq_true rfl) rfl (fun ls hl => ?_)
  have hS : va_S (mm_A G) s.heap s.heap [] := va_S.rf
  unfold w3_implied at hw
  obtain ⟨hx, hb, hml, hown, hts, hr, hlk, hMK, hZ⟩ := id cx
  refine lv_aload_n hx hb dX3_implied_0 rfl (lv_at hl 0 rfl) ?_
  refine lv_iload_n hx hb dX3_implied_1 rfl (lv_at hl 1 rfl) ?_
  refine C3_isCount cx hM hS hw ⟨Nat.le_of_ble_eq_true rfl, Nat.le_of_ble_eq_true rfl⟩ (Nat.le_of_ble_eq_true rfl) hl.1 ⟨Nat.zero_le _, Nat.zero_le _⟩ dX3_implied_2 (fun r5 s5 H locs hw hM hS => ?_)
  refine lv_if_eq (tgt := 16) hx hb dX3_implied_5 (by decide) (fun hc => ?_) (fun hc => ?_)
  · have hw := mm_ip hc hw
    refine lv_iconst (v := (-1 : Int32)) hx hb dX3_implied_16 (by decide) ?_
    exact mm_iret cx hM hS hw dX3_implied_17
  · have hw := mm_in hc hw
    refine lv_aload_n hx hb dX3_implied_8 rfl (lv_at hl 0 rfl) ?_
    refine lv_iload_n hx hb dX3_implied_9 rfl (lv_at hl 2 rfl) ?_
    refine C3_isCount cx hM hS hw ⟨Nat.le_of_ble_eq_true rfl, Nat.le_of_ble_eq_true rfl⟩ (Nat.le_of_ble_eq_true rfl) hl.1 ⟨Nat.zero_le _, Nat.zero_le _⟩ dX3_implied_10 (fun r6 s6 H locs hw hM hS => ?_)
    refine lv_if_ne (tgt := 18) hx hb dX3_implied_13 (by decide) (fun hc => ?_) (fun hc => ?_)
    · have hw := mm_in hc hw
      refine lv_iconst (v := (0 : Int32)) hx hb dX3_implied_18 (by decide) ?_
      refine lv_istore_n (lv' := [(3, .int (0 : Int32)), (0, .ref (mm_o G)), (1, .int x1), (2, .int x2)]) hx hb dX3_implied_19 rfl hl (by decide) rfl (fun ls hl => ?_)
      exact L3_implied_20 cx _ _ _ _ hw _ _ _ hM hS (lv_sub hl [1, 2, 3, 0] rfl)
    · have hw := mm_ip hc hw
      refine lv_iconst (v := (-1 : Int32)) hx hb dX3_implied_16 (by decide) ?_
      exact mm_iret cx hM hS hw dX3_implied_17
-- no call of implied
def w3_lacksSo_133 (Q : Int32 → MS → Prop) (K10 : Int32 → Int32 → Int32 → Int32 → MS → Prop) (x1 : Int32) (x2 : Int32) (x3 : Int32) (x4 : Int32) (σ : MS) : Prop :=
  ∀ v1 : Int32, v1 = x4 + (1 : Int32) → K10 x1 x2 x3 v1 σ
set_option maxHeartbeats 4000000 in
theorem B3_lacksSo_133 {l : Launch} {p : Program} {e : Env} {s : State} {m : MethodId} {args : Array Value} {below : List Frame} {meth : Method} {c : Code} {G : mm_G} {Q : Int32 → MS → Prop} {K10 : Int32 → Int32 → Int32 → Int32 → MS → Prop} (cx : mm_X cX3_lacksSo 7 (some .boolean) G p s m args meth c) (hK10 : ∀ (x1 : Int32) (x2 : Int32) (x3 : Int32) (x4 : Int32) (σ : MS), K10 x1 x2 x3 x4 σ → mm_T p l e ({ frames := 4, cells := 0, slots := 0, locals := 160 } : Room) s m args below meth c G (mm_Qi G Q) 7 10 σ [(0, .ref (mm_o G)), (1, .int x1), (2, .int x2), (3, .int x3), (4, .int x4)] []) : ∀ (x1 : Int32) (x2 : Int32) (x3 : Int32) (x4 : Int32) (σ : MS), w3_lacksSo_133 Q K10 x1 x2 x3 x4 σ → mm_T p l e ({ frames := 4, cells := 0, slots := 0, locals := 160 } : Room) s m args below meth c G (mm_Qi G Q) 7 133 σ [(0, .ref (mm_o G)), (1, .int x1), (2, .int x2), (3, .int x3), (4, .int x4)] [] := by
  intro x1 x2 x3 x4 σ hw H locs ls hM hS hl
  unfold w3_lacksSo_133 at hw
  obtain ⟨hx, hb, hml, hown, hts, hr, hlk, hMK, hZ⟩ := id cx
  obtain ⟨v1, hv1⟩ : ∃ v : Int32, v = x4 + (1 : Int32) := ⟨_, rfl⟩
  have hw := hw v1 hv1
  refine lv_iinc (v := v1) (lv' := [(4, .int v1), (0, .ref (mm_o G)), (1, .int x1), (2, .int x2), (3, .int x3)]) hx hb dX3_lacksSo_133 hl (k := 4) rfl (by rw [hv1]; rfl) (by decide) rfl (fun ls hl => ?_)
  refine lv_goto (tgt := 10) hx hb dX3_lacksSo_136 (by decide) ?_
  exact hK10 _ _ _ _ _ hw _ _ _ hM hS (lv_sub hl [1, 2, 3, 4, 0] rfl)
def w3_lacksSo_127 (Q : Int32 → MS → Prop) (K10 : Int32 → Int32 → Int32 → Int32 → MS → Prop) (K45 : Int32 → Int32 → Int32 → Int32 → Int32 → MS → Prop) (x1 : Int32) (x2 : Int32) (x3 : Int32) (x4 : Int32) (x5 : Int32) (σ : MS) : Prop :=
  ∀ v2 : Int32, v2 = x5 + (1 : Int32) → K45 x1 x2 x3 x4 v2 σ
set_option maxHeartbeats 4000000 in
theorem B3_lacksSo_127 {l : Launch} {p : Program} {e : Env} {s : State} {m : MethodId} {args : Array Value} {below : List Frame} {meth : Method} {c : Code} {G : mm_G} {Q : Int32 → MS → Prop} {K10 : Int32 → Int32 → Int32 → Int32 → MS → Prop} {K45 : Int32 → Int32 → Int32 → Int32 → Int32 → MS → Prop} (cx : mm_X cX3_lacksSo 7 (some .boolean) G p s m args meth c) (hK10 : ∀ (x1 : Int32) (x2 : Int32) (x3 : Int32) (x4 : Int32) (σ : MS), K10 x1 x2 x3 x4 σ → mm_T p l e ({ frames := 4, cells := 0, slots := 0, locals := 160 } : Room) s m args below meth c G (mm_Qi G Q) 7 10 σ [(0, .ref (mm_o G)), (1, .int x1), (2, .int x2), (3, .int x3), (4, .int x4)] []) (hK45 : ∀ (x1 : Int32) (x2 : Int32) (x3 : Int32) (x4 : Int32) (x5 : Int32) (σ : MS), K45 x1 x2 x3 x4 x5 σ → mm_T p l e ({ frames := 4, cells := 0, slots := 0, locals := 160 } : Room) s m args below meth c G (mm_Qi G Q) 7 45 σ [(0, .ref (mm_o G)), (1, .int x1), (2, .int x2), (3, .int x3), (4, .int x4), (5, .int x5)] []) : ∀ (x1 : Int32) (x2 : Int32) (x3 : Int32) (x4 : Int32) (x5 : Int32) (σ : MS), w3_lacksSo_127 Q K10 K45 x1 x2 x3 x4 x5 σ → mm_T p l e ({ frames := 4, cells := 0, slots := 0, locals := 160 } : Room) s m args below meth c G (mm_Qi G Q) 7 127 σ [(0, .ref (mm_o G)), (1, .int x1), (2, .int x2), (3, .int x3), (4, .int x4), (5, .int x5)] [] := by
  intro x1 x2 x3 x4 x5 σ hw H locs ls hM hS hl
  unfold w3_lacksSo_127 at hw
  obtain ⟨hx, hb, hml, hown, hts, hr, hlk, hMK, hZ⟩ := id cx
  obtain ⟨v2, hv2⟩ : ∃ v : Int32, v = x5 + (1 : Int32) := ⟨_, rfl⟩
  have hw := hw v2 hv2
  refine lv_iinc (v := v2) (lv' := [(5, .int v2), (0, .ref (mm_o G)), (1, .int x1), (2, .int x2), (3, .int x3), (4, .int x4)]) hx hb dX3_lacksSo_127 hl (k := 5) rfl (by rw [hv2]; rfl) (by decide) rfl (fun ls hl => ?_)
  refine lv_goto (tgt := 45) hx hb dX3_lacksSo_130 (by decide) ?_
  exact hK45 _ _ _ _ _ _ hw _ _ _ hM hS (lv_sub hl [1, 2, 3, 4, 5, 0] rfl)
def w3_lacksSo_85 (Q : Int32 → MS → Prop) (K10 : Int32 → Int32 → Int32 → Int32 → MS → Prop) (K45 : Int32 → Int32 → Int32 → Int32 → Int32 → MS → Prop) (x1 : Int32) (x2 : Int32) (x3 : Int32) (x4 : Int32) (x5 : Int32) (t0 : Int32) (σ : MS) : Prop :=
  if t0 = 0 then (w3_lacksSo_127 Q K10 K45 x1 x2 x3 x4 x5 σ) else (w3_its x1 (5 : Int32) σ (fun r3 s3 => w3_failsBy x1 (x3 ||| x4) (r3 ||| x5) s3 (fun r4 s4 => if r4 = 0 then (Q (1 : Int32) (sI (sI s4 31 x4) 32 x5)) else (w3_lacksSo_127 Q K10 K45 x1 x2 x3 x4 x5 s4))))
set_option maxHeartbeats 4000000 in
theorem B3_lacksSo_85 {l : Launch} {p : Program} {e : Env} {s : State} {m : MethodId} {args : Array Value} {below : List Frame} {meth : Method} {c : Code} {G : mm_G} {Q : Int32 → MS → Prop} {K10 : Int32 → Int32 → Int32 → Int32 → MS → Prop} {K45 : Int32 → Int32 → Int32 → Int32 → Int32 → MS → Prop} (cx : mm_X cX3_lacksSo 7 (some .boolean) G p s m args meth c) (hK10 : ∀ (x1 : Int32) (x2 : Int32) (x3 : Int32) (x4 : Int32) (σ : MS), K10 x1 x2 x3 x4 σ → mm_T p l e ({ frames := 4, cells := 0, slots := 0, locals := 160 } : Room) s m args below meth c G (mm_Qi G Q) 7 10 σ [(0, .ref (mm_o G)), (1, .int x1), (2, .int x2), (3, .int x3), (4, .int x4)] []) (hK45 : ∀ (x1 : Int32) (x2 : Int32) (x3 : Int32) (x4 : Int32) (x5 : Int32) (σ : MS), K45 x1 x2 x3 x4 x5 σ → mm_T p l e ({ frames := 4, cells := 0, slots := 0, locals := 160 } : Room) s m args below meth c G (mm_Qi G Q) 7 45 σ [(0, .ref (mm_o G)), (1, .int x1), (2, .int x2), (3, .int x3), (4, .int x4), (5, .int x5)] []) : ∀ (x1 : Int32) (x2 : Int32) (x3 : Int32) (x4 : Int32) (x5 : Int32) (t0 : Int32) (σ : MS), w3_lacksSo_85 Q K10 K45 x1 x2 x3 x4 x5 t0 σ → mm_T p l e ({ frames := 4, cells := 0, slots := 0, locals := 160 } : Room) s m args below meth c G (mm_Qi G Q) 7 85 σ [(0, .ref (mm_o G)), (1, .int x1), (2, .int x2), (3, .int x3), (4, .int x4), (5, .int x5)] [.int t0] := by
  intro x1 x2 x3 x4 x5 t0 σ hw H locs ls hM hS hl
  unfold w3_lacksSo_85 at hw
  obtain ⟨hx, hb, hml, hown, hts, hr, hlk, hMK, hZ⟩ := id cx
  refine lv_istore (lv' := [(6, .int t0), (0, .ref (mm_o G)), (1, .int x1), (2, .int x2), (3, .int x3), (4, .int x4), (5, .int x5)]) hx hb dX3_lacksSo_85 hl (by decide) rfl (fun ls hl => ?_)
  refine lv_iload hx hb dX3_lacksSo_87 (lv_at hl 0 rfl) ?_
  refine lv_if_eq (tgt := 127) hx hb dX3_lacksSo_89 (by decide) (fun hc => ?_) (fun hc => ?_)
  · have hw := mm_ip hc hw
    exact B3_lacksSo_127 cx hK10 hK45 _ _ _ _ _ _ hw _ _ _ hM hS (lv_sub hl [1, 2, 3, 4, 5, 6] rfl)
  · have hw := mm_in hc hw
    refine lv_aload_n hx hb dX3_lacksSo_92 rfl (lv_at hl 1 rfl) ?_
    refine lv_iload_n hx hb dX3_lacksSo_93 rfl (lv_at hl 2 rfl) ?_
    refine lv_iload_n hx hb dX3_lacksSo_94 rfl (lv_at hl 4 rfl) ?_
    refine lv_iload hx hb dX3_lacksSo_95 (lv_at hl 5 rfl) ?_
    refine lv_ior hx hb dX3_lacksSo_97 ?_
    refine lv_aload_n hx hb dX3_lacksSo_98 rfl (lv_at hl 1 rfl) ?_
    refine lv_iload_n hx hb dX3_lacksSo_99 rfl (lv_at hl 2 rfl) ?_
    refine lv_iconst (v := (5 : Int32)) hx hb dX3_lacksSo_100 (by decide) ?_
    refine C3_its cx hM hS hw ⟨Nat.le_of_ble_eq_true rfl, Nat.le_of_ble_eq_true rfl⟩ (Nat.le_of_ble_eq_true rfl) hl.1 ⟨Nat.zero_le _, Nat.zero_le _⟩ dX3_lacksSo_101 (fun r3 s3 H locs hw hM hS => ?_)
    refine lv_iload hx hb dX3_lacksSo_104 (lv_at hl 6 rfl) ?_
    refine lv_ior hx hb dX3_lacksSo_106 ?_
    refine C3_failsBy cx hM hS hw ⟨Nat.le_of_ble_eq_true rfl, Nat.le_of_ble_eq_true rfl⟩ (Nat.le_of_ble_eq_true rfl) hl.1 ⟨Nat.zero_le _, Nat.zero_le _⟩ dX3_lacksSo_107 (fun r4 s4 H locs hw hM hS => ?_)
    refine lv_if_ne (tgt := 127) hx hb dX3_lacksSo_110 (by decide) (fun hc => ?_) (fun hc => ?_)
    · have hw := mm_in hc hw
      exact B3_lacksSo_127 cx hK10 hK45 _ _ _ _ _ _ hw _ _ _ hM hS (lv_sub hl [1, 2, 3, 4, 5, 6] rfl)
    · have hw := mm_ip hc hw
      refine lv_aload_n hx hb dX3_lacksSo_113 rfl (lv_at hl 1 rfl) ?_
      refine lv_iload hx hb dX3_lacksSo_114 (lv_at hl 5 rfl) ?_
      refine mp_31 cx hM hS dX3_lacksSo_116 (fun H locs hM hS => ?_)
      refine lv_aload_n hx hb dX3_lacksSo_119 rfl (lv_at hl 1 rfl) ?_
      refine lv_iload hx hb dX3_lacksSo_120 (lv_at hl 6 rfl) ?_
      refine mp_32 cx hM hS dX3_lacksSo_122 (fun H locs hM hS => ?_)
      refine lv_iconst (v := (1 : Int32)) hx hb dX3_lacksSo_125 (by decide) ?_
      exact mm_zret cx hM hS (Or.inr rfl) hw dX3_lacksSo_126
def w3_lacksSo_84 (Q : Int32 → MS → Prop) (K10 : Int32 → Int32 → Int32 → Int32 → MS → Prop) (K45 : Int32 → Int32 → Int32 → Int32 → Int32 → MS → Prop) (x1 : Int32) (x2 : Int32) (x3 : Int32) (x4 : Int32) (x5 : Int32) (σ : MS) : Prop :=
  w3_lacksSo_85 Q K10 K45 x1 x2 x3 x4 x5 (0 : Int32) σ
set_option maxHeartbeats 4000000 in
theorem B3_lacksSo_84 {l : Launch} {p : Program} {e : Env} {s : State} {m : MethodId} {args : Array Value} {below : List Frame} {meth : Method} {c : Code} {G : mm_G} {Q : Int32 → MS → Prop} {K10 : Int32 → Int32 → Int32 → Int32 → MS → Prop} {K45 : Int32 → Int32 → Int32 → Int32 → Int32 → MS → Prop} (cx : mm_X cX3_lacksSo 7 (some .boolean) G p s m args meth c) (hK10 : ∀ (x1 : Int32) (x2 : Int32) (x3 : Int32) (x4 : Int32) (σ : MS), K10 x1 x2 x3 x4 σ → mm_T p l e ({ frames := 4, cells := 0, slots := 0, locals := 160 } : Room) s m args below meth c G (mm_Qi G Q) 7 10 σ [(0, .ref (mm_o G)), (1, .int x1), (2, .int x2), (3, .int x3), (4, .int x4)] []) (hK45 : ∀ (x1 : Int32) (x2 : Int32) (x3 : Int32) (x4 : Int32) (x5 : Int32) (σ : MS), K45 x1 x2 x3 x4 x5 σ → mm_T p l e ({ frames := 4, cells := 0, slots := 0, locals := 160 } : Room) s m args below meth c G (mm_Qi G Q) 7 45 σ [(0, .ref (mm_o G)), (1, .int x1), (2, .int x2), (3, .int x3), (4, .int x4), (5, .int x5)] []) : ∀ (x1 : Int32) (x2 : Int32) (x3 : Int32) (x4 : Int32) (x5 : Int32) (σ : MS), w3_lacksSo_84 Q K10 K45 x1 x2 x3 x4 x5 σ → mm_T p l e ({ frames := 4, cells := 0, slots := 0, locals := 160 } : Room) s m args below meth c G (mm_Qi G Q) 7 84 σ [(0, .ref (mm_o G)), (1, .int x1), (2, .int x2), (3, .int x3), (4, .int x4), (5, .int x5)] [] := by
  intro x1 x2 x3 x4 x5 σ hw H locs ls hM hS hl
  unfold w3_lacksSo_84 at hw
  obtain ⟨hx, hb, hml, hown, hts, hr, hlk, hMK, hZ⟩ := id cx
  refine lv_iconst (v := (0 : Int32)) hx hb dX3_lacksSo_84 (by decide) ?_
  exact B3_lacksSo_85 cx hK10 hK45 _ _ _ _ _ _ _ hw _ _ _ hM hS (lv_sub hl [0, 1, 2, 3, 4, 5] rfl)
def w3_lacksSo_45 (Q : Int32 → MS → Prop) (K10 : Int32 → Int32 → Int32 → Int32 → MS → Prop) (K45 : Int32 → Int32 → Int32 → Int32 → Int32 → MS → Prop) (x1 : Int32) (x2 : Int32) (x3 : Int32) (x4 : Int32) (x5 : Int32) (σ : MS) : Prop :=
  if x4 < x5 then (w3_lacksSo_133 Q K10 x1 x2 x3 x4 σ) else (if (x5 &&& (x4 ^^^ (-1 : Int32))) = 0 then (w3_knownSo σ (fun r5 s5 => w3_knownFacts s5 (fun r6 s6 => if (((x5 ^^^ r5) &&& x4) &&& r6) = 0 then (w3_lacksSo_85 Q K10 K45 x1 x2 x3 x4 x5 (1 : Int32) s6) else (w3_lacksSo_84 Q K10 K45 x1 x2 x3 x4 x5 s6)))) else (w3_lacksSo_84 Q K10 K45 x1 x2 x3 x4 x5 σ))
set_option maxHeartbeats 4000000 in
theorem B3_lacksSo_45 {l : Launch} {p : Program} {e : Env} {s : State} {m : MethodId} {args : Array Value} {below : List Frame} {meth : Method} {c : Code} {G : mm_G} {Q : Int32 → MS → Prop} {K10 : Int32 → Int32 → Int32 → Int32 → MS → Prop} {K45 : Int32 → Int32 → Int32 → Int32 → Int32 → MS → Prop} (cx : mm_X cX3_lacksSo 7 (some .boolean) G p s m args meth c) (hK10 : ∀ (x1 : Int32) (x2 : Int32) (x3 : Int32) (x4 : Int32) (σ : MS), K10 x1 x2 x3 x4 σ → mm_T p l e ({ frames := 4, cells := 0, slots := 0, locals := 160 } : Room) s m args below meth c G (mm_Qi G Q) 7 10 σ [(0, .ref (mm_o G)), (1, .int x1), (2, .int x2), (3, .int x3), (4, .int x4)] []) (hK45 : ∀ (x1 : Int32) (x2 : Int32) (x3 : Int32) (x4 : Int32) (x5 : Int32) (σ : MS), K45 x1 x2 x3 x4 x5 σ → mm_T p l e ({ frames := 4, cells := 0, slots := 0, locals := 160 } : Room) s m args below meth c G (mm_Qi G Q) 7 45 σ [(0, .ref (mm_o G)), (1, .int x1), (2, .int x2), (3, .int x3), (4, .int x4), (5, .int x5)] []) : ∀ (x1 : Int32) (x2 : Int32) (x3 : Int32) (x4 : Int32) (x5 : Int32) (σ : MS), w3_lacksSo_45 Q K10 K45 x1 x2 x3 x4 x5 σ → mm_T p l e ({ frames := 4, cells := 0, slots := 0, locals := 160 } : Room) s m args below meth c G (mm_Qi G Q) 7 45 σ [(0, .ref (mm_o G)), (1, .int x1), (2, .int x2), (3, .int x3), (4, .int x4), (5, .int x5)] [] := by
  intro x1 x2 x3 x4 x5 σ hw H locs ls hM hS hl
  unfold w3_lacksSo_45 at hw
  obtain ⟨hx, hb, hml, hown, hts, hr, hlk, hMK, hZ⟩ := id cx
  refine lv_iload hx hb dX3_lacksSo_45 (lv_at hl 5 rfl) ?_
  refine lv_iload hx hb dX3_lacksSo_47 (lv_at hl 4 rfl) ?_
  refine lv_icmp_gt (tgt := 133) hx hb dX3_lacksSo_49 (by decide) (fun hc => ?_) (fun hc => ?_)
  · have hw := mm_ip hc hw
    exact B3_lacksSo_133 cx hK10 _ _ _ _ _ hw _ _ _ hM hS (lv_sub hl [0, 1, 2, 3, 4] rfl)
  · have hw := mm_in hc hw
    refine lv_iload hx hb dX3_lacksSo_52 (lv_at hl 5 rfl) ?_
    refine lv_iload hx hb dX3_lacksSo_54 (lv_at hl 4 rfl) ?_
    refine lv_iconst (v := (-1 : Int32)) hx hb dX3_lacksSo_56 (by decide) ?_
    refine lv_ixor hx hb dX3_lacksSo_57 ?_
    refine lv_iand hx hb dX3_lacksSo_58 ?_
    refine lv_if_ne (tgt := 84) hx hb dX3_lacksSo_59 (by decide) (fun hc => ?_) (fun hc => ?_)
    · have hw := mm_in hc hw
      exact B3_lacksSo_84 cx hK10 hK45 _ _ _ _ _ _ hw _ _ _ hM hS (lv_sub hl [0, 1, 2, 3, 4, 5] rfl)
    · have hw := mm_ip hc hw
      refine lv_iload hx hb dX3_lacksSo_62 (lv_at hl 5 rfl) ?_
      refine lv_aload_n hx hb dX3_lacksSo_64 rfl (lv_at hl 0 rfl) ?_
      refine C3_knownSo cx hM hS hw ⟨Nat.le_of_ble_eq_true rfl, Nat.le_of_ble_eq_true rfl⟩ (Nat.le_of_ble_eq_true rfl) hl.1 ⟨Nat.zero_le _, Nat.zero_le _⟩ dX3_lacksSo_65 (fun r5 s5 H locs hw hM hS => ?_)
      refine lv_ixor hx hb dX3_lacksSo_68 ?_
      refine lv_iload hx hb dX3_lacksSo_69 (lv_at hl 4 rfl) ?_
      refine lv_iand hx hb dX3_lacksSo_71 ?_
      refine lv_aload_n hx hb dX3_lacksSo_72 rfl (lv_at hl 0 rfl) ?_
      refine C3_knownFacts cx hM hS hw ⟨Nat.le_of_ble_eq_true rfl, Nat.le_of_ble_eq_true rfl⟩ (Nat.le_of_ble_eq_true rfl) hl.1 ⟨Nat.zero_le _, Nat.zero_le _⟩ dX3_lacksSo_73 (fun r6 s6 H locs hw hM hS => ?_)
      refine lv_iand hx hb dX3_lacksSo_76 ?_
      refine lv_if_ne (tgt := 84) hx hb dX3_lacksSo_77 (by decide) (fun hc => ?_) (fun hc => ?_)
      · have hw := mm_in hc hw
        exact B3_lacksSo_84 cx hK10 hK45 _ _ _ _ _ _ hw _ _ _ hM hS (lv_sub hl [0, 1, 2, 3, 4, 5] rfl)
      · have hw := mm_ip hc hw
        refine lv_iconst (v := (1 : Int32)) hx hb dX3_lacksSo_80 (by decide) ?_
        refine lv_goto (tgt := 85) hx hb dX3_lacksSo_81 (by decide) ?_
        exact B3_lacksSo_85 cx hK10 hK45 _ _ _ _ _ _ _ hw _ _ _ hM hS (lv_sub hl [0, 1, 2, 3, 4, 5] rfl)
theorem L3_lacksSo_45 {l : Launch} {p : Program} {e : Env} {s : State} {m : MethodId} {args : Array Value} {below : List Frame} {meth : Method} {c : Code} {G : mm_G} {Q : Int32 → MS → Prop} {K10 : Int32 → Int32 → Int32 → Int32 → MS → Prop} (cx : mm_X cX3_lacksSo 7 (some .boolean) G p s m args meth c) (hK10 : ∀ (x1 : Int32) (x2 : Int32) (x3 : Int32) (x4 : Int32) (σ : MS), K10 x1 x2 x3 x4 σ → mm_T p l e ({ frames := 4, cells := 0, slots := 0, locals := 160 } : Room) s m args below meth c G (mm_Qi G Q) 7 10 σ [(0, .ref (mm_o G)), (1, .int x1), (2, .int x2), (3, .int x3), (4, .int x4)] []) : ∀ (x1 : Int32) (x2 : Int32) (x3 : Int32) (x4 : Int32) (x5 : Int32) (σ : MS), lp6F (w3_lacksSo_45 Q K10) x1 x2 x3 x4 x5 σ → mm_T p l e ({ frames := 4, cells := 0, slots := 0, locals := 160 } : Room) s m args below meth c G (mm_Qi G Q) 7 45 σ [(0, .ref (mm_o G)), (1, .int x1), (2, .int x2), (3, .int x3), (4, .int x4), (5, .int x5)] [] :=
  lp6F_of (fun K hK => B3_lacksSo_45 cx hK10 hK)
def w3_lacksSo_10 (Q : Int32 → MS → Prop) (K10 : Int32 → Int32 → Int32 → Int32 → MS → Prop) (x1 : Int32) (x2 : Int32) (x3 : Int32) (x4 : Int32) (σ : MS) : Prop :=
  if ((1 : Int32) <<< ((gA σ 0 1) &&& 31)) ≤ x4 then (Q (0 : Int32) σ) else (w3_bits x4 σ (fun r7 s7 => if r7 = x2 then (if (x4 &&& x3) = 0 then (lp6F (w3_lacksSo_45 Q K10) x1 x2 x3 x4 (0 : Int32) s7) else (w3_lacksSo_133 Q K10 x1 x2 x3 x4 s7)) else (w3_lacksSo_133 Q K10 x1 x2 x3 x4 s7)))
set_option maxHeartbeats 4000000 in
theorem B3_lacksSo_10 {l : Launch} {p : Program} {e : Env} {s : State} {m : MethodId} {args : Array Value} {below : List Frame} {meth : Method} {c : Code} {G : mm_G} {Q : Int32 → MS → Prop} {K10 : Int32 → Int32 → Int32 → Int32 → MS → Prop} (cx : mm_X cX3_lacksSo 7 (some .boolean) G p s m args meth c) (hK10 : ∀ (x1 : Int32) (x2 : Int32) (x3 : Int32) (x4 : Int32) (σ : MS), K10 x1 x2 x3 x4 σ → mm_T p l e ({ frames := 4, cells := 0, slots := 0, locals := 160 } : Room) s m args below meth c G (mm_Qi G Q) 7 10 σ [(0, .ref (mm_o G)), (1, .int x1), (2, .int x2), (3, .int x3), (4, .int x4)] []) : ∀ (x1 : Int32) (x2 : Int32) (x3 : Int32) (x4 : Int32) (σ : MS), w3_lacksSo_10 Q K10 x1 x2 x3 x4 σ → mm_T p l e ({ frames := 4, cells := 0, slots := 0, locals := 160 } : Room) s m args below meth c G (mm_Qi G Q) 7 10 σ [(0, .ref (mm_o G)), (1, .int x1), (2, .int x2), (3, .int x3), (4, .int x4)] [] := by
  intro x1 x2 x3 x4 σ hw H locs ls hM hS hl
  unfold w3_lacksSo_10 at hw
  obtain ⟨hx, hb, hml, hown, hts, hr, hlk, hMK, hZ⟩ := id cx
  refine lv_iload hx hb dX3_lacksSo_10 (lv_at hl 4 rfl) ?_
  refine lv_iconst (v := (1 : Int32)) hx hb dX3_lacksSo_12 (by decide) ?_
  refine lv_aload_n hx hb dX3_lacksSo_13 rfl (lv_at hl 0 rfl) ?_
  refine mg_0 cx hM dX3_lacksSo_14 ?_
  refine lv_iconst (v := (1 : Int32)) hx hb dX3_lacksSo_17 (by decide) ?_
  refine mm_iald cx hM 0 rfl (j := 1) (by decide) (vp_lit (by decide)) dX3_lacksSo_18 ?_
  refine lv_ishl hx hb dX3_lacksSo_19 ?_
  refine lv_icmp_ge (tgt := 139) hx hb dX3_lacksSo_20 (by decide) (fun hc => ?_) (fun hc => ?_)
  · have hw := mm_ip hc hw
    refine lv_iconst (v := (0 : Int32)) hx hb dX3_lacksSo_139 (by decide) ?_
    exact mm_zret cx hM hS (Or.inl rfl) hw dX3_lacksSo_140
  · have hw := mm_in hc hw
    refine lv_iload hx hb dX3_lacksSo_23 (lv_at hl 4 rfl) ?_
    refine C3_bits cx hM hS hw ⟨Nat.le_of_ble_eq_true rfl, Nat.le_of_ble_eq_true rfl⟩ (Nat.le_of_ble_eq_true rfl) hl.1 ⟨Nat.zero_le _, Nat.zero_le _⟩ dX3_lacksSo_25 (fun r7 s7 H locs hw hM hS => ?_)
    refine lv_iload_n hx hb dX3_lacksSo_28 rfl (lv_at hl 2 rfl) ?_
    refine lv_icmp_ne (tgt := 133) hx hb dX3_lacksSo_29 (by decide) (fun hc => ?_) (fun hc => ?_)
    · have hw := mm_in hc hw
      exact B3_lacksSo_133 cx hK10 _ _ _ _ _ hw _ _ _ hM hS (lv_sub hl [0, 1, 2, 3, 4] rfl)
    · have hw := mm_ip hc hw
      refine lv_iload hx hb dX3_lacksSo_32 (lv_at hl 4 rfl) ?_
      refine lv_iload_n hx hb dX3_lacksSo_34 rfl (lv_at hl 3 rfl) ?_
      refine lv_iand hx hb dX3_lacksSo_35 ?_
      refine lv_if_eq (tgt := 42) hx hb dX3_lacksSo_36 (by decide) (fun hc => ?_) (fun hc => ?_)
      · have hw := mm_ip hc hw
        refine lv_iconst (v := (0 : Int32)) hx hb dX3_lacksSo_42 (by decide) ?_
        refine lv_istore (lv' := [(5, .int (0 : Int32)), (0, .ref (mm_o G)), (1, .int x1), (2, .int x2), (3, .int x3), (4, .int x4)]) hx hb dX3_lacksSo_43 hl (by decide) rfl (fun ls hl => ?_)
        exact L3_lacksSo_45 cx hK10 _ _ _ _ _ _ hw _ _ _ hM hS (lv_sub hl [1, 2, 3, 4, 5, 0] rfl)
      · have hw := mm_in hc hw
        refine lv_goto (tgt := 133) hx hb dX3_lacksSo_39 (by decide) ?_
        exact B3_lacksSo_133 cx hK10 _ _ _ _ _ hw _ _ _ hM hS (lv_sub hl [0, 1, 2, 3, 4] rfl)
theorem L3_lacksSo_10 {l : Launch} {p : Program} {e : Env} {s : State} {m : MethodId} {args : Array Value} {below : List Frame} {meth : Method} {c : Code} {G : mm_G} {Q : Int32 → MS → Prop} (cx : mm_X cX3_lacksSo 7 (some .boolean) G p s m args meth c) : ∀ (x1 : Int32) (x2 : Int32) (x3 : Int32) (x4 : Int32) (σ : MS), lp5F (w3_lacksSo_10 Q) x1 x2 x3 x4 σ → mm_T p l e ({ frames := 4, cells := 0, slots := 0, locals := 160 } : Room) s m args below meth c G (mm_Qi G Q) 7 10 σ [(0, .ref (mm_o G)), (1, .int x1), (2, .int x2), (3, .int x3), (4, .int x4)] [] :=
  lp5F_of (fun K hK => B3_lacksSo_10 cx hK)
def w3_lacksSo (x1 : Int32) (x2 : Int32) (σ : MS) (Q : Int32 → MS → Prop) : Prop :=
  w3_its x1 (4 : Int32) σ (fun r8 s8 => lp5F (w3_lacksSo_10 Q) x1 x2 r8 (0 : Int32) s8)
set_option maxHeartbeats 4000000 in
theorem M3_lacksSo (l : Launch) (G : mm_G) (x1 : Int32) (x2 : Int32) (σ : MS) (Q : Int32 → MS → Prop) (hw : w3_lacksSo x1 x2 σ Q) : mm_Mi l yX3_lacksSo (ws_ yX3_lacksSo cX3_lacksSo 7 (some .boolean)) ({ frames := 4, cells := 0, slots := 0, locals := 160 } : Room) G [.ref (mm_o G), .int x1, .int x2] σ Q := by
  refine mm_of (by decide) rfl ?_
  intro p e s m args below meth c cx hM ha
  refine mm_entry [.ref (mm_o G), .int x1, .int x2] 7 [(0, .ref (mm_o G)), (1, .int x1), (2, .int x2)] ha (Nat.le_of_ble_eq_true rfl) rfl (fun ls hl => ?_)
  have hS : va_S (mm_A G) s.heap s.heap [] := va_S.rf
  unfold w3_lacksSo at hw
  obtain ⟨hx, hb, hml, hown, hts, hr, hlk, hMK, hZ⟩ := id cx
  refine lv_aload_n hx hb dX3_lacksSo_0 rfl (lv_at hl 0 rfl) ?_
  refine lv_iload_n hx hb dX3_lacksSo_1 rfl (lv_at hl 1 rfl) ?_
  refine lv_iconst (v := (4 : Int32)) hx hb dX3_lacksSo_2 (by decide) ?_
  refine C3_its cx hM hS hw ⟨Nat.le_of_ble_eq_true rfl, Nat.le_of_ble_eq_true rfl⟩ (Nat.le_of_ble_eq_true rfl) hl.1 ⟨Nat.zero_le _, Nat.zero_le _⟩ dX3_lacksSo_3 (fun r8 s8 H locs hw hM hS => ?_)
  refine lv_istore_n (lv' := [(3, .int r8), (0, .ref (mm_o G)), (1, .int x1), (2, .int x2)]) hx hb dX3_lacksSo_6 rfl hl (by decide) rfl (fun ls hl => ?_)
  refine lv_iconst (v := (0 : Int32)) hx hb dX3_lacksSo_7 (by decide) ?_
  refine lv_istore (lv' := [(4, .int (0 : Int32)), (3, .int r8), (0, .ref (mm_o G)), (1, .int x1), (2, .int x2)]) hx hb dX3_lacksSo_8 hl (by decide) rfl (fun ls hl => ?_)
  exact L3_lacksSo_10 cx _ _ _ _ _ hw _ _ _ hM hS (lv_sub hl [2, 3, 4, 1, 0] rfl)
theorem C3_lacksSo {l : Launch} {p : Program} {e : Env} {R : Room} {s : State} {m : MethodId} {args : Array Value} {below : List Frame} {meth : Method} {c : Code} {H : Heap} {locs : List Loc} {cells slots : Nat} {Qz : State → Prop} {cc : ByteArray} {nL : Nat} {ret : Option FieldType} {G : mm_G} {pc : Nat} {ls : Array Slot} {rest : List Value} {x1 : Int32} {x2 : Int32} {σ : MS} (cx : mm_X cc nL ret G p s m args meth c) (hM : mm_R G σ H) (hS0 : va_S (mm_A G) s.heap H locs) {Qf : Int32 → MS → Prop} (hw : w3_lacksSo x1 x2 σ Qf) (hR : (({ frames := 4, cells := 0, slots := 0, locals := 160 } : Room)).frames + 1 ≤ R.frames ∧ 8 + (7 + 11) + (({ frames := 4, cells := 0, slots := 0, locals := 160 } : Room)).locals ≤ R.locals) (hroom : (rest.map fun v => v.category).sum ≤ 8) (hsize : ls.size = nL) (hf : cells ≤ R.cells ∧ slots ≤ R.slots) (hdg : decode cc pc = .ok (.invokevirtual 425, 3))
    (kk : ∀ (r : Int32) (σ1 : MS) (H1 : Heap) (locs1 : List Loc), Qf r σ1 → mm_R G σ1 H1 → va_S (mm_A G) s.heap H1 locs1 → W p l e R s m args below meth c H1 locs1 cells slots Qz (F0 m (pc + 3) ls (.int r :: rest))) : W p l e R s m args below meth c H locs cells slots Qz (F0 m pc ls (.int x2 :: .int x1 :: .ref (mm_o G) :: rest)) := by
  obtain ⟨hx, hb, hml, hown, hts, hr, hlk, hK, hZ⟩ := id cx
  exact mm_Vi cx hM hS0 (As := [.int x1, .int x2]) (M3_lacksSo l G x1 x2 σ Qf hw) (cwV 2 hts (lw_V q2917 q2919 qs140 q172 q2920) rfl rfl rfl (by decide +kernel) hR) rfl hsize rfl hroom hf hdg kk
def w3_lacks_50 (Q : Int32 → MS → Prop) (x2 : Int32) (x3 : Int32) (σ : MS) : Prop :=
  if x3 ≤ (gA σ 0 1) then (if x2 = 0 then (Q x3 σ) else (if x2 = (1 : Int32) then (Q (gI σ 31) σ) else (Q (gI σ 32) σ))) else (Q (-2 : Int32) σ)
set_option maxHeartbeats 4000000 in
theorem B3_lacks_50 {l : Launch} {p : Program} {e : Env} {s : State} {m : MethodId} {args : Array Value} {below : List Frame} {meth : Method} {c : Code} {G : mm_G} {Q : Int32 → MS → Prop} (cx : mm_X cX3_lacks 4 (some .int) G p s m args meth c) : ∀ (x2 : Int32) (x3 : Int32) (σ : MS), w3_lacks_50 Q x2 x3 σ → mm_T p l e ({ frames := 5, cells := 0, slots := 0, locals := 200 } : Room) s m args below meth c G (mm_Qi G Q) 4 50 σ [(0, .ref (mm_o G)), (2, .int x2), (3, .int x3)] [] := by
  intro x2 x3 σ hw H locs ls hM hS hl
  unfold w3_lacks_50 at hw
  obtain ⟨hx, hb, hml, hown, hts, hr, hlk, hMK, hZ⟩ := id cx
  refine lv_iload_n hx hb dX3_lacks_50 rfl (lv_at hl 2 rfl) ?_
  refine lv_aload_n hx hb dX3_lacks_51 rfl (lv_at hl 0 rfl) ?_
  refine mg_0 cx hM dX3_lacks_52 ?_
  refine lv_iconst (v := (1 : Int32)) hx hb dX3_lacks_55 (by decide) ?_
  refine mm_iald cx hM 0 rfl (j := 1) (by decide) (vp_lit (by decide)) dX3_lacks_56 ?_
  refine lv_icmp_le (tgt := 65) hx hb dX3_lacks_57 (by decide) (fun hc => ?_) (fun hc => ?_)
  · have hw := mm_ip hc hw
    refine lv_iload_n hx hb dX3_lacks_65 rfl (lv_at hl 1 rfl) ?_
    refine lv_if_ne (tgt := 73) hx hb dX3_lacks_66 (by decide) (fun hc => ?_) (fun hc => ?_)
    · have hw := mm_in hc hw
      refine lv_iload_n hx hb dX3_lacks_73 rfl (lv_at hl 1 rfl) ?_
      refine lv_iconst (v := (1 : Int32)) hx hb dX3_lacks_74 (by decide) ?_
      refine lv_icmp_ne (tgt := 85) hx hb dX3_lacks_75 (by decide) (fun hc => ?_) (fun hc => ?_)
      · have hw := mm_in hc hw
        refine lv_aload_n hx hb dX3_lacks_85 rfl (lv_at hl 0 rfl) ?_
        refine mg_32 cx hM dX3_lacks_86 ?_
        exact mm_iret cx hM hS hw dX3_lacks_89
      · have hw := mm_ip hc hw
        refine lv_aload_n hx hb dX3_lacks_78 rfl (lv_at hl 0 rfl) ?_
        refine mg_31 cx hM dX3_lacks_79 ?_
        refine lv_goto (tgt := 89) hx hb dX3_lacks_82 (by decide) ?_
        exact mm_iret cx hM hS hw dX3_lacks_89
    · have hw := mm_ip hc hw
      refine lv_iload_n hx hb dX3_lacks_69 rfl (lv_at hl 2 rfl) ?_
      refine lv_goto (tgt := 89) hx hb dX3_lacks_70 (by decide) ?_
      exact mm_iret cx hM hS hw dX3_lacks_89
  · have hw := mm_in hc hw
    refine lv_bipush (v := (-2 : Int32)) hx hb dX3_lacks_60 (by decide) ?_
    refine lv_goto (tgt := 89) hx hb dX3_lacks_62 (by decide) ?_
    exact mm_iret cx hM hS hw dX3_lacks_89
def w3_lacks_25 (Q : Int32 → MS → Prop) (K25 : Int32 → Int32 → Int32 → MS → Prop) (x1 : Int32) (x2 : Int32) (x3 : Int32) (σ : MS) : Prop :=
  if (gA σ 0 1) < x3 then (w3_lacks_50 Q x2 x3 σ) else (w3_lacksSo x1 x3 σ (fun r1 s1 => if r1 = 0 then (∀ v2 : Int32, v2 = x3 + (1 : Int32) → K25 x1 x2 v2 s1) else (w3_lacks_50 Q x2 x3 s1)))
set_option maxHeartbeats 4000000 in
theorem B3_lacks_25 {l : Launch} {p : Program} {e : Env} {s : State} {m : MethodId} {args : Array Value} {below : List Frame} {meth : Method} {c : Code} {G : mm_G} {Q : Int32 → MS → Prop} {K25 : Int32 → Int32 → Int32 → MS → Prop} (cx : mm_X cX3_lacks 4 (some .int) G p s m args meth c) (hK25 : ∀ (x1 : Int32) (x2 : Int32) (x3 : Int32) (σ : MS), K25 x1 x2 x3 σ → mm_T p l e ({ frames := 5, cells := 0, slots := 0, locals := 200 } : Room) s m args below meth c G (mm_Qi G Q) 4 25 σ [(0, .ref (mm_o G)), (1, .int x1), (2, .int x2), (3, .int x3)] []) : ∀ (x1 : Int32) (x2 : Int32) (x3 : Int32) (σ : MS), w3_lacks_25 Q K25 x1 x2 x3 σ → mm_T p l e ({ frames := 5, cells := 0, slots := 0, locals := 200 } : Room) s m args below meth c G (mm_Qi G Q) 4 25 σ [(0, .ref (mm_o G)), (1, .int x1), (2, .int x2), (3, .int x3)] [] := by
  intro x1 x2 x3 σ hw H locs ls hM hS hl
  unfold w3_lacks_25 at hw
  obtain ⟨hx, hb, hml, hown, hts, hr, hlk, hMK, hZ⟩ := id cx
  refine lv_iload_n hx hb dX3_lacks_25 rfl (lv_at hl 3 rfl) ?_
  refine lv_aload_n hx hb dX3_lacks_26 rfl (lv_at hl 0 rfl) ?_
  refine mg_0 cx hM dX3_lacks_27 ?_
  refine lv_iconst (v := (1 : Int32)) hx hb dX3_lacks_30 (by decide) ?_
  refine mm_iald cx hM 0 rfl (j := 1) (by decide) (vp_lit (by decide)) dX3_lacks_31 ?_
  refine lv_icmp_gt (tgt := 50) hx hb dX3_lacks_32 (by decide) (fun hc => ?_) (fun hc => ?_)
  · have hw := mm_ip hc hw
    exact B3_lacks_50 cx _ _ _ hw _ _ _ hM hS (lv_sub hl [0, 2, 3] rfl)
  · have hw := mm_in hc hw
    refine lv_aload_n hx hb dX3_lacks_35 rfl (lv_at hl 0 rfl) ?_
    refine lv_iload_n hx hb dX3_lacks_36 rfl (lv_at hl 1 rfl) ?_
    refine lv_iload_n hx hb dX3_lacks_37 rfl (lv_at hl 3 rfl) ?_
    refine C3_lacksSo cx hM hS hw ⟨Nat.le_of_ble_eq_true rfl, Nat.le_of_ble_eq_true rfl⟩ (Nat.le_of_ble_eq_true rfl) hl.1 ⟨Nat.zero_le _, Nat.zero_le _⟩ dX3_lacks_38 (fun r1 s1 H locs hw hM hS => ?_)
    refine lv_if_ne (tgt := 50) hx hb dX3_lacks_41 (by decide) (fun hc => ?_) (fun hc => ?_)
    · have hw := mm_in hc hw
      exact B3_lacks_50 cx _ _ _ hw _ _ _ hM hS (lv_sub hl [0, 2, 3] rfl)
    · have hw := mm_ip hc hw
      obtain ⟨v2, hv2⟩ : ∃ v : Int32, v = x3 + (1 : Int32) := ⟨_, rfl⟩
      have hw := hw v2 hv2
      refine lv_iinc (v := v2) (lv' := [(3, .int v2), (0, .ref (mm_o G)), (1, .int x1), (2, .int x2)]) hx hb dX3_lacks_44 hl (k := 3) rfl (by rw [hv2]; rfl) (by decide) rfl (fun ls hl => ?_)
      refine lv_goto (tgt := 25) hx hb dX3_lacks_47 (by decide) ?_
      exact hK25 _ _ _ _ hw _ _ _ hM hS (lv_sub hl [1, 2, 3, 0] rfl)
theorem L3_lacks_25 {l : Launch} {p : Program} {e : Env} {s : State} {m : MethodId} {args : Array Value} {below : List Frame} {meth : Method} {c : Code} {G : mm_G} {Q : Int32 → MS → Prop} (cx : mm_X cX3_lacks 4 (some .int) G p s m args meth c) : ∀ (x1 : Int32) (x2 : Int32) (x3 : Int32) (σ : MS), lp4F (w3_lacks_25 Q) x1 x2 x3 σ → mm_T p l e ({ frames := 5, cells := 0, slots := 0, locals := 200 } : Room) s m args below meth c G (mm_Qi G Q) 4 25 σ [(0, .ref (mm_o G)), (1, .int x1), (2, .int x2), (3, .int x3)] [] :=
  lp4F_of (fun K hK => B3_lacks_25 cx hK)
def w3_lacks (x1 : Int32) (x2 : Int32) (σ : MS) (Q : Int32 → MS → Prop) : Prop :=
  w3_isCount x1 σ (fun r3 s3 => if r3 = 0 then (Q (-1 : Int32) s3) else (w3_in x2 (0 : Int32) (2 : Int32) s3 (fun r4 s4 => if r4 = 0 then (Q (-1 : Int32) s4) else (w3_laysBacks s4 (fun s5 => lp4F (w3_lacks_25 Q) x1 x2 (0 : Int32) s5)))))
set_option maxHeartbeats 4000000 in
theorem M3_lacks (l : Launch) (G : mm_G) (x1 : Int32) (x2 : Int32) (σ : MS) (Q : Int32 → MS → Prop) (hw : w3_lacks x1 x2 σ Q) : mm_Mi l yX3_lacks (ws_ yX3_lacks cX3_lacks 4 (some .int)) ({ frames := 5, cells := 0, slots := 0, locals := 200 } : Room) G [.ref (mm_o G), .int x1, .int x2] σ Q := by
  refine mm_of (by decide) rfl ?_
  intro p e s m args below meth c cx hM ha
  refine mm_entry [.ref (mm_o G), .int x1, .int x2] 4 [(0, .ref (mm_o G)), (1, .int x1), (2, .int x2)] ha (Nat.le_of_ble_eq_true rfl) rfl (fun ls hl => ?_)
  have hS : va_S (mm_A G) s.heap s.heap [] := va_S.rf
  unfold w3_lacks at hw
  obtain ⟨hx, hb, hml, hown, hts, hr, hlk, hMK, hZ⟩ := id cx
  refine lv_aload_n hx hb dX3_lacks_0 rfl (lv_at hl 0 rfl) ?_
  refine lv_iload_n hx hb dX3_lacks_1 rfl (lv_at hl 1 rfl) ?_
  refine C3_isCount cx hM hS hw ⟨Nat.le_of_ble_eq_true rfl, Nat.le_of_ble_eq_true rfl⟩ (Nat.le_of_ble_eq_true rfl) hl.1 ⟨Nat.zero_le _, Nat.zero_le _⟩ dX3_lacks_2 (fun r3 s3 H locs hw hM hS => ?_)
  refine lv_if_eq (tgt := 17) hx hb dX3_lacks_5 (by decide) (fun hc => ?_) (fun hc => ?_)
  · have hw := mm_ip hc hw
    refine lv_iconst (v := (-1 : Int32)) hx hb dX3_lacks_17 (by decide) ?_
    exact mm_iret cx hM hS hw dX3_lacks_18
  · have hw := mm_in hc hw
    refine lv_iload_n hx hb dX3_lacks_8 rfl (lv_at hl 2 rfl) ?_
    refine lv_iconst (v := (0 : Int32)) hx hb dX3_lacks_9 (by decide) ?_
    refine lv_iconst (v := (2 : Int32)) hx hb dX3_lacks_10 (by decide) ?_
    refine C3_in cx hM hS hw ⟨Nat.le_of_ble_eq_true rfl, Nat.le_of_ble_eq_true rfl⟩ (Nat.le_of_ble_eq_true rfl) hl.1 ⟨Nat.zero_le _, Nat.zero_le _⟩ dX3_lacks_11 (fun r4 s4 H locs hw hM hS => ?_)
    refine lv_if_ne (tgt := 19) hx hb dX3_lacks_14 (by decide) (fun hc => ?_) (fun hc => ?_)
    · have hw := mm_in hc hw
      refine lv_aload_n hx hb dX3_lacks_19 rfl (lv_at hl 0 rfl) ?_
      refine C3_laysBacks cx hM hS hw ⟨Nat.le_of_ble_eq_true rfl, Nat.le_of_ble_eq_true rfl⟩ (Nat.le_of_ble_eq_true rfl) hl.1 ⟨Nat.zero_le _, Nat.zero_le _⟩ dX3_lacks_20 (fun s5 H locs hw hM hS => ?_)
      refine lv_iconst (v := (0 : Int32)) hx hb dX3_lacks_23 (by decide) ?_
      refine lv_istore_n (lv' := [(3, .int (0 : Int32)), (0, .ref (mm_o G)), (1, .int x1), (2, .int x2)]) hx hb dX3_lacks_24 rfl hl (by decide) rfl (fun ls hl => ?_)
      exact L3_lacks_25 cx _ _ _ _ hw _ _ _ hM hS (lv_sub hl [1, 2, 3, 0] rfl)
    · have hw := mm_ip hc hw
      refine lv_iconst (v := (-1 : Int32)) hx hb dX3_lacks_17 (by decide) ?_
      exact mm_iret cx hM hS hw dX3_lacks_18
-- no call of lacks
def w3_grown_32 (Q : Int32 → MS → Prop) (K32 : Int32 → Int64 → Int32 → MS → Prop) (x2 : Int32) (x3 : Int64) (x5 : Int32) (σ : MS) : Prop :=
  if x2 ≤ x5 then (Q ((x3).toInt32) σ) else (∀ v1 : Int64, v1 = (x3 + (x3 / (10 : Int64))) → if (lg_cmp v1 (2147483647 : Int64)) ≤ 0 then (∀ v2 : Int32, v2 = x5 + (1 : Int32) → K32 x2 v1 v2 σ) else (Q (-2 : Int32) σ))
set_option maxHeartbeats 4000000 in
theorem B3_grown_32 {l : Launch} {p : Program} {e : Env} {s : State} {m : MethodId} {args : Array Value} {below : List Frame} {meth : Method} {c : Code} {G : mm_G} {Q : Int32 → MS → Prop} {K32 : Int32 → Int64 → Int32 → MS → Prop} (cx : mm_X cX3_grown 6 (some .int) G p s m args meth c) (hK32 : ∀ (x2 : Int32) (x3 : Int64) (x5 : Int32) (σ : MS), K32 x2 x3 x5 σ → mm_T p l e ({ frames := 2, cells := 0, slots := 0, locals := 80 } : Room) s m args below meth c G (mm_Qi G Q) 6 32 σ [(0, .ref (mm_o G)), (2, .int x2), (3, .long x3), (5, .int x5)] []) : ∀ (x2 : Int32) (x3 : Int64) (x5 : Int32) (σ : MS), w3_grown_32 Q K32 x2 x3 x5 σ → mm_T p l e ({ frames := 2, cells := 0, slots := 0, locals := 80 } : Room) s m args below meth c G (mm_Qi G Q) 6 32 σ [(0, .ref (mm_o G)), (2, .int x2), (3, .long x3), (5, .int x5)] [] := by
  intro x2 x3 x5 σ hw H locs ls hM hS hl
  unfold w3_grown_32 at hw
  obtain ⟨hx, hb, hml, hown, hts, hr, hlk, hMK, hZ⟩ := id cx
  refine lv_iload hx hb dX3_grown_32 (lv_at hl 3 rfl) ?_
  refine lv_iload_n hx hb dX3_grown_34 rfl (lv_at hl 1 rfl) ?_
  refine lv_icmp_ge (tgt := 63) hx hb dX3_grown_35 (by decide) (fun hc => ?_) (fun hc => ?_)
  · have hw := mm_ip hc hw
    refine lv_lload_n hx hb dX3_grown_63 rfl (lv_at hl 2 rfl) ?_
    refine lv_l2i hx hb dX3_grown_64 rfl ?_
    exact mm_iret cx hM hS hw dX3_grown_65
  · have hw := mm_in hc hw
    refine lv_lload_n hx hb dX3_grown_38 rfl (lv_at hl 2 rfl) ?_
    refine lv_lload_n hx hb dX3_grown_39 rfl (lv_at hl 2 rfl) ?_
    refine lv_ldc2 (v := (10 : Int64)) hx hb hown (hts _ q2925) dX3_grown_40 ?_
    refine lv_ldiv hx hb dX3_grown_43 (by decide) ?_
    refine lv_ladd hx hb dX3_grown_44 ?_
    refine lv_topl (fun v1 hv1 => ?_)
    have hw := hw v1 hv1
    refine lv_lstore_n (lv' := [(3, .long v1), (0, .ref (mm_o G)), (2, .int x2), (5, .int x5)]) hx hb dX3_grown_45 rfl hl (by decide) rfl (fun ls hl => ?_)
    refine lv_lload_n hx hb dX3_grown_46 rfl (lv_at hl 0 rfl) ?_
    refine lv_ldc2 (v := (2147483647 : Int64)) hx hb hown (hts _ q2926) dX3_grown_47 ?_
    refine W.lcmp hx hb dX3_grown_50 ?_
    refine lv_if_le (tgt := 57) hx hb dX3_grown_51 (by decide) (fun hc => ?_) (fun hc => ?_)
    · have hw := mm_ip hc hw
      obtain ⟨v2, hv2⟩ : ∃ v : Int32, v = x5 + (1 : Int32) := ⟨_, rfl⟩
      have hw := hw v2 hv2
      refine lv_iinc (v := v2) (lv' := [(5, .int v2), (3, .long v1), (0, .ref (mm_o G)), (2, .int x2)]) hx hb dX3_grown_57 hl (k := 3) rfl (by rw [hv2]; rfl) (by decide) rfl (fun ls hl => ?_)
      refine lv_goto (tgt := 32) hx hb dX3_grown_60 (by decide) ?_
      exact hK32 _ _ _ _ hw _ _ _ hM hS (lv_sub hl [2, 3, 1, 0] rfl)
    · have hw := mm_in hc hw
      refine lv_bipush (v := (-2 : Int32)) hx hb dX3_grown_54 (by decide) ?_
      exact mm_iret cx hM hS hw dX3_grown_56
theorem L3_grown_32 {l : Launch} {p : Program} {e : Env} {s : State} {m : MethodId} {args : Array Value} {below : List Frame} {meth : Method} {c : Code} {G : mm_G} {Q : Int32 → MS → Prop} (cx : mm_X cX3_grown 6 (some .int) G p s m args meth c) : ∀ (x2 : Int32) (x3 : Int64) (x5 : Int32) (σ : MS), lp4F (w3_grown_32 Q) x2 x3 x5 σ → mm_T p l e ({ frames := 2, cells := 0, slots := 0, locals := 80 } : Room) s m args below meth c G (mm_Qi G Q) 6 32 σ [(0, .ref (mm_o G)), (2, .int x2), (3, .long x3), (5, .int x5)] [] :=
  lp4F_of (fun K hK => B3_grown_32 cx hK)
def w3_grown (x1 : Int32) (x2 : Int32) (σ : MS) (Q : Int32 → MS → Prop) : Prop :=
  w3_isCount x1 σ (fun r3 s3 => if r3 = 0 then (Q (-1 : Int32) s3) else (w3_in x2 (0 : Int32) (400 : Int32) s3 (fun r4 s4 => if r4 = 0 then (Q (-1 : Int32) s4) else (w3_its x1 (2 : Int32) s4 (fun r5 s5 => ∀ v6 : Int64, v6 = (r5).toInt64 → lp4F (w3_grown_32 Q) x2 v6 (0 : Int32) s5)))))
set_option maxHeartbeats 4000000 in
theorem M3_grown (l : Launch) (G : mm_G) (x1 : Int32) (x2 : Int32) (σ : MS) (Q : Int32 → MS → Prop) (hw : w3_grown x1 x2 σ Q) : mm_Mi l yX3_grown (ws_ yX3_grown cX3_grown 6 (some .int)) ({ frames := 2, cells := 0, slots := 0, locals := 80 } : Room) G [.ref (mm_o G), .int x1, .int x2] σ Q := by
  refine mm_of (by decide) rfl ?_
  intro p e s m args below meth c cx hM ha
  refine mm_entry [.ref (mm_o G), .int x1, .int x2] 6 [(0, .ref (mm_o G)), (1, .int x1), (2, .int x2)] ha (Nat.le_of_ble_eq_true rfl) rfl (fun ls hl => ?_)
  have hS : va_S (mm_A G) s.heap s.heap [] := va_S.rf
  unfold w3_grown at hw
  obtain ⟨hx, hb, hml, hown, hts, hr, hlk, hMK, hZ⟩ := id cx
  refine lv_aload_n hx hb dX3_grown_0 rfl (lv_at hl 0 rfl) ?_
  refine lv_iload_n hx hb dX3_grown_1 rfl (lv_at hl 1 rfl) ?_
  refine C3_isCount cx hM hS hw ⟨Nat.le_of_ble_eq_true rfl, Nat.le_of_ble_eq_true rfl⟩ (Nat.le_of_ble_eq_true rfl) hl.1 ⟨Nat.zero_le _, Nat.zero_le _⟩ dX3_grown_2 (fun r3 s3 H locs hw hM hS => ?_)
  refine lv_if_eq (tgt := 19) hx hb dX3_grown_5 (by decide) (fun hc => ?_) (fun hc => ?_)
  · have hw := mm_ip hc hw
    refine lv_iconst (v := (-1 : Int32)) hx hb dX3_grown_19 (by decide) ?_
    exact mm_iret cx hM hS hw dX3_grown_20
  · have hw := mm_in hc hw
    refine lv_iload_n hx hb dX3_grown_8 rfl (lv_at hl 2 rfl) ?_
    refine lv_iconst (v := (0 : Int32)) hx hb dX3_grown_9 (by decide) ?_
    refine lv_sipush (v := (400 : Int32)) hx hb dX3_grown_10 (by decide) ?_
    refine C3_in cx hM hS hw ⟨Nat.le_of_ble_eq_true rfl, Nat.le_of_ble_eq_true rfl⟩ (Nat.le_of_ble_eq_true rfl) hl.1 ⟨Nat.zero_le _, Nat.zero_le _⟩ dX3_grown_13 (fun r4 s4 H locs hw hM hS => ?_)
    refine lv_if_ne (tgt := 21) hx hb dX3_grown_16 (by decide) (fun hc => ?_) (fun hc => ?_)
    · have hw := mm_in hc hw
      refine lv_aload_n hx hb dX3_grown_21 rfl (lv_at hl 0 rfl) ?_
      refine lv_iload_n hx hb dX3_grown_22 rfl (lv_at hl 1 rfl) ?_
      refine lv_iconst (v := (2 : Int32)) hx hb dX3_grown_23 (by decide) ?_
      refine C3_its cx hM hS hw ⟨Nat.le_of_ble_eq_true rfl, Nat.le_of_ble_eq_true rfl⟩ (Nat.le_of_ble_eq_true rfl) hl.1 ⟨Nat.zero_le _, Nat.zero_le _⟩ dX3_grown_24 (fun r5 s5 H locs hw hM hS => ?_)
      refine lv_i2l hx hb dX3_grown_27 rfl ?_
      refine lv_topl (fun v6 hv6 => ?_)
      have hw := hw v6 hv6
      refine lv_lstore_n (lv' := [(3, .long v6), (0, .ref (mm_o G)), (1, .int x1), (2, .int x2)]) hx hb dX3_grown_28 rfl hl (by decide) rfl (fun ls hl => ?_)
      refine lv_iconst (v := (0 : Int32)) hx hb dX3_grown_29 (by decide) ?_
      refine lv_istore (lv' := [(5, .int (0 : Int32)), (3, .long v6), (0, .ref (mm_o G)), (1, .int x1), (2, .int x2)]) hx hb dX3_grown_30 hl (by decide) rfl (fun ls hl => ?_)
      exact L3_grown_32 cx _ _ _ _ hw _ _ _ hM hS (lv_sub hl [2, 4, 1, 0] rfl)
    · have hw := mm_ip hc hw
      refine lv_iconst (v := (-1 : Int32)) hx hb dX3_grown_19 (by decide) ?_
      exact mm_iret cx hM hS hw dX3_grown_20
-- no call of grown
def w3_issues_93 (Q : Int32 → MS → Prop) (K14 : Int32 → Int32 → Int32 → MS → Prop) (x1 : Int32) (x2 : Int32) (x3 : Int32) (σ : MS) : Prop :=
  ∀ v1 : Int32, v1 = x3 + (1 : Int32) → K14 x1 x2 v1 σ
set_option maxHeartbeats 4000000 in
theorem B3_issues_93 {l : Launch} {p : Program} {e : Env} {s : State} {m : MethodId} {args : Array Value} {below : List Frame} {meth : Method} {c : Code} {G : mm_G} {Q : Int32 → MS → Prop} {K14 : Int32 → Int32 → Int32 → MS → Prop} (cx : mm_X cX3_issues 6 (some .int) G p s m args meth c) (hK14 : ∀ (x1 : Int32) (x2 : Int32) (x3 : Int32) (σ : MS), K14 x1 x2 x3 σ → mm_T p l e ({ frames := 2, cells := 0, slots := 0, locals := 80 } : Room) s m args below meth c G (mm_Qi G Q) 6 14 σ [(0, .ref (mm_o G)), (1, .int x1), (2, .int x2), (3, .int x3)] []) : ∀ (x1 : Int32) (x2 : Int32) (x3 : Int32) (σ : MS), w3_issues_93 Q K14 x1 x2 x3 σ → mm_T p l e ({ frames := 2, cells := 0, slots := 0, locals := 80 } : Room) s m args below meth c G (mm_Qi G Q) 6 93 σ [(0, .ref (mm_o G)), (1, .int x1), (2, .int x2), (3, .int x3)] [] := by
  intro x1 x2 x3 σ hw H locs ls hM hS hl
  unfold w3_issues_93 at hw
  obtain ⟨hx, hb, hml, hown, hts, hr, hlk, hMK, hZ⟩ := id cx
  obtain ⟨v1, hv1⟩ : ∃ v : Int32, v = x3 + (1 : Int32) := ⟨_, rfl⟩
  have hw := hw v1 hv1
  refine lv_iinc (v := v1) (lv' := [(3, .int v1), (0, .ref (mm_o G)), (1, .int x1), (2, .int x2)]) hx hb dX3_issues_93 hl (k := 3) rfl (by rw [hv1]; rfl) (by decide) rfl (fun ls hl => ?_)
  refine lv_goto (tgt := 14) hx hb dX3_issues_96 (by decide) ?_
  exact hK14 _ _ _ _ hw _ _ _ hM hS (lv_sub hl [1, 2, 3, 0] rfl)
def w3_issues_85 (Q : Int32 → MS → Prop) (K14 : Int32 → Int32 → Int32 → MS → Prop) (K24 : Int32 → Int32 → Int32 → Int32 → MS → Prop) (x1 : Int32) (x3 : Int32) (x4 : Int32) (t0 : Int32) (t1 : Int32) (σ : MS) : Prop :=
  ∀ v2 : Int32, v2 = (t0 ||| t1) → ∀ v3 : Int32, v3 = x4 + (1 : Int32) → K24 x1 v2 x3 v3 σ
set_option maxHeartbeats 4000000 in
theorem B3_issues_85 {l : Launch} {p : Program} {e : Env} {s : State} {m : MethodId} {args : Array Value} {below : List Frame} {meth : Method} {c : Code} {G : mm_G} {Q : Int32 → MS → Prop} {K14 : Int32 → Int32 → Int32 → MS → Prop} {K24 : Int32 → Int32 → Int32 → Int32 → MS → Prop} (cx : mm_X cX3_issues 6 (some .int) G p s m args meth c) (hK14 : ∀ (x1 : Int32) (x2 : Int32) (x3 : Int32) (σ : MS), K14 x1 x2 x3 σ → mm_T p l e ({ frames := 2, cells := 0, slots := 0, locals := 80 } : Room) s m args below meth c G (mm_Qi G Q) 6 14 σ [(0, .ref (mm_o G)), (1, .int x1), (2, .int x2), (3, .int x3)] []) (hK24 : ∀ (x1 : Int32) (x2 : Int32) (x3 : Int32) (x4 : Int32) (σ : MS), K24 x1 x2 x3 x4 σ → mm_T p l e ({ frames := 2, cells := 0, slots := 0, locals := 80 } : Room) s m args below meth c G (mm_Qi G Q) 6 24 σ [(0, .ref (mm_o G)), (1, .int x1), (2, .int x2), (3, .int x3), (4, .int x4)] []) : ∀ (x1 : Int32) (x3 : Int32) (x4 : Int32) (t0 : Int32) (t1 : Int32) (σ : MS), w3_issues_85 Q K14 K24 x1 x3 x4 t0 t1 σ → mm_T p l e ({ frames := 2, cells := 0, slots := 0, locals := 80 } : Room) s m args below meth c G (mm_Qi G Q) 6 85 σ [(0, .ref (mm_o G)), (1, .int x1), (3, .int x3), (4, .int x4)] [.int t1, .int t0] := by
  intro x1 x3 x4 t0 t1 σ hw H locs ls hM hS hl
  unfold w3_issues_85 at hw
  obtain ⟨hx, hb, hml, hown, hts, hr, hlk, hMK, hZ⟩ := id cx
  refine lv_ior hx hb dX3_issues_85 ?_
  refine lv_topi (fun v2 hv2 => ?_)
  have hw := hw v2 hv2
  refine lv_istore_n (lv' := [(2, .int v2), (0, .ref (mm_o G)), (1, .int x1), (3, .int x3), (4, .int x4)]) hx hb dX3_issues_86 rfl hl (by decide) rfl (fun ls hl => ?_)
  obtain ⟨v3, hv3⟩ : ∃ v : Int32, v = x4 + (1 : Int32) := ⟨_, rfl⟩
  have hw := hw v3 hv3
  refine lv_iinc (v := v3) (lv' := [(4, .int v3), (2, .int v2), (0, .ref (mm_o G)), (1, .int x1), (3, .int x3)]) hx hb dX3_issues_87 hl (k := 4) rfl (by rw [hv3]; rfl) (by decide) rfl (fun ls hl => ?_)
  refine lv_goto (tgt := 24) hx hb dX3_issues_90 (by decide) ?_
  exact hK24 _ _ _ _ _ hw _ _ _ hM hS (lv_sub hl [2, 3, 1, 4, 0] rfl)
def w3_issues_84 (Q : Int32 → MS → Prop) (K14 : Int32 → Int32 → Int32 → MS → Prop) (K24 : Int32 → Int32 → Int32 → Int32 → MS → Prop) (x1 : Int32) (x3 : Int32) (x4 : Int32) (t0 : Int32) (σ : MS) : Prop :=
  w3_issues_85 Q K14 K24 x1 x3 x4 t0 (0 : Int32) σ
set_option maxHeartbeats 4000000 in
theorem B3_issues_84 {l : Launch} {p : Program} {e : Env} {s : State} {m : MethodId} {args : Array Value} {below : List Frame} {meth : Method} {c : Code} {G : mm_G} {Q : Int32 → MS → Prop} {K14 : Int32 → Int32 → Int32 → MS → Prop} {K24 : Int32 → Int32 → Int32 → Int32 → MS → Prop} (cx : mm_X cX3_issues 6 (some .int) G p s m args meth c) (hK14 : ∀ (x1 : Int32) (x2 : Int32) (x3 : Int32) (σ : MS), K14 x1 x2 x3 σ → mm_T p l e ({ frames := 2, cells := 0, slots := 0, locals := 80 } : Room) s m args below meth c G (mm_Qi G Q) 6 14 σ [(0, .ref (mm_o G)), (1, .int x1), (2, .int x2), (3, .int x3)] []) (hK24 : ∀ (x1 : Int32) (x2 : Int32) (x3 : Int32) (x4 : Int32) (σ : MS), K24 x1 x2 x3 x4 σ → mm_T p l e ({ frames := 2, cells := 0, slots := 0, locals := 80 } : Room) s m args below meth c G (mm_Qi G Q) 6 24 σ [(0, .ref (mm_o G)), (1, .int x1), (2, .int x2), (3, .int x3), (4, .int x4)] []) : ∀ (x1 : Int32) (x3 : Int32) (x4 : Int32) (t0 : Int32) (σ : MS), w3_issues_84 Q K14 K24 x1 x3 x4 t0 σ → mm_T p l e ({ frames := 2, cells := 0, slots := 0, locals := 80 } : Room) s m args below meth c G (mm_Qi G Q) 6 84 σ [(0, .ref (mm_o G)), (1, .int x1), (3, .int x3), (4, .int x4)] [.int t0] := by
  intro x1 x3 x4 t0 σ hw H locs ls hM hS hl
  unfold w3_issues_84 at hw
  obtain ⟨hx, hb, hml, hown, hts, hr, hlk, hMK, hZ⟩ := id cx
  refine lv_iconst (v := (0 : Int32)) hx hb dX3_issues_84 (by decide) ?_
  exact B3_issues_85 cx hK14 hK24 _ _ _ _ _ _ hw _ _ _ hM hS (lv_sub hl [0, 1, 2, 3] rfl)
def w3_issues_24 (Q : Int32 → MS → Prop) (K14 : Int32 → Int32 → Int32 → MS → Prop) (K24 : Int32 → Int32 → Int32 → Int32 → MS → Prop) (x1 : Int32) (x2 : Int32) (x3 : Int32) (x4 : Int32) (σ : MS) : Prop :=
  if (gA σ 0 1) ≤ x4 then (w3_issues_93 Q K14 x1 x2 x3 σ) else (w3_isLeft x3 σ (fun r4 s4 => if r4 = 0 then (w3_issues_93 Q K14 x1 x2 x3 s4) else (∀ v5 : Int32, v5 = (x3 ^^^ ((1 : Int32) <<< (x4 &&& 31))) → w3_isLeft v5 s4 (fun r6 s6 => if r6 = 0 then (w3_issues_84 Q K14 K24 x1 x3 x4 x2 s6) else (w3_isWon x1 x3 s6 (fun r7 s7 => w3_isWon x1 v5 s7 (fun r8 s8 => if r7 = r8 then (w3_issues_84 Q K14 K24 x1 x3 x4 x2 s8) else (w3_issues_85 Q K14 K24 x1 x3 x4 x2 ((1 : Int32) <<< (x4 &&& 31)) s8))))))))
set_option maxHeartbeats 4000000 in
theorem B3_issues_24 {l : Launch} {p : Program} {e : Env} {s : State} {m : MethodId} {args : Array Value} {below : List Frame} {meth : Method} {c : Code} {G : mm_G} {Q : Int32 → MS → Prop} {K14 : Int32 → Int32 → Int32 → MS → Prop} {K24 : Int32 → Int32 → Int32 → Int32 → MS → Prop} (cx : mm_X cX3_issues 6 (some .int) G p s m args meth c) (hK14 : ∀ (x1 : Int32) (x2 : Int32) (x3 : Int32) (σ : MS), K14 x1 x2 x3 σ → mm_T p l e ({ frames := 2, cells := 0, slots := 0, locals := 80 } : Room) s m args below meth c G (mm_Qi G Q) 6 14 σ [(0, .ref (mm_o G)), (1, .int x1), (2, .int x2), (3, .int x3)] []) (hK24 : ∀ (x1 : Int32) (x2 : Int32) (x3 : Int32) (x4 : Int32) (σ : MS), K24 x1 x2 x3 x4 σ → mm_T p l e ({ frames := 2, cells := 0, slots := 0, locals := 80 } : Room) s m args below meth c G (mm_Qi G Q) 6 24 σ [(0, .ref (mm_o G)), (1, .int x1), (2, .int x2), (3, .int x3), (4, .int x4)] []) : ∀ (x1 : Int32) (x2 : Int32) (x3 : Int32) (x4 : Int32) (σ : MS), w3_issues_24 Q K14 K24 x1 x2 x3 x4 σ → mm_T p l e ({ frames := 2, cells := 0, slots := 0, locals := 80 } : Room) s m args below meth c G (mm_Qi G Q) 6 24 σ [(0, .ref (mm_o G)), (1, .int x1), (2, .int x2), (3, .int x3), (4, .int x4)] [] := by
  intro x1 x2 x3 x4 σ hw H locs ls hM hS hl
  unfold w3_issues_24 at hw
  obtain ⟨hx, hb, hml, hown, hts, hr, hlk, hMK, hZ⟩ := id cx
  refine lv_iload hx hb dX3_issues_24 (lv_at hl 4 rfl) ?_
  refine lv_aload_n hx hb dX3_issues_26 rfl (lv_at hl 0 rfl) ?_
  refine mg_0 cx hM dX3_issues_27 ?_
  refine lv_iconst (v := (1 : Int32)) hx hb dX3_issues_30 (by decide) ?_
  refine mm_iald cx hM 0 rfl (j := 1) (by decide) (vp_lit (by decide)) dX3_issues_31 ?_
  refine lv_icmp_ge (tgt := 93) hx hb dX3_issues_32 (by decide) (fun hc => ?_) (fun hc => ?_)
  · have hw := mm_ip hc hw
    exact B3_issues_93 cx hK14 _ _ _ _ hw _ _ _ hM hS (lv_sub hl [0, 1, 2, 3] rfl)
  · have hw := mm_in hc hw
    refine lv_aload_n hx hb dX3_issues_35 rfl (lv_at hl 0 rfl) ?_
    refine lv_iload_n hx hb dX3_issues_36 rfl (lv_at hl 3 rfl) ?_
    refine C3_isLeft cx hM hS hw ⟨Nat.le_of_ble_eq_true rfl, Nat.le_of_ble_eq_true rfl⟩ (Nat.le_of_ble_eq_true rfl) hl.1 ⟨Nat.zero_le _, Nat.zero_le _⟩ dX3_issues_37 (fun r4 s4 H locs hw hM hS => ?_)
    refine lv_if_eq (tgt := 93) hx hb dX3_issues_40 (by decide) (fun hc => ?_) (fun hc => ?_)
    · have hw := mm_ip hc hw
      exact B3_issues_93 cx hK14 _ _ _ _ hw _ _ _ hM hS (lv_sub hl [0, 1, 2, 3] rfl)
    · have hw := mm_in hc hw
      refine lv_iload_n hx hb dX3_issues_43 rfl (lv_at hl 3 rfl) ?_
      refine lv_iconst (v := (1 : Int32)) hx hb dX3_issues_44 (by decide) ?_
      refine lv_iload hx hb dX3_issues_45 (lv_at hl 4 rfl) ?_
      refine lv_ishl hx hb dX3_issues_47 ?_
      refine lv_ixor hx hb dX3_issues_48 ?_
      refine lv_topi (fun v5 hv5 => ?_)
      have hw := hw v5 hv5
      refine lv_istore (lv' := [(5, .int v5), (0, .ref (mm_o G)), (1, .int x1), (2, .int x2), (3, .int x3), (4, .int x4)]) hx hb dX3_issues_49 hl (by decide) rfl (fun ls hl => ?_)
      refine lv_iload_n hx hb dX3_issues_51 rfl (lv_at hl 3 rfl) ?_
      refine lv_aload_n hx hb dX3_issues_52 rfl (lv_at hl 1 rfl) ?_
      refine lv_iload hx hb dX3_issues_53 (lv_at hl 0 rfl) ?_
      refine C3_isLeft cx hM hS hw ⟨Nat.le_of_ble_eq_true rfl, Nat.le_of_ble_eq_true rfl⟩ (Nat.le_of_ble_eq_true rfl) hl.1 ⟨Nat.zero_le _, Nat.zero_le _⟩ dX3_issues_55 (fun r6 s6 H locs hw hM hS => ?_)
      refine lv_if_eq (tgt := 84) hx hb dX3_issues_58 (by decide) (fun hc => ?_) (fun hc => ?_)
      · have hw := mm_ip hc hw
        exact B3_issues_84 cx hK14 hK24 _ _ _ _ _ hw _ _ _ hM hS (lv_sub hl [1, 2, 4, 5] rfl)
      · have hw := mm_in hc hw
        refine lv_aload_n hx hb dX3_issues_61 rfl (lv_at hl 1 rfl) ?_
        refine lv_iload_n hx hb dX3_issues_62 rfl (lv_at hl 2 rfl) ?_
        refine lv_iload_n hx hb dX3_issues_63 rfl (lv_at hl 4 rfl) ?_
        refine C3_isWon cx hM hS hw ⟨Nat.le_of_ble_eq_true rfl, Nat.le_of_ble_eq_true rfl⟩ (Nat.le_of_ble_eq_true rfl) hl.1 ⟨Nat.zero_le _, Nat.zero_le _⟩ dX3_issues_64 (fun r7 s7 H locs hw hM hS => ?_)
        refine lv_aload_n hx hb dX3_issues_67 rfl (lv_at hl 1 rfl) ?_
        refine lv_iload_n hx hb dX3_issues_68 rfl (lv_at hl 2 rfl) ?_
        refine lv_iload hx hb dX3_issues_69 (lv_at hl 0 rfl) ?_
        refine C3_isWon cx hM hS hw ⟨Nat.le_of_ble_eq_true rfl, Nat.le_of_ble_eq_true rfl⟩ (Nat.le_of_ble_eq_true rfl) hl.1 ⟨Nat.zero_le _, Nat.zero_le _⟩ dX3_issues_71 (fun r8 s8 H locs hw hM hS => ?_)
        refine lv_icmp_eq (tgt := 84) hx hb dX3_issues_74 (by decide) (fun hc => ?_) (fun hc => ?_)
        · have hw := mm_ip hc hw
          exact B3_issues_84 cx hK14 hK24 _ _ _ _ _ hw _ _ _ hM hS (lv_sub hl [1, 2, 4, 5] rfl)
        · have hw := mm_in hc hw
          refine lv_iconst (v := (1 : Int32)) hx hb dX3_issues_77 (by decide) ?_
          refine lv_iload hx hb dX3_issues_78 (lv_at hl 5 rfl) ?_
          refine lv_ishl hx hb dX3_issues_80 ?_
          refine lv_goto (tgt := 85) hx hb dX3_issues_81 (by decide) ?_
          exact B3_issues_85 cx hK14 hK24 _ _ _ _ _ _ hw _ _ _ hM hS (lv_sub hl [1, 2, 4, 5] rfl)
theorem L3_issues_24 {l : Launch} {p : Program} {e : Env} {s : State} {m : MethodId} {args : Array Value} {below : List Frame} {meth : Method} {c : Code} {G : mm_G} {Q : Int32 → MS → Prop} {K14 : Int32 → Int32 → Int32 → MS → Prop} (cx : mm_X cX3_issues 6 (some .int) G p s m args meth c) (hK14 : ∀ (x1 : Int32) (x2 : Int32) (x3 : Int32) (σ : MS), K14 x1 x2 x3 σ → mm_T p l e ({ frames := 2, cells := 0, slots := 0, locals := 80 } : Room) s m args below meth c G (mm_Qi G Q) 6 14 σ [(0, .ref (mm_o G)), (1, .int x1), (2, .int x2), (3, .int x3)] []) : ∀ (x1 : Int32) (x2 : Int32) (x3 : Int32) (x4 : Int32) (σ : MS), lp5F (w3_issues_24 Q K14) x1 x2 x3 x4 σ → mm_T p l e ({ frames := 2, cells := 0, slots := 0, locals := 80 } : Room) s m args below meth c G (mm_Qi G Q) 6 24 σ [(0, .ref (mm_o G)), (1, .int x1), (2, .int x2), (3, .int x3), (4, .int x4)] [] :=
  lp5F_of (fun K hK => B3_issues_24 cx hK14 hK)
def w3_issues_14 (Q : Int32 → MS → Prop) (K14 : Int32 → Int32 → Int32 → MS → Prop) (x1 : Int32) (x2 : Int32) (x3 : Int32) (σ : MS) : Prop :=
  if (256 : Int32) ≤ x3 then (Q x2 σ) else (lp5F (w3_issues_24 Q K14) x1 x2 x3 (0 : Int32) σ)
set_option maxHeartbeats 4000000 in
theorem B3_issues_14 {l : Launch} {p : Program} {e : Env} {s : State} {m : MethodId} {args : Array Value} {below : List Frame} {meth : Method} {c : Code} {G : mm_G} {Q : Int32 → MS → Prop} {K14 : Int32 → Int32 → Int32 → MS → Prop} (cx : mm_X cX3_issues 6 (some .int) G p s m args meth c) (hK14 : ∀ (x1 : Int32) (x2 : Int32) (x3 : Int32) (σ : MS), K14 x1 x2 x3 σ → mm_T p l e ({ frames := 2, cells := 0, slots := 0, locals := 80 } : Room) s m args below meth c G (mm_Qi G Q) 6 14 σ [(0, .ref (mm_o G)), (1, .int x1), (2, .int x2), (3, .int x3)] []) : ∀ (x1 : Int32) (x2 : Int32) (x3 : Int32) (σ : MS), w3_issues_14 Q K14 x1 x2 x3 σ → mm_T p l e ({ frames := 2, cells := 0, slots := 0, locals := 80 } : Room) s m args below meth c G (mm_Qi G Q) 6 14 σ [(0, .ref (mm_o G)), (1, .int x1), (2, .int x2), (3, .int x3)] [] := by
  intro x1 x2 x3 σ hw H locs ls hM hS hl
  unfold w3_issues_14 at hw
  obtain ⟨hx, hb, hml, hown, hts, hr, hlk, hMK, hZ⟩ := id cx
  refine lv_iload_n hx hb dX3_issues_14 rfl (lv_at hl 3 rfl) ?_
  refine lv_sipush (v := (256 : Int32)) hx hb dX3_issues_15 (by decide) ?_
  refine lv_icmp_ge (tgt := 99) hx hb dX3_issues_18 (by decide) (fun hc => ?_) (fun hc => ?_)
  · have hw := mm_ip hc hw
    refine lv_iload_n hx hb dX3_issues_99 rfl (lv_at hl 2 rfl) ?_
    exact mm_iret cx hM hS hw dX3_issues_100
  · have hw := mm_in hc hw
    refine lv_iconst (v := (0 : Int32)) hx hb dX3_issues_21 (by decide) ?_
    refine lv_istore (lv' := [(4, .int (0 : Int32)), (0, .ref (mm_o G)), (1, .int x1), (2, .int x2), (3, .int x3)]) hx hb dX3_issues_22 hl (by decide) rfl (fun ls hl => ?_)
    exact L3_issues_24 cx hK14 _ _ _ _ _ hw _ _ _ hM hS (lv_sub hl [1, 2, 3, 4, 0] rfl)
theorem L3_issues_14 {l : Launch} {p : Program} {e : Env} {s : State} {m : MethodId} {args : Array Value} {below : List Frame} {meth : Method} {c : Code} {G : mm_G} {Q : Int32 → MS → Prop} (cx : mm_X cX3_issues 6 (some .int) G p s m args meth c) : ∀ (x1 : Int32) (x2 : Int32) (x3 : Int32) (σ : MS), lp4F (w3_issues_14 Q) x1 x2 x3 σ → mm_T p l e ({ frames := 2, cells := 0, slots := 0, locals := 80 } : Room) s m args below meth c G (mm_Qi G Q) 6 14 σ [(0, .ref (mm_o G)), (1, .int x1), (2, .int x2), (3, .int x3)] [] :=
  lp4F_of (fun K hK => B3_issues_14 cx hK)
def w3_issues (x1 : Int32) (σ : MS) (Q : Int32 → MS → Prop) : Prop :=
  w3_isCount x1 σ (fun r9 s9 => if r9 = 0 then (Q (-1 : Int32) s9) else (lp4F (w3_issues_14 Q) x1 (0 : Int32) (0 : Int32) s9))
set_option maxHeartbeats 4000000 in
theorem M3_issues (l : Launch) (G : mm_G) (x1 : Int32) (σ : MS) (Q : Int32 → MS → Prop) (hw : w3_issues x1 σ Q) : mm_Mi l yX3_issues (ws_ yX3_issues cX3_issues 6 (some .int)) ({ frames := 2, cells := 0, slots := 0, locals := 80 } : Room) G [.ref (mm_o G), .int x1] σ Q := by
  refine mm_of (by decide) rfl ?_
  intro p e s m args below meth c cx hM ha
  refine mm_entry [.ref (mm_o G), .int x1] 6 [(0, .ref (mm_o G)), (1, .int x1)] ha (Nat.le_of_ble_eq_true rfl) rfl (fun ls hl => ?_)
  have hS : va_S (mm_A G) s.heap s.heap [] := va_S.rf
  unfold w3_issues at hw
  obtain ⟨hx, hb, hml, hown, hts, hr, hlk, hMK, hZ⟩ := id cx
  refine lv_aload_n hx hb dX3_issues_0 rfl (lv_at hl 0 rfl) ?_
  refine lv_iload_n hx hb dX3_issues_1 rfl (lv_at hl 1 rfl) ?_
  refine C3_isCount cx hM hS hw ⟨Nat.le_of_ble_eq_true rfl, Nat.le_of_ble_eq_true rfl⟩ (Nat.le_of_ble_eq_true rfl) hl.1 ⟨Nat.zero_le _, Nat.zero_le _⟩ dX3_issues_2 (fun r9 s9 H locs hw hM hS => ?_)
  refine lv_if_ne (tgt := 10) hx hb dX3_issues_5 (by decide) (fun hc => ?_) (fun hc => ?_)
  · have hw := mm_in hc hw
    refine lv_iconst (v := (0 : Int32)) hx hb dX3_issues_10 (by decide) ?_
    refine lv_istore_n (lv' := [(2, .int (0 : Int32)), (0, .ref (mm_o G)), (1, .int x1)]) hx hb dX3_issues_11 rfl hl (by decide) rfl (fun ls hl => ?_)
    refine lv_iconst (v := (0 : Int32)) hx hb dX3_issues_12 (by decide) ?_
    refine lv_istore_n (lv' := [(3, .int (0 : Int32)), (2, .int (0 : Int32)), (0, .ref (mm_o G)), (1, .int x1)]) hx hb dX3_issues_13 rfl hl (by decide) rfl (fun ls hl => ?_)
    exact L3_issues_14 cx _ _ _ _ hw _ _ _ hM hS (lv_sub hl [2, 3, 1, 0] rfl)
  · have hw := mm_ip hc hw
    refine lv_iconst (v := (-1 : Int32)) hx hb dX3_issues_8 (by decide) ?_
    exact mm_iret cx hM hS hw dX3_issues_9
-- no call of issues
def w3_tells (x0 : Int32) (x1 : Int32) (σ : MS) (Q : Int32 → MS → Prop) : Prop :=
  vp_in x1 9 ∧ (¬ (gA σ 42 x1.toNatClampNeg) = 0 ∧ (Q ((x0 / (gA σ 42 x1.toNatClampNeg)) - (x0 / (gA σ 42 x1.toNatClampNeg)) / (3 : Int32) * (3 : Int32)) σ))
set_option maxHeartbeats 4000000 in
theorem M3_tells (l : Launch) (G : mm_G) (x0 : Int32) (x1 : Int32) (σ : MS) (Q : Int32 → MS → Prop) (hw : w3_tells x0 x1 σ Q) : mm_Mi l yX3_tells (ws_ yX3_tells cX3_tells 2 (some .int)) ({ frames := 0, cells := 0, slots := 0, locals := 0 } : Room) G [.int x0, .int x1] σ Q := by
  refine mm_of (by decide) rfl ?_
  intro p e s m args below meth c cx hM ha
  refine mm_entry [.int x0, .int x1] 2 [(0, .int x0), (1, .int x1)] ha (Nat.le_of_ble_eq_true rfl) rfl (fun ls hl => ?_)
  have hS : va_S (mm_A G) s.heap s.heap [] := va_S.rf
  unfold w3_tells at hw
  obtain ⟨hx, hb, hml, hown, hts, hr, hlk, hMK, hZ⟩ := id cx
  refine lv_iload_n hx hb dX3_tells_0 rfl (lv_at hl 0 rfl) ?_
  refine mm_thr cx hS dX3_tells_1 ?_
  refine lv_iload_n hx hb dX3_tells_4 rfl (lv_at hl 1 rfl) ?_
  obtain ⟨hi, hw⟩ := hw
  refine mm_iald cx hM 42 rfl rfl hi dX3_tells_5 ?_
  obtain ⟨hz, hw⟩ := hw
  refine lv_idiv hx hb dX3_tells_6 hz ?_
  refine lv_iconst (v := (3 : Int32)) hx hb dX3_tells_7 (by decide) ?_
  refine lv_irem hx hb dX3_tells_8 (by decide) ?_
  exact mm_iret cx hM hS hw dX3_tells_9
theorem C3_tells {l : Launch} {p : Program} {e : Env} {R : Room} {s : State} {m : MethodId} {args : Array Value} {below : List Frame} {meth : Method} {c : Code} {H : Heap} {locs : List Loc} {cells slots : Nat} {Qz : State → Prop} {cc : ByteArray} {nL : Nat} {ret : Option FieldType} {G : mm_G} {pc : Nat} {ls : Array Slot} {rest : List Value} {x0 : Int32} {x1 : Int32} {σ : MS} (cx : mm_X cc nL ret G p s m args meth c) (hM : mm_R G σ H) (hS0 : va_S (mm_A G) s.heap H locs) {Qf : Int32 → MS → Prop} (hw : w3_tells x0 x1 σ Qf) (hR : (({ frames := 0, cells := 0, slots := 0, locals := 0 } : Room)).frames + 1 ≤ R.frames ∧ 8 + (2 + 11) + (({ frames := 0, cells := 0, slots := 0, locals := 0 } : Room)).locals ≤ R.locals) (hroom : (rest.map fun v => v.category).sum ≤ 8) (hsize : ls.size = nL) (hf : cells ≤ R.cells ∧ slots ≤ R.slots) (hdg : decode cc pc = .ok (.invokestatic 435, 3))
    (kk : ∀ (r : Int32) (σ1 : MS) (H1 : Heap) (locs1 : List Loc), Qf r σ1 → mm_R G σ1 H1 → va_S (mm_A G) s.heap H1 locs1 → W p l e R s m args below meth c H1 locs1 cells slots Qz (F0 m (pc + 3) ls (.int r :: rest))) : W p l e R s m args below meth c H locs cells slots Qz (F0 m pc ls (.int x1 :: .int x0 :: rest)) := by
  obtain ⟨hx, hb, hml, hown, hts, hr, hlk, hK, hZ⟩ := id cx
  exact mm_Si cx hM hS0 (As := [.int x0, .int x1]) (M3_tells l G x0 x1 σ Qf hw) (va_cwS 2 hts (lw_S q2945 q2946 q172 q2947) rfl rfl rfl (by decide +kernel) hR) rfl hsize rfl hroom hf hdg kk
def w3_untold_2 (Q : Int32 → MS → Prop) (K2 : Int32 → Int32 → MS → Prop) (x1 : Int32) (x3 : Int32) (σ : MS) : Prop :=
  if (gA σ 0 1) ≤ x3 then (Q x3 σ) else (w3_tells x1 x3 σ (fun r1 s1 => if r1 = 0 then (Q x3 s1) else (∀ v2 : Int32, v2 = x3 + (1 : Int32) → K2 x1 v2 s1)))
set_option maxHeartbeats 4000000 in
theorem B3_untold_2 {l : Launch} {p : Program} {e : Env} {s : State} {m : MethodId} {args : Array Value} {below : List Frame} {meth : Method} {c : Code} {G : mm_G} {Q : Int32 → MS → Prop} {K2 : Int32 → Int32 → MS → Prop} (cx : mm_X cX3_untold 4 (some .int) G p s m args meth c) (hK2 : ∀ (x1 : Int32) (x3 : Int32) (σ : MS), K2 x1 x3 σ → mm_T p l e ({ frames := 1, cells := 0, slots := 0, locals := 40 } : Room) s m args below meth c G (mm_Qi G Q) 4 2 σ [(0, .ref (mm_o G)), (1, .int x1), (3, .int x3)] []) : ∀ (x1 : Int32) (x3 : Int32) (σ : MS), w3_untold_2 Q K2 x1 x3 σ → mm_T p l e ({ frames := 1, cells := 0, slots := 0, locals := 40 } : Room) s m args below meth c G (mm_Qi G Q) 4 2 σ [(0, .ref (mm_o G)), (1, .int x1), (3, .int x3)] [] := by
  intro x1 x3 σ hw H locs ls hM hS hl
  unfold w3_untold_2 at hw
  obtain ⟨hx, hb, hml, hown, hts, hr, hlk, hMK, hZ⟩ := id cx
  refine lv_iload_n hx hb dX3_untold_2 rfl (lv_at hl 2 rfl) ?_
  refine lv_aload_n hx hb dX3_untold_3 rfl (lv_at hl 0 rfl) ?_
  refine mg_0 cx hM dX3_untold_4 ?_
  refine lv_iconst (v := (1 : Int32)) hx hb dX3_untold_7 (by decide) ?_
  refine mm_iald cx hM 0 rfl (j := 1) (by decide) (vp_lit (by decide)) dX3_untold_8 ?_
  refine lv_icmp_ge (tgt := 26) hx hb dX3_untold_9 (by decide) (fun hc => ?_) (fun hc => ?_)
  · have hw := mm_ip hc hw
    refine lv_iload_n hx hb dX3_untold_26 rfl (lv_at hl 2 rfl) ?_
    exact mm_iret cx hM hS hw dX3_untold_27
  · have hw := mm_in hc hw
    refine lv_iload_n hx hb dX3_untold_12 rfl (lv_at hl 1 rfl) ?_
    refine lv_iload_n hx hb dX3_untold_13 rfl (lv_at hl 2 rfl) ?_
    refine C3_tells cx hM hS hw ⟨Nat.le_of_ble_eq_true rfl, Nat.le_of_ble_eq_true rfl⟩ (Nat.le_of_ble_eq_true rfl) hl.1 ⟨Nat.zero_le _, Nat.zero_le _⟩ dX3_untold_14 (fun r1 s1 H locs hw hM hS => ?_)
    refine lv_if_eq (tgt := 26) hx hb dX3_untold_17 (by decide) (fun hc => ?_) (fun hc => ?_)
    · have hw := mm_ip hc hw
      refine lv_iload_n hx hb dX3_untold_26 rfl (lv_at hl 2 rfl) ?_
      exact mm_iret cx hM hS hw dX3_untold_27
    · have hw := mm_in hc hw
      obtain ⟨v2, hv2⟩ : ∃ v : Int32, v = x3 + (1 : Int32) := ⟨_, rfl⟩
      have hw := hw v2 hv2
      refine lv_iinc (v := v2) (lv' := [(3, .int v2), (0, .ref (mm_o G)), (1, .int x1)]) hx hb dX3_untold_20 hl (k := 2) rfl (by rw [hv2]; rfl) (by decide) rfl (fun ls hl => ?_)
      refine lv_goto (tgt := 2) hx hb dX3_untold_23 (by decide) ?_
      exact hK2 _ _ _ hw _ _ _ hM hS (lv_sub hl [1, 2, 0] rfl)
theorem L3_untold_2 {l : Launch} {p : Program} {e : Env} {s : State} {m : MethodId} {args : Array Value} {below : List Frame} {meth : Method} {c : Code} {G : mm_G} {Q : Int32 → MS → Prop} (cx : mm_X cX3_untold 4 (some .int) G p s m args meth c) : ∀ (x1 : Int32) (x3 : Int32) (σ : MS), lp3F (w3_untold_2 Q) x1 x3 σ → mm_T p l e ({ frames := 1, cells := 0, slots := 0, locals := 40 } : Room) s m args below meth c G (mm_Qi G Q) 4 2 σ [(0, .ref (mm_o G)), (1, .int x1), (3, .int x3)] [] :=
  lp3F_of (fun K hK => B3_untold_2 cx hK)
def w3_untold (x1 : Int32) (x2 : Int32) (σ : MS) (Q : Int32 → MS → Prop) : Prop :=
  lp3F (w3_untold_2 Q) x1 x2 σ
set_option maxHeartbeats 4000000 in
theorem M3_untold (l : Launch) (G : mm_G) (x1 : Int32) (x2 : Int32) (σ : MS) (Q : Int32 → MS → Prop) (hw : w3_untold x1 x2 σ Q) : mm_Mi l yX3_untold (ws_ yX3_untold cX3_untold 4 (some .int)) ({ frames := 1, cells := 0, slots := 0, locals := 40 } : Room) G [.ref (mm_o G), .int x1, .int x2] σ Q := by
  refine mm_of (by decide) rfl ?_
  intro p e s m args below meth c cx hM ha
  refine mm_entry [.ref (mm_o G), .int x1, .int x2] 4 [(0, .ref (mm_o G)), (1, .int x1), (2, .int x2)] ha (Nat.le_of_ble_eq_true rfl) rfl (fun ls hl => ?_)
  have hS : va_S (mm_A G) s.heap s.heap [] := va_S.rf
  unfold w3_untold at hw
  obtain ⟨hx, hb, hml, hown, hts, hr, hlk, hMK, hZ⟩ := id cx
  refine lv_iload_n hx hb dX3_untold_0 rfl (lv_at hl 2 rfl) ?_
  refine lv_istore_n (lv' := [(3, .int x2), (0, .ref (mm_o G)), (1, .int x1), (2, .int x2)]) hx hb dX3_untold_1 rfl hl (by decide) rfl (fun ls hl => ?_)
  exact L3_untold_2 cx _ _ _ hw _ _ _ hM hS (lv_sub hl [1, 2, 0] rfl)
theorem C3_untold {l : Launch} {p : Program} {e : Env} {R : Room} {s : State} {m : MethodId} {args : Array Value} {below : List Frame} {meth : Method} {c : Code} {H : Heap} {locs : List Loc} {cells slots : Nat} {Qz : State → Prop} {cc : ByteArray} {nL : Nat} {ret : Option FieldType} {G : mm_G} {pc : Nat} {ls : Array Slot} {rest : List Value} {x1 : Int32} {x2 : Int32} {σ : MS} (cx : mm_X cc nL ret G p s m args meth c) (hM : mm_R G σ H) (hS0 : va_S (mm_A G) s.heap H locs) {Qf : Int32 → MS → Prop} (hw : w3_untold x1 x2 σ Qf) (hR : (({ frames := 1, cells := 0, slots := 0, locals := 40 } : Room)).frames + 1 ≤ R.frames ∧ 8 + (4 + 11) + (({ frames := 1, cells := 0, slots := 0, locals := 40 } : Room)).locals ≤ R.locals) (hroom : (rest.map fun v => v.category).sum ≤ 8) (hsize : ls.size = nL) (hf : cells ≤ R.cells ∧ slots ≤ R.slots) (hdg : decode cc pc = .ok (.invokevirtual 438, 3))
    (kk : ∀ (r : Int32) (σ1 : MS) (H1 : Heap) (locs1 : List Loc), Qf r σ1 → mm_R G σ1 H1 → va_S (mm_A G) s.heap H1 locs1 → W p l e R s m args below meth c H1 locs1 cells slots Qz (F0 m (pc + 3) ls (.int r :: rest))) : W p l e R s m args below meth c H locs cells slots Qz (F0 m pc ls (.int x2 :: .int x1 :: .ref (mm_o G) :: rest)) := by
  obtain ⟨hx, hb, hml, hown, hts, hr, hlk, hK, hZ⟩ := id cx
  exact mm_Vi cx hM hS0 (As := [.int x1, .int x2]) (M3_untold l G x1 x2 σ Qf hw) (cwV 2 hts (lw_V q2941 q2943 qs142 q172 q2944) rfl rfl rfl (by decide +kernel) hR) rfl hsize rfl hroom hf hdg kk
def w3_laysWays_194 (Q : MS → Prop) (K13 : Int32 → Int32 → MS → Prop) (x1 : Int32) (x2 : Int32) (σ : MS) : Prop :=
  ∀ v1 : Int32, v1 = x2 + (-1 : Int32) → K13 x1 v1 σ
set_option maxHeartbeats 4000000 in
theorem B3_laysWays_194 {l : Launch} {p : Program} {e : Env} {s : State} {m : MethodId} {args : Array Value} {below : List Frame} {meth : Method} {c : Code} {G : mm_G} {Q : MS → Prop} {K13 : Int32 → Int32 → MS → Prop} (cx : mm_X cX3_laysWays 6 none G p s m args meth c) (hK13 : ∀ (x1 : Int32) (x2 : Int32) (σ : MS), K13 x1 x2 σ → mm_T p l e ({ frames := 2, cells := 0, slots := 0, locals := 80 } : Room) s m args below meth c G (mm_Qv G Q) 6 13 σ [(0, .ref (mm_o G)), (1, .int x1), (2, .int x2)] []) : ∀ (x1 : Int32) (x2 : Int32) (σ : MS), w3_laysWays_194 Q K13 x1 x2 σ → mm_T p l e ({ frames := 2, cells := 0, slots := 0, locals := 80 } : Room) s m args below meth c G (mm_Qv G Q) 6 194 σ [(0, .ref (mm_o G)), (1, .int x1), (2, .int x2)] [] := by
  intro x1 x2 σ hw H locs ls hM hS hl
  unfold w3_laysWays_194 at hw
  obtain ⟨hx, hb, hml, hown, hts, hr, hlk, hMK, hZ⟩ := id cx
  obtain ⟨v1, hv1⟩ : ∃ v : Int32, v = x2 + (-1 : Int32) := ⟨_, rfl⟩
  have hw := hw v1 hv1
  refine lv_iinc (v := v1) (lv' := [(2, .int v1), (0, .ref (mm_o G)), (1, .int x1)]) hx hb dX3_laysWays_194 hl (k := 2) rfl (by rw [hv1]; rfl) (by decide) rfl (fun ls hl => ?_)
  refine lv_goto (tgt := 13) hx hb dX3_laysWays_197 (by decide) ?_
  exact hK13 _ _ _ hw _ _ _ hM hS (lv_sub hl [1, 2, 0] rfl)
def w3_laysWays_193 (Q : MS → Prop) (K13 : Int32 → Int32 → MS → Prop) (x1 : Int32) (x2 : Int32) (t0 : Nat) (t1 : Int32) (t2 : Int32) (σ : MS) : Prop :=
  mm_w t0 = true ∧ (vp_in t1 (mm_z t0) ∧ (w3_laysWays_194 Q K13 x1 x2 (sA σ t0 t1.toNatClampNeg t2)))
set_option maxHeartbeats 4000000 in
theorem B3_laysWays_193 {l : Launch} {p : Program} {e : Env} {s : State} {m : MethodId} {args : Array Value} {below : List Frame} {meth : Method} {c : Code} {G : mm_G} {Q : MS → Prop} {K13 : Int32 → Int32 → MS → Prop} (cx : mm_X cX3_laysWays 6 none G p s m args meth c) (hK13 : ∀ (x1 : Int32) (x2 : Int32) (σ : MS), K13 x1 x2 σ → mm_T p l e ({ frames := 2, cells := 0, slots := 0, locals := 80 } : Room) s m args below meth c G (mm_Qv G Q) 6 13 σ [(0, .ref (mm_o G)), (1, .int x1), (2, .int x2)] []) : ∀ (x1 : Int32) (x2 : Int32) (t0 : Nat) (t1 : Int32) (t2 : Int32) (σ : MS), w3_laysWays_193 Q K13 x1 x2 t0 t1 t2 σ → mm_T p l e ({ frames := 2, cells := 0, slots := 0, locals := 80 } : Room) s m args below meth c G (mm_Qv G Q) 6 193 σ [(0, .ref (mm_o G)), (1, .int x1), (2, .int x2)] [.int t2, .int t1, .ref (mm_a G t0)] := by
  intro x1 x2 t0 t1 t2 σ hw H locs ls hM hS hl
  unfold w3_laysWays_193 at hw
  obtain ⟨hx, hb, hml, hown, hts, hr, hlk, hMK, hZ⟩ := id cx
  obtain ⟨hk, hw⟩ := hw
  obtain ⟨hi, hw⟩ := hw
  refine mm_iast cx hM hS t0 hk rfl hi dX3_laysWays_193 (fun H locs hM hS => ?_)
  exact B3_laysWays_194 cx hK13 _ _ _ hw _ _ _ hM hS (lv_sub hl [0, 1, 2] rfl)
def w3_laysWays_192 (Q : MS → Prop) (K13 : Int32 → Int32 → MS → Prop) (x1 : Int32) (x2 : Int32) (t0 : Nat) (t1 : Int32) (σ : MS) : Prop :=
  w3_laysWays_193 Q K13 x1 x2 t0 t1 (0 : Int32) σ
set_option maxHeartbeats 4000000 in
theorem B3_laysWays_192 {l : Launch} {p : Program} {e : Env} {s : State} {m : MethodId} {args : Array Value} {below : List Frame} {meth : Method} {c : Code} {G : mm_G} {Q : MS → Prop} {K13 : Int32 → Int32 → MS → Prop} (cx : mm_X cX3_laysWays 6 none G p s m args meth c) (hK13 : ∀ (x1 : Int32) (x2 : Int32) (σ : MS), K13 x1 x2 σ → mm_T p l e ({ frames := 2, cells := 0, slots := 0, locals := 80 } : Room) s m args below meth c G (mm_Qv G Q) 6 13 σ [(0, .ref (mm_o G)), (1, .int x1), (2, .int x2)] []) : ∀ (x1 : Int32) (x2 : Int32) (t0 : Nat) (t1 : Int32) (σ : MS), w3_laysWays_192 Q K13 x1 x2 t0 t1 σ → mm_T p l e ({ frames := 2, cells := 0, slots := 0, locals := 80 } : Room) s m args below meth c G (mm_Qv G Q) 6 192 σ [(0, .ref (mm_o G)), (1, .int x1), (2, .int x2)] [.int t1, .ref (mm_a G t0)] := by
  intro x1 x2 t0 t1 σ hw H locs ls hM hS hl
  unfold w3_laysWays_192 at hw
  obtain ⟨hx, hb, hml, hown, hts, hr, hlk, hMK, hZ⟩ := id cx
  refine lv_iconst (v := (0 : Int32)) hx hb dX3_laysWays_192 (by decide) ?_
  exact B3_laysWays_193 cx hK13 _ _ _ _ _ _ hw _ _ _ hM hS (lv_sub hl [0, 1, 2] rfl)
def w3_laysWays_163 (Q : MS → Prop) (K13 : Int32 → Int32 → MS → Prop) (x1 : Int32) (x2 : Int32) (x4 : Int32) (t0 : Nat) (t1 : Int32) (t2 : Int32) (σ : MS) : Prop :=
  mm_w t0 = true ∧ (vp_in t1 (mm_z t0) ∧ (w3_isLeft x4 (sA σ t0 t1.toNatClampNeg t2) (fun r2 s2 => if r2 = 0 then (w3_laysWays_192 Q K13 x1 x2 34 x2 s2) else (w3_isWon x1 x4 s2 (fun r3 s3 => if r3 = 0 then (w3_laysWays_192 Q K13 x1 x2 34 x2 s3) else (w3_laysWays_193 Q K13 x1 x2 34 x2 (1 : Int32) s3))))))
set_option maxHeartbeats 4000000 in
theorem B3_laysWays_163 {l : Launch} {p : Program} {e : Env} {s : State} {m : MethodId} {args : Array Value} {below : List Frame} {meth : Method} {c : Code} {G : mm_G} {Q : MS → Prop} {K13 : Int32 → Int32 → MS → Prop} (cx : mm_X cX3_laysWays 6 none G p s m args meth c) (hK13 : ∀ (x1 : Int32) (x2 : Int32) (σ : MS), K13 x1 x2 σ → mm_T p l e ({ frames := 2, cells := 0, slots := 0, locals := 80 } : Room) s m args below meth c G (mm_Qv G Q) 6 13 σ [(0, .ref (mm_o G)), (1, .int x1), (2, .int x2)] []) : ∀ (x1 : Int32) (x2 : Int32) (x4 : Int32) (t0 : Nat) (t1 : Int32) (t2 : Int32) (σ : MS), w3_laysWays_163 Q K13 x1 x2 x4 t0 t1 t2 σ → mm_T p l e ({ frames := 2, cells := 0, slots := 0, locals := 80 } : Room) s m args below meth c G (mm_Qv G Q) 6 163 σ [(0, .ref (mm_o G)), (1, .int x1), (2, .int x2), (4, .int x4)] [.int t2, .int t1, .ref (mm_a G t0)] := by
  intro x1 x2 x4 t0 t1 t2 σ hw H locs ls hM hS hl
  unfold w3_laysWays_163 at hw
  obtain ⟨hx, hb, hml, hown, hts, hr, hlk, hMK, hZ⟩ := id cx
  obtain ⟨hk, hw⟩ := hw
  obtain ⟨hi, hw⟩ := hw
  refine mm_iast cx hM hS t0 hk rfl hi dX3_laysWays_163 (fun H locs hM hS => ?_)
  refine lv_aload_n hx hb dX3_laysWays_164 rfl (lv_at hl 0 rfl) ?_
  refine mg_34 cx hM dX3_laysWays_165 ?_
  refine lv_iload_n hx hb dX3_laysWays_168 rfl (lv_at hl 2 rfl) ?_
  refine lv_aload_n hx hb dX3_laysWays_169 rfl (lv_at hl 0 rfl) ?_
  refine lv_iload hx hb dX3_laysWays_170 (lv_at hl 3 rfl) ?_
  refine C3_isLeft cx hM hS hw ⟨Nat.le_of_ble_eq_true rfl, Nat.le_of_ble_eq_true rfl⟩ (Nat.le_of_ble_eq_true rfl) hl.1 ⟨Nat.zero_le _, Nat.zero_le _⟩ dX3_laysWays_172 (fun r2 s2 H locs hw hM hS => ?_)
  refine lv_if_eq (tgt := 192) hx hb dX3_laysWays_175 (by decide) (fun hc => ?_) (fun hc => ?_)
  · have hw := mm_ip hc hw
    exact B3_laysWays_192 cx hK13 _ _ _ _ _ hw _ _ _ hM hS (lv_sub hl [0, 1, 2] rfl)
  · have hw := mm_in hc hw
    refine lv_aload_n hx hb dX3_laysWays_178 rfl (lv_at hl 0 rfl) ?_
    refine lv_iload_n hx hb dX3_laysWays_179 rfl (lv_at hl 1 rfl) ?_
    refine lv_iload hx hb dX3_laysWays_180 (lv_at hl 3 rfl) ?_
    refine C3_isWon cx hM hS hw ⟨Nat.le_of_ble_eq_true rfl, Nat.le_of_ble_eq_true rfl⟩ (Nat.le_of_ble_eq_true rfl) hl.1 ⟨Nat.zero_le _, Nat.zero_le _⟩ dX3_laysWays_182 (fun r3 s3 H locs hw hM hS => ?_)
    refine lv_if_eq (tgt := 192) hx hb dX3_laysWays_185 (by decide) (fun hc => ?_) (fun hc => ?_)
    · have hw := mm_ip hc hw
      exact B3_laysWays_192 cx hK13 _ _ _ _ _ hw _ _ _ hM hS (lv_sub hl [0, 1, 2] rfl)
    · have hw := mm_in hc hw
      refine lv_iconst (v := (1 : Int32)) hx hb dX3_laysWays_188 (by decide) ?_
      refine lv_goto (tgt := 193) hx hb dX3_laysWays_189 (by decide) ?_
      exact B3_laysWays_193 cx hK13 _ _ _ _ _ _ hw _ _ _ hM hS (lv_sub hl [0, 1, 2] rfl)
def w3_laysWays_135 (Q : MS → Prop) (K13 : Int32 → Int32 → MS → Prop) (K109 : Int32 → Int32 → Int32 → Int32 → Int32 → MS → Prop) (x1 : Int32) (x2 : Int32) (x3 : Int32) (x5 : Int32) (t0 : Int32) (t1 : Int32) (σ : MS) : Prop :=
  ∀ v4 : Int32, v4 = (t0 ||| t1) → ∀ v5 : Int32, v5 = x5 + (1 : Int32) → K109 x1 x2 x3 v4 v5 σ
set_option maxHeartbeats 4000000 in
theorem B3_laysWays_135 {l : Launch} {p : Program} {e : Env} {s : State} {m : MethodId} {args : Array Value} {below : List Frame} {meth : Method} {c : Code} {G : mm_G} {Q : MS → Prop} {K13 : Int32 → Int32 → MS → Prop} {K109 : Int32 → Int32 → Int32 → Int32 → Int32 → MS → Prop} (cx : mm_X cX3_laysWays 6 none G p s m args meth c) (hK13 : ∀ (x1 : Int32) (x2 : Int32) (σ : MS), K13 x1 x2 σ → mm_T p l e ({ frames := 2, cells := 0, slots := 0, locals := 80 } : Room) s m args below meth c G (mm_Qv G Q) 6 13 σ [(0, .ref (mm_o G)), (1, .int x1), (2, .int x2)] []) (hK109 : ∀ (x1 : Int32) (x2 : Int32) (x3 : Int32) (x4 : Int32) (x5 : Int32) (σ : MS), K109 x1 x2 x3 x4 x5 σ → mm_T p l e ({ frames := 2, cells := 0, slots := 0, locals := 80 } : Room) s m args below meth c G (mm_Qv G Q) 6 109 σ [(0, .ref (mm_o G)), (1, .int x1), (2, .int x2), (3, .int x3), (4, .int x4), (5, .int x5)] []) : ∀ (x1 : Int32) (x2 : Int32) (x3 : Int32) (x5 : Int32) (t0 : Int32) (t1 : Int32) (σ : MS), w3_laysWays_135 Q K13 K109 x1 x2 x3 x5 t0 t1 σ → mm_T p l e ({ frames := 2, cells := 0, slots := 0, locals := 80 } : Room) s m args below meth c G (mm_Qv G Q) 6 135 σ [(0, .ref (mm_o G)), (1, .int x1), (2, .int x2), (3, .int x3), (5, .int x5)] [.int t1, .int t0] := by
  intro x1 x2 x3 x5 t0 t1 σ hw H locs ls hM hS hl
  unfold w3_laysWays_135 at hw
  obtain ⟨hx, hb, hml, hown, hts, hr, hlk, hMK, hZ⟩ := id cx
  refine lv_ior hx hb dX3_laysWays_135 ?_
  refine lv_topi (fun v4 hv4 => ?_)
  have hw := hw v4 hv4
  refine lv_istore (lv' := [(4, .int v4), (0, .ref (mm_o G)), (1, .int x1), (2, .int x2), (3, .int x3), (5, .int x5)]) hx hb dX3_laysWays_136 hl (by decide) rfl (fun ls hl => ?_)
  obtain ⟨v5, hv5⟩ : ∃ v : Int32, v = x5 + (1 : Int32) := ⟨_, rfl⟩
  have hw := hw v5 hv5
  refine lv_iinc (v := v5) (lv' := [(5, .int v5), (4, .int v4), (0, .ref (mm_o G)), (1, .int x1), (2, .int x2), (3, .int x3)]) hx hb dX3_laysWays_138 hl (k := 5) rfl (by rw [hv5]; rfl) (by decide) rfl (fun ls hl => ?_)
  refine lv_goto (tgt := 109) hx hb dX3_laysWays_141 (by decide) ?_
  exact hK109 _ _ _ _ _ _ hw _ _ _ hM hS (lv_sub hl [2, 3, 4, 5, 1, 0] rfl)
def w3_laysWays_109 (Q : MS → Prop) (K13 : Int32 → Int32 → MS → Prop) (K109 : Int32 → Int32 → Int32 → Int32 → Int32 → MS → Prop) (x1 : Int32) (x2 : Int32) (x3 : Int32) (x4 : Int32) (x5 : Int32) (σ : MS) : Prop :=
  if x3 ≤ x5 then (w3_isLeft x4 σ (fun r6 s6 => if r6 = 0 then (w3_laysWays_163 Q K13 x1 x2 x4 33 x2 (0 : Int32) s6) else (w3_laysWays_163 Q K13 x1 x2 x4 33 x2 (1 : Int32) s6))) else (w3_tells x2 x5 σ (fun r7 s7 => if r7 = (2 : Int32) then (w3_laysWays_135 Q K13 K109 x1 x2 x3 x5 x4 ((1 : Int32) <<< (x5 &&& 31)) s7) else (w3_laysWays_135 Q K13 K109 x1 x2 x3 x5 x4 (0 : Int32) s7)))
set_option maxHeartbeats 4000000 in
theorem B3_laysWays_109 {l : Launch} {p : Program} {e : Env} {s : State} {m : MethodId} {args : Array Value} {below : List Frame} {meth : Method} {c : Code} {G : mm_G} {Q : MS → Prop} {K13 : Int32 → Int32 → MS → Prop} {K109 : Int32 → Int32 → Int32 → Int32 → Int32 → MS → Prop} (cx : mm_X cX3_laysWays 6 none G p s m args meth c) (hK13 : ∀ (x1 : Int32) (x2 : Int32) (σ : MS), K13 x1 x2 σ → mm_T p l e ({ frames := 2, cells := 0, slots := 0, locals := 80 } : Room) s m args below meth c G (mm_Qv G Q) 6 13 σ [(0, .ref (mm_o G)), (1, .int x1), (2, .int x2)] []) (hK109 : ∀ (x1 : Int32) (x2 : Int32) (x3 : Int32) (x4 : Int32) (x5 : Int32) (σ : MS), K109 x1 x2 x3 x4 x5 σ → mm_T p l e ({ frames := 2, cells := 0, slots := 0, locals := 80 } : Room) s m args below meth c G (mm_Qv G Q) 6 109 σ [(0, .ref (mm_o G)), (1, .int x1), (2, .int x2), (3, .int x3), (4, .int x4), (5, .int x5)] []) : ∀ (x1 : Int32) (x2 : Int32) (x3 : Int32) (x4 : Int32) (x5 : Int32) (σ : MS), w3_laysWays_109 Q K13 K109 x1 x2 x3 x4 x5 σ → mm_T p l e ({ frames := 2, cells := 0, slots := 0, locals := 80 } : Room) s m args below meth c G (mm_Qv G Q) 6 109 σ [(0, .ref (mm_o G)), (1, .int x1), (2, .int x2), (3, .int x3), (4, .int x4), (5, .int x5)] [] := by
  intro x1 x2 x3 x4 x5 σ hw H locs ls hM hS hl
  unfold w3_laysWays_109 at hw
  obtain ⟨hx, hb, hml, hown, hts, hr, hlk, hMK, hZ⟩ := id cx
  refine lv_iload hx hb dX3_laysWays_109 (lv_at hl 5 rfl) ?_
  refine lv_iload_n hx hb dX3_laysWays_111 rfl (lv_at hl 3 rfl) ?_
  refine lv_icmp_ge (tgt := 144) hx hb dX3_laysWays_112 (by decide) (fun hc => ?_) (fun hc => ?_)
  · have hw := mm_ip hc hw
    refine lv_aload_n hx hb dX3_laysWays_144 rfl (lv_at hl 0 rfl) ?_
    refine mg_33 cx hM dX3_laysWays_145 ?_
    refine lv_iload_n hx hb dX3_laysWays_148 rfl (lv_at hl 2 rfl) ?_
    refine lv_aload_n hx hb dX3_laysWays_149 rfl (lv_at hl 0 rfl) ?_
    refine lv_iload hx hb dX3_laysWays_150 (lv_at hl 4 rfl) ?_
    refine C3_isLeft cx hM hS hw ⟨Nat.le_of_ble_eq_true rfl, Nat.le_of_ble_eq_true rfl⟩ (Nat.le_of_ble_eq_true rfl) hl.1 ⟨Nat.zero_le _, Nat.zero_le _⟩ dX3_laysWays_152 (fun r6 s6 H locs hw hM hS => ?_)
    refine lv_if_eq (tgt := 162) hx hb dX3_laysWays_155 (by decide) (fun hc => ?_) (fun hc => ?_)
    · have hw := mm_ip hc hw
      refine lv_iconst (v := (0 : Int32)) hx hb dX3_laysWays_162 (by decide) ?_
      exact B3_laysWays_163 cx hK13 _ _ _ _ _ _ _ hw _ _ _ hM hS (lv_sub hl [0, 1, 2, 4] rfl)
    · have hw := mm_in hc hw
      refine lv_iconst (v := (1 : Int32)) hx hb dX3_laysWays_158 (by decide) ?_
      refine lv_goto (tgt := 163) hx hb dX3_laysWays_159 (by decide) ?_
      exact B3_laysWays_163 cx hK13 _ _ _ _ _ _ _ hw _ _ _ hM hS (lv_sub hl [0, 1, 2, 4] rfl)
  · have hw := mm_in hc hw
    refine lv_iload hx hb dX3_laysWays_115 (lv_at hl 4 rfl) ?_
    refine lv_iload_n hx hb dX3_laysWays_117 rfl (lv_at hl 2 rfl) ?_
    refine lv_iload hx hb dX3_laysWays_118 (lv_at hl 5 rfl) ?_
    refine C3_tells cx hM hS hw ⟨Nat.le_of_ble_eq_true rfl, Nat.le_of_ble_eq_true rfl⟩ (Nat.le_of_ble_eq_true rfl) hl.1 ⟨Nat.zero_le _, Nat.zero_le _⟩ dX3_laysWays_120 (fun r7 s7 H locs hw hM hS => ?_)
    refine lv_iconst (v := (2 : Int32)) hx hb dX3_laysWays_123 (by decide) ?_
    refine lv_icmp_ne (tgt := 134) hx hb dX3_laysWays_124 (by decide) (fun hc => ?_) (fun hc => ?_)
    · have hw := mm_in hc hw
      refine lv_iconst (v := (0 : Int32)) hx hb dX3_laysWays_134 (by decide) ?_
      exact B3_laysWays_135 cx hK13 hK109 _ _ _ _ _ _ _ hw _ _ _ hM hS (lv_sub hl [0, 1, 2, 3, 5] rfl)
    · have hw := mm_ip hc hw
      refine lv_iconst (v := (1 : Int32)) hx hb dX3_laysWays_127 (by decide) ?_
      refine lv_iload hx hb dX3_laysWays_128 (lv_at hl 5 rfl) ?_
      refine lv_ishl hx hb dX3_laysWays_130 ?_
      refine lv_goto (tgt := 135) hx hb dX3_laysWays_131 (by decide) ?_
      exact B3_laysWays_135 cx hK13 hK109 _ _ _ _ _ _ _ hw _ _ _ hM hS (lv_sub hl [0, 1, 2, 3, 5] rfl)
theorem L3_laysWays_109 {l : Launch} {p : Program} {e : Env} {s : State} {m : MethodId} {args : Array Value} {below : List Frame} {meth : Method} {c : Code} {G : mm_G} {Q : MS → Prop} {K13 : Int32 → Int32 → MS → Prop} (cx : mm_X cX3_laysWays 6 none G p s m args meth c) (hK13 : ∀ (x1 : Int32) (x2 : Int32) (σ : MS), K13 x1 x2 σ → mm_T p l e ({ frames := 2, cells := 0, slots := 0, locals := 80 } : Room) s m args below meth c G (mm_Qv G Q) 6 13 σ [(0, .ref (mm_o G)), (1, .int x1), (2, .int x2)] []) : ∀ (x1 : Int32) (x2 : Int32) (x3 : Int32) (x4 : Int32) (x5 : Int32) (σ : MS), lp6F (w3_laysWays_109 Q K13) x1 x2 x3 x4 x5 σ → mm_T p l e ({ frames := 2, cells := 0, slots := 0, locals := 80 } : Room) s m args below meth c G (mm_Qv G Q) 6 109 σ [(0, .ref (mm_o G)), (1, .int x1), (2, .int x2), (3, .int x3), (4, .int x4), (5, .int x5)] [] :=
  lp6F_of (fun K hK => B3_laysWays_109 cx hK13 hK)
def w3_laysWays_13 (Q : MS → Prop) (K13 : Int32 → Int32 → MS → Prop) (x1 : Int32) (x2 : Int32) (σ : MS) : Prop :=
  if x2 < 0 then (Q σ) else (w3_untold x2 (0 : Int32) σ (fun r8 s8 => if (gA s8 0 1) ≤ r8 then (lp6F (w3_laysWays_109 Q K13) x1 x2 r8 (0 : Int32) (0 : Int32) s8) else (vp_in r8 9 ∧ (vp_in (x2 + (gA s8 42 r8.toNatClampNeg)) 6561 ∧ (vp_in r8 9 ∧ (vp_in (x2 + ((2 : Int32) * (gA s8 42 r8.toNatClampNeg))) 6561 ∧ (vp_in x2 6561 ∧ (vp_in r8 9 ∧ (vp_in (x2 + (gA (sA s8 33 x2.toNatClampNeg ((gA s8 33 (x2 + (gA s8 42 r8.toNatClampNeg)).toNatClampNeg) + (gA s8 33 (x2 + ((2 : Int32) * (gA s8 42 r8.toNatClampNeg))).toNatClampNeg))) 42 r8.toNatClampNeg)) 6561 ∧ (vp_in r8 9 ∧ (vp_in (x2 + ((2 : Int32) * (gA (sA s8 33 x2.toNatClampNeg ((gA s8 33 (x2 + (gA s8 42 r8.toNatClampNeg)).toNatClampNeg) + (gA s8 33 (x2 + ((2 : Int32) * (gA s8 42 r8.toNatClampNeg))).toNatClampNeg))) 42 r8.toNatClampNeg))) 6561 ∧ (vp_in x2 6561 ∧ (w3_laysWays_194 Q K13 x1 x2 (sA (sA s8 33 x2.toNatClampNeg ((gA s8 33 (x2 + (gA s8 42 r8.toNatClampNeg)).toNatClampNeg) + (gA s8 33 (x2 + ((2 : Int32) * (gA s8 42 r8.toNatClampNeg))).toNatClampNeg))) 34 x2.toNatClampNeg ((gA (sA s8 33 x2.toNatClampNeg ((gA s8 33 (x2 + (gA s8 42 r8.toNatClampNeg)).toNatClampNeg) + (gA s8 33 (x2 + ((2 : Int32) * (gA s8 42 r8.toNatClampNeg))).toNatClampNeg))) 34 (x2 + (gA (sA s8 33 x2.toNatClampNeg ((gA s8 33 (x2 + (gA s8 42 r8.toNatClampNeg)).toNatClampNeg) + (gA s8 33 (x2 + ((2 : Int32) * (gA s8 42 r8.toNatClampNeg))).toNatClampNeg))) 42 r8.toNatClampNeg)).toNatClampNeg) + (gA (sA s8 33 x2.toNatClampNeg ((gA s8 33 (x2 + (gA s8 42 r8.toNatClampNeg)).toNatClampNeg) + (gA s8 33 (x2 + ((2 : Int32) * (gA s8 42 r8.toNatClampNeg))).toNatClampNeg))) 34 (x2 + ((2 : Int32) * (gA (sA s8 33 x2.toNatClampNeg ((gA s8 33 (x2 + (gA s8 42 r8.toNatClampNeg)).toNatClampNeg) + (gA s8 33 (x2 + ((2 : Int32) * (gA s8 42 r8.toNatClampNeg))).toNatClampNeg))) 42 r8.toNatClampNeg))).toNatClampNeg))))))))))))))))
set_option maxHeartbeats 4000000 in
theorem B3_laysWays_13 {l : Launch} {p : Program} {e : Env} {s : State} {m : MethodId} {args : Array Value} {below : List Frame} {meth : Method} {c : Code} {G : mm_G} {Q : MS → Prop} {K13 : Int32 → Int32 → MS → Prop} (cx : mm_X cX3_laysWays 6 none G p s m args meth c) (hK13 : ∀ (x1 : Int32) (x2 : Int32) (σ : MS), K13 x1 x2 σ → mm_T p l e ({ frames := 2, cells := 0, slots := 0, locals := 80 } : Room) s m args below meth c G (mm_Qv G Q) 6 13 σ [(0, .ref (mm_o G)), (1, .int x1), (2, .int x2)] []) : ∀ (x1 : Int32) (x2 : Int32) (σ : MS), w3_laysWays_13 Q K13 x1 x2 σ → mm_T p l e ({ frames := 2, cells := 0, slots := 0, locals := 80 } : Room) s m args below meth c G (mm_Qv G Q) 6 13 σ [(0, .ref (mm_o G)), (1, .int x1), (2, .int x2)] [] := by
  intro x1 x2 σ hw H locs ls hM hS hl
  unfold w3_laysWays_13 at hw
  obtain ⟨hx, hb, hml, hown, hts, hr, hlk, hMK, hZ⟩ := id cx
  refine lv_iload_n hx hb dX3_laysWays_13 rfl (lv_at hl 2 rfl) ?_
  refine lv_if_lt (tgt := 200) hx hb dX3_laysWays_14 (by decide) (fun hc => ?_) (fun hc => ?_)
  · have hw := mm_ip hc hw
    exact mm_vret cx hM hS hw dX3_laysWays_200
  · have hw := mm_in hc hw
    refine lv_aload_n hx hb dX3_laysWays_17 rfl (lv_at hl 0 rfl) ?_
    refine lv_iload_n hx hb dX3_laysWays_18 rfl (lv_at hl 2 rfl) ?_
    refine lv_iconst (v := (0 : Int32)) hx hb dX3_laysWays_19 (by decide) ?_
    refine C3_untold cx hM hS hw ⟨Nat.le_of_ble_eq_true rfl, Nat.le_of_ble_eq_true rfl⟩ (Nat.le_of_ble_eq_true rfl) hl.1 ⟨Nat.zero_le _, Nat.zero_le _⟩ dX3_laysWays_20 (fun r8 s8 H locs hw hM hS => ?_)
    refine lv_istore_n (lv' := [(3, .int r8), (0, .ref (mm_o G)), (1, .int x1), (2, .int x2)]) hx hb dX3_laysWays_23 rfl hl (by decide) rfl (fun ls hl => ?_)
    refine lv_iload_n hx hb dX3_laysWays_24 rfl (lv_at hl 0 rfl) ?_
    refine lv_aload_n hx hb dX3_laysWays_25 rfl (lv_at hl 1 rfl) ?_
    refine mg_0 cx hM dX3_laysWays_26 ?_
    refine lv_iconst (v := (1 : Int32)) hx hb dX3_laysWays_29 (by decide) ?_
    refine mm_iald cx hM 0 rfl (j := 1) (by decide) (vp_lit (by decide)) dX3_laysWays_30 ?_
    refine lv_icmp_ge (tgt := 103) hx hb dX3_laysWays_31 (by decide) (fun hc => ?_) (fun hc => ?_)
    · have hw := mm_ip hc hw
      refine lv_iconst (v := (0 : Int32)) hx hb dX3_laysWays_103 (by decide) ?_
      refine lv_istore (lv' := [(4, .int (0 : Int32)), (3, .int r8), (0, .ref (mm_o G)), (1, .int x1), (2, .int x2)]) hx hb dX3_laysWays_104 hl (by decide) rfl (fun ls hl => ?_)
      refine lv_iconst (v := (0 : Int32)) hx hb dX3_laysWays_106 (by decide) ?_
      refine lv_istore (lv' := [(5, .int (0 : Int32)), (4, .int (0 : Int32)), (3, .int r8), (0, .ref (mm_o G)), (1, .int x1), (2, .int x2)]) hx hb dX3_laysWays_107 hl (by decide) rfl (fun ls hl => ?_)
      exact L3_laysWays_109 cx hK13 _ _ _ _ _ _ hw _ _ _ hM hS (lv_sub hl [3, 4, 5, 2, 1, 0] rfl)
    · have hw := mm_in hc hw
      refine lv_aload_n hx hb dX3_laysWays_34 rfl (lv_at hl 1 rfl) ?_
      refine mg_33 cx hM dX3_laysWays_35 ?_
      refine lv_iload_n hx hb dX3_laysWays_38 rfl (lv_at hl 3 rfl) ?_
      refine lv_aload_n hx hb dX3_laysWays_39 rfl (lv_at hl 1 rfl) ?_
      refine mg_33 cx hM dX3_laysWays_40 ?_
      refine lv_iload_n hx hb dX3_laysWays_43 rfl (lv_at hl 3 rfl) ?_
      refine mm_thr cx hS dX3_laysWays_44 ?_
      refine lv_iload_n hx hb dX3_laysWays_47 rfl (lv_at hl 0 rfl) ?_
      obtain ⟨hi, hw⟩ := hw
      refine mm_iald cx hM 42 rfl rfl hi dX3_laysWays_48 ?_
      refine lv_iadd hx hb dX3_laysWays_49 ?_
      obtain ⟨hi, hw⟩ := hw
      refine mm_iald cx hM 33 rfl rfl hi dX3_laysWays_50 ?_
      refine lv_aload_n hx hb dX3_laysWays_51 rfl (lv_at hl 1 rfl) ?_
      refine mg_33 cx hM dX3_laysWays_52 ?_
      refine lv_iload_n hx hb dX3_laysWays_55 rfl (lv_at hl 3 rfl) ?_
      refine lv_iconst (v := (2 : Int32)) hx hb dX3_laysWays_56 (by decide) ?_
      refine mm_thr cx hS dX3_laysWays_57 ?_
      refine lv_iload_n hx hb dX3_laysWays_60 rfl (lv_at hl 0 rfl) ?_
      obtain ⟨hi, hw⟩ := hw
      refine mm_iald cx hM 42 rfl rfl hi dX3_laysWays_61 ?_
      refine lv_imul hx hb dX3_laysWays_62 ?_
      refine lv_iadd hx hb dX3_laysWays_63 ?_
      obtain ⟨hi, hw⟩ := hw
      refine mm_iald cx hM 33 rfl rfl hi dX3_laysWays_64 ?_
      refine lv_iadd hx hb dX3_laysWays_65 ?_
      obtain ⟨hi, hw⟩ := hw
      refine mm_iast cx hM hS 33 rfl rfl hi dX3_laysWays_66 (fun H locs hM hS => ?_)
      refine lv_aload_n hx hb dX3_laysWays_67 rfl (lv_at hl 1 rfl) ?_
      refine mg_34 cx hM dX3_laysWays_68 ?_
      refine lv_iload_n hx hb dX3_laysWays_71 rfl (lv_at hl 3 rfl) ?_
      refine lv_aload_n hx hb dX3_laysWays_72 rfl (lv_at hl 1 rfl) ?_
      refine mg_34 cx hM dX3_laysWays_73 ?_
      refine lv_iload_n hx hb dX3_laysWays_76 rfl (lv_at hl 3 rfl) ?_
      refine mm_thr cx hS dX3_laysWays_77 ?_
      refine lv_iload_n hx hb dX3_laysWays_80 rfl (lv_at hl 0 rfl) ?_
      obtain ⟨hi, hw⟩ := hw
      refine mm_iald cx hM 42 rfl rfl hi dX3_laysWays_81 ?_
      refine lv_iadd hx hb dX3_laysWays_82 ?_
      obtain ⟨hi, hw⟩ := hw
      refine mm_iald cx hM 34 rfl rfl hi dX3_laysWays_83 ?_
      refine lv_aload_n hx hb dX3_laysWays_84 rfl (lv_at hl 1 rfl) ?_
      refine mg_34 cx hM dX3_laysWays_85 ?_
      refine lv_iload_n hx hb dX3_laysWays_88 rfl (lv_at hl 3 rfl) ?_
      refine lv_iconst (v := (2 : Int32)) hx hb dX3_laysWays_89 (by decide) ?_
      refine mm_thr cx hS dX3_laysWays_90 ?_
      refine lv_iload_n hx hb dX3_laysWays_93 rfl (lv_at hl 0 rfl) ?_
      obtain ⟨hi, hw⟩ := hw
      refine mm_iald cx hM 42 rfl rfl hi dX3_laysWays_94 ?_
      refine lv_imul hx hb dX3_laysWays_95 ?_
      refine lv_iadd hx hb dX3_laysWays_96 ?_
      obtain ⟨hi, hw⟩ := hw
      refine mm_iald cx hM 34 rfl rfl hi dX3_laysWays_97 ?_
      refine lv_iadd hx hb dX3_laysWays_98 ?_
      obtain ⟨hi, hw⟩ := hw
      refine mm_iast cx hM hS 34 rfl rfl hi dX3_laysWays_99 (fun H locs hM hS => ?_)
      refine lv_goto (tgt := 194) hx hb dX3_laysWays_100 (by decide) ?_
      exact B3_laysWays_194 cx hK13 _ _ _ hw _ _ _ hM hS (lv_sub hl [1, 2, 3] rfl)
theorem L3_laysWays_13 {l : Launch} {p : Program} {e : Env} {s : State} {m : MethodId} {args : Array Value} {below : List Frame} {meth : Method} {c : Code} {G : mm_G} {Q : MS → Prop} (cx : mm_X cX3_laysWays 6 none G p s m args meth c) : ∀ (x1 : Int32) (x2 : Int32) (σ : MS), lp3F (w3_laysWays_13 Q) x1 x2 σ → mm_T p l e ({ frames := 2, cells := 0, slots := 0, locals := 80 } : Room) s m args below meth c G (mm_Qv G Q) 6 13 σ [(0, .ref (mm_o G)), (1, .int x1), (2, .int x2)] [] :=
  lp3F_of (fun K hK => B3_laysWays_13 cx hK)
def w3_laysWays (x1 : Int32) (σ : MS) (Q : MS → Prop) : Prop :=
  vp_in (gA σ 0 1) 9 ∧ (∀ v9 : Int32, v9 = ((gA σ 42 (gA σ 0 1).toNatClampNeg) - (1 : Int32)) → lp3F (w3_laysWays_13 Q) x1 v9 σ)
set_option maxHeartbeats 4000000 in
theorem M3_laysWays (l : Launch) (G : mm_G) (x1 : Int32) (σ : MS) (Q : MS → Prop) (hw : w3_laysWays x1 σ Q) : mm_Mv l yX3_laysWays (ws_ yX3_laysWays cX3_laysWays 6 none) ({ frames := 2, cells := 0, slots := 0, locals := 80 } : Room) G [.ref (mm_o G), .int x1] σ Q := by
  refine mm_of (by decide) rfl ?_
  intro p e s m args below meth c cx hM ha
  refine mm_entry [.ref (mm_o G), .int x1] 6 [(0, .ref (mm_o G)), (1, .int x1)] ha (Nat.le_of_ble_eq_true rfl) rfl (fun ls hl => ?_)
  have hS : va_S (mm_A G) s.heap s.heap [] := va_S.rf
  unfold w3_laysWays at hw
  obtain ⟨hx, hb, hml, hown, hts, hr, hlk, hMK, hZ⟩ := id cx
  refine mm_thr cx hS dX3_laysWays_0 ?_
  refine lv_aload_n hx hb dX3_laysWays_3 rfl (lv_at hl 0 rfl) ?_
  refine mg_0 cx hM dX3_laysWays_4 ?_
  refine lv_iconst (v := (1 : Int32)) hx hb dX3_laysWays_7 (by decide) ?_
  refine mm_iald cx hM 0 rfl (j := 1) (by decide) (vp_lit (by decide)) dX3_laysWays_8 ?_
  obtain ⟨hi, hw⟩ := hw
  refine mm_iald cx hM 42 rfl rfl hi dX3_laysWays_9 ?_
  refine lv_iconst (v := (1 : Int32)) hx hb dX3_laysWays_10 (by decide) ?_
  refine lv_isub hx hb dX3_laysWays_11 ?_
  refine lv_topi (fun v9 hv9 => ?_)
  have hw := hw v9 hv9
  refine lv_istore_n (lv' := [(2, .int v9), (0, .ref (mm_o G)), (1, .int x1)]) hx hb dX3_laysWays_12 rfl hl (by decide) rfl (fun ls hl => ?_)
  exact L3_laysWays_13 cx _ _ _ hw _ _ _ hM hS (lv_sub hl [1, 2, 0] rfl)
theorem C3_laysWays {l : Launch} {p : Program} {e : Env} {R : Room} {s : State} {m : MethodId} {args : Array Value} {below : List Frame} {meth : Method} {c : Code} {H : Heap} {locs : List Loc} {cells slots : Nat} {Qz : State → Prop} {cc : ByteArray} {nL : Nat} {ret : Option FieldType} {G : mm_G} {pc : Nat} {ls : Array Slot} {rest : List Value} {x1 : Int32} {σ : MS} (cx : mm_X cc nL ret G p s m args meth c) (hM : mm_R G σ H) (hS0 : va_S (mm_A G) s.heap H locs) {Qf : MS → Prop} (hw : w3_laysWays x1 σ Qf) (hR : (({ frames := 2, cells := 0, slots := 0, locals := 80 } : Room)).frames + 1 ≤ R.frames ∧ 8 + (6 + 11) + (({ frames := 2, cells := 0, slots := 0, locals := 80 } : Room)).locals ≤ R.locals) (hroom : (rest.map fun v => v.category).sum ≤ 8) (hsize : ls.size = nL) (hf : cells ≤ R.cells ∧ slots ≤ R.slots) (hdg : decode cc pc = .ok (.invokevirtual 441, 3))
    (kk : ∀ (σ1 : MS) (H1 : Heap) (locs1 : List Loc), Qf σ1 → mm_R G σ1 H1 → va_S (mm_A G) s.heap H1 locs1 → W p l e R s m args below meth c H1 locs1 cells slots Qz (F0 m (pc + 3) ls rest)) : W p l e R s m args below meth c H locs cells slots Qz (F0 m pc ls (.int x1 :: .ref (mm_o G) :: rest)) := by
  obtain ⟨hx, hb, hml, hown, hts, hr, hlk, hK, hZ⟩ := id cx
  exact mm_Vv cx hM hS0 (As := [.int x1]) (M3_laysWays l G x1 σ Qf hw) (cwV 1 hts (lw_V q2935 q2937 qs141 q172 q2938) rfl rfl rfl (by decide +kernel) hR) rfl hsize rfl hroom hf hdg kk
def w3_judged (x1 : Int32) (σ : MS) (Q : Int32 → MS → Prop) : Prop :=
  w3_isCount x1 σ (fun r1 s1 => if r1 = 0 then (Q (-1 : Int32) s1) else (w3_laysWays x1 s1 (fun s2 => if (gA s2 34 0) = 0 then (Q (0 : Int32) s2) else (if (gA s2 34 0) = (gA s2 33 0) then (Q (1 : Int32) s2) else (Q (2 : Int32) s2)))))
set_option maxHeartbeats 4000000 in
theorem M3_judged (l : Launch) (G : mm_G) (x1 : Int32) (σ : MS) (Q : Int32 → MS → Prop) (hw : w3_judged x1 σ Q) : mm_Mi l yX3_judged (ws_ yX3_judged cX3_judged 2 (some .int)) ({ frames := 3, cells := 0, slots := 0, locals := 120 } : Room) G [.ref (mm_o G), .int x1] σ Q := by
  refine mm_of (by decide) rfl ?_
  intro p e s m args below meth c cx hM ha
  refine mm_entry [.ref (mm_o G), .int x1] 2 [(0, .ref (mm_o G)), (1, .int x1)] ha (Nat.le_of_ble_eq_true rfl) rfl (fun ls hl => ?_)
  have hS : va_S (mm_A G) s.heap s.heap [] := va_S.rf
  unfold w3_judged at hw
  obtain ⟨hx, hb, hml, hown, hts, hr, hlk, hMK, hZ⟩ := id cx
  refine lv_aload_n hx hb dX3_judged_0 rfl (lv_at hl 0 rfl) ?_
  refine lv_iload_n hx hb dX3_judged_1 rfl (lv_at hl 1 rfl) ?_
  refine C3_isCount cx hM hS hw ⟨Nat.le_of_ble_eq_true rfl, Nat.le_of_ble_eq_true rfl⟩ (Nat.le_of_ble_eq_true rfl) hl.1 ⟨Nat.zero_le _, Nat.zero_le _⟩ dX3_judged_2 (fun r1 s1 H locs hw hM hS => ?_)
  refine lv_if_ne (tgt := 10) hx hb dX3_judged_5 (by decide) (fun hc => ?_) (fun hc => ?_)
  · have hw := mm_in hc hw
    refine lv_aload_n hx hb dX3_judged_10 rfl (lv_at hl 0 rfl) ?_
    refine lv_iload_n hx hb dX3_judged_11 rfl (lv_at hl 1 rfl) ?_
    refine C3_laysWays cx hM hS hw ⟨Nat.le_of_ble_eq_true rfl, Nat.le_of_ble_eq_true rfl⟩ (Nat.le_of_ble_eq_true rfl) hl.1 ⟨Nat.zero_le _, Nat.zero_le _⟩ dX3_judged_12 (fun s2 H locs hw hM hS => ?_)
    refine lv_aload_n hx hb dX3_judged_15 rfl (lv_at hl 0 rfl) ?_
    refine mg_34 cx hM dX3_judged_16 ?_
    refine lv_iconst (v := (0 : Int32)) hx hb dX3_judged_19 (by decide) ?_
    refine mm_iald cx hM 34 rfl (j := 0) (by decide) (vp_lit (by decide)) dX3_judged_20 ?_
    refine lv_if_ne (tgt := 28) hx hb dX3_judged_21 (by decide) (fun hc => ?_) (fun hc => ?_)
    · have hw := mm_in hc hw
      refine lv_aload_n hx hb dX3_judged_28 rfl (lv_at hl 0 rfl) ?_
      refine mg_34 cx hM dX3_judged_29 ?_
      refine lv_iconst (v := (0 : Int32)) hx hb dX3_judged_32 (by decide) ?_
      refine mm_iald cx hM 34 rfl (j := 0) (by decide) (vp_lit (by decide)) dX3_judged_33 ?_
      refine lv_aload_n hx hb dX3_judged_34 rfl (lv_at hl 0 rfl) ?_
      refine mg_33 cx hM dX3_judged_35 ?_
      refine lv_iconst (v := (0 : Int32)) hx hb dX3_judged_38 (by decide) ?_
      refine mm_iald cx hM 33 rfl (j := 0) (by decide) (vp_lit (by decide)) dX3_judged_39 ?_
      refine lv_icmp_ne (tgt := 47) hx hb dX3_judged_40 (by decide) (fun hc => ?_) (fun hc => ?_)
      · have hw := mm_in hc hw
        refine lv_iconst (v := (2 : Int32)) hx hb dX3_judged_47 (by decide) ?_
        exact mm_iret cx hM hS hw dX3_judged_48
      · have hw := mm_ip hc hw
        refine lv_iconst (v := (1 : Int32)) hx hb dX3_judged_43 (by decide) ?_
        refine lv_goto (tgt := 48) hx hb dX3_judged_44 (by decide) ?_
        exact mm_iret cx hM hS hw dX3_judged_48
    · have hw := mm_ip hc hw
      refine lv_iconst (v := (0 : Int32)) hx hb dX3_judged_24 (by decide) ?_
      refine lv_goto (tgt := 48) hx hb dX3_judged_25 (by decide) ?_
      exact mm_iret cx hM hS hw dX3_judged_48
  · have hw := mm_ip hc hw
    refine lv_iconst (v := (-1 : Int32)) hx hb dX3_judged_8 (by decide) ?_
    exact mm_iret cx hM hS hw dX3_judged_9
-- no call of judged
def w3_triedBy_48 (Q : Int32 → MS → Prop) (K5 : Int32 → Int32 → Int32 → Int32 → MS → Prop) (x1 : Int32) (x2 : Int32) (x4 : Int32) (t0 : Int32) (σ : MS) : Prop :=
  ∀ v1 : Int32, v1 = x4 + (1 : Int32) → K5 x1 x2 t0 v1 σ
set_option maxHeartbeats 4000000 in
theorem B3_triedBy_48 {l : Launch} {p : Program} {e : Env} {s : State} {m : MethodId} {args : Array Value} {below : List Frame} {meth : Method} {c : Code} {G : mm_G} {Q : Int32 → MS → Prop} {K5 : Int32 → Int32 → Int32 → Int32 → MS → Prop} (cx : mm_X cX3_triedBy 6 (some .int) G p s m args meth c) (hK5 : ∀ (x1 : Int32) (x2 : Int32) (x3 : Int32) (x4 : Int32) (σ : MS), K5 x1 x2 x3 x4 σ → mm_T p l e ({ frames := 1, cells := 0, slots := 0, locals := 40 } : Room) s m args below meth c G (mm_Qi G Q) 6 5 σ [(0, .ref (mm_o G)), (1, .int x1), (2, .int x2), (3, .int x3), (4, .int x4)] []) : ∀ (x1 : Int32) (x2 : Int32) (x4 : Int32) (t0 : Int32) (σ : MS), w3_triedBy_48 Q K5 x1 x2 x4 t0 σ → mm_T p l e ({ frames := 1, cells := 0, slots := 0, locals := 40 } : Room) s m args below meth c G (mm_Qi G Q) 6 48 σ [(0, .ref (mm_o G)), (1, .int x1), (2, .int x2), (4, .int x4)] [.int t0] := by
  intro x1 x2 x4 t0 σ hw H locs ls hM hS hl
  unfold w3_triedBy_48 at hw
  obtain ⟨hx, hb, hml, hown, hts, hr, hlk, hMK, hZ⟩ := id cx
  refine lv_istore_n (lv' := [(3, .int t0), (0, .ref (mm_o G)), (1, .int x1), (2, .int x2), (4, .int x4)]) hx hb dX3_triedBy_48 rfl hl (by decide) rfl (fun ls hl => ?_)
  obtain ⟨v1, hv1⟩ : ∃ v : Int32, v = x4 + (1 : Int32) := ⟨_, rfl⟩
  have hw := hw v1 hv1
  refine lv_iinc (v := v1) (lv' := [(4, .int v1), (3, .int t0), (0, .ref (mm_o G)), (1, .int x1), (2, .int x2)]) hx hb dX3_triedBy_49 hl (k := 4) rfl (by rw [hv1]; rfl) (by decide) rfl (fun ls hl => ?_)
  refine lv_goto (tgt := 5) hx hb dX3_triedBy_52 (by decide) ?_
  exact hK5 _ _ _ _ _ hw _ _ _ hM hS (lv_sub hl [2, 3, 4, 1, 0] rfl)
def w3_triedBy_5 (Q : Int32 → MS → Prop) (K5 : Int32 → Int32 → Int32 → Int32 → MS → Prop) (x1 : Int32) (x2 : Int32) (x3 : Int32) (x4 : Int32) (σ : MS) : Prop :=
  if (3 : Int32) ≤ x4 then (Q ((1 : Int32) + x3) σ) else (vp_in x2 9 ∧ (∀ v2 : Int32, v2 = (x1 + (x4 * (gA σ 42 x2.toNatClampNeg))) → vp_in v2 6561 ∧ (if (gA σ 33 v2.toNatClampNeg) ≤ 0 then (w3_triedBy_48 Q K5 x1 x2 x4 x3 σ) else (vp_in v2 6561 ∧ (w3_triedBy_48 Q K5 x1 x2 x4 (imax x3 (gA σ 35 v2.toNatClampNeg)) σ)))))
set_option maxHeartbeats 4000000 in
theorem B3_triedBy_5 {l : Launch} {p : Program} {e : Env} {s : State} {m : MethodId} {args : Array Value} {below : List Frame} {meth : Method} {c : Code} {G : mm_G} {Q : Int32 → MS → Prop} {K5 : Int32 → Int32 → Int32 → Int32 → MS → Prop} (cx : mm_X cX3_triedBy 6 (some .int) G p s m args meth c) (hK5 : ∀ (x1 : Int32) (x2 : Int32) (x3 : Int32) (x4 : Int32) (σ : MS), K5 x1 x2 x3 x4 σ → mm_T p l e ({ frames := 1, cells := 0, slots := 0, locals := 40 } : Room) s m args below meth c G (mm_Qi G Q) 6 5 σ [(0, .ref (mm_o G)), (1, .int x1), (2, .int x2), (3, .int x3), (4, .int x4)] []) : ∀ (x1 : Int32) (x2 : Int32) (x3 : Int32) (x4 : Int32) (σ : MS), w3_triedBy_5 Q K5 x1 x2 x3 x4 σ → mm_T p l e ({ frames := 1, cells := 0, slots := 0, locals := 40 } : Room) s m args below meth c G (mm_Qi G Q) 6 5 σ [(0, .ref (mm_o G)), (1, .int x1), (2, .int x2), (3, .int x3), (4, .int x4)] [] := by
  intro x1 x2 x3 x4 σ hw H locs ls hM hS hl
  unfold w3_triedBy_5 at hw
  obtain ⟨hx, hb, hml, hown, hts, hr, hlk, hMK, hZ⟩ := id cx
  refine lv_iload hx hb dX3_triedBy_5 (lv_at hl 4 rfl) ?_
  refine lv_iconst (v := (3 : Int32)) hx hb dX3_triedBy_7 (by decide) ?_
  refine lv_icmp_ge (tgt := 55) hx hb dX3_triedBy_8 (by decide) (fun hc => ?_) (fun hc => ?_)
  · have hw := mm_ip hc hw
    refine lv_iconst (v := (1 : Int32)) hx hb dX3_triedBy_55 (by decide) ?_
    refine lv_iload_n hx hb dX3_triedBy_56 rfl (lv_at hl 3 rfl) ?_
    refine lv_iadd hx hb dX3_triedBy_57 ?_
    exact mm_iret cx hM hS hw dX3_triedBy_58
  · have hw := mm_in hc hw
    refine lv_iload_n hx hb dX3_triedBy_11 rfl (lv_at hl 1 rfl) ?_
    refine lv_iload hx hb dX3_triedBy_12 (lv_at hl 4 rfl) ?_
    refine mm_thr cx hS dX3_triedBy_14 ?_
    refine lv_iload_n hx hb dX3_triedBy_17 rfl (lv_at hl 2 rfl) ?_
    obtain ⟨hi, hw⟩ := hw
    refine mm_iald cx hM 42 rfl rfl hi dX3_triedBy_18 ?_
    refine lv_imul hx hb dX3_triedBy_19 ?_
    refine lv_iadd hx hb dX3_triedBy_20 ?_
    refine lv_topi (fun v2 hv2 => ?_)
    have hw := hw v2 hv2
    refine lv_istore (lv' := [(5, .int v2), (0, .ref (mm_o G)), (1, .int x1), (2, .int x2), (3, .int x3), (4, .int x4)]) hx hb dX3_triedBy_21 hl (by decide) rfl (fun ls hl => ?_)
    refine lv_aload_n hx hb dX3_triedBy_23 rfl (lv_at hl 1 rfl) ?_
    refine mg_33 cx hM dX3_triedBy_24 ?_
    refine lv_iload hx hb dX3_triedBy_27 (lv_at hl 0 rfl) ?_
    obtain ⟨hi, hw⟩ := hw
    refine mm_iald cx hM 33 rfl rfl hi dX3_triedBy_29 ?_
    refine lv_if_le (tgt := 47) hx hb dX3_triedBy_30 (by decide) (fun hc => ?_) (fun hc => ?_)
    · have hw := mm_ip hc hw
      refine lv_iload_n hx hb dX3_triedBy_47 rfl (lv_at hl 4 rfl) ?_
      exact B3_triedBy_48 cx hK5 _ _ _ _ _ hw _ _ _ hM hS (lv_sub hl [1, 2, 3, 5] rfl)
    · have hw := mm_in hc hw
      refine lv_iload_n hx hb dX3_triedBy_33 rfl (lv_at hl 4 rfl) ?_
      refine lv_aload_n hx hb dX3_triedBy_34 rfl (lv_at hl 1 rfl) ?_
      refine mg_35 cx hM dX3_triedBy_35 ?_
      refine lv_iload hx hb dX3_triedBy_38 (lv_at hl 0 rfl) ?_
      obtain ⟨hi, hw⟩ := hw
      refine mm_iald cx hM 35 rfl rfl hi dX3_triedBy_40 ?_
      refine mm_max cx hl.1 (Nat.le_of_ble_eq_true rfl) (Nat.le_of_ble_eq_true rfl) dX3_triedBy_41 ?_
      refine lv_goto (tgt := 48) hx hb dX3_triedBy_44 (by decide) ?_
      exact B3_triedBy_48 cx hK5 _ _ _ _ _ hw _ _ _ hM hS (lv_sub hl [1, 2, 3, 5] rfl)
theorem L3_triedBy_5 {l : Launch} {p : Program} {e : Env} {s : State} {m : MethodId} {args : Array Value} {below : List Frame} {meth : Method} {c : Code} {G : mm_G} {Q : Int32 → MS → Prop} (cx : mm_X cX3_triedBy 6 (some .int) G p s m args meth c) : ∀ (x1 : Int32) (x2 : Int32) (x3 : Int32) (x4 : Int32) (σ : MS), lp5F (w3_triedBy_5 Q) x1 x2 x3 x4 σ → mm_T p l e ({ frames := 1, cells := 0, slots := 0, locals := 40 } : Room) s m args below meth c G (mm_Qi G Q) 6 5 σ [(0, .ref (mm_o G)), (1, .int x1), (2, .int x2), (3, .int x3), (4, .int x4)] [] :=
  lp5F_of (fun K hK => B3_triedBy_5 cx hK)
def w3_triedBy (x1 : Int32) (x2 : Int32) (σ : MS) (Q : Int32 → MS → Prop) : Prop :=
  lp5F (w3_triedBy_5 Q) x1 x2 (0 : Int32) (1 : Int32) σ
set_option maxHeartbeats 4000000 in
theorem M3_triedBy (l : Launch) (G : mm_G) (x1 : Int32) (x2 : Int32) (σ : MS) (Q : Int32 → MS → Prop) (hw : w3_triedBy x1 x2 σ Q) : mm_Mi l yX3_triedBy (ws_ yX3_triedBy cX3_triedBy 6 (some .int)) ({ frames := 1, cells := 0, slots := 0, locals := 40 } : Room) G [.ref (mm_o G), .int x1, .int x2] σ Q := by
  refine mm_of (by decide) rfl ?_
  intro p e s m args below meth c cx hM ha
  refine mm_entry [.ref (mm_o G), .int x1, .int x2] 6 [(0, .ref (mm_o G)), (1, .int x1), (2, .int x2)] ha (Nat.le_of_ble_eq_true rfl) rfl (fun ls hl => ?_)
  have hS : va_S (mm_A G) s.heap s.heap [] := va_S.rf
  unfold w3_triedBy at hw
  obtain ⟨hx, hb, hml, hown, hts, hr, hlk, hMK, hZ⟩ := id cx
  refine lv_iconst (v := (0 : Int32)) hx hb dX3_triedBy_0 (by decide) ?_
  refine lv_istore_n (lv' := [(3, .int (0 : Int32)), (0, .ref (mm_o G)), (1, .int x1), (2, .int x2)]) hx hb dX3_triedBy_1 rfl hl (by decide) rfl (fun ls hl => ?_)
  refine lv_iconst (v := (1 : Int32)) hx hb dX3_triedBy_2 (by decide) ?_
  refine lv_istore (lv' := [(4, .int (1 : Int32)), (3, .int (0 : Int32)), (0, .ref (mm_o G)), (1, .int x1), (2, .int x2)]) hx hb dX3_triedBy_3 hl (by decide) rfl (fun ls hl => ?_)
  exact L3_triedBy_5 cx _ _ _ _ _ hw _ _ _ hM hS (lv_sub hl [2, 3, 4, 1, 0] rfl)
theorem C3_triedBy {l : Launch} {p : Program} {e : Env} {R : Room} {s : State} {m : MethodId} {args : Array Value} {below : List Frame} {meth : Method} {c : Code} {H : Heap} {locs : List Loc} {cells slots : Nat} {Qz : State → Prop} {cc : ByteArray} {nL : Nat} {ret : Option FieldType} {G : mm_G} {pc : Nat} {ls : Array Slot} {rest : List Value} {x1 : Int32} {x2 : Int32} {σ : MS} (cx : mm_X cc nL ret G p s m args meth c) (hM : mm_R G σ H) (hS0 : va_S (mm_A G) s.heap H locs) {Qf : Int32 → MS → Prop} (hw : w3_triedBy x1 x2 σ Qf) (hR : (({ frames := 1, cells := 0, slots := 0, locals := 40 } : Room)).frames + 1 ≤ R.frames ∧ 8 + (6 + 11) + (({ frames := 1, cells := 0, slots := 0, locals := 40 } : Room)).locals ≤ R.locals) (hroom : (rest.map fun v => v.category).sum ≤ 8) (hsize : ls.size = nL) (hf : cells ≤ R.cells ∧ slots ≤ R.slots) (hdg : decode cc pc = .ok (.invokevirtual 447, 3))
    (kk : ∀ (r : Int32) (σ1 : MS) (H1 : Heap) (locs1 : List Loc), Qf r σ1 → mm_R G σ1 H1 → va_S (mm_A G) s.heap H1 locs1 → W p l e R s m args below meth c H1 locs1 cells slots Qz (F0 m (pc + 3) ls (.int r :: rest))) : W p l e R s m args below meth c H locs cells slots Qz (F0 m pc ls (.int x2 :: .int x1 :: .ref (mm_o G) :: rest)) := by
  obtain ⟨hx, hb, hml, hown, hts, hr, hlk, hK, hZ⟩ := id cx
  exact mm_Vi cx hM hS0 (As := [.int x1, .int x2]) (M3_triedBy l G x1 x2 σ Qf hw) (cwV 2 hts (lw_V q2956 q2958 qs144 q172 q2959) rfl rfl rfl (by decide +kernel) hR) rfl hsize rfl hroom hf hdg kk
def w3_laysTrials_129 (Q : MS → Prop) (K13 : Int32 → MS → Prop) (x1 : Int32) (σ : MS) : Prop :=
  ∀ v1 : Int32, v1 = x1 + (-1 : Int32) → K13 v1 σ
set_option maxHeartbeats 4000000 in
theorem B3_laysTrials_129 {l : Launch} {p : Program} {e : Env} {s : State} {m : MethodId} {args : Array Value} {below : List Frame} {meth : Method} {c : Code} {G : mm_G} {Q : MS → Prop} {K13 : Int32 → MS → Prop} (cx : mm_X cX3_laysTrials 3 none G p s m args meth c) (hK13 : ∀ (x1 : Int32) (σ : MS), K13 x1 σ → mm_T p l e ({ frames := 2, cells := 0, slots := 0, locals := 80 } : Room) s m args below meth c G (mm_Qv G Q) 3 13 σ [(0, .ref (mm_o G)), (1, .int x1)] []) : ∀ (x1 : Int32) (σ : MS), w3_laysTrials_129 Q K13 x1 σ → mm_T p l e ({ frames := 2, cells := 0, slots := 0, locals := 80 } : Room) s m args below meth c G (mm_Qv G Q) 3 129 σ [(0, .ref (mm_o G)), (1, .int x1)] [] := by
  intro x1 σ hw H locs ls hM hS hl
  unfold w3_laysTrials_129 at hw
  obtain ⟨hx, hb, hml, hown, hts, hr, hlk, hMK, hZ⟩ := id cx
  obtain ⟨v1, hv1⟩ : ∃ v : Int32, v = x1 + (-1 : Int32) := ⟨_, rfl⟩
  have hw := hw v1 hv1
  refine lv_iinc (v := v1) (lv' := [(1, .int v1), (0, .ref (mm_o G))]) hx hb dX3_laysTrials_129 hl (k := 1) rfl (by rw [hv1]; rfl) (by decide) rfl (fun ls hl => ?_)
  refine lv_goto (tgt := 13) hx hb dX3_laysTrials_132 (by decide) ?_
  exact hK13 _ _ hw _ _ _ hM hS (lv_sub hl [1, 0] rfl)
def w3_laysTrials_116 (Q : MS → Prop) (K13 : Int32 → MS → Prop) (K60 : Int32 → Int32 → MS → Prop) (x1 : Int32) (x2 : Int32) (t0 : Nat) (t1 : Int32) (t2 : Int32) (σ : MS) : Prop :=
  mm_w t0 = true ∧ (vp_in t1 (mm_z t0) ∧ (w3_untold x1 (x2 + (1 : Int32)) (sA σ t0 t1.toNatClampNeg t2) (fun r2 s2 => K60 x1 r2 s2)))
set_option maxHeartbeats 4000000 in
theorem B3_laysTrials_116 {l : Launch} {p : Program} {e : Env} {s : State} {m : MethodId} {args : Array Value} {below : List Frame} {meth : Method} {c : Code} {G : mm_G} {Q : MS → Prop} {K13 : Int32 → MS → Prop} {K60 : Int32 → Int32 → MS → Prop} (cx : mm_X cX3_laysTrials 3 none G p s m args meth c) (hK13 : ∀ (x1 : Int32) (σ : MS), K13 x1 σ → mm_T p l e ({ frames := 2, cells := 0, slots := 0, locals := 80 } : Room) s m args below meth c G (mm_Qv G Q) 3 13 σ [(0, .ref (mm_o G)), (1, .int x1)] []) (hK60 : ∀ (x1 : Int32) (x2 : Int32) (σ : MS), K60 x1 x2 σ → mm_T p l e ({ frames := 2, cells := 0, slots := 0, locals := 80 } : Room) s m args below meth c G (mm_Qv G Q) 3 60 σ [(0, .ref (mm_o G)), (1, .int x1), (2, .int x2)] []) : ∀ (x1 : Int32) (x2 : Int32) (t0 : Nat) (t1 : Int32) (t2 : Int32) (σ : MS), w3_laysTrials_116 Q K13 K60 x1 x2 t0 t1 t2 σ → mm_T p l e ({ frames := 2, cells := 0, slots := 0, locals := 80 } : Room) s m args below meth c G (mm_Qv G Q) 3 116 σ [(0, .ref (mm_o G)), (1, .int x1), (2, .int x2)] [.int t2, .int t1, .ref (mm_a G t0)] := by
  intro x1 x2 t0 t1 t2 σ hw H locs ls hM hS hl
  unfold w3_laysTrials_116 at hw
  obtain ⟨hx, hb, hml, hown, hts, hr, hlk, hMK, hZ⟩ := id cx
  obtain ⟨hk, hw⟩ := hw
  obtain ⟨hi, hw⟩ := hw
  refine mm_iast cx hM hS t0 hk rfl hi dX3_laysTrials_116 (fun H locs hM hS => ?_)
  refine lv_aload_n hx hb dX3_laysTrials_117 rfl (lv_at hl 0 rfl) ?_
  refine lv_iload_n hx hb dX3_laysTrials_118 rfl (lv_at hl 1 rfl) ?_
  refine lv_iload_n hx hb dX3_laysTrials_119 rfl (lv_at hl 2 rfl) ?_
  refine lv_iconst (v := (1 : Int32)) hx hb dX3_laysTrials_120 (by decide) ?_
  refine lv_iadd hx hb dX3_laysTrials_121 ?_
  refine C3_untold cx hM hS hw ⟨Nat.le_of_ble_eq_true rfl, Nat.le_of_ble_eq_true rfl⟩ (Nat.le_of_ble_eq_true rfl) hl.1 ⟨Nat.zero_le _, Nat.zero_le _⟩ dX3_laysTrials_122 (fun r2 s2 H locs hw hM hS => ?_)
  refine lv_istore_n (lv' := [(2, .int r2), (0, .ref (mm_o G)), (1, .int x1)]) hx hb dX3_laysTrials_125 rfl hl (by decide) rfl (fun ls hl => ?_)
  refine lv_goto (tgt := 60) hx hb dX3_laysTrials_126 (by decide) ?_
  exact hK60 _ _ _ hw _ _ _ hM hS (lv_sub hl [1, 2, 0] rfl)
def w3_laysTrials_60 (Q : MS → Prop) (K13 : Int32 → MS → Prop) (K60 : Int32 → Int32 → MS → Prop) (x1 : Int32) (x2 : Int32) (σ : MS) : Prop :=
  if (gA σ 0 1) ≤ x2 then (w3_laysTrials_129 Q K13 x1 σ) else (vp_in x1 6561 ∧ (if (gA σ 35 x1.toNatClampNeg) ≤ 0 then (w3_laysTrials_129 Q K13 x1 σ) else (w3_isKnown x2 σ (fun r3 s3 => if r3 = 0 then (vp_in x1 6561 ∧ (w3_triedBy x1 x2 s3 (fun r4 s4 => w3_laysTrials_116 Q K13 K60 x1 x2 35 x1 (imin (gA s3 35 x1.toNatClampNeg) r4) s4))) else (vp_in x1 6561 ∧ (w3_laysTrials_116 Q K13 K60 x1 x2 35 x1 (gA s3 35 x1.toNatClampNeg) s3))))))
set_option maxHeartbeats 4000000 in
theorem B3_laysTrials_60 {l : Launch} {p : Program} {e : Env} {s : State} {m : MethodId} {args : Array Value} {below : List Frame} {meth : Method} {c : Code} {G : mm_G} {Q : MS → Prop} {K13 : Int32 → MS → Prop} {K60 : Int32 → Int32 → MS → Prop} (cx : mm_X cX3_laysTrials 3 none G p s m args meth c) (hK13 : ∀ (x1 : Int32) (σ : MS), K13 x1 σ → mm_T p l e ({ frames := 2, cells := 0, slots := 0, locals := 80 } : Room) s m args below meth c G (mm_Qv G Q) 3 13 σ [(0, .ref (mm_o G)), (1, .int x1)] []) (hK60 : ∀ (x1 : Int32) (x2 : Int32) (σ : MS), K60 x1 x2 σ → mm_T p l e ({ frames := 2, cells := 0, slots := 0, locals := 80 } : Room) s m args below meth c G (mm_Qv G Q) 3 60 σ [(0, .ref (mm_o G)), (1, .int x1), (2, .int x2)] []) : ∀ (x1 : Int32) (x2 : Int32) (σ : MS), w3_laysTrials_60 Q K13 K60 x1 x2 σ → mm_T p l e ({ frames := 2, cells := 0, slots := 0, locals := 80 } : Room) s m args below meth c G (mm_Qv G Q) 3 60 σ [(0, .ref (mm_o G)), (1, .int x1), (2, .int x2)] [] := by
  intro x1 x2 σ hw H locs ls hM hS hl
  unfold w3_laysTrials_60 at hw
  obtain ⟨hx, hb, hml, hown, hts, hr, hlk, hMK, hZ⟩ := id cx
  refine lv_iload_n hx hb dX3_laysTrials_60 rfl (lv_at hl 2 rfl) ?_
  refine lv_aload_n hx hb dX3_laysTrials_61 rfl (lv_at hl 0 rfl) ?_
  refine mg_0 cx hM dX3_laysTrials_62 ?_
  refine lv_iconst (v := (1 : Int32)) hx hb dX3_laysTrials_65 (by decide) ?_
  refine mm_iald cx hM 0 rfl (j := 1) (by decide) (vp_lit (by decide)) dX3_laysTrials_66 ?_
  refine lv_icmp_ge (tgt := 129) hx hb dX3_laysTrials_67 (by decide) (fun hc => ?_) (fun hc => ?_)
  · have hw := mm_ip hc hw
    exact B3_laysTrials_129 cx hK13 _ _ hw _ _ _ hM hS (lv_sub hl [0, 1] rfl)
  · have hw := mm_in hc hw
    refine lv_aload_n hx hb dX3_laysTrials_70 rfl (lv_at hl 0 rfl) ?_
    refine mg_35 cx hM dX3_laysTrials_71 ?_
    refine lv_iload_n hx hb dX3_laysTrials_74 rfl (lv_at hl 1 rfl) ?_
    obtain ⟨hi, hw⟩ := hw
    refine mm_iald cx hM 35 rfl rfl hi dX3_laysTrials_75 ?_
    refine lv_if_le (tgt := 129) hx hb dX3_laysTrials_76 (by decide) (fun hc => ?_) (fun hc => ?_)
    · have hw := mm_ip hc hw
      exact B3_laysTrials_129 cx hK13 _ _ hw _ _ _ hM hS (lv_sub hl [0, 1] rfl)
    · have hw := mm_in hc hw
      refine lv_aload_n hx hb dX3_laysTrials_79 rfl (lv_at hl 0 rfl) ?_
      refine mg_35 cx hM dX3_laysTrials_80 ?_
      refine lv_iload_n hx hb dX3_laysTrials_83 rfl (lv_at hl 1 rfl) ?_
      refine lv_aload_n hx hb dX3_laysTrials_84 rfl (lv_at hl 0 rfl) ?_
      refine lv_iload_n hx hb dX3_laysTrials_85 rfl (lv_at hl 2 rfl) ?_
      refine C3_isKnown cx hM hS hw ⟨Nat.le_of_ble_eq_true rfl, Nat.le_of_ble_eq_true rfl⟩ (Nat.le_of_ble_eq_true rfl) hl.1 ⟨Nat.zero_le _, Nat.zero_le _⟩ dX3_laysTrials_86 (fun r3 s3 H locs hw hM hS => ?_)
      refine lv_if_eq (tgt := 101) hx hb dX3_laysTrials_89 (by decide) (fun hc => ?_) (fun hc => ?_)
      · have hw := mm_ip hc hw
        refine lv_aload_n hx hb dX3_laysTrials_101 rfl (lv_at hl 0 rfl) ?_
        refine mg_35 cx hM dX3_laysTrials_102 ?_
        refine lv_iload_n hx hb dX3_laysTrials_105 rfl (lv_at hl 1 rfl) ?_
        obtain ⟨hi, hw⟩ := hw
        refine mm_iald cx hM 35 rfl rfl hi dX3_laysTrials_106 ?_
        refine lv_aload_n hx hb dX3_laysTrials_107 rfl (lv_at hl 0 rfl) ?_
        refine lv_iload_n hx hb dX3_laysTrials_108 rfl (lv_at hl 1 rfl) ?_
        refine lv_iload_n hx hb dX3_laysTrials_109 rfl (lv_at hl 2 rfl) ?_
        refine C3_triedBy cx hM hS hw ⟨Nat.le_of_ble_eq_true rfl, Nat.le_of_ble_eq_true rfl⟩ (Nat.le_of_ble_eq_true rfl) hl.1 ⟨Nat.zero_le _, Nat.zero_le _⟩ dX3_laysTrials_110 (fun r4 s4 H locs hw hM hS => ?_)
        refine mm_min cx hl.1 (Nat.le_of_ble_eq_true rfl) (Nat.le_of_ble_eq_true rfl) dX3_laysTrials_113 ?_
        exact B3_laysTrials_116 cx hK13 hK60 _ _ _ _ _ _ hw _ _ _ hM hS (lv_sub hl [0, 1, 2] rfl)
      · have hw := mm_in hc hw
        refine lv_aload_n hx hb dX3_laysTrials_92 rfl (lv_at hl 0 rfl) ?_
        refine mg_35 cx hM dX3_laysTrials_93 ?_
        refine lv_iload_n hx hb dX3_laysTrials_96 rfl (lv_at hl 1 rfl) ?_
        obtain ⟨hi, hw⟩ := hw
        refine mm_iald cx hM 35 rfl rfl hi dX3_laysTrials_97 ?_
        refine lv_goto (tgt := 116) hx hb dX3_laysTrials_98 (by decide) ?_
        exact B3_laysTrials_116 cx hK13 hK60 _ _ _ _ _ _ hw _ _ _ hM hS (lv_sub hl [0, 1, 2] rfl)
theorem L3_laysTrials_60 {l : Launch} {p : Program} {e : Env} {s : State} {m : MethodId} {args : Array Value} {below : List Frame} {meth : Method} {c : Code} {G : mm_G} {Q : MS → Prop} {K13 : Int32 → MS → Prop} (cx : mm_X cX3_laysTrials 3 none G p s m args meth c) (hK13 : ∀ (x1 : Int32) (σ : MS), K13 x1 σ → mm_T p l e ({ frames := 2, cells := 0, slots := 0, locals := 80 } : Room) s m args below meth c G (mm_Qv G Q) 3 13 σ [(0, .ref (mm_o G)), (1, .int x1)] []) : ∀ (x1 : Int32) (x2 : Int32) (σ : MS), lp3F (w3_laysTrials_60 Q K13) x1 x2 σ → mm_T p l e ({ frames := 2, cells := 0, slots := 0, locals := 80 } : Room) s m args below meth c G (mm_Qv G Q) 3 60 σ [(0, .ref (mm_o G)), (1, .int x1), (2, .int x2)] [] :=
  lp3F_of (fun K hK => B3_laysTrials_60 cx hK13 hK)
def w3_laysTrials_52 (Q : MS → Prop) (K13 : Int32 → MS → Prop) (x1 : Int32) (t0 : Nat) (t1 : Int32) (t2 : Int32) (σ : MS) : Prop :=
  mm_w t0 = true ∧ (vp_in t1 (mm_z t0) ∧ (w3_untold x1 (0 : Int32) (sA σ t0 t1.toNatClampNeg t2) (fun r5 s5 => lp3F (w3_laysTrials_60 Q K13) x1 r5 s5)))
set_option maxHeartbeats 4000000 in
theorem B3_laysTrials_52 {l : Launch} {p : Program} {e : Env} {s : State} {m : MethodId} {args : Array Value} {below : List Frame} {meth : Method} {c : Code} {G : mm_G} {Q : MS → Prop} {K13 : Int32 → MS → Prop} (cx : mm_X cX3_laysTrials 3 none G p s m args meth c) (hK13 : ∀ (x1 : Int32) (σ : MS), K13 x1 σ → mm_T p l e ({ frames := 2, cells := 0, slots := 0, locals := 80 } : Room) s m args below meth c G (mm_Qv G Q) 3 13 σ [(0, .ref (mm_o G)), (1, .int x1)] []) : ∀ (x1 : Int32) (t0 : Nat) (t1 : Int32) (t2 : Int32) (σ : MS), w3_laysTrials_52 Q K13 x1 t0 t1 t2 σ → mm_T p l e ({ frames := 2, cells := 0, slots := 0, locals := 80 } : Room) s m args below meth c G (mm_Qv G Q) 3 52 σ [(0, .ref (mm_o G)), (1, .int x1)] [.int t2, .int t1, .ref (mm_a G t0)] := by
  intro x1 t0 t1 t2 σ hw H locs ls hM hS hl
  unfold w3_laysTrials_52 at hw
  obtain ⟨hx, hb, hml, hown, hts, hr, hlk, hMK, hZ⟩ := id cx
  obtain ⟨hk, hw⟩ := hw
  obtain ⟨hi, hw⟩ := hw
  refine mm_iast cx hM hS t0 hk rfl hi dX3_laysTrials_52 (fun H locs hM hS => ?_)
  refine lv_aload_n hx hb dX3_laysTrials_53 rfl (lv_at hl 0 rfl) ?_
  refine lv_iload_n hx hb dX3_laysTrials_54 rfl (lv_at hl 1 rfl) ?_
  refine lv_iconst (v := (0 : Int32)) hx hb dX3_laysTrials_55 (by decide) ?_
  refine C3_untold cx hM hS hw ⟨Nat.le_of_ble_eq_true rfl, Nat.le_of_ble_eq_true rfl⟩ (Nat.le_of_ble_eq_true rfl) hl.1 ⟨Nat.zero_le _, Nat.zero_le _⟩ dX3_laysTrials_56 (fun r5 s5 H locs hw hM hS => ?_)
  refine lv_istore_n (lv' := [(2, .int r5), (0, .ref (mm_o G)), (1, .int x1)]) hx hb dX3_laysTrials_59 rfl hl (by decide) rfl (fun ls hl => ?_)
  exact L3_laysTrials_60 cx hK13 _ _ _ hw _ _ _ hM hS (lv_sub hl [1, 2, 0] rfl)
def w3_laysTrials_46 (Q : MS → Prop) (K13 : Int32 → MS → Prop) (x1 : Int32) (t0 : Nat) (t1 : Int32) (σ : MS) : Prop :=
  w3_laysTrials_52 Q K13 x1 t0 t1 (0 : Int32) σ
set_option maxHeartbeats 4000000 in
theorem B3_laysTrials_46 {l : Launch} {p : Program} {e : Env} {s : State} {m : MethodId} {args : Array Value} {below : List Frame} {meth : Method} {c : Code} {G : mm_G} {Q : MS → Prop} {K13 : Int32 → MS → Prop} (cx : mm_X cX3_laysTrials 3 none G p s m args meth c) (hK13 : ∀ (x1 : Int32) (σ : MS), K13 x1 σ → mm_T p l e ({ frames := 2, cells := 0, slots := 0, locals := 80 } : Room) s m args below meth c G (mm_Qv G Q) 3 13 σ [(0, .ref (mm_o G)), (1, .int x1)] []) : ∀ (x1 : Int32) (t0 : Nat) (t1 : Int32) (σ : MS), w3_laysTrials_46 Q K13 x1 t0 t1 σ → mm_T p l e ({ frames := 2, cells := 0, slots := 0, locals := 80 } : Room) s m args below meth c G (mm_Qv G Q) 3 46 σ [(0, .ref (mm_o G)), (1, .int x1)] [.int t1, .ref (mm_a G t0)] := by
  intro x1 t0 t1 σ hw H locs ls hM hS hl
  unfold w3_laysTrials_46 at hw
  obtain ⟨hx, hb, hml, hown, hts, hr, hlk, hMK, hZ⟩ := id cx
  refine lv_iconst (v := (0 : Int32)) hx hb dX3_laysTrials_46 (by decide) ?_
  refine lv_goto (tgt := 52) hx hb dX3_laysTrials_47 (by decide) ?_
  exact B3_laysTrials_52 cx hK13 _ _ _ _ _ hw _ _ _ hM hS (lv_sub hl [0, 1] rfl)
def w3_laysTrials_13 (Q : MS → Prop) (K13 : Int32 → MS → Prop) (x1 : Int32) (σ : MS) : Prop :=
  if x1 < 0 then (Q σ) else (vp_in x1 6561 ∧ (if (gA σ 34 x1.toNatClampNeg) = 0 then (w3_laysTrials_46 Q K13 x1 35 x1 σ) else (vp_in x1 6561 ∧ (vp_in x1 6561 ∧ (if (gA σ 34 x1.toNatClampNeg) = (gA σ 33 x1.toNatClampNeg) then (w3_laysTrials_46 Q K13 x1 35 x1 σ) else (w3_laysTrials_52 Q K13 x1 35 x1 (9 : Int32) σ))))))
set_option maxHeartbeats 4000000 in
theorem B3_laysTrials_13 {l : Launch} {p : Program} {e : Env} {s : State} {m : MethodId} {args : Array Value} {below : List Frame} {meth : Method} {c : Code} {G : mm_G} {Q : MS → Prop} {K13 : Int32 → MS → Prop} (cx : mm_X cX3_laysTrials 3 none G p s m args meth c) (hK13 : ∀ (x1 : Int32) (σ : MS), K13 x1 σ → mm_T p l e ({ frames := 2, cells := 0, slots := 0, locals := 80 } : Room) s m args below meth c G (mm_Qv G Q) 3 13 σ [(0, .ref (mm_o G)), (1, .int x1)] []) : ∀ (x1 : Int32) (σ : MS), w3_laysTrials_13 Q K13 x1 σ → mm_T p l e ({ frames := 2, cells := 0, slots := 0, locals := 80 } : Room) s m args below meth c G (mm_Qv G Q) 3 13 σ [(0, .ref (mm_o G)), (1, .int x1)] [] := by
  intro x1 σ hw H locs ls hM hS hl
  unfold w3_laysTrials_13 at hw
  obtain ⟨hx, hb, hml, hown, hts, hr, hlk, hMK, hZ⟩ := id cx
  refine lv_iload_n hx hb dX3_laysTrials_13 rfl (lv_at hl 1 rfl) ?_
  refine lv_if_lt (tgt := 135) hx hb dX3_laysTrials_14 (by decide) (fun hc => ?_) (fun hc => ?_)
  · have hw := mm_ip hc hw
    exact mm_vret cx hM hS hw dX3_laysTrials_135
  · have hw := mm_in hc hw
    refine lv_aload_n hx hb dX3_laysTrials_17 rfl (lv_at hl 0 rfl) ?_
    refine mg_35 cx hM dX3_laysTrials_18 ?_
    refine lv_iload_n hx hb dX3_laysTrials_21 rfl (lv_at hl 1 rfl) ?_
    refine lv_aload_n hx hb dX3_laysTrials_22 rfl (lv_at hl 0 rfl) ?_
    refine mg_34 cx hM dX3_laysTrials_23 ?_
    refine lv_iload_n hx hb dX3_laysTrials_26 rfl (lv_at hl 1 rfl) ?_
    obtain ⟨hi, hw⟩ := hw
    refine mm_iald cx hM 34 rfl rfl hi dX3_laysTrials_27 ?_
    refine lv_if_eq (tgt := 46) hx hb dX3_laysTrials_28 (by decide) (fun hc => ?_) (fun hc => ?_)
    · have hw := mm_ip hc hw
      exact B3_laysTrials_46 cx hK13 _ _ _ _ hw _ _ _ hM hS (lv_sub hl [0, 1] rfl)
    · have hw := mm_in hc hw
      refine lv_aload_n hx hb dX3_laysTrials_31 rfl (lv_at hl 0 rfl) ?_
      refine mg_34 cx hM dX3_laysTrials_32 ?_
      refine lv_iload_n hx hb dX3_laysTrials_35 rfl (lv_at hl 1 rfl) ?_
      obtain ⟨hi, hw⟩ := hw
      refine mm_iald cx hM 34 rfl rfl hi dX3_laysTrials_36 ?_
      refine lv_aload_n hx hb dX3_laysTrials_37 rfl (lv_at hl 0 rfl) ?_
      refine mg_33 cx hM dX3_laysTrials_38 ?_
      refine lv_iload_n hx hb dX3_laysTrials_41 rfl (lv_at hl 1 rfl) ?_
      obtain ⟨hi, hw⟩ := hw
      refine mm_iald cx hM 33 rfl rfl hi dX3_laysTrials_42 ?_
      refine lv_icmp_ne (tgt := 50) hx hb dX3_laysTrials_43 (by decide) (fun hc => ?_) (fun hc => ?_)
      · have hw := mm_in hc hw
        refine lv_bipush (v := (9 : Int32)) hx hb dX3_laysTrials_50 (by decide) ?_
        exact B3_laysTrials_52 cx hK13 _ _ _ _ _ hw _ _ _ hM hS (lv_sub hl [0, 1] rfl)
      · have hw := mm_ip hc hw
        exact B3_laysTrials_46 cx hK13 _ _ _ _ hw _ _ _ hM hS (lv_sub hl [0, 1] rfl)
theorem L3_laysTrials_13 {l : Launch} {p : Program} {e : Env} {s : State} {m : MethodId} {args : Array Value} {below : List Frame} {meth : Method} {c : Code} {G : mm_G} {Q : MS → Prop} (cx : mm_X cX3_laysTrials 3 none G p s m args meth c) : ∀ (x1 : Int32) (σ : MS), lp2F (w3_laysTrials_13 Q) x1 σ → mm_T p l e ({ frames := 2, cells := 0, slots := 0, locals := 80 } : Room) s m args below meth c G (mm_Qv G Q) 3 13 σ [(0, .ref (mm_o G)), (1, .int x1)] [] :=
  lp2F_of (fun K hK => B3_laysTrials_13 cx hK)
def w3_laysTrials (σ : MS) (Q : MS → Prop) : Prop :=
  vp_in (gA σ 0 1) 9 ∧ (∀ v6 : Int32, v6 = ((gA σ 42 (gA σ 0 1).toNatClampNeg) - (1 : Int32)) → lp2F (w3_laysTrials_13 Q) v6 σ)
set_option maxHeartbeats 4000000 in
theorem M3_laysTrials (l : Launch) (G : mm_G) (σ : MS) (Q : MS → Prop) (hw : w3_laysTrials σ Q) : mm_Mv l yX3_laysTrials (ws_ yX3_laysTrials cX3_laysTrials 3 none) ({ frames := 2, cells := 0, slots := 0, locals := 80 } : Room) G [.ref (mm_o G)] σ Q := by
  refine mm_of (by decide) rfl ?_
  intro p e s m args below meth c cx hM ha
  refine mm_entry [.ref (mm_o G)] 3 [(0, .ref (mm_o G))] ha (Nat.le_of_ble_eq_true rfl) rfl (fun ls hl => ?_)
  have hS : va_S (mm_A G) s.heap s.heap [] := va_S.rf
  unfold w3_laysTrials at hw
  obtain ⟨hx, hb, hml, hown, hts, hr, hlk, hMK, hZ⟩ := id cx
  refine mm_thr cx hS dX3_laysTrials_0 ?_
  refine lv_aload_n hx hb dX3_laysTrials_3 rfl (lv_at hl 0 rfl) ?_
  refine mg_0 cx hM dX3_laysTrials_4 ?_
  refine lv_iconst (v := (1 : Int32)) hx hb dX3_laysTrials_7 (by decide) ?_
  refine mm_iald cx hM 0 rfl (j := 1) (by decide) (vp_lit (by decide)) dX3_laysTrials_8 ?_
  obtain ⟨hi, hw⟩ := hw
  refine mm_iald cx hM 42 rfl rfl hi dX3_laysTrials_9 ?_
  refine lv_iconst (v := (1 : Int32)) hx hb dX3_laysTrials_10 (by decide) ?_
  refine lv_isub hx hb dX3_laysTrials_11 ?_
  refine lv_topi (fun v6 hv6 => ?_)
  have hw := hw v6 hv6
  refine lv_istore_n (lv' := [(1, .int v6), (0, .ref (mm_o G))]) hx hb dX3_laysTrials_12 rfl hl (by decide) rfl (fun ls hl => ?_)
  exact L3_laysTrials_13 cx _ _ hw _ _ _ hM hS (lv_sub hl [1, 0] rfl)
theorem C3_laysTrials {l : Launch} {p : Program} {e : Env} {R : Room} {s : State} {m : MethodId} {args : Array Value} {below : List Frame} {meth : Method} {c : Code} {H : Heap} {locs : List Loc} {cells slots : Nat} {Qz : State → Prop} {cc : ByteArray} {nL : Nat} {ret : Option FieldType} {G : mm_G} {pc : Nat} {ls : Array Slot} {rest : List Value} {σ : MS} (cx : mm_X cc nL ret G p s m args meth c) (hM : mm_R G σ H) (hS0 : va_S (mm_A G) s.heap H locs) {Qf : MS → Prop} (hw : w3_laysTrials σ Qf) (hR : (({ frames := 2, cells := 0, slots := 0, locals := 80 } : Room)).frames + 1 ≤ R.frames ∧ 8 + (3 + 11) + (({ frames := 2, cells := 0, slots := 0, locals := 80 } : Room)).locals ≤ R.locals) (hroom : (rest.map fun v => v.category).sum ≤ 8) (hsize : ls.size = nL) (hf : cells ≤ R.cells ∧ slots ≤ R.slots) (hdg : decode cc pc = .ok (.invokevirtual 450, 3))
    (kk : ∀ (σ1 : MS) (H1 : Heap) (locs1 : List Loc), Qf σ1 → mm_R G σ1 H1 → va_S (mm_A G) s.heap H1 locs1 → W p l e R s m args below meth c H1 locs1 cells slots Qz (F0 m (pc + 3) ls rest)) : W p l e R s m args below meth c H locs cells slots Qz (F0 m pc ls (.ref (mm_o G) :: rest)) := by
  obtain ⟨hx, hb, hml, hown, hts, hr, hlk, hK, hZ⟩ := id cx
  exact mm_Vv cx hM hS0 (As := []) (M3_laysTrials l G σ Qf hw) (cwV 0 hts (lw_V q2952 q2954 qs143 q172 q2955) rfl rfl rfl (by decide +kernel) hR) rfl hsize rfl hroom hf hdg kk
def w3_tries_76 (Q : Int32 → MS → Prop) (K53 : Int32 → MS → Prop) (x3 : Int32) (σ : MS) : Prop :=
  ∀ v1 : Int32, v1 = x3 + (1 : Int32) → K53 v1 σ
set_option maxHeartbeats 4000000 in
theorem B3_tries_76 {l : Launch} {p : Program} {e : Env} {s : State} {m : MethodId} {args : Array Value} {below : List Frame} {meth : Method} {c : Code} {G : mm_G} {Q : Int32 → MS → Prop} {K53 : Int32 → MS → Prop} (cx : mm_X cX3_tries 4 (some .int) G p s m args meth c) (hK53 : ∀ (x3 : Int32) (σ : MS), K53 x3 σ → mm_T p l e ({ frames := 3, cells := 0, slots := 0, locals := 120 } : Room) s m args below meth c G (mm_Qi G Q) 4 53 σ [(0, .ref (mm_o G)), (3, .int x3)] []) : ∀ (x3 : Int32) (σ : MS), w3_tries_76 Q K53 x3 σ → mm_T p l e ({ frames := 3, cells := 0, slots := 0, locals := 120 } : Room) s m args below meth c G (mm_Qi G Q) 4 76 σ [(0, .ref (mm_o G)), (3, .int x3)] [] := by
  intro x3 σ hw H locs ls hM hS hl
  unfold w3_tries_76 at hw
  obtain ⟨hx, hb, hml, hown, hts, hr, hlk, hMK, hZ⟩ := id cx
  obtain ⟨v1, hv1⟩ : ∃ v : Int32, v = x3 + (1 : Int32) := ⟨_, rfl⟩
  have hw := hw v1 hv1
  refine lv_iinc (v := v1) (lv' := [(3, .int v1), (0, .ref (mm_o G))]) hx hb dX3_tries_76 hl (k := 1) rfl (by rw [hv1]; rfl) (by decide) rfl (fun ls hl => ?_)
  refine lv_goto (tgt := 53) hx hb dX3_tries_79 (by decide) ?_
  exact hK53 _ _ hw _ _ _ hM hS (lv_sub hl [1, 0] rfl)
def w3_tries_53 (Q : Int32 → MS → Prop) (K53 : Int32 → MS → Prop) (x3 : Int32) (σ : MS) : Prop :=
  w3_isKnown x3 σ (fun r2 s2 => if r2 = 0 then (w3_triedBy (0 : Int32) x3 s2 (fun r3 s3 => if r3 = (gA s3 35 0) then (Q x3 s3) else (w3_tries_76 Q K53 x3 s3))) else (w3_tries_76 Q K53 x3 s2))
set_option maxHeartbeats 4000000 in
theorem B3_tries_53 {l : Launch} {p : Program} {e : Env} {s : State} {m : MethodId} {args : Array Value} {below : List Frame} {meth : Method} {c : Code} {G : mm_G} {Q : Int32 → MS → Prop} {K53 : Int32 → MS → Prop} (cx : mm_X cX3_tries 4 (some .int) G p s m args meth c) (hK53 : ∀ (x3 : Int32) (σ : MS), K53 x3 σ → mm_T p l e ({ frames := 3, cells := 0, slots := 0, locals := 120 } : Room) s m args below meth c G (mm_Qi G Q) 4 53 σ [(0, .ref (mm_o G)), (3, .int x3)] []) : ∀ (x3 : Int32) (σ : MS), w3_tries_53 Q K53 x3 σ → mm_T p l e ({ frames := 3, cells := 0, slots := 0, locals := 120 } : Room) s m args below meth c G (mm_Qi G Q) 4 53 σ [(0, .ref (mm_o G)), (3, .int x3)] [] := by
  intro x3 σ hw H locs ls hM hS hl
  unfold w3_tries_53 at hw
  obtain ⟨hx, hb, hml, hown, hts, hr, hlk, hMK, hZ⟩ := id cx
  refine lv_aload_n hx hb dX3_tries_53 rfl (lv_at hl 0 rfl) ?_
  refine lv_iload_n hx hb dX3_tries_54 rfl (lv_at hl 1 rfl) ?_
  refine C3_isKnown cx hM hS hw ⟨Nat.le_of_ble_eq_true rfl, Nat.le_of_ble_eq_true rfl⟩ (Nat.le_of_ble_eq_true rfl) hl.1 ⟨Nat.zero_le _, Nat.zero_le _⟩ dX3_tries_55 (fun r2 s2 H locs hw hM hS => ?_)
  refine lv_if_ne (tgt := 76) hx hb dX3_tries_58 (by decide) (fun hc => ?_) (fun hc => ?_)
  · have hw := mm_in hc hw
    exact B3_tries_76 cx hK53 _ _ hw _ _ _ hM hS (lv_sub hl [0, 1] rfl)
  · have hw := mm_ip hc hw
    refine lv_aload_n hx hb dX3_tries_61 rfl (lv_at hl 0 rfl) ?_
    refine lv_iconst (v := (0 : Int32)) hx hb dX3_tries_62 (by decide) ?_
    refine lv_iload_n hx hb dX3_tries_63 rfl (lv_at hl 1 rfl) ?_
    refine C3_triedBy cx hM hS hw ⟨Nat.le_of_ble_eq_true rfl, Nat.le_of_ble_eq_true rfl⟩ (Nat.le_of_ble_eq_true rfl) hl.1 ⟨Nat.zero_le _, Nat.zero_le _⟩ dX3_tries_64 (fun r3 s3 H locs hw hM hS => ?_)
    refine lv_aload_n hx hb dX3_tries_67 rfl (lv_at hl 0 rfl) ?_
    refine mg_35 cx hM dX3_tries_68 ?_
    refine lv_iconst (v := (0 : Int32)) hx hb dX3_tries_71 (by decide) ?_
    refine mm_iald cx hM 35 rfl (j := 0) (by decide) (vp_lit (by decide)) dX3_tries_72 ?_
    refine lv_icmp_eq (tgt := 82) hx hb dX3_tries_73 (by decide) (fun hc => ?_) (fun hc => ?_)
    · have hw := mm_ip hc hw
      refine lv_iload_n hx hb dX3_tries_82 rfl (lv_at hl 1 rfl) ?_
      exact mm_iret cx hM hS hw dX3_tries_83
    · have hw := mm_in hc hw
      exact B3_tries_76 cx hK53 _ _ hw _ _ _ hM hS (lv_sub hl [0, 1] rfl)
theorem L3_tries_53 {l : Launch} {p : Program} {e : Env} {s : State} {m : MethodId} {args : Array Value} {below : List Frame} {meth : Method} {c : Code} {G : mm_G} {Q : Int32 → MS → Prop} (cx : mm_X cX3_tries 4 (some .int) G p s m args meth c) : ∀ (x3 : Int32) (σ : MS), lp2F (w3_tries_53 Q) x3 σ → mm_T p l e ({ frames := 3, cells := 0, slots := 0, locals := 120 } : Room) s m args below meth c G (mm_Qi G Q) 4 53 σ [(0, .ref (mm_o G)), (3, .int x3)] [] :=
  lp2F_of (fun K hK => B3_tries_53 cx hK)
def w3_tries (x1 : Int32) (x2 : Int32) (σ : MS) (Q : Int32 → MS → Prop) : Prop :=
  w3_isCount x1 σ (fun r4 s4 => if r4 = 0 then (Q (-1 : Int32) s4) else (w3_in x2 (0 : Int32) (1 : Int32) s4 (fun r5 s5 => if r5 = 0 then (Q (-1 : Int32) s5) else (w3_laysWays x1 s5 (fun s6 => w3_laysTrials s6 (fun s7 => if x2 = 0 then (Q (gA s7 35 0) s7) else (if (gA s7 35 0) = 0 then (Q (-2 : Int32) s7) else (lp2F (w3_tries_53 Q) (0 : Int32) s7))))))))
set_option maxHeartbeats 4000000 in
theorem M3_tries (l : Launch) (G : mm_G) (x1 : Int32) (x2 : Int32) (σ : MS) (Q : Int32 → MS → Prop) (hw : w3_tries x1 x2 σ Q) : mm_Mi l yX3_tries (ws_ yX3_tries cX3_tries 4 (some .int)) ({ frames := 3, cells := 0, slots := 0, locals := 120 } : Room) G [.ref (mm_o G), .int x1, .int x2] σ Q := by
  refine mm_of (by decide) rfl ?_
  intro p e s m args below meth c cx hM ha
  refine mm_entry [.ref (mm_o G), .int x1, .int x2] 4 [(0, .ref (mm_o G)), (1, .int x1), (2, .int x2)] ha (Nat.le_of_ble_eq_true rfl) rfl (fun ls hl => ?_)
  have hS : va_S (mm_A G) s.heap s.heap [] := va_S.rf
  unfold w3_tries at hw
  obtain ⟨hx, hb, hml, hown, hts, hr, hlk, hMK, hZ⟩ := id cx
  refine lv_aload_n hx hb dX3_tries_0 rfl (lv_at hl 0 rfl) ?_
  refine lv_iload_n hx hb dX3_tries_1 rfl (lv_at hl 1 rfl) ?_
  refine C3_isCount cx hM hS hw ⟨Nat.le_of_ble_eq_true rfl, Nat.le_of_ble_eq_true rfl⟩ (Nat.le_of_ble_eq_true rfl) hl.1 ⟨Nat.zero_le _, Nat.zero_le _⟩ dX3_tries_2 (fun r4 s4 H locs hw hM hS => ?_)
  refine lv_if_eq (tgt := 17) hx hb dX3_tries_5 (by decide) (fun hc => ?_) (fun hc => ?_)
  · have hw := mm_ip hc hw
    refine lv_iconst (v := (-1 : Int32)) hx hb dX3_tries_17 (by decide) ?_
    exact mm_iret cx hM hS hw dX3_tries_18
  · have hw := mm_in hc hw
    refine lv_iload_n hx hb dX3_tries_8 rfl (lv_at hl 2 rfl) ?_
    refine lv_iconst (v := (0 : Int32)) hx hb dX3_tries_9 (by decide) ?_
    refine lv_iconst (v := (1 : Int32)) hx hb dX3_tries_10 (by decide) ?_
    refine C3_in cx hM hS hw ⟨Nat.le_of_ble_eq_true rfl, Nat.le_of_ble_eq_true rfl⟩ (Nat.le_of_ble_eq_true rfl) hl.1 ⟨Nat.zero_le _, Nat.zero_le _⟩ dX3_tries_11 (fun r5 s5 H locs hw hM hS => ?_)
    refine lv_if_ne (tgt := 19) hx hb dX3_tries_14 (by decide) (fun hc => ?_) (fun hc => ?_)
    · have hw := mm_in hc hw
      refine lv_aload_n hx hb dX3_tries_19 rfl (lv_at hl 0 rfl) ?_
      refine lv_iload_n hx hb dX3_tries_20 rfl (lv_at hl 1 rfl) ?_
      refine C3_laysWays cx hM hS hw ⟨Nat.le_of_ble_eq_true rfl, Nat.le_of_ble_eq_true rfl⟩ (Nat.le_of_ble_eq_true rfl) hl.1 ⟨Nat.zero_le _, Nat.zero_le _⟩ dX3_tries_21 (fun s6 H locs hw hM hS => ?_)
      refine lv_aload_n hx hb dX3_tries_24 rfl (lv_at hl 0 rfl) ?_
      refine C3_laysTrials cx hM hS hw ⟨Nat.le_of_ble_eq_true rfl, Nat.le_of_ble_eq_true rfl⟩ (Nat.le_of_ble_eq_true rfl) hl.1 ⟨Nat.zero_le _, Nat.zero_le _⟩ dX3_tries_25 (fun s7 H locs hw hM hS => ?_)
      refine lv_iload_n hx hb dX3_tries_28 rfl (lv_at hl 2 rfl) ?_
      refine lv_if_ne (tgt := 39) hx hb dX3_tries_29 (by decide) (fun hc => ?_) (fun hc => ?_)
      · have hw := mm_in hc hw
        refine lv_aload_n hx hb dX3_tries_39 rfl (lv_at hl 0 rfl) ?_
        refine mg_35 cx hM dX3_tries_40 ?_
        refine lv_iconst (v := (0 : Int32)) hx hb dX3_tries_43 (by decide) ?_
        refine mm_iald cx hM 35 rfl (j := 0) (by decide) (vp_lit (by decide)) dX3_tries_44 ?_
        refine lv_if_ne (tgt := 51) hx hb dX3_tries_45 (by decide) (fun hc => ?_) (fun hc => ?_)
        · have hw := mm_in hc hw
          refine lv_iconst (v := (0 : Int32)) hx hb dX3_tries_51 (by decide) ?_
          refine lv_istore_n (lv' := [(3, .int (0 : Int32)), (0, .ref (mm_o G)), (1, .int x1), (2, .int x2)]) hx hb dX3_tries_52 rfl hl (by decide) rfl (fun ls hl => ?_)
          exact L3_tries_53 cx _ _ hw _ _ _ hM hS (lv_sub hl [1, 0] rfl)
        · have hw := mm_ip hc hw
          refine lv_bipush (v := (-2 : Int32)) hx hb dX3_tries_48 (by decide) ?_
          exact mm_iret cx hM hS hw dX3_tries_50
      · have hw := mm_ip hc hw
        refine lv_aload_n hx hb dX3_tries_32 rfl (lv_at hl 0 rfl) ?_
        refine mg_35 cx hM dX3_tries_33 ?_
        refine lv_iconst (v := (0 : Int32)) hx hb dX3_tries_36 (by decide) ?_
        refine mm_iald cx hM 35 rfl (j := 0) (by decide) (vp_lit (by decide)) dX3_tries_37 ?_
        exact mm_iret cx hM hS hw dX3_tries_38
    · have hw := mm_ip hc hw
      refine lv_iconst (v := (-1 : Int32)) hx hb dX3_tries_17 (by decide) ?_
      exact mm_iret cx hM hS hw dX3_tries_18
-- no call of tries
def w3_laysDuel_254 (Q : MS → Prop) (K13 : Int32 → Int32 → MS → Prop) (x1 : Int32) (x2 : Int32) (σ : MS) : Prop :=
  ∀ v1 : Int32, v1 = x2 + (-1 : Int32) → K13 x1 v1 σ
set_option maxHeartbeats 4000000 in
theorem B3_laysDuel_254 {l : Launch} {p : Program} {e : Env} {s : State} {m : MethodId} {args : Array Value} {below : List Frame} {meth : Method} {c : Code} {G : mm_G} {Q : MS → Prop} {K13 : Int32 → Int32 → MS → Prop} (cx : mm_X cX3_laysDuel 8 none G p s m args meth c) (hK13 : ∀ (x1 : Int32) (x2 : Int32) (σ : MS), K13 x1 x2 σ → mm_T p l e ({ frames := 2, cells := 0, slots := 0, locals := 80 } : Room) s m args below meth c G (mm_Qv G Q) 8 13 σ [(0, .ref (mm_o G)), (1, .int x1), (2, .int x2)] []) : ∀ (x1 : Int32) (x2 : Int32) (σ : MS), w3_laysDuel_254 Q K13 x1 x2 σ → mm_T p l e ({ frames := 2, cells := 0, slots := 0, locals := 80 } : Room) s m args below meth c G (mm_Qv G Q) 8 254 σ [(0, .ref (mm_o G)), (1, .int x1), (2, .int x2)] [] := by
  intro x1 x2 σ hw H locs ls hM hS hl
  unfold w3_laysDuel_254 at hw
  obtain ⟨hx, hb, hml, hown, hts, hr, hlk, hMK, hZ⟩ := id cx
  obtain ⟨v1, hv1⟩ : ∃ v : Int32, v = x2 + (-1 : Int32) := ⟨_, rfl⟩
  have hw := hw v1 hv1
  refine lv_iinc (v := v1) (lv' := [(2, .int v1), (0, .ref (mm_o G)), (1, .int x1)]) hx hb dX3_laysDuel_254 hl (k := 2) rfl (by rw [hv1]; rfl) (by decide) rfl (fun ls hl => ?_)
  refine lv_goto (tgt := 13) hx hb dX3_laysDuel_257 (by decide) ?_
  exact hK13 _ _ _ hw _ _ _ hM hS (lv_sub hl [1, 2, 0] rfl)
def w3_laysDuel_253 (Q : MS → Prop) (K13 : Int32 → Int32 → MS → Prop) (x1 : Int32) (x2 : Int32) (t0 : Nat) (t1 : Int32) (t2 : Int32) (σ : MS) : Prop :=
  mm_w t0 = true ∧ (vp_in t1 (mm_z t0) ∧ (w3_laysDuel_254 Q K13 x1 x2 (sA σ t0 t1.toNatClampNeg t2)))
set_option maxHeartbeats 4000000 in
theorem B3_laysDuel_253 {l : Launch} {p : Program} {e : Env} {s : State} {m : MethodId} {args : Array Value} {below : List Frame} {meth : Method} {c : Code} {G : mm_G} {Q : MS → Prop} {K13 : Int32 → Int32 → MS → Prop} (cx : mm_X cX3_laysDuel 8 none G p s m args meth c) (hK13 : ∀ (x1 : Int32) (x2 : Int32) (σ : MS), K13 x1 x2 σ → mm_T p l e ({ frames := 2, cells := 0, slots := 0, locals := 80 } : Room) s m args below meth c G (mm_Qv G Q) 8 13 σ [(0, .ref (mm_o G)), (1, .int x1), (2, .int x2)] []) : ∀ (x1 : Int32) (x2 : Int32) (t0 : Nat) (t1 : Int32) (t2 : Int32) (σ : MS), w3_laysDuel_253 Q K13 x1 x2 t0 t1 t2 σ → mm_T p l e ({ frames := 2, cells := 0, slots := 0, locals := 80 } : Room) s m args below meth c G (mm_Qv G Q) 8 253 σ [(0, .ref (mm_o G)), (1, .int x1), (2, .int x2)] [.int t2, .int t1, .ref (mm_a G t0)] := by
  intro x1 x2 t0 t1 t2 σ hw H locs ls hM hS hl
  unfold w3_laysDuel_253 at hw
  obtain ⟨hx, hb, hml, hown, hts, hr, hlk, hMK, hZ⟩ := id cx
  obtain ⟨hk, hw⟩ := hw
  obtain ⟨hi, hw⟩ := hw
  refine mm_iast cx hM hS t0 hk rfl hi dX3_laysDuel_253 (fun H locs hM hS => ?_)
  exact B3_laysDuel_254 cx hK13 _ _ _ hw _ _ _ hM hS (lv_sub hl [0, 1, 2] rfl)
def w3_laysDuel_210 (Q : MS → Prop) (K13 : Int32 → Int32 → MS → Prop) (K86 : Int32 → Int32 → Int32 → Int32 → MS → Prop) (x1 : Int32) (x2 : Int32) (x4 : Int32) (x5 : Int32) (σ : MS) : Prop :=
  w3_untold x2 (x5 + (1 : Int32)) σ (fun r2 s2 => K86 x1 x2 x4 r2 s2)
set_option maxHeartbeats 4000000 in
theorem B3_laysDuel_210 {l : Launch} {p : Program} {e : Env} {s : State} {m : MethodId} {args : Array Value} {below : List Frame} {meth : Method} {c : Code} {G : mm_G} {Q : MS → Prop} {K13 : Int32 → Int32 → MS → Prop} {K86 : Int32 → Int32 → Int32 → Int32 → MS → Prop} (cx : mm_X cX3_laysDuel 8 none G p s m args meth c) (hK13 : ∀ (x1 : Int32) (x2 : Int32) (σ : MS), K13 x1 x2 σ → mm_T p l e ({ frames := 2, cells := 0, slots := 0, locals := 80 } : Room) s m args below meth c G (mm_Qv G Q) 8 13 σ [(0, .ref (mm_o G)), (1, .int x1), (2, .int x2)] []) (hK86 : ∀ (x1 : Int32) (x2 : Int32) (x4 : Int32) (x5 : Int32) (σ : MS), K86 x1 x2 x4 x5 σ → mm_T p l e ({ frames := 2, cells := 0, slots := 0, locals := 80 } : Room) s m args below meth c G (mm_Qv G Q) 8 86 σ [(0, .ref (mm_o G)), (1, .int x1), (2, .int x2), (4, .int x4), (5, .int x5)] []) : ∀ (x1 : Int32) (x2 : Int32) (x4 : Int32) (x5 : Int32) (σ : MS), w3_laysDuel_210 Q K13 K86 x1 x2 x4 x5 σ → mm_T p l e ({ frames := 2, cells := 0, slots := 0, locals := 80 } : Room) s m args below meth c G (mm_Qv G Q) 8 210 σ [(0, .ref (mm_o G)), (1, .int x1), (2, .int x2), (4, .int x4), (5, .int x5)] [] := by
  intro x1 x2 x4 x5 σ hw H locs ls hM hS hl
  unfold w3_laysDuel_210 at hw
  obtain ⟨hx, hb, hml, hown, hts, hr, hlk, hMK, hZ⟩ := id cx
  refine lv_aload_n hx hb dX3_laysDuel_210 rfl (lv_at hl 0 rfl) ?_
  refine lv_iload_n hx hb dX3_laysDuel_211 rfl (lv_at hl 2 rfl) ?_
  refine lv_iload hx hb dX3_laysDuel_212 (lv_at hl 4 rfl) ?_
  refine lv_iconst (v := (1 : Int32)) hx hb dX3_laysDuel_214 (by decide) ?_
  refine lv_iadd hx hb dX3_laysDuel_215 ?_
  refine C3_untold cx hM hS hw ⟨Nat.le_of_ble_eq_true rfl, Nat.le_of_ble_eq_true rfl⟩ (Nat.le_of_ble_eq_true rfl) hl.1 ⟨Nat.zero_le _, Nat.zero_le _⟩ dX3_laysDuel_216 (fun r2 s2 H locs hw hM hS => ?_)
  refine lv_istore (lv' := [(5, .int r2), (0, .ref (mm_o G)), (1, .int x1), (2, .int x2), (4, .int x4)]) hx hb dX3_laysDuel_219 hl (by decide) rfl (fun ls hl => ?_)
  refine lv_goto (tgt := 86) hx hb dX3_laysDuel_221 (by decide) ?_
  exact hK86 _ _ _ _ _ hw _ _ _ hM hS (lv_sub hl [1, 2, 3, 4, 0] rfl)
def w3_laysDuel_204 (Q : MS → Prop) (K13 : Int32 → Int32 → MS → Prop) (K86 : Int32 → Int32 → Int32 → Int32 → MS → Prop) (K100 : Int32 → Int32 → Int32 → Int32 → Int32 → MS → Prop) (x1 : Int32) (x2 : Int32) (x4 : Int32) (x5 : Int32) (x6 : Int32) (σ : MS) : Prop :=
  ∀ v3 : Int32, v3 = x6 + (1 : Int32) → K100 x1 x2 x4 x5 v3 σ
set_option maxHeartbeats 4000000 in
theorem B3_laysDuel_204 {l : Launch} {p : Program} {e : Env} {s : State} {m : MethodId} {args : Array Value} {below : List Frame} {meth : Method} {c : Code} {G : mm_G} {Q : MS → Prop} {K13 : Int32 → Int32 → MS → Prop} {K86 : Int32 → Int32 → Int32 → Int32 → MS → Prop} {K100 : Int32 → Int32 → Int32 → Int32 → Int32 → MS → Prop} (cx : mm_X cX3_laysDuel 8 none G p s m args meth c) (hK13 : ∀ (x1 : Int32) (x2 : Int32) (σ : MS), K13 x1 x2 σ → mm_T p l e ({ frames := 2, cells := 0, slots := 0, locals := 80 } : Room) s m args below meth c G (mm_Qv G Q) 8 13 σ [(0, .ref (mm_o G)), (1, .int x1), (2, .int x2)] []) (hK86 : ∀ (x1 : Int32) (x2 : Int32) (x4 : Int32) (x5 : Int32) (σ : MS), K86 x1 x2 x4 x5 σ → mm_T p l e ({ frames := 2, cells := 0, slots := 0, locals := 80 } : Room) s m args below meth c G (mm_Qv G Q) 8 86 σ [(0, .ref (mm_o G)), (1, .int x1), (2, .int x2), (4, .int x4), (5, .int x5)] []) (hK100 : ∀ (x1 : Int32) (x2 : Int32) (x4 : Int32) (x5 : Int32) (x6 : Int32) (σ : MS), K100 x1 x2 x4 x5 x6 σ → mm_T p l e ({ frames := 2, cells := 0, slots := 0, locals := 80 } : Room) s m args below meth c G (mm_Qv G Q) 8 100 σ [(0, .ref (mm_o G)), (1, .int x1), (2, .int x2), (4, .int x4), (5, .int x5), (6, .int x6)] []) : ∀ (x1 : Int32) (x2 : Int32) (x4 : Int32) (x5 : Int32) (x6 : Int32) (σ : MS), w3_laysDuel_204 Q K13 K86 K100 x1 x2 x4 x5 x6 σ → mm_T p l e ({ frames := 2, cells := 0, slots := 0, locals := 80 } : Room) s m args below meth c G (mm_Qv G Q) 8 204 σ [(0, .ref (mm_o G)), (1, .int x1), (2, .int x2), (4, .int x4), (5, .int x5), (6, .int x6)] [] := by
  intro x1 x2 x4 x5 x6 σ hw H locs ls hM hS hl
  unfold w3_laysDuel_204 at hw
  obtain ⟨hx, hb, hml, hown, hts, hr, hlk, hMK, hZ⟩ := id cx
  obtain ⟨v3, hv3⟩ : ∃ v : Int32, v = x6 + (1 : Int32) := ⟨_, rfl⟩
  have hw := hw v3 hv3
  refine lv_iinc (v := v3) (lv' := [(6, .int v3), (0, .ref (mm_o G)), (1, .int x1), (2, .int x2), (4, .int x4), (5, .int x5)]) hx hb dX3_laysDuel_204 hl (k := 5) rfl (by rw [hv3]; rfl) (by decide) rfl (fun ls hl => ?_)
  refine lv_goto (tgt := 100) hx hb dX3_laysDuel_207 (by decide) ?_
  exact hK100 _ _ _ _ _ _ hw _ _ _ hM hS (lv_sub hl [1, 2, 3, 4, 5, 0] rfl)
def w3_laysDuel_203 (Q : MS → Prop) (K13 : Int32 → Int32 → MS → Prop) (K86 : Int32 → Int32 → Int32 → Int32 → MS → Prop) (K100 : Int32 → Int32 → Int32 → Int32 → Int32 → MS → Prop) (x1 : Int32) (x2 : Int32) (x4 : Int32) (x5 : Int32) (x6 : Int32) (t0 : Nat) (t1 : Int32) (t2 : Int32) (σ : MS) : Prop :=
  mm_w t0 = true ∧ (vp_in t1 (mm_z t0) ∧ (w3_laysDuel_204 Q K13 K86 K100 x1 x2 x4 x5 x6 (sA σ t0 t1.toNatClampNeg t2)))
set_option maxHeartbeats 4000000 in
theorem B3_laysDuel_203 {l : Launch} {p : Program} {e : Env} {s : State} {m : MethodId} {args : Array Value} {below : List Frame} {meth : Method} {c : Code} {G : mm_G} {Q : MS → Prop} {K13 : Int32 → Int32 → MS → Prop} {K86 : Int32 → Int32 → Int32 → Int32 → MS → Prop} {K100 : Int32 → Int32 → Int32 → Int32 → Int32 → MS → Prop} (cx : mm_X cX3_laysDuel 8 none G p s m args meth c) (hK13 : ∀ (x1 : Int32) (x2 : Int32) (σ : MS), K13 x1 x2 σ → mm_T p l e ({ frames := 2, cells := 0, slots := 0, locals := 80 } : Room) s m args below meth c G (mm_Qv G Q) 8 13 σ [(0, .ref (mm_o G)), (1, .int x1), (2, .int x2)] []) (hK86 : ∀ (x1 : Int32) (x2 : Int32) (x4 : Int32) (x5 : Int32) (σ : MS), K86 x1 x2 x4 x5 σ → mm_T p l e ({ frames := 2, cells := 0, slots := 0, locals := 80 } : Room) s m args below meth c G (mm_Qv G Q) 8 86 σ [(0, .ref (mm_o G)), (1, .int x1), (2, .int x2), (4, .int x4), (5, .int x5)] []) (hK100 : ∀ (x1 : Int32) (x2 : Int32) (x4 : Int32) (x5 : Int32) (x6 : Int32) (σ : MS), K100 x1 x2 x4 x5 x6 σ → mm_T p l e ({ frames := 2, cells := 0, slots := 0, locals := 80 } : Room) s m args below meth c G (mm_Qv G Q) 8 100 σ [(0, .ref (mm_o G)), (1, .int x1), (2, .int x2), (4, .int x4), (5, .int x5), (6, .int x6)] []) : ∀ (x1 : Int32) (x2 : Int32) (x4 : Int32) (x5 : Int32) (x6 : Int32) (t0 : Nat) (t1 : Int32) (t2 : Int32) (σ : MS), w3_laysDuel_203 Q K13 K86 K100 x1 x2 x4 x5 x6 t0 t1 t2 σ → mm_T p l e ({ frames := 2, cells := 0, slots := 0, locals := 80 } : Room) s m args below meth c G (mm_Qv G Q) 8 203 σ [(0, .ref (mm_o G)), (1, .int x1), (2, .int x2), (4, .int x4), (5, .int x5), (6, .int x6)] [.int t2, .int t1, .ref (mm_a G t0)] := by
  intro x1 x2 x4 x5 x6 t0 t1 t2 σ hw H locs ls hM hS hl
  unfold w3_laysDuel_203 at hw
  obtain ⟨hx, hb, hml, hown, hts, hr, hlk, hMK, hZ⟩ := id cx
  obtain ⟨hk, hw⟩ := hw
  obtain ⟨hi, hw⟩ := hw
  refine mm_iast cx hM hS t0 hk rfl hi dX3_laysDuel_203 (fun H locs hM hS => ?_)
  exact B3_laysDuel_204 cx hK13 hK86 hK100 _ _ _ _ _ _ hw _ _ _ hM hS (lv_sub hl [0, 1, 2, 3, 4, 5] rfl)
def w3_laysDuel_100 (Q : MS → Prop) (K13 : Int32 → Int32 → MS → Prop) (K86 : Int32 → Int32 → Int32 → Int32 → MS → Prop) (K100 : Int32 → Int32 → Int32 → Int32 → Int32 → MS → Prop) (x1 : Int32) (x2 : Int32) (x4 : Int32) (x5 : Int32) (x6 : Int32) (σ : MS) : Prop :=
  if (3 : Int32) ≤ x6 then (w3_laysDuel_210 Q K13 K86 x1 x2 x4 x5 σ) else (w3_isKnown x5 σ (fun r4 s4 => if r4 = 0 then (vp_in x5 9 ∧ (∀ v5 : Int32, v5 = (x2 + (x6 * (gA s4 42 x5.toNatClampNeg))) → vp_in v5 6561 ∧ (if (gA s4 33 v5.toNatClampNeg) ≤ 0 then (w3_laysDuel_204 Q K13 K86 K100 x1 x2 x4 x5 x6 s4) else (vp_in x2 6561 ∧ (if (gA s4 35 x2.toNatClampNeg) = (-1 : Int32) then (vp_in v5 6561 ∧ (w3_laysDuel_203 Q K13 K86 K100 x1 x2 x4 x5 x6 35 x2 (gA s4 35 v5.toNatClampNeg) s4)) else (if x4 = 0 then (vp_in x2 6561 ∧ (vp_in v5 6561 ∧ (w3_laysDuel_203 Q K13 K86 K100 x1 x2 x4 x5 x6 35 x2 (imin (gA s4 35 x2.toNatClampNeg) (gA s4 35 v5.toNatClampNeg)) s4))) else (vp_in x2 6561 ∧ (vp_in v5 6561 ∧ (w3_laysDuel_203 Q K13 K86 K100 x1 x2 x4 x5 x6 35 x2 (imax (gA s4 35 x2.toNatClampNeg) (gA s4 35 v5.toNatClampNeg)) s4))))))))) else (w3_laysDuel_210 Q K13 K86 x1 x2 x4 x5 s4)))
set_option maxHeartbeats 4000000 in
theorem B3_laysDuel_100 {l : Launch} {p : Program} {e : Env} {s : State} {m : MethodId} {args : Array Value} {below : List Frame} {meth : Method} {c : Code} {G : mm_G} {Q : MS → Prop} {K13 : Int32 → Int32 → MS → Prop} {K86 : Int32 → Int32 → Int32 → Int32 → MS → Prop} {K100 : Int32 → Int32 → Int32 → Int32 → Int32 → MS → Prop} (cx : mm_X cX3_laysDuel 8 none G p s m args meth c) (hK13 : ∀ (x1 : Int32) (x2 : Int32) (σ : MS), K13 x1 x2 σ → mm_T p l e ({ frames := 2, cells := 0, slots := 0, locals := 80 } : Room) s m args below meth c G (mm_Qv G Q) 8 13 σ [(0, .ref (mm_o G)), (1, .int x1), (2, .int x2)] []) (hK86 : ∀ (x1 : Int32) (x2 : Int32) (x4 : Int32) (x5 : Int32) (σ : MS), K86 x1 x2 x4 x5 σ → mm_T p l e ({ frames := 2, cells := 0, slots := 0, locals := 80 } : Room) s m args below meth c G (mm_Qv G Q) 8 86 σ [(0, .ref (mm_o G)), (1, .int x1), (2, .int x2), (4, .int x4), (5, .int x5)] []) (hK100 : ∀ (x1 : Int32) (x2 : Int32) (x4 : Int32) (x5 : Int32) (x6 : Int32) (σ : MS), K100 x1 x2 x4 x5 x6 σ → mm_T p l e ({ frames := 2, cells := 0, slots := 0, locals := 80 } : Room) s m args below meth c G (mm_Qv G Q) 8 100 σ [(0, .ref (mm_o G)), (1, .int x1), (2, .int x2), (4, .int x4), (5, .int x5), (6, .int x6)] []) : ∀ (x1 : Int32) (x2 : Int32) (x4 : Int32) (x5 : Int32) (x6 : Int32) (σ : MS), w3_laysDuel_100 Q K13 K86 K100 x1 x2 x4 x5 x6 σ → mm_T p l e ({ frames := 2, cells := 0, slots := 0, locals := 80 } : Room) s m args below meth c G (mm_Qv G Q) 8 100 σ [(0, .ref (mm_o G)), (1, .int x1), (2, .int x2), (4, .int x4), (5, .int x5), (6, .int x6)] [] := by
  intro x1 x2 x4 x5 x6 σ hw H locs ls hM hS hl
  unfold w3_laysDuel_100 at hw
  obtain ⟨hx, hb, hml, hown, hts, hr, hlk, hMK, hZ⟩ := id cx
  refine lv_iload hx hb dX3_laysDuel_100 (lv_at hl 5 rfl) ?_
  refine lv_iconst (v := (3 : Int32)) hx hb dX3_laysDuel_102 (by decide) ?_
  refine lv_icmp_ge (tgt := 210) hx hb dX3_laysDuel_103 (by decide) (fun hc => ?_) (fun hc => ?_)
  · have hw := mm_ip hc hw
    exact B3_laysDuel_210 cx hK13 hK86 _ _ _ _ _ hw _ _ _ hM hS (lv_sub hl [0, 1, 2, 3, 4] rfl)
  · have hw := mm_in hc hw
    refine lv_aload_n hx hb dX3_laysDuel_106 rfl (lv_at hl 0 rfl) ?_
    refine lv_iload hx hb dX3_laysDuel_107 (lv_at hl 4 rfl) ?_
    refine C3_isKnown cx hM hS hw ⟨Nat.le_of_ble_eq_true rfl, Nat.le_of_ble_eq_true rfl⟩ (Nat.le_of_ble_eq_true rfl) hl.1 ⟨Nat.zero_le _, Nat.zero_le _⟩ dX3_laysDuel_109 (fun r4 s4 H locs hw hM hS => ?_)
    refine lv_if_ne (tgt := 210) hx hb dX3_laysDuel_112 (by decide) (fun hc => ?_) (fun hc => ?_)
    · have hw := mm_in hc hw
      exact B3_laysDuel_210 cx hK13 hK86 _ _ _ _ _ hw _ _ _ hM hS (lv_sub hl [0, 1, 2, 3, 4] rfl)
    · have hw := mm_ip hc hw
      refine lv_iload_n hx hb dX3_laysDuel_115 rfl (lv_at hl 2 rfl) ?_
      refine lv_iload hx hb dX3_laysDuel_116 (lv_at hl 5 rfl) ?_
      refine mm_thr cx hS dX3_laysDuel_118 ?_
      refine lv_iload hx hb dX3_laysDuel_121 (lv_at hl 4 rfl) ?_
      obtain ⟨hi, hw⟩ := hw
      refine mm_iald cx hM 42 rfl rfl hi dX3_laysDuel_123 ?_
      refine lv_imul hx hb dX3_laysDuel_124 ?_
      refine lv_iadd hx hb dX3_laysDuel_125 ?_
      refine lv_topi (fun v5 hv5 => ?_)
      have hw := hw v5 hv5
      refine lv_istore (lv' := [(7, .int v5), (0, .ref (mm_o G)), (1, .int x1), (2, .int x2), (4, .int x4), (5, .int x5), (6, .int x6)]) hx hb dX3_laysDuel_126 hl (by decide) rfl (fun ls hl => ?_)
      refine lv_aload_n hx hb dX3_laysDuel_128 rfl (lv_at hl 1 rfl) ?_
      refine mg_33 cx hM dX3_laysDuel_129 ?_
      refine lv_iload hx hb dX3_laysDuel_132 (lv_at hl 0 rfl) ?_
      obtain ⟨hi, hw⟩ := hw
      refine mm_iald cx hM 33 rfl rfl hi dX3_laysDuel_134 ?_
      refine lv_if_le (tgt := 204) hx hb dX3_laysDuel_135 (by decide) (fun hc => ?_) (fun hc => ?_)
      · have hw := mm_ip hc hw
        exact B3_laysDuel_204 cx hK13 hK86 hK100 _ _ _ _ _ _ hw _ _ _ hM hS (lv_sub hl [1, 2, 3, 4, 5, 6] rfl)
      · have hw := mm_in hc hw
        refine lv_aload_n hx hb dX3_laysDuel_138 rfl (lv_at hl 1 rfl) ?_
        refine mg_35 cx hM dX3_laysDuel_139 ?_
        refine lv_iload_n hx hb dX3_laysDuel_142 rfl (lv_at hl 3 rfl) ?_
        refine lv_aload_n hx hb dX3_laysDuel_143 rfl (lv_at hl 1 rfl) ?_
        refine mg_35 cx hM dX3_laysDuel_144 ?_
        refine lv_iload_n hx hb dX3_laysDuel_147 rfl (lv_at hl 3 rfl) ?_
        obtain ⟨hi, hw⟩ := hw
        refine mm_iald cx hM 35 rfl rfl hi dX3_laysDuel_148 ?_
        refine lv_iconst (v := (-1 : Int32)) hx hb dX3_laysDuel_149 (by decide) ?_
        refine lv_icmp_ne (tgt := 163) hx hb dX3_laysDuel_150 (by decide) (fun hc => ?_) (fun hc => ?_)
        · have hw := mm_in hc hw
          refine lv_iload hx hb dX3_laysDuel_163 (lv_at hl 4 rfl) ?_
          refine lv_if_eq (tgt := 187) hx hb dX3_laysDuel_165 (by decide) (fun hc => ?_) (fun hc => ?_)
          · have hw := mm_ip hc hw
            refine lv_aload_n hx hb dX3_laysDuel_187 rfl (lv_at hl 1 rfl) ?_
            refine mg_35 cx hM dX3_laysDuel_188 ?_
            refine lv_iload_n hx hb dX3_laysDuel_191 rfl (lv_at hl 3 rfl) ?_
            obtain ⟨hi, hw⟩ := hw
            refine mm_iald cx hM 35 rfl rfl hi dX3_laysDuel_192 ?_
            refine lv_aload_n hx hb dX3_laysDuel_193 rfl (lv_at hl 1 rfl) ?_
            refine mg_35 cx hM dX3_laysDuel_194 ?_
            refine lv_iload hx hb dX3_laysDuel_197 (lv_at hl 0 rfl) ?_
            obtain ⟨hi, hw⟩ := hw
            refine mm_iald cx hM 35 rfl rfl hi dX3_laysDuel_199 ?_
            refine mm_min cx hl.1 (Nat.le_of_ble_eq_true rfl) (Nat.le_of_ble_eq_true rfl) dX3_laysDuel_200 ?_
            exact B3_laysDuel_203 cx hK13 hK86 hK100 _ _ _ _ _ _ _ _ _ hw _ _ _ hM hS (lv_sub hl [1, 2, 3, 4, 5, 6] rfl)
          · have hw := mm_in hc hw
            refine lv_aload_n hx hb dX3_laysDuel_168 rfl (lv_at hl 1 rfl) ?_
            refine mg_35 cx hM dX3_laysDuel_169 ?_
            refine lv_iload_n hx hb dX3_laysDuel_172 rfl (lv_at hl 3 rfl) ?_
            obtain ⟨hi, hw⟩ := hw
            refine mm_iald cx hM 35 rfl rfl hi dX3_laysDuel_173 ?_
            refine lv_aload_n hx hb dX3_laysDuel_174 rfl (lv_at hl 1 rfl) ?_
            refine mg_35 cx hM dX3_laysDuel_175 ?_
            refine lv_iload hx hb dX3_laysDuel_178 (lv_at hl 0 rfl) ?_
            obtain ⟨hi, hw⟩ := hw
            refine mm_iald cx hM 35 rfl rfl hi dX3_laysDuel_180 ?_
            refine mm_max cx hl.1 (Nat.le_of_ble_eq_true rfl) (Nat.le_of_ble_eq_true rfl) dX3_laysDuel_181 ?_
            refine lv_goto (tgt := 203) hx hb dX3_laysDuel_184 (by decide) ?_
            exact B3_laysDuel_203 cx hK13 hK86 hK100 _ _ _ _ _ _ _ _ _ hw _ _ _ hM hS (lv_sub hl [1, 2, 3, 4, 5, 6] rfl)
        · have hw := mm_ip hc hw
          refine lv_aload_n hx hb dX3_laysDuel_153 rfl (lv_at hl 1 rfl) ?_
          refine mg_35 cx hM dX3_laysDuel_154 ?_
          refine lv_iload hx hb dX3_laysDuel_157 (lv_at hl 0 rfl) ?_
          obtain ⟨hi, hw⟩ := hw
          refine mm_iald cx hM 35 rfl rfl hi dX3_laysDuel_159 ?_
          refine lv_goto (tgt := 203) hx hb dX3_laysDuel_160 (by decide) ?_
          exact B3_laysDuel_203 cx hK13 hK86 hK100 _ _ _ _ _ _ _ _ _ hw _ _ _ hM hS (lv_sub hl [1, 2, 3, 4, 5, 6] rfl)
theorem L3_laysDuel_100 {l : Launch} {p : Program} {e : Env} {s : State} {m : MethodId} {args : Array Value} {below : List Frame} {meth : Method} {c : Code} {G : mm_G} {Q : MS → Prop} {K13 : Int32 → Int32 → MS → Prop} {K86 : Int32 → Int32 → Int32 → Int32 → MS → Prop} (cx : mm_X cX3_laysDuel 8 none G p s m args meth c) (hK13 : ∀ (x1 : Int32) (x2 : Int32) (σ : MS), K13 x1 x2 σ → mm_T p l e ({ frames := 2, cells := 0, slots := 0, locals := 80 } : Room) s m args below meth c G (mm_Qv G Q) 8 13 σ [(0, .ref (mm_o G)), (1, .int x1), (2, .int x2)] []) (hK86 : ∀ (x1 : Int32) (x2 : Int32) (x4 : Int32) (x5 : Int32) (σ : MS), K86 x1 x2 x4 x5 σ → mm_T p l e ({ frames := 2, cells := 0, slots := 0, locals := 80 } : Room) s m args below meth c G (mm_Qv G Q) 8 86 σ [(0, .ref (mm_o G)), (1, .int x1), (2, .int x2), (4, .int x4), (5, .int x5)] []) : ∀ (x1 : Int32) (x2 : Int32) (x4 : Int32) (x5 : Int32) (x6 : Int32) (σ : MS), lp6F (w3_laysDuel_100 Q K13 K86) x1 x2 x4 x5 x6 σ → mm_T p l e ({ frames := 2, cells := 0, slots := 0, locals := 80 } : Room) s m args below meth c G (mm_Qv G Q) 8 100 σ [(0, .ref (mm_o G)), (1, .int x1), (2, .int x2), (4, .int x4), (5, .int x5), (6, .int x6)] [] :=
  lp6F_of (fun K hK => B3_laysDuel_100 cx hK13 hK86 hK)
def w3_laysDuel_86 (Q : MS → Prop) (K13 : Int32 → Int32 → MS → Prop) (K86 : Int32 → Int32 → Int32 → Int32 → MS → Prop) (x1 : Int32) (x2 : Int32) (x4 : Int32) (x5 : Int32) (σ : MS) : Prop :=
  if (gA σ 0 1) ≤ x5 then (vp_in x2 6561 ∧ (if (gA σ 35 x2.toNatClampNeg) = (-1 : Int32) then (vp_in x2 6561 ∧ (if (gA σ 34 x2.toNatClampNeg) ≤ 0 then (w3_laysDuel_253 Q K13 x1 x2 35 x2 (0 : Int32) σ) else (w3_laysDuel_253 Q K13 x1 x2 35 x2 (1 : Int32) σ))) else (w3_laysDuel_254 Q K13 x1 x2 σ))) else (lp6F (w3_laysDuel_100 Q K13 K86) x1 x2 x4 x5 (1 : Int32) σ)
set_option maxHeartbeats 4000000 in
theorem B3_laysDuel_86 {l : Launch} {p : Program} {e : Env} {s : State} {m : MethodId} {args : Array Value} {below : List Frame} {meth : Method} {c : Code} {G : mm_G} {Q : MS → Prop} {K13 : Int32 → Int32 → MS → Prop} {K86 : Int32 → Int32 → Int32 → Int32 → MS → Prop} (cx : mm_X cX3_laysDuel 8 none G p s m args meth c) (hK13 : ∀ (x1 : Int32) (x2 : Int32) (σ : MS), K13 x1 x2 σ → mm_T p l e ({ frames := 2, cells := 0, slots := 0, locals := 80 } : Room) s m args below meth c G (mm_Qv G Q) 8 13 σ [(0, .ref (mm_o G)), (1, .int x1), (2, .int x2)] []) (hK86 : ∀ (x1 : Int32) (x2 : Int32) (x4 : Int32) (x5 : Int32) (σ : MS), K86 x1 x2 x4 x5 σ → mm_T p l e ({ frames := 2, cells := 0, slots := 0, locals := 80 } : Room) s m args below meth c G (mm_Qv G Q) 8 86 σ [(0, .ref (mm_o G)), (1, .int x1), (2, .int x2), (4, .int x4), (5, .int x5)] []) : ∀ (x1 : Int32) (x2 : Int32) (x4 : Int32) (x5 : Int32) (σ : MS), w3_laysDuel_86 Q K13 K86 x1 x2 x4 x5 σ → mm_T p l e ({ frames := 2, cells := 0, slots := 0, locals := 80 } : Room) s m args below meth c G (mm_Qv G Q) 8 86 σ [(0, .ref (mm_o G)), (1, .int x1), (2, .int x2), (4, .int x4), (5, .int x5)] [] := by
  intro x1 x2 x4 x5 σ hw H locs ls hM hS hl
  unfold w3_laysDuel_86 at hw
  obtain ⟨hx, hb, hml, hown, hts, hr, hlk, hMK, hZ⟩ := id cx
  refine lv_iload hx hb dX3_laysDuel_86 (lv_at hl 4 rfl) ?_
  refine lv_aload_n hx hb dX3_laysDuel_88 rfl (lv_at hl 0 rfl) ?_
  refine mg_0 cx hM dX3_laysDuel_89 ?_
  refine lv_iconst (v := (1 : Int32)) hx hb dX3_laysDuel_92 (by decide) ?_
  refine mm_iald cx hM 0 rfl (j := 1) (by decide) (vp_lit (by decide)) dX3_laysDuel_93 ?_
  refine lv_icmp_ge (tgt := 224) hx hb dX3_laysDuel_94 (by decide) (fun hc => ?_) (fun hc => ?_)
  · have hw := mm_ip hc hw
    refine lv_aload_n hx hb dX3_laysDuel_224 rfl (lv_at hl 0 rfl) ?_
    refine mg_35 cx hM dX3_laysDuel_225 ?_
    refine lv_iload_n hx hb dX3_laysDuel_228 rfl (lv_at hl 2 rfl) ?_
    obtain ⟨hi, hw⟩ := hw
    refine mm_iald cx hM 35 rfl rfl hi dX3_laysDuel_229 ?_
    refine lv_iconst (v := (-1 : Int32)) hx hb dX3_laysDuel_230 (by decide) ?_
    refine lv_icmp_ne (tgt := 254) hx hb dX3_laysDuel_231 (by decide) (fun hc => ?_) (fun hc => ?_)
    · have hw := mm_in hc hw
      exact B3_laysDuel_254 cx hK13 _ _ _ hw _ _ _ hM hS (lv_sub hl [0, 1, 2] rfl)
    · have hw := mm_ip hc hw
      refine lv_aload_n hx hb dX3_laysDuel_234 rfl (lv_at hl 0 rfl) ?_
      refine mg_35 cx hM dX3_laysDuel_235 ?_
      refine lv_iload_n hx hb dX3_laysDuel_238 rfl (lv_at hl 2 rfl) ?_
      refine lv_aload_n hx hb dX3_laysDuel_239 rfl (lv_at hl 0 rfl) ?_
      refine mg_34 cx hM dX3_laysDuel_240 ?_
      refine lv_iload_n hx hb dX3_laysDuel_243 rfl (lv_at hl 2 rfl) ?_
      obtain ⟨hi, hw⟩ := hw
      refine mm_iald cx hM 34 rfl rfl hi dX3_laysDuel_244 ?_
      refine lv_if_le (tgt := 252) hx hb dX3_laysDuel_245 (by decide) (fun hc => ?_) (fun hc => ?_)
      · have hw := mm_ip hc hw
        refine lv_iconst (v := (0 : Int32)) hx hb dX3_laysDuel_252 (by decide) ?_
        exact B3_laysDuel_253 cx hK13 _ _ _ _ _ _ hw _ _ _ hM hS (lv_sub hl [0, 1, 2] rfl)
      · have hw := mm_in hc hw
        refine lv_iconst (v := (1 : Int32)) hx hb dX3_laysDuel_248 (by decide) ?_
        refine lv_goto (tgt := 253) hx hb dX3_laysDuel_249 (by decide) ?_
        exact B3_laysDuel_253 cx hK13 _ _ _ _ _ _ hw _ _ _ hM hS (lv_sub hl [0, 1, 2] rfl)
  · have hw := mm_in hc hw
    refine lv_iconst (v := (1 : Int32)) hx hb dX3_laysDuel_97 (by decide) ?_
    refine lv_istore (lv' := [(6, .int (1 : Int32)), (0, .ref (mm_o G)), (1, .int x1), (2, .int x2), (4, .int x4), (5, .int x5)]) hx hb dX3_laysDuel_98 hl (by decide) rfl (fun ls hl => ?_)
    exact L3_laysDuel_100 cx hK13 hK86 _ _ _ _ _ _ hw _ _ _ hM hS (lv_sub hl [1, 2, 3, 4, 5, 0] rfl)
theorem L3_laysDuel_86 {l : Launch} {p : Program} {e : Env} {s : State} {m : MethodId} {args : Array Value} {below : List Frame} {meth : Method} {c : Code} {G : mm_G} {Q : MS → Prop} {K13 : Int32 → Int32 → MS → Prop} (cx : mm_X cX3_laysDuel 8 none G p s m args meth c) (hK13 : ∀ (x1 : Int32) (x2 : Int32) (σ : MS), K13 x1 x2 σ → mm_T p l e ({ frames := 2, cells := 0, slots := 0, locals := 80 } : Room) s m args below meth c G (mm_Qv G Q) 8 13 σ [(0, .ref (mm_o G)), (1, .int x1), (2, .int x2)] []) : ∀ (x1 : Int32) (x2 : Int32) (x4 : Int32) (x5 : Int32) (σ : MS), lp5F (w3_laysDuel_86 Q K13) x1 x2 x4 x5 σ → mm_T p l e ({ frames := 2, cells := 0, slots := 0, locals := 80 } : Room) s m args below meth c G (mm_Qv G Q) 8 86 σ [(0, .ref (mm_o G)), (1, .int x1), (2, .int x2), (4, .int x4), (5, .int x5)] [] :=
  lp5F_of (fun K hK => B3_laysDuel_86 cx hK13 hK)
def w3_laysDuel_69 (Q : MS → Prop) (K13 : Int32 → Int32 → MS → Prop) (x1 : Int32) (x2 : Int32) (t0 : Int32) (σ : MS) : Prop :=
  vp_in x2 6561 ∧ (w3_untold x2 (0 : Int32) (sA σ 35 x2.toNatClampNeg (-1 : Int32)) (fun r6 s6 => lp5F (w3_laysDuel_86 Q K13) x1 x2 t0 r6 s6))
set_option maxHeartbeats 4000000 in
theorem B3_laysDuel_69 {l : Launch} {p : Program} {e : Env} {s : State} {m : MethodId} {args : Array Value} {below : List Frame} {meth : Method} {c : Code} {G : mm_G} {Q : MS → Prop} {K13 : Int32 → Int32 → MS → Prop} (cx : mm_X cX3_laysDuel 8 none G p s m args meth c) (hK13 : ∀ (x1 : Int32) (x2 : Int32) (σ : MS), K13 x1 x2 σ → mm_T p l e ({ frames := 2, cells := 0, slots := 0, locals := 80 } : Room) s m args below meth c G (mm_Qv G Q) 8 13 σ [(0, .ref (mm_o G)), (1, .int x1), (2, .int x2)] []) : ∀ (x1 : Int32) (x2 : Int32) (t0 : Int32) (σ : MS), w3_laysDuel_69 Q K13 x1 x2 t0 σ → mm_T p l e ({ frames := 2, cells := 0, slots := 0, locals := 80 } : Room) s m args below meth c G (mm_Qv G Q) 8 69 σ [(0, .ref (mm_o G)), (1, .int x1), (2, .int x2)] [.int t0] := by
  intro x1 x2 t0 σ hw H locs ls hM hS hl
  unfold w3_laysDuel_69 at hw
  obtain ⟨hx, hb, hml, hown, hts, hr, hlk, hMK, hZ⟩ := id cx
  refine lv_istore (lv' := [(4, .int t0), (0, .ref (mm_o G)), (1, .int x1), (2, .int x2)]) hx hb dX3_laysDuel_69 hl (by decide) rfl (fun ls hl => ?_)
  refine lv_aload_n hx hb dX3_laysDuel_71 rfl (lv_at hl 1 rfl) ?_
  refine mg_35 cx hM dX3_laysDuel_72 ?_
  refine lv_iload_n hx hb dX3_laysDuel_75 rfl (lv_at hl 3 rfl) ?_
  refine lv_iconst (v := (-1 : Int32)) hx hb dX3_laysDuel_76 (by decide) ?_
  obtain ⟨hi, hw⟩ := hw
  refine mm_iast cx hM hS 35 rfl rfl hi dX3_laysDuel_77 (fun H locs hM hS => ?_)
  refine lv_aload_n hx hb dX3_laysDuel_78 rfl (lv_at hl 1 rfl) ?_
  refine lv_iload_n hx hb dX3_laysDuel_79 rfl (lv_at hl 3 rfl) ?_
  refine lv_iconst (v := (0 : Int32)) hx hb dX3_laysDuel_80 (by decide) ?_
  refine C3_untold cx hM hS hw ⟨Nat.le_of_ble_eq_true rfl, Nat.le_of_ble_eq_true rfl⟩ (Nat.le_of_ble_eq_true rfl) hl.1 ⟨Nat.zero_le _, Nat.zero_le _⟩ dX3_laysDuel_81 (fun r6 s6 H locs hw hM hS => ?_)
  refine lv_istore (lv' := [(5, .int r6), (4, .int t0), (0, .ref (mm_o G)), (1, .int x1), (2, .int x2)]) hx hb dX3_laysDuel_84 hl (by decide) rfl (fun ls hl => ?_)
  exact L3_laysDuel_86 cx hK13 _ _ _ _ _ hw _ _ _ hM hS (lv_sub hl [2, 3, 4, 1, 0] rfl)
def w3_laysDuel_48 (Q : MS → Prop) (K13 : Int32 → Int32 → MS → Prop) (K22 : Int32 → Int32 → Int32 → Int32 → MS → Prop) (x1 : Int32) (x2 : Int32) (x4 : Int32) (t0 : Int32) (t1 : Int32) (σ : MS) : Prop :=
  ∀ v7 : Int32, v7 = (t0 + t1) → ∀ v8 : Int32, v8 = x4 + (1 : Int32) → K22 x1 x2 v7 v8 σ
set_option maxHeartbeats 4000000 in
theorem B3_laysDuel_48 {l : Launch} {p : Program} {e : Env} {s : State} {m : MethodId} {args : Array Value} {below : List Frame} {meth : Method} {c : Code} {G : mm_G} {Q : MS → Prop} {K13 : Int32 → Int32 → MS → Prop} {K22 : Int32 → Int32 → Int32 → Int32 → MS → Prop} (cx : mm_X cX3_laysDuel 8 none G p s m args meth c) (hK13 : ∀ (x1 : Int32) (x2 : Int32) (σ : MS), K13 x1 x2 σ → mm_T p l e ({ frames := 2, cells := 0, slots := 0, locals := 80 } : Room) s m args below meth c G (mm_Qv G Q) 8 13 σ [(0, .ref (mm_o G)), (1, .int x1), (2, .int x2)] []) (hK22 : ∀ (x1 : Int32) (x2 : Int32) (x3 : Int32) (x4 : Int32) (σ : MS), K22 x1 x2 x3 x4 σ → mm_T p l e ({ frames := 2, cells := 0, slots := 0, locals := 80 } : Room) s m args below meth c G (mm_Qv G Q) 8 22 σ [(0, .ref (mm_o G)), (1, .int x1), (2, .int x2), (3, .int x3), (4, .int x4)] []) : ∀ (x1 : Int32) (x2 : Int32) (x4 : Int32) (t0 : Int32) (t1 : Int32) (σ : MS), w3_laysDuel_48 Q K13 K22 x1 x2 x4 t0 t1 σ → mm_T p l e ({ frames := 2, cells := 0, slots := 0, locals := 80 } : Room) s m args below meth c G (mm_Qv G Q) 8 48 σ [(0, .ref (mm_o G)), (1, .int x1), (2, .int x2), (4, .int x4)] [.int t1, .int t0] := by
  intro x1 x2 x4 t0 t1 σ hw H locs ls hM hS hl
  unfold w3_laysDuel_48 at hw
  obtain ⟨hx, hb, hml, hown, hts, hr, hlk, hMK, hZ⟩ := id cx
  refine lv_iadd hx hb dX3_laysDuel_48 ?_
  refine lv_topi (fun v7 hv7 => ?_)
  have hw := hw v7 hv7
  refine lv_istore_n (lv' := [(3, .int v7), (0, .ref (mm_o G)), (1, .int x1), (2, .int x2), (4, .int x4)]) hx hb dX3_laysDuel_49 rfl hl (by decide) rfl (fun ls hl => ?_)
  obtain ⟨v8, hv8⟩ : ∃ v : Int32, v = x4 + (1 : Int32) := ⟨_, rfl⟩
  have hw := hw v8 hv8
  refine lv_iinc (v := v8) (lv' := [(4, .int v8), (3, .int v7), (0, .ref (mm_o G)), (1, .int x1), (2, .int x2)]) hx hb dX3_laysDuel_50 hl (k := 4) rfl (by rw [hv8]; rfl) (by decide) rfl (fun ls hl => ?_)
  refine lv_goto (tgt := 22) hx hb dX3_laysDuel_53 (by decide) ?_
  exact hK22 _ _ _ _ _ hw _ _ _ hM hS (lv_sub hl [2, 3, 4, 1, 0] rfl)
def w3_laysDuel_22 (Q : MS → Prop) (K13 : Int32 → Int32 → MS → Prop) (K22 : Int32 → Int32 → Int32 → Int32 → MS → Prop) (x1 : Int32) (x2 : Int32) (x3 : Int32) (x4 : Int32) (σ : MS) : Prop :=
  if (gA σ 0 1) ≤ x4 then (if ((x1 + x3) - (x1 + x3) / (2 : Int32) * (2 : Int32)) = 0 then (w3_laysDuel_69 Q K13 x1 x2 (1 : Int32) σ) else (w3_laysDuel_69 Q K13 x1 x2 (0 : Int32) σ)) else (w3_tells x2 x4 σ (fun r9 s9 => if r9 = 0 then (w3_laysDuel_48 Q K13 K22 x1 x2 x4 x3 (0 : Int32) s9) else (w3_laysDuel_48 Q K13 K22 x1 x2 x4 x3 (1 : Int32) s9)))
set_option maxHeartbeats 4000000 in
theorem B3_laysDuel_22 {l : Launch} {p : Program} {e : Env} {s : State} {m : MethodId} {args : Array Value} {below : List Frame} {meth : Method} {c : Code} {G : mm_G} {Q : MS → Prop} {K13 : Int32 → Int32 → MS → Prop} {K22 : Int32 → Int32 → Int32 → Int32 → MS → Prop} (cx : mm_X cX3_laysDuel 8 none G p s m args meth c) (hK13 : ∀ (x1 : Int32) (x2 : Int32) (σ : MS), K13 x1 x2 σ → mm_T p l e ({ frames := 2, cells := 0, slots := 0, locals := 80 } : Room) s m args below meth c G (mm_Qv G Q) 8 13 σ [(0, .ref (mm_o G)), (1, .int x1), (2, .int x2)] []) (hK22 : ∀ (x1 : Int32) (x2 : Int32) (x3 : Int32) (x4 : Int32) (σ : MS), K22 x1 x2 x3 x4 σ → mm_T p l e ({ frames := 2, cells := 0, slots := 0, locals := 80 } : Room) s m args below meth c G (mm_Qv G Q) 8 22 σ [(0, .ref (mm_o G)), (1, .int x1), (2, .int x2), (3, .int x3), (4, .int x4)] []) : ∀ (x1 : Int32) (x2 : Int32) (x3 : Int32) (x4 : Int32) (σ : MS), w3_laysDuel_22 Q K13 K22 x1 x2 x3 x4 σ → mm_T p l e ({ frames := 2, cells := 0, slots := 0, locals := 80 } : Room) s m args below meth c G (mm_Qv G Q) 8 22 σ [(0, .ref (mm_o G)), (1, .int x1), (2, .int x2), (3, .int x3), (4, .int x4)] [] := by
  intro x1 x2 x3 x4 σ hw H locs ls hM hS hl
  unfold w3_laysDuel_22 at hw
  obtain ⟨hx, hb, hml, hown, hts, hr, hlk, hMK, hZ⟩ := id cx
  refine lv_iload hx hb dX3_laysDuel_22 (lv_at hl 4 rfl) ?_
  refine lv_aload_n hx hb dX3_laysDuel_24 rfl (lv_at hl 0 rfl) ?_
  refine mg_0 cx hM dX3_laysDuel_25 ?_
  refine lv_iconst (v := (1 : Int32)) hx hb dX3_laysDuel_28 (by decide) ?_
  refine mm_iald cx hM 0 rfl (j := 1) (by decide) (vp_lit (by decide)) dX3_laysDuel_29 ?_
  refine lv_icmp_ge (tgt := 56) hx hb dX3_laysDuel_30 (by decide) (fun hc => ?_) (fun hc => ?_)
  · have hw := mm_ip hc hw
    refine lv_iload_n hx hb dX3_laysDuel_56 rfl (lv_at hl 1 rfl) ?_
    refine lv_iload_n hx hb dX3_laysDuel_57 rfl (lv_at hl 3 rfl) ?_
    refine lv_iadd hx hb dX3_laysDuel_58 ?_
    refine lv_iconst (v := (2 : Int32)) hx hb dX3_laysDuel_59 (by decide) ?_
    refine lv_irem hx hb dX3_laysDuel_60 (by decide) ?_
    refine lv_if_ne (tgt := 68) hx hb dX3_laysDuel_61 (by decide) (fun hc => ?_) (fun hc => ?_)
    · have hw := mm_in hc hw
      refine lv_iconst (v := (0 : Int32)) hx hb dX3_laysDuel_68 (by decide) ?_
      exact B3_laysDuel_69 cx hK13 _ _ _ _ hw _ _ _ hM hS (lv_sub hl [0, 1, 2] rfl)
    · have hw := mm_ip hc hw
      refine lv_iconst (v := (1 : Int32)) hx hb dX3_laysDuel_64 (by decide) ?_
      refine lv_goto (tgt := 69) hx hb dX3_laysDuel_65 (by decide) ?_
      exact B3_laysDuel_69 cx hK13 _ _ _ _ hw _ _ _ hM hS (lv_sub hl [0, 1, 2] rfl)
  · have hw := mm_in hc hw
    refine lv_iload_n hx hb dX3_laysDuel_33 rfl (lv_at hl 3 rfl) ?_
    refine lv_iload_n hx hb dX3_laysDuel_34 rfl (lv_at hl 2 rfl) ?_
    refine lv_iload hx hb dX3_laysDuel_35 (lv_at hl 4 rfl) ?_
    refine C3_tells cx hM hS hw ⟨Nat.le_of_ble_eq_true rfl, Nat.le_of_ble_eq_true rfl⟩ (Nat.le_of_ble_eq_true rfl) hl.1 ⟨Nat.zero_le _, Nat.zero_le _⟩ dX3_laysDuel_37 (fun r9 s9 H locs hw hM hS => ?_)
    refine lv_if_eq (tgt := 47) hx hb dX3_laysDuel_40 (by decide) (fun hc => ?_) (fun hc => ?_)
    · have hw := mm_ip hc hw
      refine lv_iconst (v := (0 : Int32)) hx hb dX3_laysDuel_47 (by decide) ?_
      exact B3_laysDuel_48 cx hK13 hK22 _ _ _ _ _ _ hw _ _ _ hM hS (lv_sub hl [0, 1, 2, 4] rfl)
    · have hw := mm_in hc hw
      refine lv_iconst (v := (1 : Int32)) hx hb dX3_laysDuel_43 (by decide) ?_
      refine lv_goto (tgt := 48) hx hb dX3_laysDuel_44 (by decide) ?_
      exact B3_laysDuel_48 cx hK13 hK22 _ _ _ _ _ _ hw _ _ _ hM hS (lv_sub hl [0, 1, 2, 4] rfl)
theorem L3_laysDuel_22 {l : Launch} {p : Program} {e : Env} {s : State} {m : MethodId} {args : Array Value} {below : List Frame} {meth : Method} {c : Code} {G : mm_G} {Q : MS → Prop} {K13 : Int32 → Int32 → MS → Prop} (cx : mm_X cX3_laysDuel 8 none G p s m args meth c) (hK13 : ∀ (x1 : Int32) (x2 : Int32) (σ : MS), K13 x1 x2 σ → mm_T p l e ({ frames := 2, cells := 0, slots := 0, locals := 80 } : Room) s m args below meth c G (mm_Qv G Q) 8 13 σ [(0, .ref (mm_o G)), (1, .int x1), (2, .int x2)] []) : ∀ (x1 : Int32) (x2 : Int32) (x3 : Int32) (x4 : Int32) (σ : MS), lp5F (w3_laysDuel_22 Q K13) x1 x2 x3 x4 σ → mm_T p l e ({ frames := 2, cells := 0, slots := 0, locals := 80 } : Room) s m args below meth c G (mm_Qv G Q) 8 22 σ [(0, .ref (mm_o G)), (1, .int x1), (2, .int x2), (3, .int x3), (4, .int x4)] [] :=
  lp5F_of (fun K hK => B3_laysDuel_22 cx hK13 hK)
def w3_laysDuel_13 (Q : MS → Prop) (K13 : Int32 → Int32 → MS → Prop) (x1 : Int32) (x2 : Int32) (σ : MS) : Prop :=
  if x2 < 0 then (Q σ) else (lp5F (w3_laysDuel_22 Q K13) x1 x2 (0 : Int32) (0 : Int32) σ)
set_option maxHeartbeats 4000000 in
theorem B3_laysDuel_13 {l : Launch} {p : Program} {e : Env} {s : State} {m : MethodId} {args : Array Value} {below : List Frame} {meth : Method} {c : Code} {G : mm_G} {Q : MS → Prop} {K13 : Int32 → Int32 → MS → Prop} (cx : mm_X cX3_laysDuel 8 none G p s m args meth c) (hK13 : ∀ (x1 : Int32) (x2 : Int32) (σ : MS), K13 x1 x2 σ → mm_T p l e ({ frames := 2, cells := 0, slots := 0, locals := 80 } : Room) s m args below meth c G (mm_Qv G Q) 8 13 σ [(0, .ref (mm_o G)), (1, .int x1), (2, .int x2)] []) : ∀ (x1 : Int32) (x2 : Int32) (σ : MS), w3_laysDuel_13 Q K13 x1 x2 σ → mm_T p l e ({ frames := 2, cells := 0, slots := 0, locals := 80 } : Room) s m args below meth c G (mm_Qv G Q) 8 13 σ [(0, .ref (mm_o G)), (1, .int x1), (2, .int x2)] [] := by
  intro x1 x2 σ hw H locs ls hM hS hl
  unfold w3_laysDuel_13 at hw
  obtain ⟨hx, hb, hml, hown, hts, hr, hlk, hMK, hZ⟩ := id cx
  refine lv_iload_n hx hb dX3_laysDuel_13 rfl (lv_at hl 2 rfl) ?_
  refine lv_if_lt (tgt := 260) hx hb dX3_laysDuel_14 (by decide) (fun hc => ?_) (fun hc => ?_)
  · have hw := mm_ip hc hw
    exact mm_vret cx hM hS hw dX3_laysDuel_260
  · have hw := mm_in hc hw
    refine lv_iconst (v := (0 : Int32)) hx hb dX3_laysDuel_17 (by decide) ?_
    refine lv_istore_n (lv' := [(3, .int (0 : Int32)), (0, .ref (mm_o G)), (1, .int x1), (2, .int x2)]) hx hb dX3_laysDuel_18 rfl hl (by decide) rfl (fun ls hl => ?_)
    refine lv_iconst (v := (0 : Int32)) hx hb dX3_laysDuel_19 (by decide) ?_
    refine lv_istore (lv' := [(4, .int (0 : Int32)), (3, .int (0 : Int32)), (0, .ref (mm_o G)), (1, .int x1), (2, .int x2)]) hx hb dX3_laysDuel_20 hl (by decide) rfl (fun ls hl => ?_)
    exact L3_laysDuel_22 cx hK13 _ _ _ _ _ hw _ _ _ hM hS (lv_sub hl [2, 3, 4, 1, 0] rfl)
theorem L3_laysDuel_13 {l : Launch} {p : Program} {e : Env} {s : State} {m : MethodId} {args : Array Value} {below : List Frame} {meth : Method} {c : Code} {G : mm_G} {Q : MS → Prop} (cx : mm_X cX3_laysDuel 8 none G p s m args meth c) : ∀ (x1 : Int32) (x2 : Int32) (σ : MS), lp3F (w3_laysDuel_13 Q) x1 x2 σ → mm_T p l e ({ frames := 2, cells := 0, slots := 0, locals := 80 } : Room) s m args below meth c G (mm_Qv G Q) 8 13 σ [(0, .ref (mm_o G)), (1, .int x1), (2, .int x2)] [] :=
  lp3F_of (fun K hK => B3_laysDuel_13 cx hK)
def w3_laysDuel (x1 : Int32) (σ : MS) (Q : MS → Prop) : Prop :=
  vp_in (gA σ 0 1) 9 ∧ (∀ v10 : Int32, v10 = ((gA σ 42 (gA σ 0 1).toNatClampNeg) - (1 : Int32)) → lp3F (w3_laysDuel_13 Q) x1 v10 σ)
set_option maxHeartbeats 4000000 in
theorem M3_laysDuel (l : Launch) (G : mm_G) (x1 : Int32) (σ : MS) (Q : MS → Prop) (hw : w3_laysDuel x1 σ Q) : mm_Mv l yX3_laysDuel (ws_ yX3_laysDuel cX3_laysDuel 8 none) ({ frames := 2, cells := 0, slots := 0, locals := 80 } : Room) G [.ref (mm_o G), .int x1] σ Q := by
  refine mm_of (by decide) rfl ?_
  intro p e s m args below meth c cx hM ha
  refine mm_entry [.ref (mm_o G), .int x1] 8 [(0, .ref (mm_o G)), (1, .int x1)] ha (Nat.le_of_ble_eq_true rfl) rfl (fun ls hl => ?_)
  have hS : va_S (mm_A G) s.heap s.heap [] := va_S.rf
  unfold w3_laysDuel at hw
  obtain ⟨hx, hb, hml, hown, hts, hr, hlk, hMK, hZ⟩ := id cx
  refine mm_thr cx hS dX3_laysDuel_0 ?_
  refine lv_aload_n hx hb dX3_laysDuel_3 rfl (lv_at hl 0 rfl) ?_
  refine mg_0 cx hM dX3_laysDuel_4 ?_
  refine lv_iconst (v := (1 : Int32)) hx hb dX3_laysDuel_7 (by decide) ?_
  refine mm_iald cx hM 0 rfl (j := 1) (by decide) (vp_lit (by decide)) dX3_laysDuel_8 ?_
  obtain ⟨hi, hw⟩ := hw
  refine mm_iald cx hM 42 rfl rfl hi dX3_laysDuel_9 ?_
  refine lv_iconst (v := (1 : Int32)) hx hb dX3_laysDuel_10 (by decide) ?_
  refine lv_isub hx hb dX3_laysDuel_11 ?_
  refine lv_topi (fun v10 hv10 => ?_)
  have hw := hw v10 hv10
  refine lv_istore_n (lv' := [(2, .int v10), (0, .ref (mm_o G)), (1, .int x1)]) hx hb dX3_laysDuel_12 rfl hl (by decide) rfl (fun ls hl => ?_)
  exact L3_laysDuel_13 cx _ _ _ hw _ _ _ hM hS (lv_sub hl [1, 2, 0] rfl)
theorem C3_laysDuel {l : Launch} {p : Program} {e : Env} {R : Room} {s : State} {m : MethodId} {args : Array Value} {below : List Frame} {meth : Method} {c : Code} {H : Heap} {locs : List Loc} {cells slots : Nat} {Qz : State → Prop} {cc : ByteArray} {nL : Nat} {ret : Option FieldType} {G : mm_G} {pc : Nat} {ls : Array Slot} {rest : List Value} {x1 : Int32} {σ : MS} (cx : mm_X cc nL ret G p s m args meth c) (hM : mm_R G σ H) (hS0 : va_S (mm_A G) s.heap H locs) {Qf : MS → Prop} (hw : w3_laysDuel x1 σ Qf) (hR : (({ frames := 2, cells := 0, slots := 0, locals := 80 } : Room)).frames + 1 ≤ R.frames ∧ 8 + (8 + 11) + (({ frames := 2, cells := 0, slots := 0, locals := 80 } : Room)).locals ≤ R.locals) (hroom : (rest.map fun v => v.category).sum ≤ 8) (hsize : ls.size = nL) (hf : cells ≤ R.cells ∧ slots ≤ R.slots) (hdg : decode cc pc = .ok (.invokevirtual 453, 3))
    (kk : ∀ (σ1 : MS) (H1 : Heap) (locs1 : List Loc), Qf σ1 → mm_R G σ1 H1 → va_S (mm_A G) s.heap H1 locs1 → W p l e R s m args below meth c H1 locs1 cells slots Qz (F0 m (pc + 3) ls rest)) : W p l e R s m args below meth c H locs cells slots Qz (F0 m pc ls (.int x1 :: .ref (mm_o G) :: rest)) := by
  obtain ⟨hx, hb, hml, hown, hts, hr, hlk, hK, hZ⟩ := id cx
  exact mm_Vv cx hM hS0 (As := [.int x1]) (M3_laysDuel l G x1 σ Qf hw) (cwV 1 hts (lw_V q2965 q2967 qs145 q172 q2968) rfl rfl rfl (by decide +kernel) hR) rfl hsize rfl hroom hf hdg kk
def w3_duel (x1 : Int32) (x2 : Int32) (σ : MS) (Q : Int32 → MS → Prop) : Prop :=
  w3_isCount x1 σ (fun r1 s1 => if r1 = 0 then (Q (-1 : Int32) s1) else (w3_in x2 (0 : Int32) (1 : Int32) s1 (fun r2 s2 => if r2 = 0 then (Q (-1 : Int32) s2) else (w3_laysWays x1 s2 (fun s3 => w3_laysDuel x2 s3 (fun s4 => Q (gA s4 35 0) s4))))))
set_option maxHeartbeats 4000000 in
theorem M3_duel (l : Launch) (G : mm_G) (x1 : Int32) (x2 : Int32) (σ : MS) (Q : Int32 → MS → Prop) (hw : w3_duel x1 x2 σ Q) : mm_Mi l yX3_duel (ws_ yX3_duel cX3_duel 3 (some .int)) ({ frames := 3, cells := 0, slots := 0, locals := 120 } : Room) G [.ref (mm_o G), .int x1, .int x2] σ Q := by
  refine mm_of (by decide) rfl ?_
  intro p e s m args below meth c cx hM ha
  refine mm_entry [.ref (mm_o G), .int x1, .int x2] 3 [(0, .ref (mm_o G)), (1, .int x1), (2, .int x2)] ha (Nat.le_of_ble_eq_true rfl) rfl (fun ls hl => ?_)
  have hS : va_S (mm_A G) s.heap s.heap [] := va_S.rf
  unfold w3_duel at hw
  obtain ⟨hx, hb, hml, hown, hts, hr, hlk, hMK, hZ⟩ := id cx
  refine lv_aload_n hx hb dX3_duel_0 rfl (lv_at hl 0 rfl) ?_
  refine lv_iload_n hx hb dX3_duel_1 rfl (lv_at hl 1 rfl) ?_
  refine C3_isCount cx hM hS hw ⟨Nat.le_of_ble_eq_true rfl, Nat.le_of_ble_eq_true rfl⟩ (Nat.le_of_ble_eq_true rfl) hl.1 ⟨Nat.zero_le _, Nat.zero_le _⟩ dX3_duel_2 (fun r1 s1 H locs hw hM hS => ?_)
  refine lv_if_eq (tgt := 17) hx hb dX3_duel_5 (by decide) (fun hc => ?_) (fun hc => ?_)
  · have hw := mm_ip hc hw
    refine lv_iconst (v := (-1 : Int32)) hx hb dX3_duel_17 (by decide) ?_
    exact mm_iret cx hM hS hw dX3_duel_18
  · have hw := mm_in hc hw
    refine lv_iload_n hx hb dX3_duel_8 rfl (lv_at hl 2 rfl) ?_
    refine lv_iconst (v := (0 : Int32)) hx hb dX3_duel_9 (by decide) ?_
    refine lv_iconst (v := (1 : Int32)) hx hb dX3_duel_10 (by decide) ?_
    refine C3_in cx hM hS hw ⟨Nat.le_of_ble_eq_true rfl, Nat.le_of_ble_eq_true rfl⟩ (Nat.le_of_ble_eq_true rfl) hl.1 ⟨Nat.zero_le _, Nat.zero_le _⟩ dX3_duel_11 (fun r2 s2 H locs hw hM hS => ?_)
    refine lv_if_ne (tgt := 19) hx hb dX3_duel_14 (by decide) (fun hc => ?_) (fun hc => ?_)
    · have hw := mm_in hc hw
      refine lv_aload_n hx hb dX3_duel_19 rfl (lv_at hl 0 rfl) ?_
      refine lv_iload_n hx hb dX3_duel_20 rfl (lv_at hl 1 rfl) ?_
      refine C3_laysWays cx hM hS hw ⟨Nat.le_of_ble_eq_true rfl, Nat.le_of_ble_eq_true rfl⟩ (Nat.le_of_ble_eq_true rfl) hl.1 ⟨Nat.zero_le _, Nat.zero_le _⟩ dX3_duel_21 (fun s3 H locs hw hM hS => ?_)
      refine lv_aload_n hx hb dX3_duel_24 rfl (lv_at hl 0 rfl) ?_
      refine lv_iload_n hx hb dX3_duel_25 rfl (lv_at hl 2 rfl) ?_
      refine C3_laysDuel cx hM hS hw ⟨Nat.le_of_ble_eq_true rfl, Nat.le_of_ble_eq_true rfl⟩ (Nat.le_of_ble_eq_true rfl) hl.1 ⟨Nat.zero_le _, Nat.zero_le _⟩ dX3_duel_26 (fun s4 H locs hw hM hS => ?_)
      refine lv_aload_n hx hb dX3_duel_29 rfl (lv_at hl 0 rfl) ?_
      refine mg_35 cx hM dX3_duel_30 ?_
      refine lv_iconst (v := (0 : Int32)) hx hb dX3_duel_33 (by decide) ?_
      refine mm_iald cx hM 35 rfl (j := 0) (by decide) (vp_lit (by decide)) dX3_duel_34 ?_
      exact mm_iret cx hM hS hw dX3_duel_35
    · have hw := mm_ip hc hw
      refine lv_iconst (v := (-1 : Int32)) hx hb dX3_duel_17 (by decide) ?_
      exact mm_iret cx hM hS hw dX3_duel_18
-- no call of duel
def w3_turn_124 (Q : Int32 → MS → Prop) (K41 : Int32 → Int32 → Int32 → MS → Prop) (x2 : Int32) (x3 : Int32) (x4 : Int32) (σ : MS) : Prop :=
  ∀ v1 : Int32, v1 = x4 + (1 : Int32) → K41 x2 x3 v1 σ
set_option maxHeartbeats 4000000 in
theorem B3_turn_124 {l : Launch} {p : Program} {e : Env} {s : State} {m : MethodId} {args : Array Value} {below : List Frame} {meth : Method} {c : Code} {G : mm_G} {Q : Int32 → MS → Prop} {K41 : Int32 → Int32 → Int32 → MS → Prop} (cx : mm_X cX3_turn 7 (some .int) G p s m args meth c) (hK41 : ∀ (x2 : Int32) (x3 : Int32) (x4 : Int32) (σ : MS), K41 x2 x3 x4 σ → mm_T p l e ({ frames := 3, cells := 0, slots := 0, locals := 120 } : Room) s m args below meth c G (mm_Qi G Q) 7 41 σ [(0, .ref (mm_o G)), (2, .int x2), (3, .int x3), (4, .int x4)] []) : ∀ (x2 : Int32) (x3 : Int32) (x4 : Int32) (σ : MS), w3_turn_124 Q K41 x2 x3 x4 σ → mm_T p l e ({ frames := 3, cells := 0, slots := 0, locals := 120 } : Room) s m args below meth c G (mm_Qi G Q) 7 124 σ [(0, .ref (mm_o G)), (2, .int x2), (3, .int x3), (4, .int x4)] [] := by
  intro x2 x3 x4 σ hw H locs ls hM hS hl
  unfold w3_turn_124 at hw
  obtain ⟨hx, hb, hml, hown, hts, hr, hlk, hMK, hZ⟩ := id cx
  obtain ⟨v1, hv1⟩ : ∃ v : Int32, v = x4 + (1 : Int32) := ⟨_, rfl⟩
  have hw := hw v1 hv1
  refine lv_iinc (v := v1) (lv' := [(4, .int v1), (0, .ref (mm_o G)), (2, .int x2), (3, .int x3)]) hx hb dX3_turn_124 hl (k := 3) rfl (by rw [hv1]; rfl) (by decide) rfl (fun ls hl => ?_)
  refine lv_goto (tgt := 41) hx hb dX3_turn_127 (by decide) ?_
  exact hK41 _ _ _ _ hw _ _ _ hM hS (lv_sub hl [1, 2, 3, 0] rfl)
def w3_turn_118 (Q : Int32 → MS → Prop) (K41 : Int32 → Int32 → Int32 → MS → Prop) (K55 : Int32 → Int32 → Int32 → Int32 → MS → Prop) (x2 : Int32) (x3 : Int32) (x4 : Int32) (x5 : Int32) (σ : MS) : Prop :=
  ∀ v2 : Int32, v2 = x5 + (1 : Int32) → K55 x2 x3 x4 v2 σ
set_option maxHeartbeats 4000000 in
theorem B3_turn_118 {l : Launch} {p : Program} {e : Env} {s : State} {m : MethodId} {args : Array Value} {below : List Frame} {meth : Method} {c : Code} {G : mm_G} {Q : Int32 → MS → Prop} {K41 : Int32 → Int32 → Int32 → MS → Prop} {K55 : Int32 → Int32 → Int32 → Int32 → MS → Prop} (cx : mm_X cX3_turn 7 (some .int) G p s m args meth c) (hK41 : ∀ (x2 : Int32) (x3 : Int32) (x4 : Int32) (σ : MS), K41 x2 x3 x4 σ → mm_T p l e ({ frames := 3, cells := 0, slots := 0, locals := 120 } : Room) s m args below meth c G (mm_Qi G Q) 7 41 σ [(0, .ref (mm_o G)), (2, .int x2), (3, .int x3), (4, .int x4)] []) (hK55 : ∀ (x2 : Int32) (x3 : Int32) (x4 : Int32) (x5 : Int32) (σ : MS), K55 x2 x3 x4 x5 σ → mm_T p l e ({ frames := 3, cells := 0, slots := 0, locals := 120 } : Room) s m args below meth c G (mm_Qi G Q) 7 55 σ [(0, .ref (mm_o G)), (2, .int x2), (3, .int x3), (4, .int x4), (5, .int x5)] []) : ∀ (x2 : Int32) (x3 : Int32) (x4 : Int32) (x5 : Int32) (σ : MS), w3_turn_118 Q K41 K55 x2 x3 x4 x5 σ → mm_T p l e ({ frames := 3, cells := 0, slots := 0, locals := 120 } : Room) s m args below meth c G (mm_Qi G Q) 7 118 σ [(0, .ref (mm_o G)), (2, .int x2), (3, .int x3), (4, .int x4), (5, .int x5)] [] := by
  intro x2 x3 x4 x5 σ hw H locs ls hM hS hl
  unfold w3_turn_118 at hw
  obtain ⟨hx, hb, hml, hown, hts, hr, hlk, hMK, hZ⟩ := id cx
  obtain ⟨v2, hv2⟩ : ∃ v : Int32, v = x5 + (1 : Int32) := ⟨_, rfl⟩
  have hw := hw v2 hv2
  refine lv_iinc (v := v2) (lv' := [(5, .int v2), (0, .ref (mm_o G)), (2, .int x2), (3, .int x3), (4, .int x4)]) hx hb dX3_turn_118 hl (k := 4) rfl (by rw [hv2]; rfl) (by decide) rfl (fun ls hl => ?_)
  refine lv_goto (tgt := 55) hx hb dX3_turn_121 (by decide) ?_
  exact hK55 _ _ _ _ _ hw _ _ _ hM hS (lv_sub hl [1, 2, 3, 4, 0] rfl)
def w3_turn_55 (Q : Int32 → MS → Prop) (K41 : Int32 → Int32 → Int32 → MS → Prop) (K55 : Int32 → Int32 → Int32 → Int32 → MS → Prop) (x2 : Int32) (x3 : Int32) (x4 : Int32) (x5 : Int32) (σ : MS) : Prop :=
  if (2 : Int32) ≤ x5 then (w3_turn_124 Q K41 x2 x3 x4 σ) else (w3_isKnown x4 σ (fun r3 s3 => if r3 = 0 then (vp_in x4 9 ∧ (∀ v4 : Int32, v4 = ((x5 + (1 : Int32)) * (gA s3 42 x4.toNatClampNeg)) → vp_in v4 6561 ∧ (if (gA s3 33 v4.toNatClampNeg) ≤ 0 then (w3_turn_118 Q K41 K55 x2 x3 x4 x5 s3) else (vp_in v4 6561 ∧ (if (gA s3 35 v4.toNatClampNeg) = ((1 : Int32) - x2) then (if x3 = 0 then (Q x4 s3) else (Q x5 s3)) else (w3_turn_118 Q K41 K55 x2 x3 x4 x5 s3)))))) else (w3_turn_124 Q K41 x2 x3 x4 s3)))
set_option maxHeartbeats 4000000 in
theorem B3_turn_55 {l : Launch} {p : Program} {e : Env} {s : State} {m : MethodId} {args : Array Value} {below : List Frame} {meth : Method} {c : Code} {G : mm_G} {Q : Int32 → MS → Prop} {K41 : Int32 → Int32 → Int32 → MS → Prop} {K55 : Int32 → Int32 → Int32 → Int32 → MS → Prop} (cx : mm_X cX3_turn 7 (some .int) G p s m args meth c) (hK41 : ∀ (x2 : Int32) (x3 : Int32) (x4 : Int32) (σ : MS), K41 x2 x3 x4 σ → mm_T p l e ({ frames := 3, cells := 0, slots := 0, locals := 120 } : Room) s m args below meth c G (mm_Qi G Q) 7 41 σ [(0, .ref (mm_o G)), (2, .int x2), (3, .int x3), (4, .int x4)] []) (hK55 : ∀ (x2 : Int32) (x3 : Int32) (x4 : Int32) (x5 : Int32) (σ : MS), K55 x2 x3 x4 x5 σ → mm_T p l e ({ frames := 3, cells := 0, slots := 0, locals := 120 } : Room) s m args below meth c G (mm_Qi G Q) 7 55 σ [(0, .ref (mm_o G)), (2, .int x2), (3, .int x3), (4, .int x4), (5, .int x5)] []) : ∀ (x2 : Int32) (x3 : Int32) (x4 : Int32) (x5 : Int32) (σ : MS), w3_turn_55 Q K41 K55 x2 x3 x4 x5 σ → mm_T p l e ({ frames := 3, cells := 0, slots := 0, locals := 120 } : Room) s m args below meth c G (mm_Qi G Q) 7 55 σ [(0, .ref (mm_o G)), (2, .int x2), (3, .int x3), (4, .int x4), (5, .int x5)] [] := by
  intro x2 x3 x4 x5 σ hw H locs ls hM hS hl
  unfold w3_turn_55 at hw
  obtain ⟨hx, hb, hml, hown, hts, hr, hlk, hMK, hZ⟩ := id cx
  refine lv_iload hx hb dX3_turn_55 (lv_at hl 4 rfl) ?_
  refine lv_iconst (v := (2 : Int32)) hx hb dX3_turn_57 (by decide) ?_
  refine lv_icmp_ge (tgt := 124) hx hb dX3_turn_58 (by decide) (fun hc => ?_) (fun hc => ?_)
  · have hw := mm_ip hc hw
    exact B3_turn_124 cx hK41 _ _ _ _ hw _ _ _ hM hS (lv_sub hl [0, 1, 2, 3] rfl)
  · have hw := mm_in hc hw
    refine lv_aload_n hx hb dX3_turn_61 rfl (lv_at hl 0 rfl) ?_
    refine lv_iload hx hb dX3_turn_62 (lv_at hl 3 rfl) ?_
    refine C3_isKnown cx hM hS hw ⟨Nat.le_of_ble_eq_true rfl, Nat.le_of_ble_eq_true rfl⟩ (Nat.le_of_ble_eq_true rfl) hl.1 ⟨Nat.zero_le _, Nat.zero_le _⟩ dX3_turn_64 (fun r3 s3 H locs hw hM hS => ?_)
    refine lv_if_ne (tgt := 124) hx hb dX3_turn_67 (by decide) (fun hc => ?_) (fun hc => ?_)
    · have hw := mm_in hc hw
      exact B3_turn_124 cx hK41 _ _ _ _ hw _ _ _ hM hS (lv_sub hl [0, 1, 2, 3] rfl)
    · have hw := mm_ip hc hw
      refine lv_iload hx hb dX3_turn_70 (lv_at hl 4 rfl) ?_
      refine lv_iconst (v := (1 : Int32)) hx hb dX3_turn_72 (by decide) ?_
      refine lv_iadd hx hb dX3_turn_73 ?_
      refine mm_thr cx hS dX3_turn_74 ?_
      refine lv_iload hx hb dX3_turn_77 (lv_at hl 3 rfl) ?_
      obtain ⟨hi, hw⟩ := hw
      refine mm_iald cx hM 42 rfl rfl hi dX3_turn_79 ?_
      refine lv_imul hx hb dX3_turn_80 ?_
      refine lv_topi (fun v4 hv4 => ?_)
      have hw := hw v4 hv4
      refine lv_istore (lv' := [(6, .int v4), (0, .ref (mm_o G)), (2, .int x2), (3, .int x3), (4, .int x4), (5, .int x5)]) hx hb dX3_turn_81 hl (by decide) rfl (fun ls hl => ?_)
      refine lv_aload_n hx hb dX3_turn_83 rfl (lv_at hl 1 rfl) ?_
      refine mg_33 cx hM dX3_turn_84 ?_
      refine lv_iload hx hb dX3_turn_87 (lv_at hl 0 rfl) ?_
      obtain ⟨hi, hw⟩ := hw
      refine mm_iald cx hM 33 rfl rfl hi dX3_turn_89 ?_
      refine lv_if_le (tgt := 118) hx hb dX3_turn_90 (by decide) (fun hc => ?_) (fun hc => ?_)
      · have hw := mm_ip hc hw
        exact B3_turn_118 cx hK41 hK55 _ _ _ _ _ hw _ _ _ hM hS (lv_sub hl [1, 2, 3, 4, 5] rfl)
      · have hw := mm_in hc hw
        refine lv_aload_n hx hb dX3_turn_93 rfl (lv_at hl 1 rfl) ?_
        refine mg_35 cx hM dX3_turn_94 ?_
        refine lv_iload hx hb dX3_turn_97 (lv_at hl 0 rfl) ?_
        obtain ⟨hi, hw⟩ := hw
        refine mm_iald cx hM 35 rfl rfl hi dX3_turn_99 ?_
        refine lv_iconst (v := (1 : Int32)) hx hb dX3_turn_100 (by decide) ?_
        refine lv_iload_n hx hb dX3_turn_101 rfl (lv_at hl 2 rfl) ?_
        refine lv_isub hx hb dX3_turn_102 ?_
        refine lv_icmp_ne (tgt := 118) hx hb dX3_turn_103 (by decide) (fun hc => ?_) (fun hc => ?_)
        · have hw := mm_in hc hw
          exact B3_turn_118 cx hK41 hK55 _ _ _ _ _ hw _ _ _ hM hS (lv_sub hl [1, 2, 3, 4, 5] rfl)
        · have hw := mm_ip hc hw
          refine lv_iload_n hx hb dX3_turn_106 rfl (lv_at hl 3 rfl) ?_
          refine lv_if_ne (tgt := 115) hx hb dX3_turn_107 (by decide) (fun hc => ?_) (fun hc => ?_)
          · have hw := mm_in hc hw
            refine lv_iload hx hb dX3_turn_115 (lv_at hl 5 rfl) ?_
            exact mm_iret cx hM hS hw dX3_turn_117
          · have hw := mm_ip hc hw
            refine lv_iload hx hb dX3_turn_110 (lv_at hl 4 rfl) ?_
            refine lv_goto (tgt := 117) hx hb dX3_turn_112 (by decide) ?_
            exact mm_iret cx hM hS hw dX3_turn_117
theorem L3_turn_55 {l : Launch} {p : Program} {e : Env} {s : State} {m : MethodId} {args : Array Value} {below : List Frame} {meth : Method} {c : Code} {G : mm_G} {Q : Int32 → MS → Prop} {K41 : Int32 → Int32 → Int32 → MS → Prop} (cx : mm_X cX3_turn 7 (some .int) G p s m args meth c) (hK41 : ∀ (x2 : Int32) (x3 : Int32) (x4 : Int32) (σ : MS), K41 x2 x3 x4 σ → mm_T p l e ({ frames := 3, cells := 0, slots := 0, locals := 120 } : Room) s m args below meth c G (mm_Qi G Q) 7 41 σ [(0, .ref (mm_o G)), (2, .int x2), (3, .int x3), (4, .int x4)] []) : ∀ (x2 : Int32) (x3 : Int32) (x4 : Int32) (x5 : Int32) (σ : MS), lp5F (w3_turn_55 Q K41) x2 x3 x4 x5 σ → mm_T p l e ({ frames := 3, cells := 0, slots := 0, locals := 120 } : Room) s m args below meth c G (mm_Qi G Q) 7 55 σ [(0, .ref (mm_o G)), (2, .int x2), (3, .int x3), (4, .int x4), (5, .int x5)] [] :=
  lp5F_of (fun K hK => B3_turn_55 cx hK41 hK)
def w3_turn_41 (Q : Int32 → MS → Prop) (K41 : Int32 → Int32 → Int32 → MS → Prop) (x2 : Int32) (x3 : Int32) (x4 : Int32) (σ : MS) : Prop :=
  if (gA σ 0 1) ≤ x4 then (Q (-2 : Int32) σ) else (lp5F (w3_turn_55 Q K41) x2 x3 x4 (0 : Int32) σ)
set_option maxHeartbeats 4000000 in
theorem B3_turn_41 {l : Launch} {p : Program} {e : Env} {s : State} {m : MethodId} {args : Array Value} {below : List Frame} {meth : Method} {c : Code} {G : mm_G} {Q : Int32 → MS → Prop} {K41 : Int32 → Int32 → Int32 → MS → Prop} (cx : mm_X cX3_turn 7 (some .int) G p s m args meth c) (hK41 : ∀ (x2 : Int32) (x3 : Int32) (x4 : Int32) (σ : MS), K41 x2 x3 x4 σ → mm_T p l e ({ frames := 3, cells := 0, slots := 0, locals := 120 } : Room) s m args below meth c G (mm_Qi G Q) 7 41 σ [(0, .ref (mm_o G)), (2, .int x2), (3, .int x3), (4, .int x4)] []) : ∀ (x2 : Int32) (x3 : Int32) (x4 : Int32) (σ : MS), w3_turn_41 Q K41 x2 x3 x4 σ → mm_T p l e ({ frames := 3, cells := 0, slots := 0, locals := 120 } : Room) s m args below meth c G (mm_Qi G Q) 7 41 σ [(0, .ref (mm_o G)), (2, .int x2), (3, .int x3), (4, .int x4)] [] := by
  intro x2 x3 x4 σ hw H locs ls hM hS hl
  unfold w3_turn_41 at hw
  obtain ⟨hx, hb, hml, hown, hts, hr, hlk, hMK, hZ⟩ := id cx
  refine lv_iload hx hb dX3_turn_41 (lv_at hl 3 rfl) ?_
  refine lv_aload_n hx hb dX3_turn_43 rfl (lv_at hl 0 rfl) ?_
  refine mg_0 cx hM dX3_turn_44 ?_
  refine lv_iconst (v := (1 : Int32)) hx hb dX3_turn_47 (by decide) ?_
  refine mm_iald cx hM 0 rfl (j := 1) (by decide) (vp_lit (by decide)) dX3_turn_48 ?_
  refine lv_icmp_ge (tgt := 130) hx hb dX3_turn_49 (by decide) (fun hc => ?_) (fun hc => ?_)
  · have hw := mm_ip hc hw
    refine lv_bipush (v := (-2 : Int32)) hx hb dX3_turn_130 (by decide) ?_
    exact mm_iret cx hM hS hw dX3_turn_132
  · have hw := mm_in hc hw
    refine lv_iconst (v := (0 : Int32)) hx hb dX3_turn_52 (by decide) ?_
    refine lv_istore (lv' := [(5, .int (0 : Int32)), (0, .ref (mm_o G)), (2, .int x2), (3, .int x3), (4, .int x4)]) hx hb dX3_turn_53 hl (by decide) rfl (fun ls hl => ?_)
    exact L3_turn_55 cx hK41 _ _ _ _ _ hw _ _ _ hM hS (lv_sub hl [1, 2, 3, 4, 0] rfl)
theorem L3_turn_41 {l : Launch} {p : Program} {e : Env} {s : State} {m : MethodId} {args : Array Value} {below : List Frame} {meth : Method} {c : Code} {G : mm_G} {Q : Int32 → MS → Prop} (cx : mm_X cX3_turn 7 (some .int) G p s m args meth c) : ∀ (x2 : Int32) (x3 : Int32) (x4 : Int32) (σ : MS), lp4F (w3_turn_41 Q) x2 x3 x4 σ → mm_T p l e ({ frames := 3, cells := 0, slots := 0, locals := 120 } : Room) s m args below meth c G (mm_Qi G Q) 7 41 σ [(0, .ref (mm_o G)), (2, .int x2), (3, .int x3), (4, .int x4)] [] :=
  lp4F_of (fun K hK => B3_turn_41 cx hK)
def w3_turn (x1 : Int32) (x2 : Int32) (x3 : Int32) (σ : MS) (Q : Int32 → MS → Prop) : Prop :=
  w3_isCount x1 σ (fun r5 s5 => if r5 = 0 then (Q (-1 : Int32) s5) else (w3_in x2 (0 : Int32) (1 : Int32) s5 (fun r6 s6 => if r6 = 0 then (Q (-1 : Int32) s6) else (w3_in x3 (0 : Int32) (1 : Int32) s6 (fun r7 s7 => if r7 = 0 then (Q (-1 : Int32) s7) else (w3_laysWays x1 s7 (fun s8 => w3_laysDuel x2 s8 (fun s9 => lp4F (w3_turn_41 Q) x2 x3 (0 : Int32) s9))))))))
set_option maxHeartbeats 4000000 in
theorem M3_turn (l : Launch) (G : mm_G) (x1 : Int32) (x2 : Int32) (x3 : Int32) (σ : MS) (Q : Int32 → MS → Prop) (hw : w3_turn x1 x2 x3 σ Q) : mm_Mi l yX3_turn (ws_ yX3_turn cX3_turn 7 (some .int)) ({ frames := 3, cells := 0, slots := 0, locals := 120 } : Room) G [.ref (mm_o G), .int x1, .int x2, .int x3] σ Q := by
  refine mm_of (by decide) rfl ?_
  intro p e s m args below meth c cx hM ha
  refine mm_entry [.ref (mm_o G), .int x1, .int x2, .int x3] 7 [(0, .ref (mm_o G)), (1, .int x1), (2, .int x2), (3, .int x3)] ha (Nat.le_of_ble_eq_true rfl) rfl (fun ls hl => ?_)
  have hS : va_S (mm_A G) s.heap s.heap [] := va_S.rf
  unfold w3_turn at hw
  obtain ⟨hx, hb, hml, hown, hts, hr, hlk, hMK, hZ⟩ := id cx
  refine lv_aload_n hx hb dX3_turn_0 rfl (lv_at hl 0 rfl) ?_
  refine lv_iload_n hx hb dX3_turn_1 rfl (lv_at hl 1 rfl) ?_
  refine C3_isCount cx hM hS hw ⟨Nat.le_of_ble_eq_true rfl, Nat.le_of_ble_eq_true rfl⟩ (Nat.le_of_ble_eq_true rfl) hl.1 ⟨Nat.zero_le _, Nat.zero_le _⟩ dX3_turn_2 (fun r5 s5 H locs hw hM hS => ?_)
  refine lv_if_eq (tgt := 26) hx hb dX3_turn_5 (by decide) (fun hc => ?_) (fun hc => ?_)
  · have hw := mm_ip hc hw
    refine lv_iconst (v := (-1 : Int32)) hx hb dX3_turn_26 (by decide) ?_
    exact mm_iret cx hM hS hw dX3_turn_27
  · have hw := mm_in hc hw
    refine lv_iload_n hx hb dX3_turn_8 rfl (lv_at hl 2 rfl) ?_
    refine lv_iconst (v := (0 : Int32)) hx hb dX3_turn_9 (by decide) ?_
    refine lv_iconst (v := (1 : Int32)) hx hb dX3_turn_10 (by decide) ?_
    refine C3_in cx hM hS hw ⟨Nat.le_of_ble_eq_true rfl, Nat.le_of_ble_eq_true rfl⟩ (Nat.le_of_ble_eq_true rfl) hl.1 ⟨Nat.zero_le _, Nat.zero_le _⟩ dX3_turn_11 (fun r6 s6 H locs hw hM hS => ?_)
    refine lv_if_eq (tgt := 26) hx hb dX3_turn_14 (by decide) (fun hc => ?_) (fun hc => ?_)
    · have hw := mm_ip hc hw
      refine lv_iconst (v := (-1 : Int32)) hx hb dX3_turn_26 (by decide) ?_
      exact mm_iret cx hM hS hw dX3_turn_27
    · have hw := mm_in hc hw
      refine lv_iload_n hx hb dX3_turn_17 rfl (lv_at hl 3 rfl) ?_
      refine lv_iconst (v := (0 : Int32)) hx hb dX3_turn_18 (by decide) ?_
      refine lv_iconst (v := (1 : Int32)) hx hb dX3_turn_19 (by decide) ?_
      refine C3_in cx hM hS hw ⟨Nat.le_of_ble_eq_true rfl, Nat.le_of_ble_eq_true rfl⟩ (Nat.le_of_ble_eq_true rfl) hl.1 ⟨Nat.zero_le _, Nat.zero_le _⟩ dX3_turn_20 (fun r7 s7 H locs hw hM hS => ?_)
      refine lv_if_ne (tgt := 28) hx hb dX3_turn_23 (by decide) (fun hc => ?_) (fun hc => ?_)
      · have hw := mm_in hc hw
        refine lv_aload_n hx hb dX3_turn_28 rfl (lv_at hl 0 rfl) ?_
        refine lv_iload_n hx hb dX3_turn_29 rfl (lv_at hl 1 rfl) ?_
        refine C3_laysWays cx hM hS hw ⟨Nat.le_of_ble_eq_true rfl, Nat.le_of_ble_eq_true rfl⟩ (Nat.le_of_ble_eq_true rfl) hl.1 ⟨Nat.zero_le _, Nat.zero_le _⟩ dX3_turn_30 (fun s8 H locs hw hM hS => ?_)
        refine lv_aload_n hx hb dX3_turn_33 rfl (lv_at hl 0 rfl) ?_
        refine lv_iload_n hx hb dX3_turn_34 rfl (lv_at hl 2 rfl) ?_
        refine C3_laysDuel cx hM hS hw ⟨Nat.le_of_ble_eq_true rfl, Nat.le_of_ble_eq_true rfl⟩ (Nat.le_of_ble_eq_true rfl) hl.1 ⟨Nat.zero_le _, Nat.zero_le _⟩ dX3_turn_35 (fun s9 H locs hw hM hS => ?_)
        refine lv_iconst (v := (0 : Int32)) hx hb dX3_turn_38 (by decide) ?_
        refine lv_istore (lv' := [(4, .int (0 : Int32)), (0, .ref (mm_o G)), (1, .int x1), (2, .int x2), (3, .int x3)]) hx hb dX3_turn_39 hl (by decide) rfl (fun ls hl => ?_)
        exact L3_turn_41 cx _ _ _ _ hw _ _ _ hM hS (lv_sub hl [1, 3, 4, 0] rfl)
      · have hw := mm_ip hc hw
        refine lv_iconst (v := (-1 : Int32)) hx hb dX3_turn_26 (by decide) ?_
        exact mm_iret cx hM hS hw dX3_turn_27
-- no call of turn
def w3_wayOf_42 (Q : Int32 → MS → Prop) (K4 : Int32 → Int32 → Int32 → Int32 → MS → Prop) (x0 : Int32) (x1 : Int32) (x3 : Int32) (t0 : Int32) (t1 : Int32) (σ : MS) : Prop :=
  ∀ v1 : Int32, v1 = (t0 + t1) → ∀ v2 : Int32, v2 = x3 + (1 : Int32) → K4 x0 x1 v1 v2 σ
set_option maxHeartbeats 4000000 in
theorem B3_wayOf_42 {l : Launch} {p : Program} {e : Env} {s : State} {m : MethodId} {args : Array Value} {below : List Frame} {meth : Method} {c : Code} {G : mm_G} {Q : Int32 → MS → Prop} {K4 : Int32 → Int32 → Int32 → Int32 → MS → Prop} (cx : mm_X cX3_wayOf 4 (some .int) G p s m args meth c) (hK4 : ∀ (x0 : Int32) (x1 : Int32) (x2 : Int32) (x3 : Int32) (σ : MS), K4 x0 x1 x2 x3 σ → mm_T p l e ({ frames := 1, cells := 0, slots := 0, locals := 40 } : Room) s m args below meth c G (mm_Qi G Q) 4 4 σ [(0, .int x0), (1, .int x1), (2, .int x2), (3, .int x3)] []) : ∀ (x0 : Int32) (x1 : Int32) (x3 : Int32) (t0 : Int32) (t1 : Int32) (σ : MS), w3_wayOf_42 Q K4 x0 x1 x3 t0 t1 σ → mm_T p l e ({ frames := 1, cells := 0, slots := 0, locals := 40 } : Room) s m args below meth c G (mm_Qi G Q) 4 42 σ [(0, .int x0), (1, .int x1), (3, .int x3)] [.int t1, .int t0] := by
  intro x0 x1 x3 t0 t1 σ hw H locs ls hM hS hl
  unfold w3_wayOf_42 at hw
  obtain ⟨hx, hb, hml, hown, hts, hr, hlk, hMK, hZ⟩ := id cx
  refine lv_iadd hx hb dX3_wayOf_42 ?_
  refine lv_topi (fun v1 hv1 => ?_)
  have hw := hw v1 hv1
  refine lv_istore_n (lv' := [(2, .int v1), (0, .int x0), (1, .int x1), (3, .int x3)]) hx hb dX3_wayOf_43 rfl hl (by decide) rfl (fun ls hl => ?_)
  obtain ⟨v2, hv2⟩ : ∃ v : Int32, v = x3 + (1 : Int32) := ⟨_, rfl⟩
  have hw := hw v2 hv2
  refine lv_iinc (v := v2) (lv' := [(3, .int v2), (2, .int v1), (0, .int x0), (1, .int x1)]) hx hb dX3_wayOf_44 hl (k := 3) rfl (by rw [hv2]; rfl) (by decide) rfl (fun ls hl => ?_)
  refine lv_goto (tgt := 4) hx hb dX3_wayOf_47 (by decide) ?_
  exact hK4 _ _ _ _ _ hw _ _ _ hM hS (lv_sub hl [2, 3, 1, 0] rfl)
def w3_wayOf_37 (Q : Int32 → MS → Prop) (K4 : Int32 → Int32 → Int32 → Int32 → MS → Prop) (x0 : Int32) (x1 : Int32) (x3 : Int32) (t0 : Int32) (t1 : Int32) (t2 : Int32) (σ : MS) : Prop :=
  w3_wayOf_42 Q K4 x0 x1 x3 t0 (t1 * t2) σ
set_option maxHeartbeats 4000000 in
theorem B3_wayOf_37 {l : Launch} {p : Program} {e : Env} {s : State} {m : MethodId} {args : Array Value} {below : List Frame} {meth : Method} {c : Code} {G : mm_G} {Q : Int32 → MS → Prop} {K4 : Int32 → Int32 → Int32 → Int32 → MS → Prop} (cx : mm_X cX3_wayOf 4 (some .int) G p s m args meth c) (hK4 : ∀ (x0 : Int32) (x1 : Int32) (x2 : Int32) (x3 : Int32) (σ : MS), K4 x0 x1 x2 x3 σ → mm_T p l e ({ frames := 1, cells := 0, slots := 0, locals := 40 } : Room) s m args below meth c G (mm_Qi G Q) 4 4 σ [(0, .int x0), (1, .int x1), (2, .int x2), (3, .int x3)] []) : ∀ (x0 : Int32) (x1 : Int32) (x3 : Int32) (t0 : Int32) (t1 : Int32) (t2 : Int32) (σ : MS), w3_wayOf_37 Q K4 x0 x1 x3 t0 t1 t2 σ → mm_T p l e ({ frames := 1, cells := 0, slots := 0, locals := 40 } : Room) s m args below meth c G (mm_Qi G Q) 4 37 σ [(0, .int x0), (1, .int x1), (3, .int x3)] [.int t2, .int t1, .int t0] := by
  intro x0 x1 x3 t0 t1 t2 σ hw H locs ls hM hS hl
  unfold w3_wayOf_37 at hw
  obtain ⟨hx, hb, hml, hown, hts, hr, hlk, hMK, hZ⟩ := id cx
  refine lv_imul hx hb dX3_wayOf_37 ?_
  refine lv_goto (tgt := 42) hx hb dX3_wayOf_38 (by decide) ?_
  exact B3_wayOf_42 cx hK4 _ _ _ _ _ _ hw _ _ _ hM hS (lv_sub hl [0, 1, 2] rfl)
def w3_wayOf_4 (Q : Int32 → MS → Prop) (K4 : Int32 → Int32 → Int32 → Int32 → MS → Prop) (x0 : Int32) (x1 : Int32) (x2 : Int32) (x3 : Int32) (σ : MS) : Prop :=
  if (8 : Int32) ≤ x3 then (Q x2 σ) else (w3_has x0 x3 σ (fun r3 s3 => if r3 = 0 then (w3_wayOf_42 Q K4 x0 x1 x3 x2 (0 : Int32) s3) else (vp_in x3 9 ∧ (w3_has x1 x3 s3 (fun r4 s4 => if r4 = 0 then (w3_wayOf_37 Q K4 x0 x1 x3 x2 (gA s3 42 x3.toNatClampNeg) (1 : Int32) s4) else (w3_wayOf_37 Q K4 x0 x1 x3 x2 (gA s3 42 x3.toNatClampNeg) (2 : Int32) s4))))))
set_option maxHeartbeats 4000000 in
theorem B3_wayOf_4 {l : Launch} {p : Program} {e : Env} {s : State} {m : MethodId} {args : Array Value} {below : List Frame} {meth : Method} {c : Code} {G : mm_G} {Q : Int32 → MS → Prop} {K4 : Int32 → Int32 → Int32 → Int32 → MS → Prop} (cx : mm_X cX3_wayOf 4 (some .int) G p s m args meth c) (hK4 : ∀ (x0 : Int32) (x1 : Int32) (x2 : Int32) (x3 : Int32) (σ : MS), K4 x0 x1 x2 x3 σ → mm_T p l e ({ frames := 1, cells := 0, slots := 0, locals := 40 } : Room) s m args below meth c G (mm_Qi G Q) 4 4 σ [(0, .int x0), (1, .int x1), (2, .int x2), (3, .int x3)] []) : ∀ (x0 : Int32) (x1 : Int32) (x2 : Int32) (x3 : Int32) (σ : MS), w3_wayOf_4 Q K4 x0 x1 x2 x3 σ → mm_T p l e ({ frames := 1, cells := 0, slots := 0, locals := 40 } : Room) s m args below meth c G (mm_Qi G Q) 4 4 σ [(0, .int x0), (1, .int x1), (2, .int x2), (3, .int x3)] [] := by
  intro x0 x1 x2 x3 σ hw H locs ls hM hS hl
  unfold w3_wayOf_4 at hw
  obtain ⟨hx, hb, hml, hown, hts, hr, hlk, hMK, hZ⟩ := id cx
  refine lv_iload_n hx hb dX3_wayOf_4 rfl (lv_at hl 3 rfl) ?_
  refine lv_bipush (v := (8 : Int32)) hx hb dX3_wayOf_5 (by decide) ?_
  refine lv_icmp_ge (tgt := 50) hx hb dX3_wayOf_7 (by decide) (fun hc => ?_) (fun hc => ?_)
  · have hw := mm_ip hc hw
    refine lv_iload_n hx hb dX3_wayOf_50 rfl (lv_at hl 2 rfl) ?_
    exact mm_iret cx hM hS hw dX3_wayOf_51
  · have hw := mm_in hc hw
    refine lv_iload_n hx hb dX3_wayOf_10 rfl (lv_at hl 2 rfl) ?_
    refine lv_iload_n hx hb dX3_wayOf_11 rfl (lv_at hl 0 rfl) ?_
    refine lv_iload_n hx hb dX3_wayOf_12 rfl (lv_at hl 3 rfl) ?_
    refine C3_has cx hM hS hw ⟨Nat.le_of_ble_eq_true rfl, Nat.le_of_ble_eq_true rfl⟩ (Nat.le_of_ble_eq_true rfl) hl.1 ⟨Nat.zero_le _, Nat.zero_le _⟩ dX3_wayOf_13 (fun r3 s3 H locs hw hM hS => ?_)
    refine lv_if_eq (tgt := 41) hx hb dX3_wayOf_16 (by decide) (fun hc => ?_) (fun hc => ?_)
    · have hw := mm_ip hc hw
      refine lv_iconst (v := (0 : Int32)) hx hb dX3_wayOf_41 (by decide) ?_
      exact B3_wayOf_42 cx hK4 _ _ _ _ _ _ hw _ _ _ hM hS (lv_sub hl [0, 1, 3] rfl)
    · have hw := mm_in hc hw
      refine mm_thr cx hS dX3_wayOf_19 ?_
      refine lv_iload_n hx hb dX3_wayOf_22 rfl (lv_at hl 3 rfl) ?_
      obtain ⟨hi, hw⟩ := hw
      refine mm_iald cx hM 42 rfl rfl hi dX3_wayOf_23 ?_
      refine lv_iload_n hx hb dX3_wayOf_24 rfl (lv_at hl 1 rfl) ?_
      refine lv_iload_n hx hb dX3_wayOf_25 rfl (lv_at hl 3 rfl) ?_
      refine C3_has cx hM hS hw ⟨Nat.le_of_ble_eq_true rfl, Nat.le_of_ble_eq_true rfl⟩ (Nat.le_of_ble_eq_true rfl) hl.1 ⟨Nat.zero_le _, Nat.zero_le _⟩ dX3_wayOf_26 (fun r4 s4 H locs hw hM hS => ?_)
      refine lv_if_eq (tgt := 36) hx hb dX3_wayOf_29 (by decide) (fun hc => ?_) (fun hc => ?_)
      · have hw := mm_ip hc hw
        refine lv_iconst (v := (1 : Int32)) hx hb dX3_wayOf_36 (by decide) ?_
        exact B3_wayOf_37 cx hK4 _ _ _ _ _ _ _ hw _ _ _ hM hS (lv_sub hl [0, 1, 3] rfl)
      · have hw := mm_in hc hw
        refine lv_iconst (v := (2 : Int32)) hx hb dX3_wayOf_32 (by decide) ?_
        refine lv_goto (tgt := 37) hx hb dX3_wayOf_33 (by decide) ?_
        exact B3_wayOf_37 cx hK4 _ _ _ _ _ _ _ hw _ _ _ hM hS (lv_sub hl [0, 1, 3] rfl)
theorem L3_wayOf_4 {l : Launch} {p : Program} {e : Env} {s : State} {m : MethodId} {args : Array Value} {below : List Frame} {meth : Method} {c : Code} {G : mm_G} {Q : Int32 → MS → Prop} (cx : mm_X cX3_wayOf 4 (some .int) G p s m args meth c) : ∀ (x0 : Int32) (x1 : Int32) (x2 : Int32) (x3 : Int32) (σ : MS), lp5F (w3_wayOf_4 Q) x0 x1 x2 x3 σ → mm_T p l e ({ frames := 1, cells := 0, slots := 0, locals := 40 } : Room) s m args below meth c G (mm_Qi G Q) 4 4 σ [(0, .int x0), (1, .int x1), (2, .int x2), (3, .int x3)] [] :=
  lp5F_of (fun K hK => B3_wayOf_4 cx hK)
def w3_wayOf (x0 : Int32) (x1 : Int32) (σ : MS) (Q : Int32 → MS → Prop) : Prop :=
  lp5F (w3_wayOf_4 Q) x0 x1 (0 : Int32) (0 : Int32) σ
set_option maxHeartbeats 4000000 in
theorem M3_wayOf (l : Launch) (G : mm_G) (x0 : Int32) (x1 : Int32) (σ : MS) (Q : Int32 → MS → Prop) (hw : w3_wayOf x0 x1 σ Q) : mm_Mi l yX3_wayOf (ws_ yX3_wayOf cX3_wayOf 4 (some .int)) ({ frames := 1, cells := 0, slots := 0, locals := 40 } : Room) G [.int x0, .int x1] σ Q := by
  refine mm_of (by decide) rfl ?_
  intro p e s m args below meth c cx hM ha
  refine mm_entry [.int x0, .int x1] 4 [(0, .int x0), (1, .int x1)] ha (Nat.le_of_ble_eq_true rfl) rfl (fun ls hl => ?_)
  have hS : va_S (mm_A G) s.heap s.heap [] := va_S.rf
  unfold w3_wayOf at hw
  obtain ⟨hx, hb, hml, hown, hts, hr, hlk, hMK, hZ⟩ := id cx
  refine lv_iconst (v := (0 : Int32)) hx hb dX3_wayOf_0 (by decide) ?_
  refine lv_istore_n (lv' := [(2, .int (0 : Int32)), (0, .int x0), (1, .int x1)]) hx hb dX3_wayOf_1 rfl hl (by decide) rfl (fun ls hl => ?_)
  refine lv_iconst (v := (0 : Int32)) hx hb dX3_wayOf_2 (by decide) ?_
  refine lv_istore_n (lv' := [(3, .int (0 : Int32)), (2, .int (0 : Int32)), (0, .int x0), (1, .int x1)]) hx hb dX3_wayOf_3 rfl hl (by decide) rfl (fun ls hl => ?_)
  exact L3_wayOf_4 cx _ _ _ _ _ hw _ _ _ hM hS (lv_sub hl [2, 3, 1, 0] rfl)
theorem C3_wayOf {l : Launch} {p : Program} {e : Env} {R : Room} {s : State} {m : MethodId} {args : Array Value} {below : List Frame} {meth : Method} {c : Code} {H : Heap} {locs : List Loc} {cells slots : Nat} {Qz : State → Prop} {cc : ByteArray} {nL : Nat} {ret : Option FieldType} {G : mm_G} {pc : Nat} {ls : Array Slot} {rest : List Value} {x0 : Int32} {x1 : Int32} {σ : MS} (cx : mm_X cc nL ret G p s m args meth c) (hM : mm_R G σ H) (hS0 : va_S (mm_A G) s.heap H locs) {Qf : Int32 → MS → Prop} (hw : w3_wayOf x0 x1 σ Qf) (hR : (({ frames := 1, cells := 0, slots := 0, locals := 40 } : Room)).frames + 1 ≤ R.frames ∧ 8 + (4 + 11) + (({ frames := 1, cells := 0, slots := 0, locals := 40 } : Room)).locals ≤ R.locals) (hroom : (rest.map fun v => v.category).sum ≤ 8) (hsize : ls.size = nL) (hf : cells ≤ R.cells ∧ slots ≤ R.slots) (hdg : decode cc pc = .ok (.invokestatic 456, 3))
    (kk : ∀ (r : Int32) (σ1 : MS) (H1 : Heap) (locs1 : List Loc), Qf r σ1 → mm_R G σ1 H1 → va_S (mm_A G) s.heap H1 locs1 → W p l e R s m args below meth c H1 locs1 cells slots Qz (F0 m (pc + 3) ls (.int r :: rest))) : W p l e R s m args below meth c H locs cells slots Qz (F0 m pc ls (.int x1 :: .int x0 :: rest)) := by
  obtain ⟨hx, hb, hml, hown, hts, hr, hlk, hK, hZ⟩ := id cx
  exact mm_Si cx hM hS0 (As := [.int x0, .int x1]) (M3_wayOf l G x0 x1 σ Qf hw) (va_cwS 2 hts (lw_S q2985 q2986 q172 q2987) rfl rfl rfl (by decide +kernel) hR) rfl hsize rfl hroom hf hdg kk
def w3_isProved (x1 : Int32) (x2 : Int32) (σ : MS) (Q : Int32 → MS → Prop) : Prop :=
  if x2 = 0 then (vp_in x1 6561 ∧ (if (gA σ 34 x1.toNatClampNeg) = 0 then (Q (1 : Int32) σ) else (Q (0 : Int32) σ))) else (vp_in x1 6561 ∧ (vp_in x1 6561 ∧ (if (gA σ 34 x1.toNatClampNeg) = (gA σ 33 x1.toNatClampNeg) then (Q (1 : Int32) σ) else (Q (0 : Int32) σ))))
set_option maxHeartbeats 4000000 in
theorem M3_isProved (l : Launch) (G : mm_G) (x1 : Int32) (x2 : Int32) (σ : MS) (Q : Int32 → MS → Prop) (hw : w3_isProved x1 x2 σ Q) : mm_Mi l yX3_isProved (ws_ yX3_isProved cX3_isProved 3 (some .boolean)) ({ frames := 0, cells := 0, slots := 0, locals := 0 } : Room) G [.ref (mm_o G), .int x1, .int x2] σ Q := by
  refine mm_of (by decide) rfl ?_
  intro p e s m args below meth c cx hM ha
  refine mm_entry [.ref (mm_o G), .int x1, .int x2] 3 [(0, .ref (mm_o G)), (1, .int x1), (2, .int x2)] ha (Nat.le_of_ble_eq_true rfl) rfl (fun ls hl => ?_)
  have hS : va_S (mm_A G) s.heap s.heap [] := va_S.rf
  unfold w3_isProved at hw
  obtain ⟨hx, hb, hml, hown, hts, hr, hlk, hMK, hZ⟩ := id cx
  refine lv_iload_n hx hb dX3_isProved_0 rfl (lv_at hl 2 rfl) ?_
  refine lv_if_eq (tgt := 27) hx hb dX3_isProved_1 (by decide) (fun hc => ?_) (fun hc => ?_)
  · have hw := mm_ip hc hw
    refine lv_aload_n hx hb dX3_isProved_27 rfl (lv_at hl 0 rfl) ?_
    refine mg_34 cx hM dX3_isProved_28 ?_
    refine lv_iload_n hx hb dX3_isProved_31 rfl (lv_at hl 1 rfl) ?_
    obtain ⟨hi, hw⟩ := hw
    refine mm_iald cx hM 34 rfl rfl hi dX3_isProved_32 ?_
    refine lv_if_ne (tgt := 40) hx hb dX3_isProved_33 (by decide) (fun hc => ?_) (fun hc => ?_)
    · have hw := mm_in hc hw
      refine lv_iconst (v := (0 : Int32)) hx hb dX3_isProved_40 (by decide) ?_
      exact mm_zret cx hM hS (Or.inl rfl) hw dX3_isProved_41
    · have hw := mm_ip hc hw
      refine lv_iconst (v := (1 : Int32)) hx hb dX3_isProved_36 (by decide) ?_
      refine lv_goto (tgt := 41) hx hb dX3_isProved_37 (by decide) ?_
      exact mm_zret cx hM hS (Or.inr rfl) hw dX3_isProved_41
  · have hw := mm_in hc hw
    refine lv_aload_n hx hb dX3_isProved_4 rfl (lv_at hl 0 rfl) ?_
    refine mg_34 cx hM dX3_isProved_5 ?_
    refine lv_iload_n hx hb dX3_isProved_8 rfl (lv_at hl 1 rfl) ?_
    obtain ⟨hi, hw⟩ := hw
    refine mm_iald cx hM 34 rfl rfl hi dX3_isProved_9 ?_
    refine lv_aload_n hx hb dX3_isProved_10 rfl (lv_at hl 0 rfl) ?_
    refine mg_33 cx hM dX3_isProved_11 ?_
    refine lv_iload_n hx hb dX3_isProved_14 rfl (lv_at hl 1 rfl) ?_
    obtain ⟨hi, hw⟩ := hw
    refine mm_iald cx hM 33 rfl rfl hi dX3_isProved_15 ?_
    refine lv_icmp_ne (tgt := 23) hx hb dX3_isProved_16 (by decide) (fun hc => ?_) (fun hc => ?_)
    · have hw := mm_in hc hw
      refine lv_iconst (v := (0 : Int32)) hx hb dX3_isProved_23 (by decide) ?_
      refine lv_goto (tgt := 41) hx hb dX3_isProved_24 (by decide) ?_
      exact mm_zret cx hM hS (Or.inl rfl) hw dX3_isProved_41
    · have hw := mm_ip hc hw
      refine lv_iconst (v := (1 : Int32)) hx hb dX3_isProved_19 (by decide) ?_
      refine lv_goto (tgt := 41) hx hb dX3_isProved_20 (by decide) ?_
      exact mm_zret cx hM hS (Or.inr rfl) hw dX3_isProved_41
theorem C3_isProved {l : Launch} {p : Program} {e : Env} {R : Room} {s : State} {m : MethodId} {args : Array Value} {below : List Frame} {meth : Method} {c : Code} {H : Heap} {locs : List Loc} {cells slots : Nat} {Qz : State → Prop} {cc : ByteArray} {nL : Nat} {ret : Option FieldType} {G : mm_G} {pc : Nat} {ls : Array Slot} {rest : List Value} {x1 : Int32} {x2 : Int32} {σ : MS} (cx : mm_X cc nL ret G p s m args meth c) (hM : mm_R G σ H) (hS0 : va_S (mm_A G) s.heap H locs) {Qf : Int32 → MS → Prop} (hw : w3_isProved x1 x2 σ Qf) (hR : (({ frames := 0, cells := 0, slots := 0, locals := 0 } : Room)).frames + 1 ≤ R.frames ∧ 8 + (3 + 11) + (({ frames := 0, cells := 0, slots := 0, locals := 0 } : Room)).locals ≤ R.locals) (hroom : (rest.map fun v => v.category).sum ≤ 8) (hsize : ls.size = nL) (hf : cells ≤ R.cells ∧ slots ≤ R.slots) (hdg : decode cc pc = .ok (.invokevirtual 459, 3))
    (kk : ∀ (r : Int32) (σ1 : MS) (H1 : Heap) (locs1 : List Loc), Qf r σ1 → mm_R G σ1 H1 → va_S (mm_A G) s.heap H1 locs1 → W p l e R s m args below meth c H1 locs1 cells slots Qz (F0 m (pc + 3) ls (.int r :: rest))) : W p l e R s m args below meth c H locs cells slots Qz (F0 m pc ls (.int x2 :: .int x1 :: .ref (mm_o G) :: rest)) := by
  obtain ⟨hx, hb, hml, hown, hts, hr, hlk, hK, hZ⟩ := id cx
  exact mm_Vi cx hM hS0 (As := [.int x1, .int x2]) (M3_isProved l G x1 x2 σ Qf hw) (cwV 2 hts (lw_V q2988 q2990 qs148 q172 q2991) rfl rfl rfl (by decide +kernel) hR) rfl hsize rfl hroom hf hdg kk
def w3_isProof_81 (Q : Int32 → MS → Prop) (K32 : Int32 → Int32 → Int32 → Int32 → MS → Prop) (x1 : Int32) (x2 : Int32) (x3 : Int32) (x5 : Int32) (σ : MS) : Prop :=
  ∀ v1 : Int32, v1 = x5 + (1 : Int32) → K32 x1 x2 x3 v1 σ
set_option maxHeartbeats 4000000 in
theorem B3_isProof_81 {l : Launch} {p : Program} {e : Env} {s : State} {m : MethodId} {args : Array Value} {below : List Frame} {meth : Method} {c : Code} {G : mm_G} {Q : Int32 → MS → Prop} {K32 : Int32 → Int32 → Int32 → Int32 → MS → Prop} (cx : mm_X cX3_isProof 6 (some .boolean) G p s m args meth c) (hK32 : ∀ (x1 : Int32) (x2 : Int32) (x3 : Int32) (x5 : Int32) (σ : MS), K32 x1 x2 x3 x5 σ → mm_T p l e ({ frames := 2, cells := 0, slots := 0, locals := 80 } : Room) s m args below meth c G (mm_Qi G Q) 6 32 σ [(0, .ref (mm_o G)), (1, .int x1), (2, .int x2), (3, .int x3), (5, .int x5)] []) : ∀ (x1 : Int32) (x2 : Int32) (x3 : Int32) (x5 : Int32) (σ : MS), w3_isProof_81 Q K32 x1 x2 x3 x5 σ → mm_T p l e ({ frames := 2, cells := 0, slots := 0, locals := 80 } : Room) s m args below meth c G (mm_Qi G Q) 6 81 σ [(0, .ref (mm_o G)), (1, .int x1), (2, .int x2), (3, .int x3), (5, .int x5)] [] := by
  intro x1 x2 x3 x5 σ hw H locs ls hM hS hl
  unfold w3_isProof_81 at hw
  obtain ⟨hx, hb, hml, hown, hts, hr, hlk, hMK, hZ⟩ := id cx
  obtain ⟨v1, hv1⟩ : ∃ v : Int32, v = x5 + (1 : Int32) := ⟨_, rfl⟩
  have hw := hw v1 hv1
  refine lv_iinc (v := v1) (lv' := [(5, .int v1), (0, .ref (mm_o G)), (1, .int x1), (2, .int x2), (3, .int x3)]) hx hb dX3_isProof_81 hl (k := 4) rfl (by rw [hv1]; rfl) (by decide) rfl (fun ls hl => ?_)
  refine lv_goto (tgt := 32) hx hb dX3_isProof_84 (by decide) ?_
  exact hK32 _ _ _ _ _ hw _ _ _ hM hS (lv_sub hl [1, 2, 3, 4, 0] rfl)
def w3_isProof_32 (Q : Int32 → MS → Prop) (K32 : Int32 → Int32 → Int32 → Int32 → MS → Prop) (x1 : Int32) (x2 : Int32) (x3 : Int32) (x5 : Int32) (σ : MS) : Prop :=
  if (gA σ 0 1) ≤ x5 then (Q (1 : Int32) σ) else (w3_has x1 x5 σ (fun r2 s2 => if r2 = 0 then (w3_isProof_81 Q K32 x1 x2 x3 x5 s2) else (w3_wayOf (x1 &&& (((1 : Int32) <<< (x5 &&& 31)) ^^^ (-1 : Int32))) (x2 &&& (((1 : Int32) <<< (x5 &&& 31)) ^^^ (-1 : Int32))) s2 (fun r3 s3 => w3_isProved r3 x3 s3 (fun r4 s4 => if r4 = 0 then (w3_isProof_81 Q K32 x1 x2 x3 x5 s4) else (Q (0 : Int32) s4))))))
set_option maxHeartbeats 4000000 in
theorem B3_isProof_32 {l : Launch} {p : Program} {e : Env} {s : State} {m : MethodId} {args : Array Value} {below : List Frame} {meth : Method} {c : Code} {G : mm_G} {Q : Int32 → MS → Prop} {K32 : Int32 → Int32 → Int32 → Int32 → MS → Prop} (cx : mm_X cX3_isProof 6 (some .boolean) G p s m args meth c) (hK32 : ∀ (x1 : Int32) (x2 : Int32) (x3 : Int32) (x5 : Int32) (σ : MS), K32 x1 x2 x3 x5 σ → mm_T p l e ({ frames := 2, cells := 0, slots := 0, locals := 80 } : Room) s m args below meth c G (mm_Qi G Q) 6 32 σ [(0, .ref (mm_o G)), (1, .int x1), (2, .int x2), (3, .int x3), (5, .int x5)] []) : ∀ (x1 : Int32) (x2 : Int32) (x3 : Int32) (x5 : Int32) (σ : MS), w3_isProof_32 Q K32 x1 x2 x3 x5 σ → mm_T p l e ({ frames := 2, cells := 0, slots := 0, locals := 80 } : Room) s m args below meth c G (mm_Qi G Q) 6 32 σ [(0, .ref (mm_o G)), (1, .int x1), (2, .int x2), (3, .int x3), (5, .int x5)] [] := by
  intro x1 x2 x3 x5 σ hw H locs ls hM hS hl
  unfold w3_isProof_32 at hw
  obtain ⟨hx, hb, hml, hown, hts, hr, hlk, hMK, hZ⟩ := id cx
  refine lv_iload hx hb dX3_isProof_32 (lv_at hl 4 rfl) ?_
  refine lv_aload_n hx hb dX3_isProof_34 rfl (lv_at hl 0 rfl) ?_
  refine mg_0 cx hM dX3_isProof_35 ?_
  refine lv_iconst (v := (1 : Int32)) hx hb dX3_isProof_38 (by decide) ?_
  refine mm_iald cx hM 0 rfl (j := 1) (by decide) (vp_lit (by decide)) dX3_isProof_39 ?_
  refine lv_icmp_ge (tgt := 87) hx hb dX3_isProof_40 (by decide) (fun hc => ?_) (fun hc => ?_)
  · have hw := mm_ip hc hw
    refine lv_iconst (v := (1 : Int32)) hx hb dX3_isProof_87 (by decide) ?_
    exact mm_zret cx hM hS (Or.inr rfl) hw dX3_isProof_88
  · have hw := mm_in hc hw
    refine lv_iload_n hx hb dX3_isProof_43 rfl (lv_at hl 1 rfl) ?_
    refine lv_iload hx hb dX3_isProof_44 (lv_at hl 4 rfl) ?_
    refine C3_has cx hM hS hw ⟨Nat.le_of_ble_eq_true rfl, Nat.le_of_ble_eq_true rfl⟩ (Nat.le_of_ble_eq_true rfl) hl.1 ⟨Nat.zero_le _, Nat.zero_le _⟩ dX3_isProof_46 (fun r2 s2 H locs hw hM hS => ?_)
    refine lv_if_eq (tgt := 81) hx hb dX3_isProof_49 (by decide) (fun hc => ?_) (fun hc => ?_)
    · have hw := mm_ip hc hw
      exact B3_isProof_81 cx hK32 _ _ _ _ _ hw _ _ _ hM hS (lv_sub hl [0, 1, 2, 3, 4] rfl)
    · have hw := mm_in hc hw
      refine lv_aload_n hx hb dX3_isProof_52 rfl (lv_at hl 0 rfl) ?_
      refine lv_iload_n hx hb dX3_isProof_53 rfl (lv_at hl 1 rfl) ?_
      refine lv_iconst (v := (1 : Int32)) hx hb dX3_isProof_54 (by decide) ?_
      refine lv_iload hx hb dX3_isProof_55 (lv_at hl 4 rfl) ?_
      refine lv_ishl hx hb dX3_isProof_57 ?_
      refine lv_iconst (v := (-1 : Int32)) hx hb dX3_isProof_58 (by decide) ?_
      refine lv_ixor hx hb dX3_isProof_59 ?_
      refine lv_iand hx hb dX3_isProof_60 ?_
      refine lv_iload_n hx hb dX3_isProof_61 rfl (lv_at hl 2 rfl) ?_
      refine lv_iconst (v := (1 : Int32)) hx hb dX3_isProof_62 (by decide) ?_
      refine lv_iload hx hb dX3_isProof_63 (lv_at hl 4 rfl) ?_
      refine lv_ishl hx hb dX3_isProof_65 ?_
      refine lv_iconst (v := (-1 : Int32)) hx hb dX3_isProof_66 (by decide) ?_
      refine lv_ixor hx hb dX3_isProof_67 ?_
      refine lv_iand hx hb dX3_isProof_68 ?_
      refine C3_wayOf cx hM hS hw ⟨Nat.le_of_ble_eq_true rfl, Nat.le_of_ble_eq_true rfl⟩ (Nat.le_of_ble_eq_true rfl) hl.1 ⟨Nat.zero_le _, Nat.zero_le _⟩ dX3_isProof_69 (fun r3 s3 H locs hw hM hS => ?_)
      refine lv_iload_n hx hb dX3_isProof_72 rfl (lv_at hl 3 rfl) ?_
      refine C3_isProved cx hM hS hw ⟨Nat.le_of_ble_eq_true rfl, Nat.le_of_ble_eq_true rfl⟩ (Nat.le_of_ble_eq_true rfl) hl.1 ⟨Nat.zero_le _, Nat.zero_le _⟩ dX3_isProof_73 (fun r4 s4 H locs hw hM hS => ?_)
      refine lv_if_eq (tgt := 81) hx hb dX3_isProof_76 (by decide) (fun hc => ?_) (fun hc => ?_)
      · have hw := mm_ip hc hw
        exact B3_isProof_81 cx hK32 _ _ _ _ _ hw _ _ _ hM hS (lv_sub hl [0, 1, 2, 3, 4] rfl)
      · have hw := mm_in hc hw
        refine lv_iconst (v := (0 : Int32)) hx hb dX3_isProof_79 (by decide) ?_
        exact mm_zret cx hM hS (Or.inl rfl) hw dX3_isProof_80
theorem L3_isProof_32 {l : Launch} {p : Program} {e : Env} {s : State} {m : MethodId} {args : Array Value} {below : List Frame} {meth : Method} {c : Code} {G : mm_G} {Q : Int32 → MS → Prop} (cx : mm_X cX3_isProof 6 (some .boolean) G p s m args meth c) : ∀ (x1 : Int32) (x2 : Int32) (x3 : Int32) (x5 : Int32) (σ : MS), lp5F (w3_isProof_32 Q) x1 x2 x3 x5 σ → mm_T p l e ({ frames := 2, cells := 0, slots := 0, locals := 80 } : Room) s m args below meth c G (mm_Qi G Q) 6 32 σ [(0, .ref (mm_o G)), (1, .int x1), (2, .int x2), (3, .int x3), (5, .int x5)] [] :=
  lp5F_of (fun K hK => B3_isProof_32 cx hK)
def w3_isProof (x1 : Int32) (x2 : Int32) (x3 : Int32) (σ : MS) (Q : Int32 → MS → Prop) : Prop :=
  w3_wayOf x1 x2 σ (fun r5 s5 => vp_in r5 6561 ∧ (if (gA s5 33 r5.toNatClampNeg) = 0 then (Q (0 : Int32) s5) else (w3_isProved r5 x3 s5 (fun r6 s6 => if r6 = 0 then (Q (0 : Int32) s6) else (lp5F (w3_isProof_32 Q) x1 x2 x3 (0 : Int32) s6)))))
set_option maxHeartbeats 4000000 in
theorem M3_isProof (l : Launch) (G : mm_G) (x1 : Int32) (x2 : Int32) (x3 : Int32) (σ : MS) (Q : Int32 → MS → Prop) (hw : w3_isProof x1 x2 x3 σ Q) : mm_Mi l yX3_isProof (ws_ yX3_isProof cX3_isProof 6 (some .boolean)) ({ frames := 2, cells := 0, slots := 0, locals := 80 } : Room) G [.ref (mm_o G), .int x1, .int x2, .int x3] σ Q := by
  refine mm_of (by decide) rfl ?_
  intro p e s m args below meth c cx hM ha
  refine mm_entry [.ref (mm_o G), .int x1, .int x2, .int x3] 6 [(0, .ref (mm_o G)), (1, .int x1), (2, .int x2), (3, .int x3)] ha (Nat.le_of_ble_eq_true rfl) rfl (fun ls hl => ?_)
  have hS : va_S (mm_A G) s.heap s.heap [] := va_S.rf
  unfold w3_isProof at hw
  obtain ⟨hx, hb, hml, hown, hts, hr, hlk, hMK, hZ⟩ := id cx
  refine lv_iload_n hx hb dX3_isProof_0 rfl (lv_at hl 1 rfl) ?_
  refine lv_iload_n hx hb dX3_isProof_1 rfl (lv_at hl 2 rfl) ?_
  refine C3_wayOf cx hM hS hw ⟨Nat.le_of_ble_eq_true rfl, Nat.le_of_ble_eq_true rfl⟩ (Nat.le_of_ble_eq_true rfl) hl.1 ⟨Nat.zero_le _, Nat.zero_le _⟩ dX3_isProof_2 (fun r5 s5 H locs hw hM hS => ?_)
  refine lv_istore (lv' := [(4, .int r5), (0, .ref (mm_o G)), (1, .int x1), (2, .int x2), (3, .int x3)]) hx hb dX3_isProof_5 hl (by decide) rfl (fun ls hl => ?_)
  refine lv_aload_n hx hb dX3_isProof_7 rfl (lv_at hl 1 rfl) ?_
  refine mg_33 cx hM dX3_isProof_8 ?_
  refine lv_iload hx hb dX3_isProof_11 (lv_at hl 0 rfl) ?_
  obtain ⟨hi, hw⟩ := hw
  refine mm_iald cx hM 33 rfl rfl hi dX3_isProof_13 ?_
  refine lv_if_eq (tgt := 27) hx hb dX3_isProof_14 (by decide) (fun hc => ?_) (fun hc => ?_)
  · have hw := mm_ip hc hw
    refine lv_iconst (v := (0 : Int32)) hx hb dX3_isProof_27 (by decide) ?_
    exact mm_zret cx hM hS (Or.inl rfl) hw dX3_isProof_28
  · have hw := mm_in hc hw
    refine lv_aload_n hx hb dX3_isProof_17 rfl (lv_at hl 1 rfl) ?_
    refine lv_iload hx hb dX3_isProof_18 (lv_at hl 0 rfl) ?_
    refine lv_iload_n hx hb dX3_isProof_20 rfl (lv_at hl 4 rfl) ?_
    refine C3_isProved cx hM hS hw ⟨Nat.le_of_ble_eq_true rfl, Nat.le_of_ble_eq_true rfl⟩ (Nat.le_of_ble_eq_true rfl) hl.1 ⟨Nat.zero_le _, Nat.zero_le _⟩ dX3_isProof_21 (fun r6 s6 H locs hw hM hS => ?_)
    refine lv_if_ne (tgt := 29) hx hb dX3_isProof_24 (by decide) (fun hc => ?_) (fun hc => ?_)
    · have hw := mm_in hc hw
      refine lv_iconst (v := (0 : Int32)) hx hb dX3_isProof_29 (by decide) ?_
      refine lv_istore (lv' := [(5, .int (0 : Int32)), (4, .int r5), (0, .ref (mm_o G)), (1, .int x1), (2, .int x2), (3, .int x3)]) hx hb dX3_isProof_30 hl (by decide) rfl (fun ls hl => ?_)
      exact L3_isProof_32 cx _ _ _ _ _ hw _ _ _ hM hS (lv_sub hl [2, 3, 4, 5, 0] rfl)
    · have hw := mm_ip hc hw
      refine lv_iconst (v := (0 : Int32)) hx hb dX3_isProof_27 (by decide) ?_
      exact mm_zret cx hM hS (Or.inl rfl) hw dX3_isProof_28
theorem C3_isProof {l : Launch} {p : Program} {e : Env} {R : Room} {s : State} {m : MethodId} {args : Array Value} {below : List Frame} {meth : Method} {c : Code} {H : Heap} {locs : List Loc} {cells slots : Nat} {Qz : State → Prop} {cc : ByteArray} {nL : Nat} {ret : Option FieldType} {G : mm_G} {pc : Nat} {ls : Array Slot} {rest : List Value} {x1 : Int32} {x2 : Int32} {x3 : Int32} {σ : MS} (cx : mm_X cc nL ret G p s m args meth c) (hM : mm_R G σ H) (hS0 : va_S (mm_A G) s.heap H locs) {Qf : Int32 → MS → Prop} (hw : w3_isProof x1 x2 x3 σ Qf) (hR : (({ frames := 2, cells := 0, slots := 0, locals := 80 } : Room)).frames + 1 ≤ R.frames ∧ 8 + (6 + 11) + (({ frames := 2, cells := 0, slots := 0, locals := 80 } : Room)).locals ≤ R.locals) (hroom : (rest.map fun v => v.category).sum ≤ 8) (hsize : ls.size = nL) (hf : cells ≤ R.cells ∧ slots ≤ R.slots) (hdg : decode cc pc = .ok (.invokevirtual 463, 3))
    (kk : ∀ (r : Int32) (σ1 : MS) (H1 : Heap) (locs1 : List Loc), Qf r σ1 → mm_R G σ1 H1 → va_S (mm_A G) s.heap H1 locs1 → W p l e R s m args below meth c H1 locs1 cells slots Qz (F0 m (pc + 3) ls (.int r :: rest))) : W p l e R s m args below meth c H locs cells slots Qz (F0 m pc ls (.int x3 :: .int x2 :: .int x1 :: .ref (mm_o G) :: rest)) := by
  obtain ⟨hx, hb, hml, hown, hts, hr, hlk, hK, hZ⟩ := id cx
  exact mm_Vi cx hM hS0 (As := [.int x1, .int x2, .int x3]) (M3_isProof l G x1 x2 x3 σ Qf hw) (cwV 3 hts (lw_V q2981 q2983 qs147 q172 q2984) rfl rfl rfl (by decide +kernel) hR) rfl hsize rfl hroom hf hdg kk
def w3_findsProofs_123 (Q : Int32 → MS → Prop) (K11 : Int32 → Int32 → Int32 → Int32 → MS → Prop) (K25 : Int32 → Int32 → Int32 → Int32 → Int32 → MS → Prop) (x2 : Int32) (x3 : Int32) (x4 : Int32) (x5 : Int32) (x6 : Int32) (σ : MS) : Prop :=
  ∀ v1 : Int32, v1 = x6 + (1 : Int32) → K25 x2 x3 x4 x5 v1 σ
set_option maxHeartbeats 4000000 in
theorem B3_findsProofs_123 {l : Launch} {p : Program} {e : Env} {s : State} {m : MethodId} {args : Array Value} {below : List Frame} {meth : Method} {c : Code} {G : mm_G} {Q : Int32 → MS → Prop} {K11 : Int32 → Int32 → Int32 → Int32 → MS → Prop} {K25 : Int32 → Int32 → Int32 → Int32 → Int32 → MS → Prop} (cx : mm_X cX3_findsProofs 8 (some .int) G p s m args meth c) (hK11 : ∀ (x2 : Int32) (x3 : Int32) (x4 : Int32) (x5 : Int32) (σ : MS), K11 x2 x3 x4 x5 σ → mm_T p l e ({ frames := 3, cells := 0, slots := 0, locals := 120 } : Room) s m args below meth c G (mm_Qi G Q) 8 11 σ [(0, .ref (mm_o G)), (2, .int x2), (3, .int x3), (4, .int x4), (5, .int x5)] []) (hK25 : ∀ (x2 : Int32) (x3 : Int32) (x4 : Int32) (x5 : Int32) (x6 : Int32) (σ : MS), K25 x2 x3 x4 x5 x6 σ → mm_T p l e ({ frames := 3, cells := 0, slots := 0, locals := 120 } : Room) s m args below meth c G (mm_Qi G Q) 8 25 σ [(0, .ref (mm_o G)), (2, .int x2), (3, .int x3), (4, .int x4), (5, .int x5), (6, .int x6)] []) : ∀ (x2 : Int32) (x3 : Int32) (x4 : Int32) (x5 : Int32) (x6 : Int32) (σ : MS), w3_findsProofs_123 Q K11 K25 x2 x3 x4 x5 x6 σ → mm_T p l e ({ frames := 3, cells := 0, slots := 0, locals := 120 } : Room) s m args below meth c G (mm_Qi G Q) 8 123 σ [(0, .ref (mm_o G)), (2, .int x2), (3, .int x3), (4, .int x4), (5, .int x5), (6, .int x6)] [] := by
  intro x2 x3 x4 x5 x6 σ hw H locs ls hM hS hl
  unfold w3_findsProofs_123 at hw
  obtain ⟨hx, hb, hml, hown, hts, hr, hlk, hMK, hZ⟩ := id cx
  obtain ⟨v1, hv1⟩ : ∃ v : Int32, v = x6 + (1 : Int32) := ⟨_, rfl⟩
  have hw := hw v1 hv1
  refine lv_iinc (v := v1) (lv' := [(6, .int v1), (0, .ref (mm_o G)), (2, .int x2), (3, .int x3), (4, .int x4), (5, .int x5)]) hx hb dX3_findsProofs_123 hl (k := 5) rfl (by rw [hv1]; rfl) (by decide) rfl (fun ls hl => ?_)
  refine lv_goto (tgt := 25) hx hb dX3_findsProofs_126 (by decide) ?_
  exact hK25 _ _ _ _ _ _ hw _ _ _ hM hS (lv_sub hl [1, 2, 3, 4, 5, 0] rfl)
def w3_findsProofs_117 (Q : Int32 → MS → Prop) (K11 : Int32 → Int32 → Int32 → Int32 → MS → Prop) (K25 : Int32 → Int32 → Int32 → Int32 → Int32 → MS → Prop) (K64 : Int32 → Int32 → Int32 → Int32 → Int32 → Int32 → MS → Prop) (x2 : Int32) (x3 : Int32) (x4 : Int32) (x5 : Int32) (x6 : Int32) (x7 : Int32) (σ : MS) : Prop :=
  ∀ v2 : Int32, v2 = x7 + (1 : Int32) → K64 x2 x3 x4 x5 x6 v2 σ
set_option maxHeartbeats 4000000 in
theorem B3_findsProofs_117 {l : Launch} {p : Program} {e : Env} {s : State} {m : MethodId} {args : Array Value} {below : List Frame} {meth : Method} {c : Code} {G : mm_G} {Q : Int32 → MS → Prop} {K11 : Int32 → Int32 → Int32 → Int32 → MS → Prop} {K25 : Int32 → Int32 → Int32 → Int32 → Int32 → MS → Prop} {K64 : Int32 → Int32 → Int32 → Int32 → Int32 → Int32 → MS → Prop} (cx : mm_X cX3_findsProofs 8 (some .int) G p s m args meth c) (hK11 : ∀ (x2 : Int32) (x3 : Int32) (x4 : Int32) (x5 : Int32) (σ : MS), K11 x2 x3 x4 x5 σ → mm_T p l e ({ frames := 3, cells := 0, slots := 0, locals := 120 } : Room) s m args below meth c G (mm_Qi G Q) 8 11 σ [(0, .ref (mm_o G)), (2, .int x2), (3, .int x3), (4, .int x4), (5, .int x5)] []) (hK25 : ∀ (x2 : Int32) (x3 : Int32) (x4 : Int32) (x5 : Int32) (x6 : Int32) (σ : MS), K25 x2 x3 x4 x5 x6 σ → mm_T p l e ({ frames := 3, cells := 0, slots := 0, locals := 120 } : Room) s m args below meth c G (mm_Qi G Q) 8 25 σ [(0, .ref (mm_o G)), (2, .int x2), (3, .int x3), (4, .int x4), (5, .int x5), (6, .int x6)] []) (hK64 : ∀ (x2 : Int32) (x3 : Int32) (x4 : Int32) (x5 : Int32) (x6 : Int32) (x7 : Int32) (σ : MS), K64 x2 x3 x4 x5 x6 x7 σ → mm_T p l e ({ frames := 3, cells := 0, slots := 0, locals := 120 } : Room) s m args below meth c G (mm_Qi G Q) 8 64 σ [(0, .ref (mm_o G)), (2, .int x2), (3, .int x3), (4, .int x4), (5, .int x5), (6, .int x6), (7, .int x7)] []) : ∀ (x2 : Int32) (x3 : Int32) (x4 : Int32) (x5 : Int32) (x6 : Int32) (x7 : Int32) (σ : MS), w3_findsProofs_117 Q K11 K25 K64 x2 x3 x4 x5 x6 x7 σ → mm_T p l e ({ frames := 3, cells := 0, slots := 0, locals := 120 } : Room) s m args below meth c G (mm_Qi G Q) 8 117 σ [(0, .ref (mm_o G)), (2, .int x2), (3, .int x3), (4, .int x4), (5, .int x5), (6, .int x6), (7, .int x7)] [] := by
  intro x2 x3 x4 x5 x6 x7 σ hw H locs ls hM hS hl
  unfold w3_findsProofs_117 at hw
  obtain ⟨hx, hb, hml, hown, hts, hr, hlk, hMK, hZ⟩ := id cx
  obtain ⟨v2, hv2⟩ : ∃ v : Int32, v = x7 + (1 : Int32) := ⟨_, rfl⟩
  have hw := hw v2 hv2
  refine lv_iinc (v := v2) (lv' := [(7, .int v2), (0, .ref (mm_o G)), (2, .int x2), (3, .int x3), (4, .int x4), (5, .int x5), (6, .int x6)]) hx hb dX3_findsProofs_117 hl (k := 6) rfl (by rw [hv2]; rfl) (by decide) rfl (fun ls hl => ?_)
  refine lv_goto (tgt := 64) hx hb dX3_findsProofs_120 (by decide) ?_
  exact hK64 _ _ _ _ _ _ _ hw _ _ _ hM hS (lv_sub hl [1, 2, 3, 4, 5, 6, 0] rfl)
def w3_findsProofs_114 (Q : Int32 → MS → Prop) (K11 : Int32 → Int32 → Int32 → Int32 → MS → Prop) (K25 : Int32 → Int32 → Int32 → Int32 → Int32 → MS → Prop) (K64 : Int32 → Int32 → Int32 → Int32 → Int32 → Int32 → MS → Prop) (x2 : Int32) (x3 : Int32) (x4 : Int32) (x5 : Int32) (x6 : Int32) (x7 : Int32) (σ : MS) : Prop :=
  ∀ v3 : Int32, v3 = x4 + (1 : Int32) → w3_findsProofs_117 Q K11 K25 K64 x2 x3 v3 x5 x6 x7 σ
set_option maxHeartbeats 4000000 in
theorem B3_findsProofs_114 {l : Launch} {p : Program} {e : Env} {s : State} {m : MethodId} {args : Array Value} {below : List Frame} {meth : Method} {c : Code} {G : mm_G} {Q : Int32 → MS → Prop} {K11 : Int32 → Int32 → Int32 → Int32 → MS → Prop} {K25 : Int32 → Int32 → Int32 → Int32 → Int32 → MS → Prop} {K64 : Int32 → Int32 → Int32 → Int32 → Int32 → Int32 → MS → Prop} (cx : mm_X cX3_findsProofs 8 (some .int) G p s m args meth c) (hK11 : ∀ (x2 : Int32) (x3 : Int32) (x4 : Int32) (x5 : Int32) (σ : MS), K11 x2 x3 x4 x5 σ → mm_T p l e ({ frames := 3, cells := 0, slots := 0, locals := 120 } : Room) s m args below meth c G (mm_Qi G Q) 8 11 σ [(0, .ref (mm_o G)), (2, .int x2), (3, .int x3), (4, .int x4), (5, .int x5)] []) (hK25 : ∀ (x2 : Int32) (x3 : Int32) (x4 : Int32) (x5 : Int32) (x6 : Int32) (σ : MS), K25 x2 x3 x4 x5 x6 σ → mm_T p l e ({ frames := 3, cells := 0, slots := 0, locals := 120 } : Room) s m args below meth c G (mm_Qi G Q) 8 25 σ [(0, .ref (mm_o G)), (2, .int x2), (3, .int x3), (4, .int x4), (5, .int x5), (6, .int x6)] []) (hK64 : ∀ (x2 : Int32) (x3 : Int32) (x4 : Int32) (x5 : Int32) (x6 : Int32) (x7 : Int32) (σ : MS), K64 x2 x3 x4 x5 x6 x7 σ → mm_T p l e ({ frames := 3, cells := 0, slots := 0, locals := 120 } : Room) s m args below meth c G (mm_Qi G Q) 8 64 σ [(0, .ref (mm_o G)), (2, .int x2), (3, .int x3), (4, .int x4), (5, .int x5), (6, .int x6), (7, .int x7)] []) : ∀ (x2 : Int32) (x3 : Int32) (x4 : Int32) (x5 : Int32) (x6 : Int32) (x7 : Int32) (σ : MS), w3_findsProofs_114 Q K11 K25 K64 x2 x3 x4 x5 x6 x7 σ → mm_T p l e ({ frames := 3, cells := 0, slots := 0, locals := 120 } : Room) s m args below meth c G (mm_Qi G Q) 8 114 σ [(0, .ref (mm_o G)), (2, .int x2), (3, .int x3), (4, .int x4), (5, .int x5), (6, .int x6), (7, .int x7)] [] := by
  intro x2 x3 x4 x5 x6 x7 σ hw H locs ls hM hS hl
  unfold w3_findsProofs_114 at hw
  obtain ⟨hx, hb, hml, hown, hts, hr, hlk, hMK, hZ⟩ := id cx
  obtain ⟨v3, hv3⟩ : ∃ v : Int32, v = x4 + (1 : Int32) := ⟨_, rfl⟩
  have hw := hw v3 hv3
  refine lv_iinc (v := v3) (lv' := [(4, .int v3), (0, .ref (mm_o G)), (2, .int x2), (3, .int x3), (5, .int x5), (6, .int x6), (7, .int x7)]) hx hb dX3_findsProofs_114 hl (k := 3) rfl (by rw [hv3]; rfl) (by decide) rfl (fun ls hl => ?_)
  exact B3_findsProofs_117 cx hK11 hK25 hK64 _ _ _ _ _ _ _ hw _ _ _ hM hS (lv_sub hl [1, 2, 3, 0, 4, 5, 6] rfl)
def w3_findsProofs_64 (Q : Int32 → MS → Prop) (K11 : Int32 → Int32 → Int32 → Int32 → MS → Prop) (K25 : Int32 → Int32 → Int32 → Int32 → Int32 → MS → Prop) (K64 : Int32 → Int32 → Int32 → Int32 → Int32 → Int32 → MS → Prop) (x2 : Int32) (x3 : Int32) (x4 : Int32) (x5 : Int32) (x6 : Int32) (x7 : Int32) (σ : MS) : Prop :=
  if x6 < x7 then (w3_findsProofs_123 Q K11 K25 x2 x3 x4 x5 x6 σ) else (if (x7 &&& (x6 ^^^ (-1 : Int32))) = 0 then (w3_isProof x6 x7 x2 σ (fun r4 s4 => if r4 = 0 then (w3_findsProofs_117 Q K11 K25 K64 x2 x3 x4 x5 x6 x7 s4) else (if x4 = x3 then (w3_findsProofs_114 Q K11 K25 K64 x2 x3 x4 x5 x6 x7 (sI (sI s4 31 x6) 32 x7)) else (w3_findsProofs_114 Q K11 K25 K64 x2 x3 x4 x5 x6 x7 s4)))) else (w3_findsProofs_117 Q K11 K25 K64 x2 x3 x4 x5 x6 x7 σ))
set_option maxHeartbeats 4000000 in
theorem B3_findsProofs_64 {l : Launch} {p : Program} {e : Env} {s : State} {m : MethodId} {args : Array Value} {below : List Frame} {meth : Method} {c : Code} {G : mm_G} {Q : Int32 → MS → Prop} {K11 : Int32 → Int32 → Int32 → Int32 → MS → Prop} {K25 : Int32 → Int32 → Int32 → Int32 → Int32 → MS → Prop} {K64 : Int32 → Int32 → Int32 → Int32 → Int32 → Int32 → MS → Prop} (cx : mm_X cX3_findsProofs 8 (some .int) G p s m args meth c) (hK11 : ∀ (x2 : Int32) (x3 : Int32) (x4 : Int32) (x5 : Int32) (σ : MS), K11 x2 x3 x4 x5 σ → mm_T p l e ({ frames := 3, cells := 0, slots := 0, locals := 120 } : Room) s m args below meth c G (mm_Qi G Q) 8 11 σ [(0, .ref (mm_o G)), (2, .int x2), (3, .int x3), (4, .int x4), (5, .int x5)] []) (hK25 : ∀ (x2 : Int32) (x3 : Int32) (x4 : Int32) (x5 : Int32) (x6 : Int32) (σ : MS), K25 x2 x3 x4 x5 x6 σ → mm_T p l e ({ frames := 3, cells := 0, slots := 0, locals := 120 } : Room) s m args below meth c G (mm_Qi G Q) 8 25 σ [(0, .ref (mm_o G)), (2, .int x2), (3, .int x3), (4, .int x4), (5, .int x5), (6, .int x6)] []) (hK64 : ∀ (x2 : Int32) (x3 : Int32) (x4 : Int32) (x5 : Int32) (x6 : Int32) (x7 : Int32) (σ : MS), K64 x2 x3 x4 x5 x6 x7 σ → mm_T p l e ({ frames := 3, cells := 0, slots := 0, locals := 120 } : Room) s m args below meth c G (mm_Qi G Q) 8 64 σ [(0, .ref (mm_o G)), (2, .int x2), (3, .int x3), (4, .int x4), (5, .int x5), (6, .int x6), (7, .int x7)] []) : ∀ (x2 : Int32) (x3 : Int32) (x4 : Int32) (x5 : Int32) (x6 : Int32) (x7 : Int32) (σ : MS), w3_findsProofs_64 Q K11 K25 K64 x2 x3 x4 x5 x6 x7 σ → mm_T p l e ({ frames := 3, cells := 0, slots := 0, locals := 120 } : Room) s m args below meth c G (mm_Qi G Q) 8 64 σ [(0, .ref (mm_o G)), (2, .int x2), (3, .int x3), (4, .int x4), (5, .int x5), (6, .int x6), (7, .int x7)] [] := by
  intro x2 x3 x4 x5 x6 x7 σ hw H locs ls hM hS hl
  unfold w3_findsProofs_64 at hw
  obtain ⟨hx, hb, hml, hown, hts, hr, hlk, hMK, hZ⟩ := id cx
  refine lv_iload hx hb dX3_findsProofs_64 (lv_at hl 6 rfl) ?_
  refine lv_iload hx hb dX3_findsProofs_66 (lv_at hl 5 rfl) ?_
  refine lv_icmp_gt (tgt := 123) hx hb dX3_findsProofs_68 (by decide) (fun hc => ?_) (fun hc => ?_)
  · have hw := mm_ip hc hw
    exact B3_findsProofs_123 cx hK11 hK25 _ _ _ _ _ _ hw _ _ _ hM hS (lv_sub hl [0, 1, 2, 3, 4, 5] rfl)
  · have hw := mm_in hc hw
    refine lv_iload hx hb dX3_findsProofs_71 (lv_at hl 6 rfl) ?_
    refine lv_iload hx hb dX3_findsProofs_73 (lv_at hl 5 rfl) ?_
    refine lv_iconst (v := (-1 : Int32)) hx hb dX3_findsProofs_75 (by decide) ?_
    refine lv_ixor hx hb dX3_findsProofs_76 ?_
    refine lv_iand hx hb dX3_findsProofs_77 ?_
    refine lv_if_ne (tgt := 117) hx hb dX3_findsProofs_78 (by decide) (fun hc => ?_) (fun hc => ?_)
    · have hw := mm_in hc hw
      exact B3_findsProofs_117 cx hK11 hK25 hK64 _ _ _ _ _ _ _ hw _ _ _ hM hS (lv_sub hl [0, 1, 2, 3, 4, 5, 6] rfl)
    · have hw := mm_ip hc hw
      refine lv_aload_n hx hb dX3_findsProofs_81 rfl (lv_at hl 0 rfl) ?_
      refine lv_iload hx hb dX3_findsProofs_82 (lv_at hl 5 rfl) ?_
      refine lv_iload hx hb dX3_findsProofs_84 (lv_at hl 6 rfl) ?_
      refine lv_iload_n hx hb dX3_findsProofs_86 rfl (lv_at hl 1 rfl) ?_
      refine C3_isProof cx hM hS hw ⟨Nat.le_of_ble_eq_true rfl, Nat.le_of_ble_eq_true rfl⟩ (Nat.le_of_ble_eq_true rfl) hl.1 ⟨Nat.zero_le _, Nat.zero_le _⟩ dX3_findsProofs_87 (fun r4 s4 H locs hw hM hS => ?_)
      refine lv_if_ne (tgt := 96) hx hb dX3_findsProofs_90 (by decide) (fun hc => ?_) (fun hc => ?_)
      · have hw := mm_in hc hw
        refine lv_iload hx hb dX3_findsProofs_96 (lv_at hl 3 rfl) ?_
        refine lv_iload_n hx hb dX3_findsProofs_98 rfl (lv_at hl 2 rfl) ?_
        refine lv_icmp_ne (tgt := 114) hx hb dX3_findsProofs_99 (by decide) (fun hc => ?_) (fun hc => ?_)
        · have hw := mm_in hc hw
          exact B3_findsProofs_114 cx hK11 hK25 hK64 _ _ _ _ _ _ _ hw _ _ _ hM hS (lv_sub hl [0, 1, 2, 3, 4, 5, 6] rfl)
        · have hw := mm_ip hc hw
          refine lv_aload_n hx hb dX3_findsProofs_102 rfl (lv_at hl 0 rfl) ?_
          refine lv_iload hx hb dX3_findsProofs_103 (lv_at hl 5 rfl) ?_
          refine mp_31 cx hM hS dX3_findsProofs_105 (fun H locs hM hS => ?_)
          refine lv_aload_n hx hb dX3_findsProofs_108 rfl (lv_at hl 0 rfl) ?_
          refine lv_iload hx hb dX3_findsProofs_109 (lv_at hl 6 rfl) ?_
          refine mp_32 cx hM hS dX3_findsProofs_111 (fun H locs hM hS => ?_)
          exact B3_findsProofs_114 cx hK11 hK25 hK64 _ _ _ _ _ _ _ hw _ _ _ hM hS (lv_sub hl [0, 1, 2, 3, 4, 5, 6] rfl)
      · have hw := mm_ip hc hw
        refine lv_goto (tgt := 117) hx hb dX3_findsProofs_93 (by decide) ?_
        exact B3_findsProofs_117 cx hK11 hK25 hK64 _ _ _ _ _ _ _ hw _ _ _ hM hS (lv_sub hl [0, 1, 2, 3, 4, 5, 6] rfl)
theorem L3_findsProofs_64 {l : Launch} {p : Program} {e : Env} {s : State} {m : MethodId} {args : Array Value} {below : List Frame} {meth : Method} {c : Code} {G : mm_G} {Q : Int32 → MS → Prop} {K11 : Int32 → Int32 → Int32 → Int32 → MS → Prop} {K25 : Int32 → Int32 → Int32 → Int32 → Int32 → MS → Prop} (cx : mm_X cX3_findsProofs 8 (some .int) G p s m args meth c) (hK11 : ∀ (x2 : Int32) (x3 : Int32) (x4 : Int32) (x5 : Int32) (σ : MS), K11 x2 x3 x4 x5 σ → mm_T p l e ({ frames := 3, cells := 0, slots := 0, locals := 120 } : Room) s m args below meth c G (mm_Qi G Q) 8 11 σ [(0, .ref (mm_o G)), (2, .int x2), (3, .int x3), (4, .int x4), (5, .int x5)] []) (hK25 : ∀ (x2 : Int32) (x3 : Int32) (x4 : Int32) (x5 : Int32) (x6 : Int32) (σ : MS), K25 x2 x3 x4 x5 x6 σ → mm_T p l e ({ frames := 3, cells := 0, slots := 0, locals := 120 } : Room) s m args below meth c G (mm_Qi G Q) 8 25 σ [(0, .ref (mm_o G)), (2, .int x2), (3, .int x3), (4, .int x4), (5, .int x5), (6, .int x6)] []) : ∀ (x2 : Int32) (x3 : Int32) (x4 : Int32) (x5 : Int32) (x6 : Int32) (x7 : Int32) (σ : MS), lp7F (w3_findsProofs_64 Q K11 K25) x2 x3 x4 x5 x6 x7 σ → mm_T p l e ({ frames := 3, cells := 0, slots := 0, locals := 120 } : Room) s m args below meth c G (mm_Qi G Q) 8 64 σ [(0, .ref (mm_o G)), (2, .int x2), (3, .int x3), (4, .int x4), (5, .int x5), (6, .int x6), (7, .int x7)] [] :=
  lp7F_of (fun K hK => B3_findsProofs_64 cx hK11 hK25 hK)
def w3_findsProofs_25 (Q : Int32 → MS → Prop) (K11 : Int32 → Int32 → Int32 → Int32 → MS → Prop) (K25 : Int32 → Int32 → Int32 → Int32 → Int32 → MS → Prop) (x2 : Int32) (x3 : Int32) (x4 : Int32) (x5 : Int32) (x6 : Int32) (σ : MS) : Prop :=
  if ((1 : Int32) <<< ((gA σ 0 1) &&& 31)) ≤ x6 then (∀ v5 : Int32, v5 = x5 + (1 : Int32) → K11 x2 x3 x4 v5 σ) else (w3_bits x6 σ (fun r6 s6 => if r6 = x5 then (w3_knownFacts s6 (fun r7 s7 => if (x6 &&& r7) = 0 then (lp7F (w3_findsProofs_64 Q K11 K25) x2 x3 x4 x5 x6 (0 : Int32) s7) else (w3_findsProofs_123 Q K11 K25 x2 x3 x4 x5 x6 s7))) else (w3_findsProofs_123 Q K11 K25 x2 x3 x4 x5 x6 s6)))
set_option maxHeartbeats 4000000 in
theorem B3_findsProofs_25 {l : Launch} {p : Program} {e : Env} {s : State} {m : MethodId} {args : Array Value} {below : List Frame} {meth : Method} {c : Code} {G : mm_G} {Q : Int32 → MS → Prop} {K11 : Int32 → Int32 → Int32 → Int32 → MS → Prop} {K25 : Int32 → Int32 → Int32 → Int32 → Int32 → MS → Prop} (cx : mm_X cX3_findsProofs 8 (some .int) G p s m args meth c) (hK11 : ∀ (x2 : Int32) (x3 : Int32) (x4 : Int32) (x5 : Int32) (σ : MS), K11 x2 x3 x4 x5 σ → mm_T p l e ({ frames := 3, cells := 0, slots := 0, locals := 120 } : Room) s m args below meth c G (mm_Qi G Q) 8 11 σ [(0, .ref (mm_o G)), (2, .int x2), (3, .int x3), (4, .int x4), (5, .int x5)] []) (hK25 : ∀ (x2 : Int32) (x3 : Int32) (x4 : Int32) (x5 : Int32) (x6 : Int32) (σ : MS), K25 x2 x3 x4 x5 x6 σ → mm_T p l e ({ frames := 3, cells := 0, slots := 0, locals := 120 } : Room) s m args below meth c G (mm_Qi G Q) 8 25 σ [(0, .ref (mm_o G)), (2, .int x2), (3, .int x3), (4, .int x4), (5, .int x5), (6, .int x6)] []) : ∀ (x2 : Int32) (x3 : Int32) (x4 : Int32) (x5 : Int32) (x6 : Int32) (σ : MS), w3_findsProofs_25 Q K11 K25 x2 x3 x4 x5 x6 σ → mm_T p l e ({ frames := 3, cells := 0, slots := 0, locals := 120 } : Room) s m args below meth c G (mm_Qi G Q) 8 25 σ [(0, .ref (mm_o G)), (2, .int x2), (3, .int x3), (4, .int x4), (5, .int x5), (6, .int x6)] [] := by
  intro x2 x3 x4 x5 x6 σ hw H locs ls hM hS hl
  unfold w3_findsProofs_25 at hw
  obtain ⟨hx, hb, hml, hown, hts, hr, hlk, hMK, hZ⟩ := id cx
  refine lv_iload hx hb dX3_findsProofs_25 (lv_at hl 5 rfl) ?_
  refine lv_iconst (v := (1 : Int32)) hx hb dX3_findsProofs_27 (by decide) ?_
  refine lv_aload_n hx hb dX3_findsProofs_28 rfl (lv_at hl 0 rfl) ?_
  refine mg_0 cx hM dX3_findsProofs_29 ?_
  refine lv_iconst (v := (1 : Int32)) hx hb dX3_findsProofs_32 (by decide) ?_
  refine mm_iald cx hM 0 rfl (j := 1) (by decide) (vp_lit (by decide)) dX3_findsProofs_33 ?_
  refine lv_ishl hx hb dX3_findsProofs_34 ?_
  refine lv_icmp_ge (tgt := 129) hx hb dX3_findsProofs_35 (by decide) (fun hc => ?_) (fun hc => ?_)
  · have hw := mm_ip hc hw
    obtain ⟨v5, hv5⟩ : ∃ v : Int32, v = x5 + (1 : Int32) := ⟨_, rfl⟩
    have hw := hw v5 hv5
    refine lv_iinc (v := v5) (lv' := [(5, .int v5), (0, .ref (mm_o G)), (2, .int x2), (3, .int x3), (4, .int x4), (6, .int x6)]) hx hb dX3_findsProofs_129 hl (k := 4) rfl (by rw [hv5]; rfl) (by decide) rfl (fun ls hl => ?_)
    refine lv_goto (tgt := 11) hx hb dX3_findsProofs_132 (by decide) ?_
    exact hK11 _ _ _ _ _ hw _ _ _ hM hS (lv_sub hl [1, 2, 3, 4, 0] rfl)
  · have hw := mm_in hc hw
    refine lv_iload hx hb dX3_findsProofs_38 (lv_at hl 5 rfl) ?_
    refine C3_bits cx hM hS hw ⟨Nat.le_of_ble_eq_true rfl, Nat.le_of_ble_eq_true rfl⟩ (Nat.le_of_ble_eq_true rfl) hl.1 ⟨Nat.zero_le _, Nat.zero_le _⟩ dX3_findsProofs_40 (fun r6 s6 H locs hw hM hS => ?_)
    refine lv_iload hx hb dX3_findsProofs_43 (lv_at hl 4 rfl) ?_
    refine lv_icmp_ne (tgt := 123) hx hb dX3_findsProofs_45 (by decide) (fun hc => ?_) (fun hc => ?_)
    · have hw := mm_in hc hw
      exact B3_findsProofs_123 cx hK11 hK25 _ _ _ _ _ _ hw _ _ _ hM hS (lv_sub hl [0, 1, 2, 3, 4, 5] rfl)
    · have hw := mm_ip hc hw
      refine lv_iload hx hb dX3_findsProofs_48 (lv_at hl 5 rfl) ?_
      refine lv_aload_n hx hb dX3_findsProofs_50 rfl (lv_at hl 0 rfl) ?_
      refine C3_knownFacts cx hM hS hw ⟨Nat.le_of_ble_eq_true rfl, Nat.le_of_ble_eq_true rfl⟩ (Nat.le_of_ble_eq_true rfl) hl.1 ⟨Nat.zero_le _, Nat.zero_le _⟩ dX3_findsProofs_51 (fun r7 s7 H locs hw hM hS => ?_)
      refine lv_iand hx hb dX3_findsProofs_54 ?_
      refine lv_if_eq (tgt := 61) hx hb dX3_findsProofs_55 (by decide) (fun hc => ?_) (fun hc => ?_)
      · have hw := mm_ip hc hw
        refine lv_iconst (v := (0 : Int32)) hx hb dX3_findsProofs_61 (by decide) ?_
        refine lv_istore (lv' := [(7, .int (0 : Int32)), (0, .ref (mm_o G)), (2, .int x2), (3, .int x3), (4, .int x4), (5, .int x5), (6, .int x6)]) hx hb dX3_findsProofs_62 hl (by decide) rfl (fun ls hl => ?_)
        exact L3_findsProofs_64 cx hK11 hK25 _ _ _ _ _ _ _ hw _ _ _ hM hS (lv_sub hl [1, 2, 3, 4, 5, 6, 0] rfl)
      · have hw := mm_in hc hw
        refine lv_goto (tgt := 123) hx hb dX3_findsProofs_58 (by decide) ?_
        exact B3_findsProofs_123 cx hK11 hK25 _ _ _ _ _ _ hw _ _ _ hM hS (lv_sub hl [0, 1, 2, 3, 4, 5] rfl)
theorem L3_findsProofs_25 {l : Launch} {p : Program} {e : Env} {s : State} {m : MethodId} {args : Array Value} {below : List Frame} {meth : Method} {c : Code} {G : mm_G} {Q : Int32 → MS → Prop} {K11 : Int32 → Int32 → Int32 → Int32 → MS → Prop} (cx : mm_X cX3_findsProofs 8 (some .int) G p s m args meth c) (hK11 : ∀ (x2 : Int32) (x3 : Int32) (x4 : Int32) (x5 : Int32) (σ : MS), K11 x2 x3 x4 x5 σ → mm_T p l e ({ frames := 3, cells := 0, slots := 0, locals := 120 } : Room) s m args below meth c G (mm_Qi G Q) 8 11 σ [(0, .ref (mm_o G)), (2, .int x2), (3, .int x3), (4, .int x4), (5, .int x5)] []) : ∀ (x2 : Int32) (x3 : Int32) (x4 : Int32) (x5 : Int32) (x6 : Int32) (σ : MS), lp6F (w3_findsProofs_25 Q K11) x2 x3 x4 x5 x6 σ → mm_T p l e ({ frames := 3, cells := 0, slots := 0, locals := 120 } : Room) s m args below meth c G (mm_Qi G Q) 8 25 σ [(0, .ref (mm_o G)), (2, .int x2), (3, .int x3), (4, .int x4), (5, .int x5), (6, .int x6)] [] :=
  lp6F_of (fun K hK => B3_findsProofs_25 cx hK11 hK)
def w3_findsProofs_11 (Q : Int32 → MS → Prop) (K11 : Int32 → Int32 → Int32 → Int32 → MS → Prop) (x2 : Int32) (x3 : Int32) (x4 : Int32) (x5 : Int32) (σ : MS) : Prop :=
  if (gA σ 0 1) < x5 then (Q x4 σ) else (lp6F (w3_findsProofs_25 Q K11) x2 x3 x4 x5 (0 : Int32) σ)
set_option maxHeartbeats 4000000 in
theorem B3_findsProofs_11 {l : Launch} {p : Program} {e : Env} {s : State} {m : MethodId} {args : Array Value} {below : List Frame} {meth : Method} {c : Code} {G : mm_G} {Q : Int32 → MS → Prop} {K11 : Int32 → Int32 → Int32 → Int32 → MS → Prop} (cx : mm_X cX3_findsProofs 8 (some .int) G p s m args meth c) (hK11 : ∀ (x2 : Int32) (x3 : Int32) (x4 : Int32) (x5 : Int32) (σ : MS), K11 x2 x3 x4 x5 σ → mm_T p l e ({ frames := 3, cells := 0, slots := 0, locals := 120 } : Room) s m args below meth c G (mm_Qi G Q) 8 11 σ [(0, .ref (mm_o G)), (2, .int x2), (3, .int x3), (4, .int x4), (5, .int x5)] []) : ∀ (x2 : Int32) (x3 : Int32) (x4 : Int32) (x5 : Int32) (σ : MS), w3_findsProofs_11 Q K11 x2 x3 x4 x5 σ → mm_T p l e ({ frames := 3, cells := 0, slots := 0, locals := 120 } : Room) s m args below meth c G (mm_Qi G Q) 8 11 σ [(0, .ref (mm_o G)), (2, .int x2), (3, .int x3), (4, .int x4), (5, .int x5)] [] := by
  intro x2 x3 x4 x5 σ hw H locs ls hM hS hl
  unfold w3_findsProofs_11 at hw
  obtain ⟨hx, hb, hml, hown, hts, hr, hlk, hMK, hZ⟩ := id cx
  refine lv_iload hx hb dX3_findsProofs_11 (lv_at hl 4 rfl) ?_
  refine lv_aload_n hx hb dX3_findsProofs_13 rfl (lv_at hl 0 rfl) ?_
  refine mg_0 cx hM dX3_findsProofs_14 ?_
  refine lv_iconst (v := (1 : Int32)) hx hb dX3_findsProofs_17 (by decide) ?_
  refine mm_iald cx hM 0 rfl (j := 1) (by decide) (vp_lit (by decide)) dX3_findsProofs_18 ?_
  refine lv_icmp_gt (tgt := 135) hx hb dX3_findsProofs_19 (by decide) (fun hc => ?_) (fun hc => ?_)
  · have hw := mm_ip hc hw
    refine lv_iload hx hb dX3_findsProofs_135 (lv_at hl 3 rfl) ?_
    exact mm_iret cx hM hS hw dX3_findsProofs_137
  · have hw := mm_in hc hw
    refine lv_iconst (v := (0 : Int32)) hx hb dX3_findsProofs_22 (by decide) ?_
    refine lv_istore (lv' := [(6, .int (0 : Int32)), (0, .ref (mm_o G)), (2, .int x2), (3, .int x3), (4, .int x4), (5, .int x5)]) hx hb dX3_findsProofs_23 hl (by decide) rfl (fun ls hl => ?_)
    exact L3_findsProofs_25 cx hK11 _ _ _ _ _ _ hw _ _ _ hM hS (lv_sub hl [1, 2, 3, 4, 5, 0] rfl)
theorem L3_findsProofs_11 {l : Launch} {p : Program} {e : Env} {s : State} {m : MethodId} {args : Array Value} {below : List Frame} {meth : Method} {c : Code} {G : mm_G} {Q : Int32 → MS → Prop} (cx : mm_X cX3_findsProofs 8 (some .int) G p s m args meth c) : ∀ (x2 : Int32) (x3 : Int32) (x4 : Int32) (x5 : Int32) (σ : MS), lp5F (w3_findsProofs_11 Q) x2 x3 x4 x5 σ → mm_T p l e ({ frames := 3, cells := 0, slots := 0, locals := 120 } : Room) s m args below meth c G (mm_Qi G Q) 8 11 σ [(0, .ref (mm_o G)), (2, .int x2), (3, .int x3), (4, .int x4), (5, .int x5)] [] :=
  lp5F_of (fun K hK => B3_findsProofs_11 cx hK)
def w3_findsProofs (x1 : Int32) (x2 : Int32) (x3 : Int32) (σ : MS) (Q : Int32 → MS → Prop) : Prop :=
  w3_laysWays x1 σ (fun s8 => lp5F (w3_findsProofs_11 Q) x2 x3 (0 : Int32) (0 : Int32) s8)
set_option maxHeartbeats 4000000 in
theorem M3_findsProofs (l : Launch) (G : mm_G) (x1 : Int32) (x2 : Int32) (x3 : Int32) (σ : MS) (Q : Int32 → MS → Prop) (hw : w3_findsProofs x1 x2 x3 σ Q) : mm_Mi l yX3_findsProofs (ws_ yX3_findsProofs cX3_findsProofs 8 (some .int)) ({ frames := 3, cells := 0, slots := 0, locals := 120 } : Room) G [.ref (mm_o G), .int x1, .int x2, .int x3] σ Q := by
  refine mm_of (by decide) rfl ?_
  intro p e s m args below meth c cx hM ha
  refine mm_entry [.ref (mm_o G), .int x1, .int x2, .int x3] 8 [(0, .ref (mm_o G)), (1, .int x1), (2, .int x2), (3, .int x3)] ha (Nat.le_of_ble_eq_true rfl) rfl (fun ls hl => ?_)
  have hS : va_S (mm_A G) s.heap s.heap [] := va_S.rf
  unfold w3_findsProofs at hw
  obtain ⟨hx, hb, hml, hown, hts, hr, hlk, hMK, hZ⟩ := id cx
  refine lv_aload_n hx hb dX3_findsProofs_0 rfl (lv_at hl 0 rfl) ?_
  refine lv_iload_n hx hb dX3_findsProofs_1 rfl (lv_at hl 1 rfl) ?_
  refine C3_laysWays cx hM hS hw ⟨Nat.le_of_ble_eq_true rfl, Nat.le_of_ble_eq_true rfl⟩ (Nat.le_of_ble_eq_true rfl) hl.1 ⟨Nat.zero_le _, Nat.zero_le _⟩ dX3_findsProofs_2 (fun s8 H locs hw hM hS => ?_)
  refine lv_iconst (v := (0 : Int32)) hx hb dX3_findsProofs_5 (by decide) ?_
  refine lv_istore (lv' := [(4, .int (0 : Int32)), (0, .ref (mm_o G)), (1, .int x1), (2, .int x2), (3, .int x3)]) hx hb dX3_findsProofs_6 hl (by decide) rfl (fun ls hl => ?_)
  refine lv_iconst (v := (0 : Int32)) hx hb dX3_findsProofs_8 (by decide) ?_
  refine lv_istore (lv' := [(5, .int (0 : Int32)), (4, .int (0 : Int32)), (0, .ref (mm_o G)), (1, .int x1), (2, .int x2), (3, .int x3)]) hx hb dX3_findsProofs_9 hl (by decide) rfl (fun ls hl => ?_)
  exact L3_findsProofs_11 cx _ _ _ _ _ hw _ _ _ hM hS (lv_sub hl [2, 4, 5, 1, 0] rfl)
theorem C3_findsProofs {l : Launch} {p : Program} {e : Env} {R : Room} {s : State} {m : MethodId} {args : Array Value} {below : List Frame} {meth : Method} {c : Code} {H : Heap} {locs : List Loc} {cells slots : Nat} {Qz : State → Prop} {cc : ByteArray} {nL : Nat} {ret : Option FieldType} {G : mm_G} {pc : Nat} {ls : Array Slot} {rest : List Value} {x1 : Int32} {x2 : Int32} {x3 : Int32} {σ : MS} (cx : mm_X cc nL ret G p s m args meth c) (hM : mm_R G σ H) (hS0 : va_S (mm_A G) s.heap H locs) {Qf : Int32 → MS → Prop} (hw : w3_findsProofs x1 x2 x3 σ Qf) (hR : (({ frames := 3, cells := 0, slots := 0, locals := 120 } : Room)).frames + 1 ≤ R.frames ∧ 8 + (8 + 11) + (({ frames := 3, cells := 0, slots := 0, locals := 120 } : Room)).locals ≤ R.locals) (hroom : (rest.map fun v => v.category).sum ≤ 8) (hsize : ls.size = nL) (hf : cells ≤ R.cells ∧ slots ≤ R.slots) (hdg : decode cc pc = .ok (.invokevirtual 467, 3))
    (kk : ∀ (r : Int32) (σ1 : MS) (H1 : Heap) (locs1 : List Loc), Qf r σ1 → mm_R G σ1 H1 → va_S (mm_A G) s.heap H1 locs1 → W p l e R s m args below meth c H1 locs1 cells slots Qz (F0 m (pc + 3) ls (.int r :: rest))) : W p l e R s m args below meth c H locs cells slots Qz (F0 m pc ls (.int x3 :: .int x2 :: .int x1 :: .ref (mm_o G) :: rest)) := by
  obtain ⟨hx, hb, hml, hown, hts, hr, hlk, hK, hZ⟩ := id cx
  exact mm_Vi cx hM hS0 (As := [.int x1, .int x2, .int x3]) (M3_findsProofs l G x1 x2 x3 σ Qf hw) (cwV 3 hts (lw_V q2977 q2979 qs146 q172 q2980) rfl rfl rfl (by decide +kernel) hR) rfl hsize rfl hroom hf hdg kk
def w3_proofs (x1 : Int32) (x2 : Int32) (σ : MS) (Q : Int32 → MS → Prop) : Prop :=
  w3_isCount x1 σ (fun r1 s1 => if r1 = 0 then (Q (-1 : Int32) s1) else (w3_findsProofs x1 x2 (-1 : Int32) s1 (fun r2 s2 => Q r2 s2)))
set_option maxHeartbeats 4000000 in
theorem M3_proofs (l : Launch) (G : mm_G) (x1 : Int32) (x2 : Int32) (σ : MS) (Q : Int32 → MS → Prop) (hw : w3_proofs x1 x2 σ Q) : mm_Mi l yX3_proofs (ws_ yX3_proofs cX3_proofs 3 (some .int)) ({ frames := 4, cells := 0, slots := 0, locals := 160 } : Room) G [.ref (mm_o G), .int x1, .int x2] σ Q := by
  refine mm_of (by decide) rfl ?_
  intro p e s m args below meth c cx hM ha
  refine mm_entry [.ref (mm_o G), .int x1, .int x2] 3 [(0, .ref (mm_o G)), (1, .int x1), (2, .int x2)] ha (Nat.le_of_ble_eq_true rfl) rfl (fun ls hl => ?_)
  have hS : va_S (mm_A G) s.heap s.heap [] := va_S.rf
  unfold w3_proofs at hw
  obtain ⟨hx, hb, hml, hown, hts, hr, hlk, hMK, hZ⟩ := id cx
  refine lv_aload_n hx hb dX3_proofs_0 rfl (lv_at hl 0 rfl) ?_
  refine lv_iload_n hx hb dX3_proofs_1 rfl (lv_at hl 1 rfl) ?_
  refine C3_isCount cx hM hS hw ⟨Nat.le_of_ble_eq_true rfl, Nat.le_of_ble_eq_true rfl⟩ (Nat.le_of_ble_eq_true rfl) hl.1 ⟨Nat.zero_le _, Nat.zero_le _⟩ dX3_proofs_2 (fun r1 s1 H locs hw hM hS => ?_)
  refine lv_if_eq (tgt := 18) hx hb dX3_proofs_5 (by decide) (fun hc => ?_) (fun hc => ?_)
  · have hw := mm_ip hc hw
    refine lv_iconst (v := (-1 : Int32)) hx hb dX3_proofs_18 (by decide) ?_
    exact mm_iret cx hM hS hw dX3_proofs_19
  · have hw := mm_in hc hw
    refine lv_aload_n hx hb dX3_proofs_8 rfl (lv_at hl 0 rfl) ?_
    refine lv_iload_n hx hb dX3_proofs_9 rfl (lv_at hl 1 rfl) ?_
    refine lv_iload_n hx hb dX3_proofs_10 rfl (lv_at hl 2 rfl) ?_
    refine lv_iconst (v := (-1 : Int32)) hx hb dX3_proofs_11 (by decide) ?_
    refine C3_findsProofs cx hM hS hw ⟨Nat.le_of_ble_eq_true rfl, Nat.le_of_ble_eq_true rfl⟩ (Nat.le_of_ble_eq_true rfl) hl.1 ⟨Nat.zero_le _, Nat.zero_le _⟩ dX3_proofs_12 (fun r2 s2 H locs hw hM hS => ?_)
    refine lv_goto (tgt := 19) hx hb dX3_proofs_15 (by decide) ?_
    exact mm_iret cx hM hS hw dX3_proofs_19
-- no call of proofs
def w3_proof (x1 : Int32) (x2 : Int32) (x3 : Int32) (x4 : Int32) (σ : MS) (Q : Int32 → MS → Prop) : Prop :=
  w3_isCount x1 σ (fun r1 s1 => if r1 = 0 then (Q (-1 : Int32) s1) else (if x3 < 0 then (Q (-1 : Int32) s1) else (w3_in x4 (0 : Int32) (1 : Int32) s1 (fun r2 s2 => if r2 = 0 then (Q (-1 : Int32) s2) else (w3_findsProofs x1 x2 x3 s2 (fun r3 s3 => if x3 < r3 then (if x4 = 0 then (Q (gI s3 31) s3) else (Q (gI s3 32) s3)) else (Q (-1 : Int32) s3)))))))
set_option maxHeartbeats 4000000 in
theorem M3_proof (l : Launch) (G : mm_G) (x1 : Int32) (x2 : Int32) (x3 : Int32) (x4 : Int32) (σ : MS) (Q : Int32 → MS → Prop) (hw : w3_proof x1 x2 x3 x4 σ Q) : mm_Mi l yX3_proof (ws_ yX3_proof cX3_proof 5 (some .int)) ({ frames := 4, cells := 0, slots := 0, locals := 160 } : Room) G [.ref (mm_o G), .int x1, .int x2, .int x3, .int x4] σ Q := by
  refine mm_of (by decide) rfl ?_
  intro p e s m args below meth c cx hM ha
  refine mm_entry [.ref (mm_o G), .int x1, .int x2, .int x3, .int x4] 5 [(0, .ref (mm_o G)), (1, .int x1), (2, .int x2), (3, .int x3), (4, .int x4)] ha (Nat.le_of_ble_eq_true rfl) rfl (fun ls hl => ?_)
  have hS : va_S (mm_A G) s.heap s.heap [] := va_S.rf
  unfold w3_proof at hw
  obtain ⟨hx, hb, hml, hown, hts, hr, hlk, hMK, hZ⟩ := id cx
  refine lv_aload_n hx hb dX3_proof_0 rfl (lv_at hl 0 rfl) ?_
  refine lv_iload_n hx hb dX3_proof_1 rfl (lv_at hl 1 rfl) ?_
  refine C3_isCount cx hM hS hw ⟨Nat.le_of_ble_eq_true rfl, Nat.le_of_ble_eq_true rfl⟩ (Nat.le_of_ble_eq_true rfl) hl.1 ⟨Nat.zero_le _, Nat.zero_le _⟩ dX3_proof_2 (fun r1 s1 H locs hw hM hS => ?_)
  refine lv_if_eq (tgt := 33) hx hb dX3_proof_5 (by decide) (fun hc => ?_) (fun hc => ?_)
  · have hw := mm_ip hc hw
    refine lv_iconst (v := (-1 : Int32)) hx hb dX3_proof_33 (by decide) ?_
    exact mm_iret cx hM hS hw dX3_proof_34
  · have hw := mm_in hc hw
    refine lv_iload_n hx hb dX3_proof_8 rfl (lv_at hl 3 rfl) ?_
    refine lv_if_lt (tgt := 33) hx hb dX3_proof_9 (by decide) (fun hc => ?_) (fun hc => ?_)
    · have hw := mm_ip hc hw
      refine lv_iconst (v := (-1 : Int32)) hx hb dX3_proof_33 (by decide) ?_
      exact mm_iret cx hM hS hw dX3_proof_34
    · have hw := mm_in hc hw
      refine lv_iload hx hb dX3_proof_12 (lv_at hl 4 rfl) ?_
      refine lv_iconst (v := (0 : Int32)) hx hb dX3_proof_14 (by decide) ?_
      refine lv_iconst (v := (1 : Int32)) hx hb dX3_proof_15 (by decide) ?_
      refine C3_in cx hM hS hw ⟨Nat.le_of_ble_eq_true rfl, Nat.le_of_ble_eq_true rfl⟩ (Nat.le_of_ble_eq_true rfl) hl.1 ⟨Nat.zero_le _, Nat.zero_le _⟩ dX3_proof_16 (fun r2 s2 H locs hw hM hS => ?_)
      refine lv_if_eq (tgt := 33) hx hb dX3_proof_19 (by decide) (fun hc => ?_) (fun hc => ?_)
      · have hw := mm_ip hc hw
        refine lv_iconst (v := (-1 : Int32)) hx hb dX3_proof_33 (by decide) ?_
        exact mm_iret cx hM hS hw dX3_proof_34
      · have hw := mm_in hc hw
        refine lv_aload_n hx hb dX3_proof_22 rfl (lv_at hl 0 rfl) ?_
        refine lv_iload_n hx hb dX3_proof_23 rfl (lv_at hl 1 rfl) ?_
        refine lv_iload_n hx hb dX3_proof_24 rfl (lv_at hl 2 rfl) ?_
        refine lv_iload_n hx hb dX3_proof_25 rfl (lv_at hl 3 rfl) ?_
        refine C3_findsProofs cx hM hS hw ⟨Nat.le_of_ble_eq_true rfl, Nat.le_of_ble_eq_true rfl⟩ (Nat.le_of_ble_eq_true rfl) hl.1 ⟨Nat.zero_le _, Nat.zero_le _⟩ dX3_proof_26 (fun r3 s3 H locs hw hM hS => ?_)
        refine lv_iload_n hx hb dX3_proof_29 rfl (lv_at hl 3 rfl) ?_
        refine lv_icmp_gt (tgt := 35) hx hb dX3_proof_30 (by decide) (fun hc => ?_) (fun hc => ?_)
        · have hw := mm_ip hc hw
          refine lv_iload hx hb dX3_proof_35 (lv_at hl 4 rfl) ?_
          refine lv_if_ne (tgt := 47) hx hb dX3_proof_37 (by decide) (fun hc => ?_) (fun hc => ?_)
          · have hw := mm_in hc hw
            refine lv_aload_n hx hb dX3_proof_47 rfl (lv_at hl 0 rfl) ?_
            refine mg_32 cx hM dX3_proof_48 ?_
            exact mm_iret cx hM hS hw dX3_proof_51
          · have hw := mm_ip hc hw
            refine lv_aload_n hx hb dX3_proof_40 rfl (lv_at hl 0 rfl) ?_
            refine mg_31 cx hM dX3_proof_41 ?_
            refine lv_goto (tgt := 51) hx hb dX3_proof_44 (by decide) ?_
            exact mm_iret cx hM hS hw dX3_proof_51
        · have hw := mm_in hc hw
          refine lv_iconst (v := (-1 : Int32)) hx hb dX3_proof_33 (by decide) ?_
          exact mm_iret cx hM hS hw dX3_proof_34
-- no call of proof
def w3_weight_54 (Q : Int64 → MS → Prop) (K5 : Int32 → Int64 → Int32 → MS → Prop) (x1 : Int32) (x4 : Int32) (t0 : Int64) (t1 : Int64) (σ : MS) : Prop :=
  ∀ v1 : Int64, v1 = (t0 * t1) → ∀ v2 : Int32, v2 = x4 + (1 : Int32) → K5 x1 v1 v2 σ
set_option maxHeartbeats 4000000 in
theorem B3_weight_54 {l : Launch} {p : Program} {e : Env} {s : State} {m : MethodId} {args : Array Value} {below : List Frame} {meth : Method} {c : Code} {G : mm_G} {Q : Int64 → MS → Prop} {K5 : Int32 → Int64 → Int32 → MS → Prop} (cx : mm_X cX3_weight 5 (some .long) G p s m args meth c) (hK5 : ∀ (x1 : Int32) (x2 : Int64) (x4 : Int32) (σ : MS), K5 x1 x2 x4 σ → mm_T p l e ({ frames := 1, cells := 0, slots := 0, locals := 40 } : Room) s m args below meth c G (mm_Ql G Q) 5 5 σ [(0, .ref (mm_o G)), (1, .int x1), (2, .long x2), (4, .int x4)] []) : ∀ (x1 : Int32) (x4 : Int32) (t0 : Int64) (t1 : Int64) (σ : MS), w3_weight_54 Q K5 x1 x4 t0 t1 σ → mm_T p l e ({ frames := 1, cells := 0, slots := 0, locals := 40 } : Room) s m args below meth c G (mm_Ql G Q) 5 54 σ [(0, .ref (mm_o G)), (1, .int x1), (4, .int x4)] [.long t1, .long t0] := by
  intro x1 x4 t0 t1 σ hw H locs ls hM hS hl
  unfold w3_weight_54 at hw
  obtain ⟨hx, hb, hml, hown, hts, hr, hlk, hMK, hZ⟩ := id cx
  refine lv_lmul hx hb dX3_weight_54 ?_
  refine lv_topl (fun v1 hv1 => ?_)
  have hw := hw v1 hv1
  refine lv_lstore_n (lv' := [(2, .long v1), (0, .ref (mm_o G)), (1, .int x1), (4, .int x4)]) hx hb dX3_weight_55 rfl hl (by decide) rfl (fun ls hl => ?_)
  obtain ⟨v2, hv2⟩ : ∃ v : Int32, v = x4 + (1 : Int32) := ⟨_, rfl⟩
  have hw := hw v2 hv2
  refine lv_iinc (v := v2) (lv' := [(4, .int v2), (2, .long v1), (0, .ref (mm_o G)), (1, .int x1)]) hx hb dX3_weight_56 hl (k := 3) rfl (by rw [hv2]; rfl) (by decide) rfl (fun ls hl => ?_)
  refine lv_goto (tgt := 5) hx hb dX3_weight_59 (by decide) ?_
  exact hK5 _ _ _ _ hw _ _ _ hM hS (lv_sub hl [2, 3, 1, 0] rfl)
def w3_weight_5 (Q : Int64 → MS → Prop) (K5 : Int32 → Int64 → Int32 → MS → Prop) (x1 : Int32) (x2 : Int64) (x4 : Int32) (σ : MS) : Prop :=
  if (gA σ 0 1) ≤ x4 then (Q x2 σ) else (w3_has x1 x4 σ (fun r3 s3 => if r3 = 0 then (vp_in ((8 : Int32) + x4) 640 ∧ (w3_weight_54 Q K5 x1 x4 x2 ((((10 : Int32) - (gA s3 0 ((8 : Int32) + x4).toNatClampNeg))).toInt64) s3)) else (vp_in ((8 : Int32) + x4) 640 ∧ (w3_weight_54 Q K5 x1 x4 x2 (((gA s3 0 ((8 : Int32) + x4).toNatClampNeg)).toInt64) s3))))
set_option maxHeartbeats 4000000 in
theorem B3_weight_5 {l : Launch} {p : Program} {e : Env} {s : State} {m : MethodId} {args : Array Value} {below : List Frame} {meth : Method} {c : Code} {G : mm_G} {Q : Int64 → MS → Prop} {K5 : Int32 → Int64 → Int32 → MS → Prop} (cx : mm_X cX3_weight 5 (some .long) G p s m args meth c) (hK5 : ∀ (x1 : Int32) (x2 : Int64) (x4 : Int32) (σ : MS), K5 x1 x2 x4 σ → mm_T p l e ({ frames := 1, cells := 0, slots := 0, locals := 40 } : Room) s m args below meth c G (mm_Ql G Q) 5 5 σ [(0, .ref (mm_o G)), (1, .int x1), (2, .long x2), (4, .int x4)] []) : ∀ (x1 : Int32) (x2 : Int64) (x4 : Int32) (σ : MS), w3_weight_5 Q K5 x1 x2 x4 σ → mm_T p l e ({ frames := 1, cells := 0, slots := 0, locals := 40 } : Room) s m args below meth c G (mm_Ql G Q) 5 5 σ [(0, .ref (mm_o G)), (1, .int x1), (2, .long x2), (4, .int x4)] [] := by
  intro x1 x2 x4 σ hw H locs ls hM hS hl
  unfold w3_weight_5 at hw
  obtain ⟨hx, hb, hml, hown, hts, hr, hlk, hMK, hZ⟩ := id cx
  refine lv_iload hx hb dX3_weight_5 (lv_at hl 3 rfl) ?_
  refine lv_aload_n hx hb dX3_weight_7 rfl (lv_at hl 0 rfl) ?_
  refine mg_0 cx hM dX3_weight_8 ?_
  refine lv_iconst (v := (1 : Int32)) hx hb dX3_weight_11 (by decide) ?_
  refine mm_iald cx hM 0 rfl (j := 1) (by decide) (vp_lit (by decide)) dX3_weight_12 ?_
  refine lv_icmp_ge (tgt := 62) hx hb dX3_weight_13 (by decide) (fun hc => ?_) (fun hc => ?_)
  · have hw := mm_ip hc hw
    refine lv_lload_n hx hb dX3_weight_62 rfl (lv_at hl 2 rfl) ?_
    exact mm_lret cx hM hS hw dX3_weight_63
  · have hw := mm_in hc hw
    refine lv_lload_n hx hb dX3_weight_16 rfl (lv_at hl 2 rfl) ?_
    refine lv_iload_n hx hb dX3_weight_17 rfl (lv_at hl 1 rfl) ?_
    refine lv_iload hx hb dX3_weight_18 (lv_at hl 3 rfl) ?_
    refine C3_has cx hM hS hw ⟨Nat.le_of_ble_eq_true rfl, Nat.le_of_ble_eq_true rfl⟩ (Nat.le_of_ble_eq_true rfl) hl.1 ⟨Nat.zero_le _, Nat.zero_le _⟩ dX3_weight_20 (fun r3 s3 H locs hw hM hS => ?_)
    refine lv_if_eq (tgt := 40) hx hb dX3_weight_23 (by decide) (fun hc => ?_) (fun hc => ?_)
    · have hw := mm_ip hc hw
      refine lv_bipush (v := (10 : Int32)) hx hb dX3_weight_40 (by decide) ?_
      refine lv_aload_n hx hb dX3_weight_42 rfl (lv_at hl 0 rfl) ?_
      refine mg_0 cx hM dX3_weight_43 ?_
      refine lv_bipush (v := (8 : Int32)) hx hb dX3_weight_46 (by decide) ?_
      refine lv_iload hx hb dX3_weight_48 (lv_at hl 3 rfl) ?_
      refine lv_iadd hx hb dX3_weight_50 ?_
      obtain ⟨hi, hw⟩ := hw
      refine mm_iald cx hM 0 rfl rfl hi dX3_weight_51 ?_
      refine lv_isub hx hb dX3_weight_52 ?_
      refine lv_i2l hx hb dX3_weight_53 rfl ?_
      exact B3_weight_54 cx hK5 _ _ _ _ _ hw _ _ _ hM hS (lv_sub hl [0, 1, 3] rfl)
    · have hw := mm_in hc hw
      refine lv_aload_n hx hb dX3_weight_26 rfl (lv_at hl 0 rfl) ?_
      refine mg_0 cx hM dX3_weight_27 ?_
      refine lv_bipush (v := (8 : Int32)) hx hb dX3_weight_30 (by decide) ?_
      refine lv_iload hx hb dX3_weight_32 (lv_at hl 3 rfl) ?_
      refine lv_iadd hx hb dX3_weight_34 ?_
      obtain ⟨hi, hw⟩ := hw
      refine mm_iald cx hM 0 rfl rfl hi dX3_weight_35 ?_
      refine lv_i2l hx hb dX3_weight_36 rfl ?_
      refine lv_goto (tgt := 54) hx hb dX3_weight_37 (by decide) ?_
      exact B3_weight_54 cx hK5 _ _ _ _ _ hw _ _ _ hM hS (lv_sub hl [0, 1, 3] rfl)
theorem L3_weight_5 {l : Launch} {p : Program} {e : Env} {s : State} {m : MethodId} {args : Array Value} {below : List Frame} {meth : Method} {c : Code} {G : mm_G} {Q : Int64 → MS → Prop} (cx : mm_X cX3_weight 5 (some .long) G p s m args meth c) : ∀ (x1 : Int32) (x2 : Int64) (x4 : Int32) (σ : MS), lp4F (w3_weight_5 Q) x1 x2 x4 σ → mm_T p l e ({ frames := 1, cells := 0, slots := 0, locals := 40 } : Room) s m args below meth c G (mm_Ql G Q) 5 5 σ [(0, .ref (mm_o G)), (1, .int x1), (2, .long x2), (4, .int x4)] [] :=
  lp4F_of (fun K hK => B3_weight_5 cx hK)
def w3_weight (x1 : Int32) (σ : MS) (Q : Int64 → MS → Prop) : Prop :=
  lp4F (w3_weight_5 Q) x1 (1 : Int64) (0 : Int32) σ
set_option maxHeartbeats 4000000 in
theorem M3_weight (l : Launch) (G : mm_G) (x1 : Int32) (σ : MS) (Q : Int64 → MS → Prop) (hw : w3_weight x1 σ Q) : mm_Ml l yX3_weight (ws_ yX3_weight cX3_weight 5 (some .long)) ({ frames := 1, cells := 0, slots := 0, locals := 40 } : Room) G [.ref (mm_o G), .int x1] σ Q := by
  refine mm_of (by decide) rfl ?_
  intro p e s m args below meth c cx hM ha
  refine mm_entry [.ref (mm_o G), .int x1] 5 [(0, .ref (mm_o G)), (1, .int x1)] ha (Nat.le_of_ble_eq_true rfl) rfl (fun ls hl => ?_)
  have hS : va_S (mm_A G) s.heap s.heap [] := va_S.rf
  unfold w3_weight at hw
  obtain ⟨hx, hb, hml, hown, hts, hr, hlk, hMK, hZ⟩ := id cx
  refine lv_lconst (v := (1 : Int64)) hx hb dX3_weight_0 rfl ?_
  refine lv_lstore_n (lv' := [(2, .long (1 : Int64)), (0, .ref (mm_o G)), (1, .int x1)]) hx hb dX3_weight_1 rfl hl (by decide) rfl (fun ls hl => ?_)
  refine lv_iconst (v := (0 : Int32)) hx hb dX3_weight_2 (by decide) ?_
  refine lv_istore (lv' := [(4, .int (0 : Int32)), (2, .long (1 : Int64)), (0, .ref (mm_o G)), (1, .int x1)]) hx hb dX3_weight_3 hl (by decide) rfl (fun ls hl => ?_)
  exact L3_weight_5 cx _ _ _ _ hw _ _ _ hM hS (lv_sub hl [2, 3, 1, 0] rfl)
theorem C3_weight {l : Launch} {p : Program} {e : Env} {R : Room} {s : State} {m : MethodId} {args : Array Value} {below : List Frame} {meth : Method} {c : Code} {H : Heap} {locs : List Loc} {cells slots : Nat} {Qz : State → Prop} {cc : ByteArray} {nL : Nat} {ret : Option FieldType} {G : mm_G} {pc : Nat} {ls : Array Slot} {rest : List Value} {x1 : Int32} {σ : MS} (cx : mm_X cc nL ret G p s m args meth c) (hM : mm_R G σ H) (hS0 : va_S (mm_A G) s.heap H locs) {Qf : Int64 → MS → Prop} (hw : w3_weight x1 σ Qf) (hR : (({ frames := 1, cells := 0, slots := 0, locals := 40 } : Room)).frames + 1 ≤ R.frames ∧ 8 + (5 + 11) + (({ frames := 1, cells := 0, slots := 0, locals := 40 } : Room)).locals ≤ R.locals) (hroom : (rest.map fun v => v.category).sum ≤ 8) (hsize : ls.size = nL) (hf : cells ≤ R.cells ∧ slots ≤ R.slots) (hdg : decode cc pc = .ok (.invokevirtual 477, 3))
    (kk : ∀ (r : Int64) (σ1 : MS) (H1 : Heap) (locs1 : List Loc), Qf r σ1 → mm_R G σ1 H1 → va_S (mm_A G) s.heap H1 locs1 → W p l e R s m args below meth c H1 locs1 cells slots Qz (F0 m (pc + 3) ls (.long r :: rest))) : W p l e R s m args below meth c H locs cells slots Qz (F0 m pc ls (.int x1 :: .ref (mm_o G) :: rest)) := by
  obtain ⟨hx, hb, hml, hown, hts, hr, hlk, hK, hZ⟩ := id cx
  exact mm_Vl cx hM hS0 (As := [.int x1]) (M3_weight l G x1 σ Qf hw) (cwV 1 hts (lw_V q3000 q3002 qs149 q172 q3003) rfl rfl rfl (by decide +kernel) hR) rfl hsize rfl hroom hf hdg kk
def w3_tellsBy_6 (Q : MS → Prop) (K6 : Int64 → Int64 → Int64 → Int64 → MS → Prop) (x1 : Int64) (x3 : Int64) (x5 : Int64) (x7 : Int64) (σ : MS) : Prop :=
  if (lg_cmp x7 (0 : Int64)) = 0 then (¬ x5 = 0 ∧ (¬ x5 = 0 ∧ (Q (sL (sL σ 36 (x1 / x5)) 37 (x3 / x5))))) else (¬ x7 = 0 ∧ (∀ v1 : Int64, v1 = (x5 - x5 / x7 * x7) → K6 x1 x3 x7 v1 σ))
set_option maxHeartbeats 4000000 in
theorem B3_tellsBy_6 {l : Launch} {p : Program} {e : Env} {s : State} {m : MethodId} {args : Array Value} {below : List Frame} {meth : Method} {c : Code} {G : mm_G} {Q : MS → Prop} {K6 : Int64 → Int64 → Int64 → Int64 → MS → Prop} (cx : mm_X cX3_tellsBy 11 none G p s m args meth c) (hK6 : ∀ (x1 : Int64) (x3 : Int64) (x5 : Int64) (x7 : Int64) (σ : MS), K6 x1 x3 x5 x7 σ → mm_T p l e ({ frames := 0, cells := 0, slots := 0, locals := 0 } : Room) s m args below meth c G (mm_Qv G Q) 11 6 σ [(0, .ref (mm_o G)), (1, .long x1), (3, .long x3), (5, .long x5), (7, .long x7)] []) : ∀ (x1 : Int64) (x3 : Int64) (x5 : Int64) (x7 : Int64) (σ : MS), w3_tellsBy_6 Q K6 x1 x3 x5 x7 σ → mm_T p l e ({ frames := 0, cells := 0, slots := 0, locals := 0 } : Room) s m args below meth c G (mm_Qv G Q) 11 6 σ [(0, .ref (mm_o G)), (1, .long x1), (3, .long x3), (5, .long x5), (7, .long x7)] [] := by
  intro x1 x3 x5 x7 σ hw H locs ls hM hS hl
  unfold w3_tellsBy_6 at hw
  obtain ⟨hx, hb, hml, hown, hts, hr, hlk, hMK, hZ⟩ := id cx
  refine lv_lload hx hb dX3_tellsBy_6 (lv_at hl 4 rfl) ?_
  refine lv_lconst (v := (0 : Int64)) hx hb dX3_tellsBy_8 rfl ?_
  refine W.lcmp hx hb dX3_tellsBy_9 ?_
  refine lv_if_eq (tgt := 31) hx hb dX3_tellsBy_10 (by decide) (fun hc => ?_) (fun hc => ?_)
  · have hw := mm_ip hc hw
    refine lv_aload_n hx hb dX3_tellsBy_31 rfl (lv_at hl 0 rfl) ?_
    refine lv_lload_n hx hb dX3_tellsBy_32 rfl (lv_at hl 1 rfl) ?_
    refine lv_lload hx hb dX3_tellsBy_33 (lv_at hl 3 rfl) ?_
    obtain ⟨hz, hw⟩ := hw
    refine lv_ldiv hx hb dX3_tellsBy_35 hz ?_
    refine mp_36 cx hM hS dX3_tellsBy_36 (fun H locs hM hS => ?_)
    refine lv_aload_n hx hb dX3_tellsBy_39 rfl (lv_at hl 0 rfl) ?_
    refine lv_lload_n hx hb dX3_tellsBy_40 rfl (lv_at hl 2 rfl) ?_
    refine lv_lload hx hb dX3_tellsBy_41 (lv_at hl 3 rfl) ?_
    obtain ⟨hz, hw⟩ := hw
    refine lv_ldiv hx hb dX3_tellsBy_43 hz ?_
    refine mp_37 cx hM hS dX3_tellsBy_44 (fun H locs hM hS => ?_)
    exact mm_vret cx hM hS hw dX3_tellsBy_47
  · have hw := mm_in hc hw
    refine lv_lload hx hb dX3_tellsBy_13 (lv_at hl 3 rfl) ?_
    refine lv_lload hx hb dX3_tellsBy_15 (lv_at hl 4 rfl) ?_
    obtain ⟨hz, hw⟩ := hw
    refine lv_lrem hx hb dX3_tellsBy_17 hz ?_
    refine lv_topl (fun v1 hv1 => ?_)
    have hw := hw v1 hv1
    refine lv_lstore (lv' := [(9, .long v1), (0, .ref (mm_o G)), (1, .long x1), (3, .long x3), (5, .long x5), (7, .long x7)]) hx hb dX3_tellsBy_18 hl (by decide) rfl (fun ls hl => ?_)
    refine lv_lload hx hb dX3_tellsBy_20 (lv_at hl 5 rfl) ?_
    refine lv_lstore (lv' := [(5, .long x7), (9, .long v1), (0, .ref (mm_o G)), (1, .long x1), (3, .long x3), (7, .long x7)]) hx hb dX3_tellsBy_22 hl (by decide) rfl (fun ls hl => ?_)
    refine lv_lload hx hb dX3_tellsBy_24 (lv_at hl 1 rfl) ?_
    refine lv_lstore (lv' := [(7, .long v1), (5, .long x7), (9, .long v1), (0, .ref (mm_o G)), (1, .long x1), (3, .long x3)]) hx hb dX3_tellsBy_26 hl (by decide) rfl (fun ls hl => ?_)
    refine lv_goto (tgt := 6) hx hb dX3_tellsBy_28 (by decide) ?_
    exact hK6 _ _ _ _ _ hw _ _ _ hM hS (lv_sub hl [3, 4, 5, 1, 0] rfl)
theorem L3_tellsBy_6 {l : Launch} {p : Program} {e : Env} {s : State} {m : MethodId} {args : Array Value} {below : List Frame} {meth : Method} {c : Code} {G : mm_G} {Q : MS → Prop} (cx : mm_X cX3_tellsBy 11 none G p s m args meth c) : ∀ (x1 : Int64) (x3 : Int64) (x5 : Int64) (x7 : Int64) (σ : MS), lp5F (w3_tellsBy_6 Q) x1 x3 x5 x7 σ → mm_T p l e ({ frames := 0, cells := 0, slots := 0, locals := 0 } : Room) s m args below meth c G (mm_Qv G Q) 11 6 σ [(0, .ref (mm_o G)), (1, .long x1), (3, .long x3), (5, .long x5), (7, .long x7)] [] :=
  lp5F_of (fun K hK => B3_tellsBy_6 cx hK)
def w3_tellsBy (x1 : Int64) (x3 : Int64) (σ : MS) (Q : MS → Prop) : Prop :=
  lp5F (w3_tellsBy_6 Q) x1 x3 x3 x1 σ
set_option maxHeartbeats 4000000 in
theorem M3_tellsBy (l : Launch) (G : mm_G) (x1 : Int64) (x3 : Int64) (σ : MS) (Q : MS → Prop) (hw : w3_tellsBy x1 x3 σ Q) : mm_Mv l yX3_tellsBy (ws_ yX3_tellsBy cX3_tellsBy 11 none) ({ frames := 0, cells := 0, slots := 0, locals := 0 } : Room) G [.ref (mm_o G), .long x1, .long x3] σ Q := by
  refine mm_of (by decide) rfl ?_
  intro p e s m args below meth c cx hM ha
  refine mm_entry [.ref (mm_o G), .long x1, .long x3] 11 [(0, .ref (mm_o G)), (1, .long x1), (3, .long x3)] ha (Nat.le_of_ble_eq_true rfl) rfl (fun ls hl => ?_)
  have hS : va_S (mm_A G) s.heap s.heap [] := va_S.rf
  unfold w3_tellsBy at hw
  obtain ⟨hx, hb, hml, hown, hts, hr, hlk, hMK, hZ⟩ := id cx
  refine lv_lload_n hx hb dX3_tellsBy_0 rfl (lv_at hl 2 rfl) ?_
  refine lv_lstore (lv' := [(5, .long x3), (0, .ref (mm_o G)), (1, .long x1), (3, .long x3)]) hx hb dX3_tellsBy_1 hl (by decide) rfl (fun ls hl => ?_)
  refine lv_lload_n hx hb dX3_tellsBy_3 rfl (lv_at hl 2 rfl) ?_
  refine lv_lstore (lv' := [(7, .long x1), (5, .long x3), (0, .ref (mm_o G)), (1, .long x1), (3, .long x3)]) hx hb dX3_tellsBy_4 hl (by decide) rfl (fun ls hl => ?_)
  exact L3_tellsBy_6 cx _ _ _ _ _ hw _ _ _ hM hS (lv_sub hl [2, 3, 4, 1, 0] rfl)
theorem C3_tellsBy {l : Launch} {p : Program} {e : Env} {R : Room} {s : State} {m : MethodId} {args : Array Value} {below : List Frame} {meth : Method} {c : Code} {H : Heap} {locs : List Loc} {cells slots : Nat} {Qz : State → Prop} {cc : ByteArray} {nL : Nat} {ret : Option FieldType} {G : mm_G} {pc : Nat} {ls : Array Slot} {rest : List Value} {x1 : Int64} {x3 : Int64} {σ : MS} (cx : mm_X cc nL ret G p s m args meth c) (hM : mm_R G σ H) (hS0 : va_S (mm_A G) s.heap H locs) {Qf : MS → Prop} (hw : w3_tellsBy x1 x3 σ Qf) (hR : (({ frames := 0, cells := 0, slots := 0, locals := 0 } : Room)).frames + 1 ≤ R.frames ∧ 8 + (11 + 11) + (({ frames := 0, cells := 0, slots := 0, locals := 0 } : Room)).locals ≤ R.locals) (hroom : (rest.map fun v => v.category).sum ≤ 8) (hsize : ls.size = nL) (hf : cells ≤ R.cells ∧ slots ≤ R.slots) (hdg : decode cc pc = .ok (.invokevirtual 481, 3))
    (kk : ∀ (σ1 : MS) (H1 : Heap) (locs1 : List Loc), Qf σ1 → mm_R G σ1 H1 → va_S (mm_A G) s.heap H1 locs1 → W p l e R s m args below meth c H1 locs1 cells slots Qz (F0 m (pc + 3) ls rest)) : W p l e R s m args below meth c H locs cells slots Qz (F0 m pc ls (.long x3 :: .long x1 :: .ref (mm_o G) :: rest)) := by
  obtain ⟨hx, hb, hml, hown, hts, hr, hlk, hK, hZ⟩ := id cx
  exact mm_Vv cx hM hS0 (As := [.long x1, .long x3]) (M3_tellsBy l G x1 x3 σ Qf hw) (cwV 2 hts (lw_V q3004 q3006 qs150 q172 q3007) rfl rfl rfl (by decide +kernel) hR) rfl hsize rfl hroom hf hdg kk
def w3_chance_106 (Q : Int32 → MS → Prop) (t0 : Int64) (σ : MS) : Prop :=
  Q ((t0).toInt32) σ
set_option maxHeartbeats 4000000 in
theorem B3_chance_106 {l : Launch} {p : Program} {e : Env} {s : State} {m : MethodId} {args : Array Value} {below : List Frame} {meth : Method} {c : Code} {G : mm_G} {Q : Int32 → MS → Prop} (cx : mm_X cX3_chance 8 (some .int) G p s m args meth c) : ∀ (t0 : Int64) (σ : MS), w3_chance_106 Q t0 σ → mm_T p l e ({ frames := 2, cells := 0, slots := 0, locals := 80 } : Room) s m args below meth c G (mm_Qi G Q) 8 106 σ [(0, .ref (mm_o G))] [.long t0] := by
  intro t0 σ hw H locs ls hM hS hl
  unfold w3_chance_106 at hw
  obtain ⟨hx, hb, hml, hown, hts, hr, hlk, hMK, hZ⟩ := id cx
  refine lv_l2i hx hb dX3_chance_106 rfl ?_
  exact mm_iret cx hM hS hw dX3_chance_107
def w3_chance_78 (Q : Int32 → MS → Prop) (K27 : Int32 → Int32 → Int64 → Int64 → Int32 → MS → Prop) (x1 : Int32) (x2 : Int32) (x3 : Int64) (x5 : Int64) (x7 : Int32) (σ : MS) : Prop :=
  ∀ v1 : Int32, v1 = x7 + (1 : Int32) → K27 x1 x2 x3 x5 v1 σ
set_option maxHeartbeats 4000000 in
theorem B3_chance_78 {l : Launch} {p : Program} {e : Env} {s : State} {m : MethodId} {args : Array Value} {below : List Frame} {meth : Method} {c : Code} {G : mm_G} {Q : Int32 → MS → Prop} {K27 : Int32 → Int32 → Int64 → Int64 → Int32 → MS → Prop} (cx : mm_X cX3_chance 8 (some .int) G p s m args meth c) (hK27 : ∀ (x1 : Int32) (x2 : Int32) (x3 : Int64) (x5 : Int64) (x7 : Int32) (σ : MS), K27 x1 x2 x3 x5 x7 σ → mm_T p l e ({ frames := 2, cells := 0, slots := 0, locals := 80 } : Room) s m args below meth c G (mm_Qi G Q) 8 27 σ [(0, .ref (mm_o G)), (1, .int x1), (2, .int x2), (3, .long x3), (5, .long x5), (7, .int x7)] []) : ∀ (x1 : Int32) (x2 : Int32) (x3 : Int64) (x5 : Int64) (x7 : Int32) (σ : MS), w3_chance_78 Q K27 x1 x2 x3 x5 x7 σ → mm_T p l e ({ frames := 2, cells := 0, slots := 0, locals := 80 } : Room) s m args below meth c G (mm_Qi G Q) 8 78 σ [(0, .ref (mm_o G)), (1, .int x1), (2, .int x2), (3, .long x3), (5, .long x5), (7, .int x7)] [] := by
  intro x1 x2 x3 x5 x7 σ hw H locs ls hM hS hl
  unfold w3_chance_78 at hw
  obtain ⟨hx, hb, hml, hown, hts, hr, hlk, hMK, hZ⟩ := id cx
  obtain ⟨v1, hv1⟩ : ∃ v : Int32, v = x7 + (1 : Int32) := ⟨_, rfl⟩
  have hw := hw v1 hv1
  refine lv_iinc (v := v1) (lv' := [(7, .int v1), (0, .ref (mm_o G)), (1, .int x1), (2, .int x2), (3, .long x3), (5, .long x5)]) hx hb dX3_chance_78 hl (k := 5) rfl (by rw [hv1]; rfl) (by decide) rfl (fun ls hl => ?_)
  refine lv_goto (tgt := 27) hx hb dX3_chance_81 (by decide) ?_
  exact hK27 _ _ _ _ _ _ hw _ _ _ hM hS (lv_sub hl [1, 2, 3, 4, 5, 0] rfl)
def w3_chance_76 (Q : Int32 → MS → Prop) (K27 : Int32 → Int32 → Int64 → Int64 → Int32 → MS → Prop) (x1 : Int32) (x2 : Int32) (x5 : Int64) (x7 : Int32) (t0 : Int64) (t1 : Int64) (σ : MS) : Prop :=
  ∀ v2 : Int64, v2 = (t0 + t1) → w3_chance_78 Q K27 x1 x2 v2 x5 x7 σ
set_option maxHeartbeats 4000000 in
theorem B3_chance_76 {l : Launch} {p : Program} {e : Env} {s : State} {m : MethodId} {args : Array Value} {below : List Frame} {meth : Method} {c : Code} {G : mm_G} {Q : Int32 → MS → Prop} {K27 : Int32 → Int32 → Int64 → Int64 → Int32 → MS → Prop} (cx : mm_X cX3_chance 8 (some .int) G p s m args meth c) (hK27 : ∀ (x1 : Int32) (x2 : Int32) (x3 : Int64) (x5 : Int64) (x7 : Int32) (σ : MS), K27 x1 x2 x3 x5 x7 σ → mm_T p l e ({ frames := 2, cells := 0, slots := 0, locals := 80 } : Room) s m args below meth c G (mm_Qi G Q) 8 27 σ [(0, .ref (mm_o G)), (1, .int x1), (2, .int x2), (3, .long x3), (5, .long x5), (7, .int x7)] []) : ∀ (x1 : Int32) (x2 : Int32) (x5 : Int64) (x7 : Int32) (t0 : Int64) (t1 : Int64) (σ : MS), w3_chance_76 Q K27 x1 x2 x5 x7 t0 t1 σ → mm_T p l e ({ frames := 2, cells := 0, slots := 0, locals := 80 } : Room) s m args below meth c G (mm_Qi G Q) 8 76 σ [(0, .ref (mm_o G)), (1, .int x1), (2, .int x2), (5, .long x5), (7, .int x7)] [.long t1, .long t0] := by
  intro x1 x2 x5 x7 t0 t1 σ hw H locs ls hM hS hl
  unfold w3_chance_76 at hw
  obtain ⟨hx, hb, hml, hown, hts, hr, hlk, hMK, hZ⟩ := id cx
  refine lv_ladd hx hb dX3_chance_76 ?_
  refine lv_topl (fun v2 hv2 => ?_)
  have hw := hw v2 hv2
  refine lv_lstore_n (lv' := [(3, .long v2), (0, .ref (mm_o G)), (1, .int x1), (2, .int x2), (5, .long x5), (7, .int x7)]) hx hb dX3_chance_77 rfl hl (by decide) rfl (fun ls hl => ?_)
  exact B3_chance_78 cx hK27 _ _ _ _ _ _ hw _ _ _ hM hS (lv_sub hl [1, 2, 3, 0, 4, 5] rfl)
def w3_chance_27 (Q : Int32 → MS → Prop) (K27 : Int32 → Int32 → Int64 → Int64 → Int32 → MS → Prop) (x1 : Int32) (x2 : Int32) (x3 : Int64) (x5 : Int64) (x7 : Int32) (σ : MS) : Prop :=
  if (256 : Int32) ≤ x7 then (w3_tellsBy x3 x5 σ (fun s3 => if x2 = 0 then (w3_chance_106 Q (gL s3 36) s3) else (w3_chance_106 Q (gL s3 37) s3))) else (w3_isLeft x7 σ (fun r4 s4 => if r4 = 0 then (w3_chance_78 Q K27 x1 x2 x3 x5 x7 s4) else (w3_weight x7 s4 (fun r5 s5 => ∀ v6 : Int64, v6 = (x5 + r5) → w3_isWon x1 x7 s5 (fun r7 s7 => if r7 = 0 then (w3_chance_76 Q K27 x1 x2 v6 x7 x3 (0 : Int64) s7) else (w3_weight x7 s7 (fun r8 s8 => w3_chance_76 Q K27 x1 x2 v6 x7 x3 r8 s8)))))))
set_option maxHeartbeats 4000000 in
theorem B3_chance_27 {l : Launch} {p : Program} {e : Env} {s : State} {m : MethodId} {args : Array Value} {below : List Frame} {meth : Method} {c : Code} {G : mm_G} {Q : Int32 → MS → Prop} {K27 : Int32 → Int32 → Int64 → Int64 → Int32 → MS → Prop} (cx : mm_X cX3_chance 8 (some .int) G p s m args meth c) (hK27 : ∀ (x1 : Int32) (x2 : Int32) (x3 : Int64) (x5 : Int64) (x7 : Int32) (σ : MS), K27 x1 x2 x3 x5 x7 σ → mm_T p l e ({ frames := 2, cells := 0, slots := 0, locals := 80 } : Room) s m args below meth c G (mm_Qi G Q) 8 27 σ [(0, .ref (mm_o G)), (1, .int x1), (2, .int x2), (3, .long x3), (5, .long x5), (7, .int x7)] []) : ∀ (x1 : Int32) (x2 : Int32) (x3 : Int64) (x5 : Int64) (x7 : Int32) (σ : MS), w3_chance_27 Q K27 x1 x2 x3 x5 x7 σ → mm_T p l e ({ frames := 2, cells := 0, slots := 0, locals := 80 } : Room) s m args below meth c G (mm_Qi G Q) 8 27 σ [(0, .ref (mm_o G)), (1, .int x1), (2, .int x2), (3, .long x3), (5, .long x5), (7, .int x7)] [] := by
  intro x1 x2 x3 x5 x7 σ hw H locs ls hM hS hl
  unfold w3_chance_27 at hw
  obtain ⟨hx, hb, hml, hown, hts, hr, hlk, hMK, hZ⟩ := id cx
  refine lv_iload hx hb dX3_chance_27 (lv_at hl 5 rfl) ?_
  refine lv_sipush (v := (256 : Int32)) hx hb dX3_chance_29 (by decide) ?_
  refine lv_icmp_ge (tgt := 84) hx hb dX3_chance_32 (by decide) (fun hc => ?_) (fun hc => ?_)
  · have hw := mm_ip hc hw
    refine lv_aload_n hx hb dX3_chance_84 rfl (lv_at hl 0 rfl) ?_
    refine lv_lload_n hx hb dX3_chance_85 rfl (lv_at hl 3 rfl) ?_
    refine lv_lload hx hb dX3_chance_86 (lv_at hl 4 rfl) ?_
    refine C3_tellsBy cx hM hS hw ⟨Nat.le_of_ble_eq_true rfl, Nat.le_of_ble_eq_true rfl⟩ (Nat.le_of_ble_eq_true rfl) hl.1 ⟨Nat.zero_le _, Nat.zero_le _⟩ dX3_chance_88 (fun s3 H locs hw hM hS => ?_)
    refine lv_iload_n hx hb dX3_chance_91 rfl (lv_at hl 2 rfl) ?_
    refine lv_if_ne (tgt := 102) hx hb dX3_chance_92 (by decide) (fun hc => ?_) (fun hc => ?_)
    · have hw := mm_in hc hw
      refine lv_aload_n hx hb dX3_chance_102 rfl (lv_at hl 0 rfl) ?_
      refine mg_37 cx hM dX3_chance_103 ?_
      exact B3_chance_106 cx _ _ hw _ _ _ hM hS (lv_sub hl [0] rfl)
    · have hw := mm_ip hc hw
      refine lv_aload_n hx hb dX3_chance_95 rfl (lv_at hl 0 rfl) ?_
      refine mg_36 cx hM dX3_chance_96 ?_
      refine lv_goto (tgt := 106) hx hb dX3_chance_99 (by decide) ?_
      exact B3_chance_106 cx _ _ hw _ _ _ hM hS (lv_sub hl [0] rfl)
  · have hw := mm_in hc hw
    refine lv_aload_n hx hb dX3_chance_35 rfl (lv_at hl 0 rfl) ?_
    refine lv_iload hx hb dX3_chance_36 (lv_at hl 5 rfl) ?_
    refine C3_isLeft cx hM hS hw ⟨Nat.le_of_ble_eq_true rfl, Nat.le_of_ble_eq_true rfl⟩ (Nat.le_of_ble_eq_true rfl) hl.1 ⟨Nat.zero_le _, Nat.zero_le _⟩ dX3_chance_38 (fun r4 s4 H locs hw hM hS => ?_)
    refine lv_if_eq (tgt := 78) hx hb dX3_chance_41 (by decide) (fun hc => ?_) (fun hc => ?_)
    · have hw := mm_ip hc hw
      exact B3_chance_78 cx hK27 _ _ _ _ _ _ hw _ _ _ hM hS (lv_sub hl [0, 1, 2, 3, 4, 5] rfl)
    · have hw := mm_in hc hw
      refine lv_lload hx hb dX3_chance_44 (lv_at hl 4 rfl) ?_
      refine lv_aload_n hx hb dX3_chance_46 rfl (lv_at hl 0 rfl) ?_
      refine lv_iload hx hb dX3_chance_47 (lv_at hl 5 rfl) ?_
      refine C3_weight cx hM hS hw ⟨Nat.le_of_ble_eq_true rfl, Nat.le_of_ble_eq_true rfl⟩ (Nat.le_of_ble_eq_true rfl) hl.1 ⟨Nat.zero_le _, Nat.zero_le _⟩ dX3_chance_49 (fun r5 s5 H locs hw hM hS => ?_)
      refine lv_ladd hx hb dX3_chance_52 ?_
      refine lv_topl (fun v6 hv6 => ?_)
      have hw := hw v6 hv6
      refine lv_lstore (lv' := [(5, .long v6), (0, .ref (mm_o G)), (1, .int x1), (2, .int x2), (3, .long x3), (7, .int x7)]) hx hb dX3_chance_53 hl (by decide) rfl (fun ls hl => ?_)
      refine lv_lload_n hx hb dX3_chance_55 rfl (lv_at hl 4 rfl) ?_
      refine lv_aload_n hx hb dX3_chance_56 rfl (lv_at hl 1 rfl) ?_
      refine lv_iload_n hx hb dX3_chance_57 rfl (lv_at hl 2 rfl) ?_
      refine lv_iload hx hb dX3_chance_58 (lv_at hl 5 rfl) ?_
      refine C3_isWon cx hM hS hw ⟨Nat.le_of_ble_eq_true rfl, Nat.le_of_ble_eq_true rfl⟩ (Nat.le_of_ble_eq_true rfl) hl.1 ⟨Nat.zero_le _, Nat.zero_le _⟩ dX3_chance_60 (fun r7 s7 H locs hw hM hS => ?_)
      refine lv_if_eq (tgt := 75) hx hb dX3_chance_63 (by decide) (fun hc => ?_) (fun hc => ?_)
      · have hw := mm_ip hc hw
        refine lv_lconst (v := (0 : Int64)) hx hb dX3_chance_75 rfl ?_
        exact B3_chance_76 cx hK27 _ _ _ _ _ _ _ hw _ _ _ hM hS (lv_sub hl [1, 2, 3, 0, 5] rfl)
      · have hw := mm_in hc hw
        refine lv_aload_n hx hb dX3_chance_66 rfl (lv_at hl 1 rfl) ?_
        refine lv_iload hx hb dX3_chance_67 (lv_at hl 5 rfl) ?_
        refine C3_weight cx hM hS hw ⟨Nat.le_of_ble_eq_true rfl, Nat.le_of_ble_eq_true rfl⟩ (Nat.le_of_ble_eq_true rfl) hl.1 ⟨Nat.zero_le _, Nat.zero_le _⟩ dX3_chance_69 (fun r8 s8 H locs hw hM hS => ?_)
        refine lv_goto (tgt := 76) hx hb dX3_chance_72 (by decide) ?_
        exact B3_chance_76 cx hK27 _ _ _ _ _ _ _ hw _ _ _ hM hS (lv_sub hl [1, 2, 3, 0, 5] rfl)
theorem L3_chance_27 {l : Launch} {p : Program} {e : Env} {s : State} {m : MethodId} {args : Array Value} {below : List Frame} {meth : Method} {c : Code} {G : mm_G} {Q : Int32 → MS → Prop} (cx : mm_X cX3_chance 8 (some .int) G p s m args meth c) : ∀ (x1 : Int32) (x2 : Int32) (x3 : Int64) (x5 : Int64) (x7 : Int32) (σ : MS), lp6F (w3_chance_27 Q) x1 x2 x3 x5 x7 σ → mm_T p l e ({ frames := 2, cells := 0, slots := 0, locals := 80 } : Room) s m args below meth c G (mm_Qi G Q) 8 27 σ [(0, .ref (mm_o G)), (1, .int x1), (2, .int x2), (3, .long x3), (5, .long x5), (7, .int x7)] [] :=
  lp6F_of (fun K hK => B3_chance_27 cx hK)
def w3_chance (x1 : Int32) (x2 : Int32) (σ : MS) (Q : Int32 → MS → Prop) : Prop :=
  w3_isCount x1 σ (fun r9 s9 => if r9 = 0 then (Q (-1 : Int32) s9) else (w3_in x2 (0 : Int32) (1 : Int32) s9 (fun r10 s10 => if r10 = 0 then (Q (-1 : Int32) s10) else (lp6F (w3_chance_27 Q) x1 x2 (0 : Int64) (0 : Int64) (0 : Int32) s10))))
set_option maxHeartbeats 4000000 in
theorem M3_chance (l : Launch) (G : mm_G) (x1 : Int32) (x2 : Int32) (σ : MS) (Q : Int32 → MS → Prop) (hw : w3_chance x1 x2 σ Q) : mm_Mi l yX3_chance (ws_ yX3_chance cX3_chance 8 (some .int)) ({ frames := 2, cells := 0, slots := 0, locals := 80 } : Room) G [.ref (mm_o G), .int x1, .int x2] σ Q := by
  refine mm_of (by decide) rfl ?_
  intro p e s m args below meth c cx hM ha
  refine mm_entry [.ref (mm_o G), .int x1, .int x2] 8 [(0, .ref (mm_o G)), (1, .int x1), (2, .int x2)] ha (Nat.le_of_ble_eq_true rfl) rfl (fun ls hl => ?_)
  have hS : va_S (mm_A G) s.heap s.heap [] := va_S.rf
  unfold w3_chance at hw
  obtain ⟨hx, hb, hml, hown, hts, hr, hlk, hMK, hZ⟩ := id cx
  refine lv_aload_n hx hb dX3_chance_0 rfl (lv_at hl 0 rfl) ?_
  refine lv_iload_n hx hb dX3_chance_1 rfl (lv_at hl 1 rfl) ?_
  refine C3_isCount cx hM hS hw ⟨Nat.le_of_ble_eq_true rfl, Nat.le_of_ble_eq_true rfl⟩ (Nat.le_of_ble_eq_true rfl) hl.1 ⟨Nat.zero_le _, Nat.zero_le _⟩ dX3_chance_2 (fun r9 s9 H locs hw hM hS => ?_)
  refine lv_if_eq (tgt := 17) hx hb dX3_chance_5 (by decide) (fun hc => ?_) (fun hc => ?_)
  · have hw := mm_ip hc hw
    refine lv_iconst (v := (-1 : Int32)) hx hb dX3_chance_17 (by decide) ?_
    exact mm_iret cx hM hS hw dX3_chance_18
  · have hw := mm_in hc hw
    refine lv_iload_n hx hb dX3_chance_8 rfl (lv_at hl 2 rfl) ?_
    refine lv_iconst (v := (0 : Int32)) hx hb dX3_chance_9 (by decide) ?_
    refine lv_iconst (v := (1 : Int32)) hx hb dX3_chance_10 (by decide) ?_
    refine C3_in cx hM hS hw ⟨Nat.le_of_ble_eq_true rfl, Nat.le_of_ble_eq_true rfl⟩ (Nat.le_of_ble_eq_true rfl) hl.1 ⟨Nat.zero_le _, Nat.zero_le _⟩ dX3_chance_11 (fun r10 s10 H locs hw hM hS => ?_)
    refine lv_if_ne (tgt := 19) hx hb dX3_chance_14 (by decide) (fun hc => ?_) (fun hc => ?_)
    · have hw := mm_in hc hw
      refine lv_lconst (v := (0 : Int64)) hx hb dX3_chance_19 rfl ?_
      refine lv_lstore_n (lv' := [(3, .long (0 : Int64)), (0, .ref (mm_o G)), (1, .int x1), (2, .int x2)]) hx hb dX3_chance_20 rfl hl (by decide) rfl (fun ls hl => ?_)
      refine lv_lconst (v := (0 : Int64)) hx hb dX3_chance_21 rfl ?_
      refine lv_lstore (lv' := [(5, .long (0 : Int64)), (3, .long (0 : Int64)), (0, .ref (mm_o G)), (1, .int x1), (2, .int x2)]) hx hb dX3_chance_22 hl (by decide) rfl (fun ls hl => ?_)
      refine lv_iconst (v := (0 : Int32)) hx hb dX3_chance_24 (by decide) ?_
      refine lv_istore (lv' := [(7, .int (0 : Int32)), (5, .long (0 : Int64)), (3, .long (0 : Int64)), (0, .ref (mm_o G)), (1, .int x1), (2, .int x2)]) hx hb dX3_chance_25 hl (by decide) rfl (fun ls hl => ?_)
      exact L3_chance_27 cx _ _ _ _ _ _ hw _ _ _ hM hS (lv_sub hl [3, 4, 5, 2, 1, 0] rfl)
    · have hw := mm_ip hc hw
      refine lv_iconst (v := (-1 : Int32)) hx hb dX3_chance_17 (by decide) ?_
      exact mm_iret cx hM hS hw dX3_chance_18
-- no call of chance
