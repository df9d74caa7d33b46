/-! walks of the model's methods (printed by gen/mparts.py): failsBy failing of turned andOf seen tellsOf element bar isLeft isSomeBy keepsAct makes answered answer withdraw firstSayer close find say add strike days undo keep again worlds clash isWon -/
set_option maxRecDepth 100000
def w3_failsBy_144 (Q : Int32 → MS → Prop) (K144 : Int32 → Int32 → Int32 → MS → Prop) (x1 : Int32) (x2 : Int32) (x6 : Int32) (σ : MS) : Prop :=
  w3_bars x1 σ (fun r1 s1 => if r1 ≤ x6 then (w3_its x1 (3 : Int32) s1 (fun r2 s2 => w3_backBy x1 x2 s2 (fun r3 s3 => if (r2 + r3) ≤ (gA s3 0 5) then (Q (0 : Int32) s3) else (Q (6 : Int32) s3)))) else (w3_barOf x1 x6 s1 (fun r4 s4 => w3_isSure 28 r4 s4 (fun r5 s5 => if r5 = 0 then (w3_barOf x1 x6 s5 (fun r6 s6 => w3_isSure 27 r6 s6 (fun r7 s7 => if r7 = 0 then (∀ v8 : Int32, v8 = x6 + (1 : Int32) → K144 x1 x2 v8 s7) else (Q (5 : Int32) s7)))) else (Q (5 : Int32) s5)))))
set_option maxHeartbeats 4000000 in
theorem B3_failsBy_144 {l : Launch} {p : Program} {e : Env} {s : State} {m : MethodId} {args : Array Value} {below : List Frame} {meth : Method} {c : Code} {G : mm_G} {Q : Int32 → MS → Prop} {K144 : Int32 → Int32 → Int32 → MS → Prop} (cx : mm_X cX3_failsBy 7 (some .int) G p s m args meth c) (hK144 : ∀ (x1 : Int32) (x2 : Int32) (x6 : Int32) (σ : MS), K144 x1 x2 x6 σ → mm_T p l e ({ frames := 3, cells := 0, slots := 0, locals := 120 } : Room) s m args below meth c G (mm_Qi G Q) 7 144 σ [(0, .ref (mm_o G)), (1, .int x1), (2, .int x2), (6, .int x6)] []) : ∀ (x1 : Int32) (x2 : Int32) (x6 : Int32) (σ : MS), w3_failsBy_144 Q K144 x1 x2 x6 σ → mm_T p l e ({ frames := 3, cells := 0, slots := 0, locals := 120 } : Room) s m args below meth c G (mm_Qi G Q) 7 144 σ [(0, .ref (mm_o G)), (1, .int x1), (2, .int x2), (6, .int x6)] [] := by
  intro x1 x2 x6 σ hw H locs ls hM hS hl
  unfold w3_failsBy_144 at hw
  obtain ⟨hx, hb, hml, hown, hts, hr, hlk, hMK, hZ⟩ := id cx
  refine lv_iload hx hb dX3_failsBy_144 (lv_at hl 3 rfl) ?_
  refine lv_aload_n hx hb dX3_failsBy_146 rfl (lv_at hl 0 rfl) ?_
  refine lv_iload_n hx hb dX3_failsBy_147 rfl (lv_at hl 1 rfl) ?_
  refine C3_bars cx hM hS hw ⟨Nat.le_of_ble_eq_true rfl, Nat.le_of_ble_eq_true rfl⟩ (Nat.le_of_ble_eq_true rfl) hl.1 ⟨Nat.zero_le _, Nat.zero_le _⟩ dX3_failsBy_148 (fun r1 s1 H locs hw hM hS => ?_)
  refine lv_icmp_ge (tgt := 198) hx hb dX3_failsBy_151 (by decide) (fun hc => ?_) (fun hc => ?_)
  · have hw := mm_ip hc hw
    refine lv_aload_n hx hb dX3_failsBy_198 rfl (lv_at hl 0 rfl) ?_
    refine lv_iload_n hx hb dX3_failsBy_199 rfl (lv_at hl 1 rfl) ?_
    refine lv_iconst (v := (3 : Int32)) hx hb dX3_failsBy_200 (by decide) ?_
    refine C3_its cx hM hS hw ⟨Nat.le_of_ble_eq_true rfl, Nat.le_of_ble_eq_true rfl⟩ (Nat.le_of_ble_eq_true rfl) hl.1 ⟨Nat.zero_le _, Nat.zero_le _⟩ dX3_failsBy_201 (fun r2 s2 H locs hw hM hS => ?_)
    refine lv_aload_n hx hb dX3_failsBy_204 rfl (lv_at hl 0 rfl) ?_
    refine lv_iload_n hx hb dX3_failsBy_205 rfl (lv_at hl 1 rfl) ?_
    refine lv_iload_n hx hb dX3_failsBy_206 rfl (lv_at hl 2 rfl) ?_
    refine C3_backBy cx hM hS hw ⟨Nat.le_of_ble_eq_true rfl, Nat.le_of_ble_eq_true rfl⟩ (Nat.le_of_ble_eq_true rfl) hl.1 ⟨Nat.zero_le _, Nat.zero_le _⟩ dX3_failsBy_207 (fun r3 s3 H locs hw hM hS => ?_)
    refine lv_iadd hx hb dX3_failsBy_210 ?_
    refine lv_aload_n hx hb dX3_failsBy_211 rfl (lv_at hl 0 rfl) ?_
    refine mg_0 cx hM dX3_failsBy_212 ?_
    refine lv_iconst (v := (5 : Int32)) hx hb dX3_failsBy_215 (by decide) ?_
    refine mm_iald cx hM 0 rfl (j := 5) (by decide) (vp_lit (by decide)) dX3_failsBy_216 ?_
    refine lv_icmp_le (tgt := 225) hx hb dX3_failsBy_217 (by decide) (fun hc => ?_) (fun hc => ?_)
    · have hw := mm_ip hc hw
      refine lv_iconst (v := (0 : Int32)) hx hb dX3_failsBy_225 (by decide) ?_
      exact mm_iret cx hM hS hw dX3_failsBy_226
    · have hw := mm_in hc hw
      refine lv_bipush (v := (6 : Int32)) hx hb dX3_failsBy_220 (by decide) ?_
      refine lv_goto (tgt := 226) hx hb dX3_failsBy_222 (by decide) ?_
      exact mm_iret cx hM hS hw dX3_failsBy_226
  · have hw := mm_in hc hw
    refine lv_aload_n hx hb dX3_failsBy_154 rfl (lv_at hl 0 rfl) ?_
    refine lv_aload_n hx hb dX3_failsBy_155 rfl (lv_at hl 0 rfl) ?_
    refine mg_28 cx hM dX3_failsBy_156 ?_
    refine lv_aload_n hx hb dX3_failsBy_159 rfl (lv_at hl 0 rfl) ?_
    refine lv_iload_n hx hb dX3_failsBy_160 rfl (lv_at hl 1 rfl) ?_
    refine lv_iload hx hb dX3_failsBy_161 (lv_at hl 3 rfl) ?_
    refine C3_barOf cx hM hS hw ⟨Nat.le_of_ble_eq_true rfl, Nat.le_of_ble_eq_true rfl⟩ (Nat.le_of_ble_eq_true rfl) hl.1 ⟨Nat.zero_le _, Nat.zero_le _⟩ dX3_failsBy_163 (fun r4 s4 H locs hw hM hS => ?_)
    refine C3_isSure cx hM hS hw ⟨Nat.le_of_ble_eq_true rfl, Nat.le_of_ble_eq_true rfl⟩ (Nat.le_of_ble_eq_true rfl) hl.1 ⟨Nat.zero_le _, Nat.zero_le _⟩ dX3_failsBy_166 (fun r5 s5 H locs hw hM hS => ?_)
    refine lv_if_ne (tgt := 190) hx hb dX3_failsBy_169 (by decide) (fun hc => ?_) (fun hc => ?_)
    · have hw := mm_in hc hw
      refine lv_iconst (v := (5 : Int32)) hx hb dX3_failsBy_190 (by decide) ?_
      exact mm_iret cx hM hS hw dX3_failsBy_191
    · have hw := mm_ip hc hw
      refine lv_aload_n hx hb dX3_failsBy_172 rfl (lv_at hl 0 rfl) ?_
      refine lv_aload_n hx hb dX3_failsBy_173 rfl (lv_at hl 0 rfl) ?_
      refine mg_27 cx hM dX3_failsBy_174 ?_
      refine lv_aload_n hx hb dX3_failsBy_177 rfl (lv_at hl 0 rfl) ?_
      refine lv_iload_n hx hb dX3_failsBy_178 rfl (lv_at hl 1 rfl) ?_
      refine lv_iload hx hb dX3_failsBy_179 (lv_at hl 3 rfl) ?_
      refine C3_barOf cx hM hS hw ⟨Nat.le_of_ble_eq_true rfl, Nat.le_of_ble_eq_true rfl⟩ (Nat.le_of_ble_eq_true rfl) hl.1 ⟨Nat.zero_le _, Nat.zero_le _⟩ dX3_failsBy_181 (fun r6 s6 H locs hw hM hS => ?_)
      refine C3_isSure cx hM hS hw ⟨Nat.le_of_ble_eq_true rfl, Nat.le_of_ble_eq_true rfl⟩ (Nat.le_of_ble_eq_true rfl) hl.1 ⟨Nat.zero_le _, Nat.zero_le _⟩ dX3_failsBy_184 (fun r7 s7 H locs hw hM hS => ?_)
      refine lv_if_eq (tgt := 192) hx hb dX3_failsBy_187 (by decide) (fun hc => ?_) (fun hc => ?_)
      · have hw := mm_ip hc hw
        obtain ⟨v8, hv8⟩ : ∃ v : Int32, v = x6 + (1 : Int32) := ⟨_, rfl⟩
        have hw := hw v8 hv8
        refine lv_iinc (v := v8) (lv' := [(6, .int v8), (0, .ref (mm_o G)), (1, .int x1), (2, .int x2)]) hx hb dX3_failsBy_192 hl (k := 3) rfl (by rw [hv8]; rfl) (by decide) rfl (fun ls hl => ?_)
        refine lv_goto (tgt := 144) hx hb dX3_failsBy_195 (by decide) ?_
        exact hK144 _ _ _ _ hw _ _ _ hM hS (lv_sub hl [1, 2, 3, 0] rfl)
      · have hw := mm_in hc hw
        refine lv_iconst (v := (5 : Int32)) hx hb dX3_failsBy_190 (by decide) ?_
        exact mm_iret cx hM hS hw dX3_failsBy_191
theorem L3_failsBy_144 {l : Launch} {p : Program} {e : Env} {s : State} {m : MethodId} {args : Array Value} {below : List Frame} {meth : Method} {c : Code} {G : mm_G} {Q : Int32 → MS → Prop} (cx : mm_X cX3_failsBy 7 (some .int) G p s m args meth c) : ∀ (x1 : Int32) (x2 : Int32) (x6 : Int32) (σ : MS), lp4F (w3_failsBy_144 Q) x1 x2 x6 σ → mm_T p l e ({ frames := 3, cells := 0, slots := 0, locals := 120 } : Room) s m args below meth c G (mm_Qi G Q) 7 144 σ [(0, .ref (mm_o G)), (1, .int x1), (2, .int x2), (6, .int x6)] [] :=
  lp4F_of (fun K hK => B3_failsBy_144 cx hK)
def w3_failsBy_130 (Q : Int32 → MS → Prop) (x4 : Int32) (σ : MS) : Prop :=
  if x4 = 0 then (Q (4 : Int32) σ) else (Q (3 : Int32) σ)
set_option maxHeartbeats 4000000 in
theorem B3_failsBy_130 {l : Launch} {p : Program} {e : Env} {s : State} {m : MethodId} {args : Array Value} {below : List Frame} {meth : Method} {c : Code} {G : mm_G} {Q : Int32 → MS → Prop} (cx : mm_X cX3_failsBy 7 (some .int) G p s m args meth c) : ∀ (x4 : Int32) (σ : MS), w3_failsBy_130 Q x4 σ → mm_T p l e ({ frames := 3, cells := 0, slots := 0, locals := 120 } : Room) s m args below meth c G (mm_Qi G Q) 7 130 σ [(0, .ref (mm_o G)), (4, .int x4)] [] := by
  intro x4 σ hw H locs ls hM hS hl
  unfold w3_failsBy_130 at hw
  obtain ⟨hx, hb, hml, hown, hts, hr, hlk, hMK, hZ⟩ := id cx
  refine lv_iload hx hb dX3_failsBy_130 (lv_at hl 1 rfl) ?_
  refine lv_if_eq (tgt := 139) hx hb dX3_failsBy_132 (by decide) (fun hc => ?_) (fun hc => ?_)
  · have hw := mm_ip hc hw
    refine lv_iconst (v := (4 : Int32)) hx hb dX3_failsBy_139 (by decide) ?_
    exact mm_iret cx hM hS hw dX3_failsBy_140
  · have hw := mm_in hc hw
    refine lv_iconst (v := (3 : Int32)) hx hb dX3_failsBy_135 (by decide) ?_
    refine lv_goto (tgt := 140) hx hb dX3_failsBy_136 (by decide) ?_
    exact mm_iret cx hM hS hw dX3_failsBy_140
def w3_failsBy_112 (Q : Int32 → MS → Prop) (K44 : Int32 → Int32 → Int32 → Int32 → Int32 → MS → Prop) (x1 : Int32) (x2 : Int32) (x4 : Int32) (x6 : Int32) (t0 : Int32) (σ : MS) : Prop :=
  ∀ v9 : Int32, v9 = x6 + (1 : Int32) → K44 x1 x2 x4 t0 v9 σ
set_option maxHeartbeats 4000000 in
theorem B3_failsBy_112 {l : Launch} {p : Program} {e : Env} {s : State} {m : MethodId} {args : Array Value} {below : List Frame} {meth : Method} {c : Code} {G : mm_G} {Q : Int32 → MS → Prop} {K44 : Int32 → Int32 → Int32 → Int32 → Int32 → MS → Prop} (cx : mm_X cX3_failsBy 7 (some .int) G p s m args meth c) (hK44 : ∀ (x1 : Int32) (x2 : Int32) (x4 : Int32) (x5 : Int32) (x6 : Int32) (σ : MS), K44 x1 x2 x4 x5 x6 σ → mm_T p l e ({ frames := 3, cells := 0, slots := 0, locals := 120 } : Room) s m args below meth c G (mm_Qi G Q) 7 44 σ [(0, .ref (mm_o G)), (1, .int x1), (2, .int x2), (4, .int x4), (5, .int x5), (6, .int x6)] []) : ∀ (x1 : Int32) (x2 : Int32) (x4 : Int32) (x6 : Int32) (t0 : Int32) (σ : MS), w3_failsBy_112 Q K44 x1 x2 x4 x6 t0 σ → mm_T p l e ({ frames := 3, cells := 0, slots := 0, locals := 120 } : Room) s m args below meth c G (mm_Qi G Q) 7 112 σ [(0, .ref (mm_o G)), (1, .int x1), (2, .int x2), (4, .int x4), (6, .int x6)] [.int t0] := by
  intro x1 x2 x4 x6 t0 σ hw H locs ls hM hS hl
  unfold w3_failsBy_112 at hw
  obtain ⟨hx, hb, hml, hown, hts, hr, hlk, hMK, hZ⟩ := id cx
  refine lv_istore (lv' := [(5, .int t0), (0, .ref (mm_o G)), (1, .int x1), (2, .int x2), (4, .int x4), (6, .int x6)]) hx hb dX3_failsBy_112 hl (by decide) rfl (fun ls hl => ?_)
  obtain ⟨v9, hv9⟩ : ∃ v : Int32, v = x6 + (1 : Int32) := ⟨_, rfl⟩
  have hw := hw v9 hv9
  refine lv_iinc (v := v9) (lv' := [(6, .int v9), (5, .int t0), (0, .ref (mm_o G)), (1, .int x1), (2, .int x2), (4, .int x4)]) hx hb dX3_failsBy_114 hl (k := 5) rfl (by rw [hv9]; rfl) (by decide) rfl (fun ls hl => ?_)
  refine lv_goto (tgt := 44) hx hb dX3_failsBy_117 (by decide) ?_
  exact hK44 _ _ _ _ _ _ hw _ _ _ hM hS (lv_sub hl [2, 3, 4, 5, 1, 0] rfl)
def w3_failsBy_107 (Q : Int32 → MS → Prop) (K44 : Int32 → Int32 → Int32 → Int32 → Int32 → MS → Prop) (x1 : Int32) (x2 : Int32) (x4 : Int32) (x6 : Int32) (σ : MS) : Prop :=
  w3_failsBy_112 Q K44 x1 x2 x4 x6 (1 : Int32) σ
set_option maxHeartbeats 4000000 in
theorem B3_failsBy_107 {l : Launch} {p : Program} {e : Env} {s : State} {m : MethodId} {args : Array Value} {below : List Frame} {meth : Method} {c : Code} {G : mm_G} {Q : Int32 → MS → Prop} {K44 : Int32 → Int32 → Int32 → Int32 → Int32 → MS → Prop} (cx : mm_X cX3_failsBy 7 (some .int) G p s m args meth c) (hK44 : ∀ (x1 : Int32) (x2 : Int32) (x4 : Int32) (x5 : Int32) (x6 : Int32) (σ : MS), K44 x1 x2 x4 x5 x6 σ → mm_T p l e ({ frames := 3, cells := 0, slots := 0, locals := 120 } : Room) s m args below meth c G (mm_Qi G Q) 7 44 σ [(0, .ref (mm_o G)), (1, .int x1), (2, .int x2), (4, .int x4), (5, .int x5), (6, .int x6)] []) : ∀ (x1 : Int32) (x2 : Int32) (x4 : Int32) (x6 : Int32) (σ : MS), w3_failsBy_107 Q K44 x1 x2 x4 x6 σ → mm_T p l e ({ frames := 3, cells := 0, slots := 0, locals := 120 } : Room) s m args below meth c G (mm_Qi G Q) 7 107 σ [(0, .ref (mm_o G)), (1, .int x1), (2, .int x2), (4, .int x4), (6, .int x6)] [] := by
  intro x1 x2 x4 x6 σ hw H locs ls hM hS hl
  unfold w3_failsBy_107 at hw
  obtain ⟨hx, hb, hml, hown, hts, hr, hlk, hMK, hZ⟩ := id cx
  refine lv_iconst (v := (1 : Int32)) hx hb dX3_failsBy_107 (by decide) ?_
  refine lv_goto (tgt := 112) hx hb dX3_failsBy_108 (by decide) ?_
  exact B3_failsBy_112 cx hK44 _ _ _ _ _ _ hw _ _ _ hM hS (lv_sub hl [0, 1, 2, 3, 4] rfl)
def w3_failsBy_82 (Q : Int32 → MS → Prop) (K44 : Int32 → Int32 → Int32 → Int32 → Int32 → MS → Prop) (x1 : Int32) (x2 : Int32) (x5 : Int32) (x6 : Int32) (t0 : Int32) (σ : MS) : Prop :=
  if x5 = 0 then (w3_need x1 x6 σ (fun r10 s10 => w3_holdsIn 27 r10 s10 (fun r11 s11 => if r11 = 0 then (w3_failsBy_107 Q K44 x1 x2 t0 x6 s11) else (w3_failsBy_112 Q K44 x1 x2 t0 x6 (0 : Int32) s11)))) else (w3_failsBy_107 Q K44 x1 x2 t0 x6 σ)
set_option maxHeartbeats 4000000 in
theorem B3_failsBy_82 {l : Launch} {p : Program} {e : Env} {s : State} {m : MethodId} {args : Array Value} {below : List Frame} {meth : Method} {c : Code} {G : mm_G} {Q : Int32 → MS → Prop} {K44 : Int32 → Int32 → Int32 → Int32 → Int32 → MS → Prop} (cx : mm_X cX3_failsBy 7 (some .int) G p s m args meth c) (hK44 : ∀ (x1 : Int32) (x2 : Int32) (x4 : Int32) (x5 : Int32) (x6 : Int32) (σ : MS), K44 x1 x2 x4 x5 x6 σ → mm_T p l e ({ frames := 3, cells := 0, slots := 0, locals := 120 } : Room) s m args below meth c G (mm_Qi G Q) 7 44 σ [(0, .ref (mm_o G)), (1, .int x1), (2, .int x2), (4, .int x4), (5, .int x5), (6, .int x6)] []) : ∀ (x1 : Int32) (x2 : Int32) (x5 : Int32) (x6 : Int32) (t0 : Int32) (σ : MS), w3_failsBy_82 Q K44 x1 x2 x5 x6 t0 σ → mm_T p l e ({ frames := 3, cells := 0, slots := 0, locals := 120 } : Room) s m args below meth c G (mm_Qi G Q) 7 82 σ [(0, .ref (mm_o G)), (1, .int x1), (2, .int x2), (5, .int x5), (6, .int x6)] [.int t0] := by
  intro x1 x2 x5 x6 t0 σ hw H locs ls hM hS hl
  unfold w3_failsBy_82 at hw
  obtain ⟨hx, hb, hml, hown, hts, hr, hlk, hMK, hZ⟩ := id cx
  refine lv_istore (lv' := [(4, .int t0), (0, .ref (mm_o G)), (1, .int x1), (2, .int x2), (5, .int x5), (6, .int x6)]) hx hb dX3_failsBy_82 hl (by decide) rfl (fun ls hl => ?_)
  refine lv_iload hx hb dX3_failsBy_84 (lv_at hl 4 rfl) ?_
  refine lv_if_ne (tgt := 107) hx hb dX3_failsBy_86 (by decide) (fun hc => ?_) (fun hc => ?_)
  · have hw := mm_in hc hw
    exact B3_failsBy_107 cx hK44 _ _ _ _ _ hw _ _ _ hM hS (lv_sub hl [1, 2, 3, 0, 5] rfl)
  · have hw := mm_ip hc hw
    refine lv_aload_n hx hb dX3_failsBy_89 rfl (lv_at hl 1 rfl) ?_
    refine lv_aload_n hx hb dX3_failsBy_90 rfl (lv_at hl 1 rfl) ?_
    refine mg_27 cx hM dX3_failsBy_91 ?_
    refine lv_aload_n hx hb dX3_failsBy_94 rfl (lv_at hl 1 rfl) ?_
    refine lv_iload_n hx hb dX3_failsBy_95 rfl (lv_at hl 2 rfl) ?_
    refine lv_iload hx hb dX3_failsBy_96 (lv_at hl 5 rfl) ?_
    refine C3_need cx hM hS hw ⟨Nat.le_of_ble_eq_true rfl, Nat.le_of_ble_eq_true rfl⟩ (Nat.le_of_ble_eq_true rfl) hl.1 ⟨Nat.zero_le _, Nat.zero_le _⟩ dX3_failsBy_98 (fun r10 s10 H locs hw hM hS => ?_)
    refine C3_holdsIn cx hM hS hw ⟨Nat.le_of_ble_eq_true rfl, Nat.le_of_ble_eq_true rfl⟩ (Nat.le_of_ble_eq_true rfl) hl.1 ⟨Nat.zero_le _, Nat.zero_le _⟩ dX3_failsBy_101 (fun r11 s11 H locs hw hM hS => ?_)
    refine lv_if_ne (tgt := 111) hx hb dX3_failsBy_104 (by decide) (fun hc => ?_) (fun hc => ?_)
    · have hw := mm_in hc hw
      refine lv_iconst (v := (0 : Int32)) hx hb dX3_failsBy_111 (by decide) ?_
      exact B3_failsBy_112 cx hK44 _ _ _ _ _ _ hw _ _ _ hM hS (lv_sub hl [1, 2, 3, 0, 5] rfl)
    · have hw := mm_ip hc hw
      exact B3_failsBy_107 cx hK44 _ _ _ _ _ hw _ _ _ hM hS (lv_sub hl [1, 2, 3, 0, 5] rfl)
def w3_failsBy_77 (Q : Int32 → MS → Prop) (K44 : Int32 → Int32 → Int32 → Int32 → Int32 → MS → Prop) (x1 : Int32) (x2 : Int32) (x5 : Int32) (x6 : Int32) (σ : MS) : Prop :=
  w3_failsBy_82 Q K44 x1 x2 x5 x6 (1 : Int32) σ
set_option maxHeartbeats 4000000 in
theorem B3_failsBy_77 {l : Launch} {p : Program} {e : Env} {s : State} {m : MethodId} {args : Array Value} {below : List Frame} {meth : Method} {c : Code} {G : mm_G} {Q : Int32 → MS → Prop} {K44 : Int32 → Int32 → Int32 → Int32 → Int32 → MS → Prop} (cx : mm_X cX3_failsBy 7 (some .int) G p s m args meth c) (hK44 : ∀ (x1 : Int32) (x2 : Int32) (x4 : Int32) (x5 : Int32) (x6 : Int32) (σ : MS), K44 x1 x2 x4 x5 x6 σ → mm_T p l e ({ frames := 3, cells := 0, slots := 0, locals := 120 } : Room) s m args below meth c G (mm_Qi G Q) 7 44 σ [(0, .ref (mm_o G)), (1, .int x1), (2, .int x2), (4, .int x4), (5, .int x5), (6, .int x6)] []) : ∀ (x1 : Int32) (x2 : Int32) (x5 : Int32) (x6 : Int32) (σ : MS), w3_failsBy_77 Q K44 x1 x2 x5 x6 σ → mm_T p l e ({ frames := 3, cells := 0, slots := 0, locals := 120 } : Room) s m args below meth c G (mm_Qi G Q) 7 77 σ [(0, .ref (mm_o G)), (1, .int x1), (2, .int x2), (5, .int x5), (6, .int x6)] [] := by
  intro x1 x2 x5 x6 σ hw H locs ls hM hS hl
  unfold w3_failsBy_77 at hw
  obtain ⟨hx, hb, hml, hown, hts, hr, hlk, hMK, hZ⟩ := id cx
  refine lv_iconst (v := (1 : Int32)) hx hb dX3_failsBy_77 (by decide) ?_
  refine lv_goto (tgt := 82) hx hb dX3_failsBy_78 (by decide) ?_
  exact B3_failsBy_82 cx hK44 _ _ _ _ _ _ hw _ _ _ hM hS (lv_sub hl [0, 1, 2, 3, 4] rfl)
def w3_failsBy_44 (Q : Int32 → MS → Prop) (K44 : Int32 → Int32 → Int32 → Int32 → Int32 → MS → Prop) (x1 : Int32) (x2 : Int32) (x4 : Int32) (x5 : Int32) (x6 : Int32) (σ : MS) : Prop :=
  w3_needs x1 σ (fun r12 s12 => if r12 ≤ x6 then (if x4 = 0 then (if x5 = 0 then (lp4F (w3_failsBy_144 Q) x1 x2 (0 : Int32) s12) else (w3_failsBy_130 Q x4 s12)) else (w3_failsBy_130 Q x4 s12)) else (if x4 = 0 then (w3_need x1 x6 s12 (fun r13 s13 => w3_isSure 28 r13 s13 (fun r14 s14 => if r14 = 0 then (w3_failsBy_77 Q K44 x1 x2 x5 x6 s14) else (w3_failsBy_82 Q K44 x1 x2 x5 x6 (0 : Int32) s14)))) else (w3_failsBy_77 Q K44 x1 x2 x5 x6 s12)))
set_option maxHeartbeats 4000000 in
theorem B3_failsBy_44 {l : Launch} {p : Program} {e : Env} {s : State} {m : MethodId} {args : Array Value} {below : List Frame} {meth : Method} {c : Code} {G : mm_G} {Q : Int32 → MS → Prop} {K44 : Int32 → Int32 → Int32 → Int32 → Int32 → MS → Prop} (cx : mm_X cX3_failsBy 7 (some .int) G p s m args meth c) (hK44 : ∀ (x1 : Int32) (x2 : Int32) (x4 : Int32) (x5 : Int32) (x6 : Int32) (σ : MS), K44 x1 x2 x4 x5 x6 σ → mm_T p l e ({ frames := 3, cells := 0, slots := 0, locals := 120 } : Room) s m args below meth c G (mm_Qi G Q) 7 44 σ [(0, .ref (mm_o G)), (1, .int x1), (2, .int x2), (4, .int x4), (5, .int x5), (6, .int x6)] []) : ∀ (x1 : Int32) (x2 : Int32) (x4 : Int32) (x5 : Int32) (x6 : Int32) (σ : MS), w3_failsBy_44 Q K44 x1 x2 x4 x5 x6 σ → mm_T p l e ({ frames := 3, cells := 0, slots := 0, locals := 120 } : Room) s m args below meth c G (mm_Qi G Q) 7 44 σ [(0, .ref (mm_o G)), (1, .int x1), (2, .int x2), (4, .int x4), (5, .int x5), (6, .int x6)] [] := by
  intro x1 x2 x4 x5 x6 σ hw H locs ls hM hS hl
  unfold w3_failsBy_44 at hw
  obtain ⟨hx, hb, hml, hown, hts, hr, hlk, hMK, hZ⟩ := id cx
  refine lv_iload hx hb dX3_failsBy_44 (lv_at hl 5 rfl) ?_
  refine lv_aload_n hx hb dX3_failsBy_46 rfl (lv_at hl 0 rfl) ?_
  refine lv_iload_n hx hb dX3_failsBy_47 rfl (lv_at hl 1 rfl) ?_
  refine C3_needs cx hM hS hw ⟨Nat.le_of_ble_eq_true rfl, Nat.le_of_ble_eq_true rfl⟩ (Nat.le_of_ble_eq_true rfl) hl.1 ⟨Nat.zero_le _, Nat.zero_le _⟩ dX3_failsBy_48 (fun r12 s12 H locs hw hM hS => ?_)
  refine lv_icmp_ge (tgt := 120) hx hb dX3_failsBy_51 (by decide) (fun hc => ?_) (fun hc => ?_)
  · have hw := mm_ip hc hw
    refine lv_iload hx hb dX3_failsBy_120 (lv_at hl 3 rfl) ?_
    refine lv_if_ne (tgt := 130) hx hb dX3_failsBy_122 (by decide) (fun hc => ?_) (fun hc => ?_)
    · have hw := mm_in hc hw
      exact B3_failsBy_130 cx _ _ hw _ _ _ hM hS (lv_sub hl [0, 3] rfl)
    · have hw := mm_ip hc hw
      refine lv_iload hx hb dX3_failsBy_125 (lv_at hl 4 rfl) ?_
      refine lv_if_eq (tgt := 141) hx hb dX3_failsBy_127 (by decide) (fun hc => ?_) (fun hc => ?_)
      · have hw := mm_ip hc hw
        refine lv_iconst (v := (0 : Int32)) hx hb dX3_failsBy_141 (by decide) ?_
        refine lv_istore (lv' := [(6, .int (0 : Int32)), (0, .ref (mm_o G)), (1, .int x1), (2, .int x2), (4, .int x4), (5, .int x5)]) hx hb dX3_failsBy_142 hl (by decide) rfl (fun ls hl => ?_)
        exact L3_failsBy_144 cx _ _ _ _ hw _ _ _ hM hS (lv_sub hl [1, 2, 3, 0] rfl)
      · have hw := mm_in hc hw
        exact B3_failsBy_130 cx _ _ hw _ _ _ hM hS (lv_sub hl [0, 3] rfl)
  · have hw := mm_in hc hw
    refine lv_iload hx hb dX3_failsBy_54 (lv_at hl 3 rfl) ?_
    refine lv_if_ne (tgt := 77) hx hb dX3_failsBy_56 (by decide) (fun hc => ?_) (fun hc => ?_)
    · have hw := mm_in hc hw
      exact B3_failsBy_77 cx hK44 _ _ _ _ _ hw _ _ _ hM hS (lv_sub hl [0, 1, 2, 4, 5] rfl)
    · have hw := mm_ip hc hw
      refine lv_aload_n hx hb dX3_failsBy_59 rfl (lv_at hl 0 rfl) ?_
      refine lv_aload_n hx hb dX3_failsBy_60 rfl (lv_at hl 0 rfl) ?_
      refine mg_28 cx hM dX3_failsBy_61 ?_
      refine lv_aload_n hx hb dX3_failsBy_64 rfl (lv_at hl 0 rfl) ?_
      refine lv_iload_n hx hb dX3_failsBy_65 rfl (lv_at hl 1 rfl) ?_
      refine lv_iload hx hb dX3_failsBy_66 (lv_at hl 5 rfl) ?_
      refine C3_need cx hM hS hw ⟨Nat.le_of_ble_eq_true rfl, Nat.le_of_ble_eq_true rfl⟩ (Nat.le_of_ble_eq_true rfl) hl.1 ⟨Nat.zero_le _, Nat.zero_le _⟩ dX3_failsBy_68 (fun r13 s13 H locs hw hM hS => ?_)
      refine C3_isSure cx hM hS hw ⟨Nat.le_of_ble_eq_true rfl, Nat.le_of_ble_eq_true rfl⟩ (Nat.le_of_ble_eq_true rfl) hl.1 ⟨Nat.zero_le _, Nat.zero_le _⟩ dX3_failsBy_71 (fun r14 s14 H locs hw hM hS => ?_)
      refine lv_if_ne (tgt := 81) hx hb dX3_failsBy_74 (by decide) (fun hc => ?_) (fun hc => ?_)
      · have hw := mm_in hc hw
        refine lv_iconst (v := (0 : Int32)) hx hb dX3_failsBy_81 (by decide) ?_
        exact B3_failsBy_82 cx hK44 _ _ _ _ _ _ hw _ _ _ hM hS (lv_sub hl [0, 1, 2, 4, 5] rfl)
      · have hw := mm_ip hc hw
        exact B3_failsBy_77 cx hK44 _ _ _ _ _ hw _ _ _ hM hS (lv_sub hl [0, 1, 2, 4, 5] rfl)
theorem L3_failsBy_44 {l : Launch} {p : Program} {e : Env} {s : State} {m : MethodId} {args : Array Value} {below : List Frame} {meth : Method} {c : Code} {G : mm_G} {Q : Int32 → MS → Prop} (cx : mm_X cX3_failsBy 7 (some .int) G p s m args meth c) : ∀ (x1 : Int32) (x2 : Int32) (x4 : Int32) (x5 : Int32) (x6 : Int32) (σ : MS), lp6F (w3_failsBy_44 Q) x1 x2 x4 x5 x6 σ → mm_T p l e ({ frames := 3, cells := 0, slots := 0, locals := 120 } : Room) s m args below meth c G (mm_Qi G Q) 7 44 σ [(0, .ref (mm_o G)), (1, .int x1), (2, .int x2), (4, .int x4), (5, .int x5), (6, .int x6)] [] :=
  lp6F_of (fun K hK => B3_failsBy_44 cx hK)
def w3_failsBy (x1 : Int32) (x2 : Int32) (x3 : Int32) (σ : MS) (Q : Int32 → MS → Prop) : Prop :=
  w3_its x1 (6 : Int32) σ (fun r15 s15 => if r15 = (1 : Int32) then (Q (1 : Int32) s15) else (w3_laysAgreed 28 x2 x3 s15 (fun s16 => w3_many 28 s16 (fun r17 s17 => if r17 = 0 then (Q (2 : Int32) s17) else (lp6F (w3_failsBy_44 Q) x1 x2 (0 : Int32) (0 : Int32) (0 : Int32) s17)))))
set_option maxHeartbeats 4000000 in
theorem M3_failsBy (l : Launch) (G : mm_G) (x1 : Int32) (x2 : Int32) (x3 : Int32) (σ : MS) (Q : Int32 → MS → Prop) (hw : w3_failsBy x1 x2 x3 σ Q) : mm_Mi l yX3_failsBy (ws_ yX3_failsBy cX3_failsBy 7 (some .int)) ({ frames := 3, cells := 0, slots := 0, locals := 120 } : Room) G [.ref (mm_o G), .int x1, .int x2, .int x3] σ Q := by
  refine mm_of (by decide) rfl ?_
  intro p e s m args below meth c cx hM ha
  refine mm_entry [.ref (mm_o G), .int x1, .int x2, .int x3] 7 [(0, .ref (mm_o G)), (1, .int x1), (2, .int x2), (3, .int x3)] ha (Nat.le_of_ble_eq_true rfl) rfl (fun ls hl => ?_)
  have hS : va_S (mm_A G) s.heap s.heap [] := va_S.rf
  unfold w3_failsBy at hw
  obtain ⟨hx, hb, hml, hown, hts, hr, hlk, hMK, hZ⟩ := id cx
  refine lv_aload_n hx hb dX3_failsBy_0 rfl (lv_at hl 0 rfl) ?_
  refine lv_iload_n hx hb dX3_failsBy_1 rfl (lv_at hl 1 rfl) ?_
  refine lv_bipush (v := (6 : Int32)) hx hb dX3_failsBy_2 (by decide) ?_
  refine C3_its cx hM hS hw ⟨Nat.le_of_ble_eq_true rfl, Nat.le_of_ble_eq_true rfl⟩ (Nat.le_of_ble_eq_true rfl) hl.1 ⟨Nat.zero_le _, Nat.zero_le _⟩ dX3_failsBy_4 (fun r15 s15 H locs hw hM hS => ?_)
  refine lv_iconst (v := (1 : Int32)) hx hb dX3_failsBy_7 (by decide) ?_
  refine lv_icmp_ne (tgt := 13) hx hb dX3_failsBy_8 (by decide) (fun hc => ?_) (fun hc => ?_)
  · have hw := mm_in hc hw
    refine lv_aload_n hx hb dX3_failsBy_13 rfl (lv_at hl 0 rfl) ?_
    refine lv_aload_n hx hb dX3_failsBy_14 rfl (lv_at hl 0 rfl) ?_
    refine mg_28 cx hM dX3_failsBy_15 ?_
    refine lv_iload_n hx hb dX3_failsBy_18 rfl (lv_at hl 2 rfl) ?_
    refine lv_iload_n hx hb dX3_failsBy_19 rfl (lv_at hl 3 rfl) ?_
    refine C3_laysAgreed cx hM hS hw ⟨Nat.le_of_ble_eq_true rfl, Nat.le_of_ble_eq_true rfl⟩ (Nat.le_of_ble_eq_true rfl) hl.1 ⟨Nat.zero_le _, Nat.zero_le _⟩ dX3_failsBy_20 (fun s16 H locs hw hM hS => ?_)
    refine lv_aload_n hx hb dX3_failsBy_23 rfl (lv_at hl 0 rfl) ?_
    refine mg_28 cx hM dX3_failsBy_24 ?_
    refine C3_many cx hM hS hw ⟨Nat.le_of_ble_eq_true rfl, Nat.le_of_ble_eq_true rfl⟩ (Nat.le_of_ble_eq_true rfl) hl.1 ⟨Nat.zero_le _, Nat.zero_le _⟩ dX3_failsBy_27 (fun r17 s17 H locs hw hM hS => ?_)
    refine lv_if_ne (tgt := 35) hx hb dX3_failsBy_30 (by decide) (fun hc => ?_) (fun hc => ?_)
    · have hw := mm_in hc hw
      refine lv_iconst (v := (0 : Int32)) hx hb dX3_failsBy_35 (by decide) ?_
      refine lv_istore (lv' := [(4, .int (0 : Int32)), (0, .ref (mm_o G)), (1, .int x1), (2, .int x2), (3, .int x3)]) hx hb dX3_failsBy_36 hl (by decide) rfl (fun ls hl => ?_)
      refine lv_iconst (v := (0 : Int32)) hx hb dX3_failsBy_38 (by decide) ?_
      refine lv_istore (lv' := [(5, .int (0 : Int32)), (4, .int (0 : Int32)), (0, .ref (mm_o G)), (1, .int x1), (2, .int x2), (3, .int x3)]) hx hb dX3_failsBy_39 hl (by decide) rfl (fun ls hl => ?_)
      refine lv_iconst (v := (0 : Int32)) hx hb dX3_failsBy_41 (by decide) ?_
      refine lv_istore (lv' := [(6, .int (0 : Int32)), (5, .int (0 : Int32)), (4, .int (0 : Int32)), (0, .ref (mm_o G)), (1, .int x1), (2, .int x2), (3, .int x3)]) hx hb dX3_failsBy_42 hl (by decide) rfl (fun ls hl => ?_)
      exact L3_failsBy_44 cx _ _ _ _ _ _ hw _ _ _ hM hS (lv_sub hl [3, 4, 5, 2, 1, 0] rfl)
    · have hw := mm_ip hc hw
      refine lv_iconst (v := (2 : Int32)) hx hb dX3_failsBy_33 (by decide) ?_
      exact mm_iret cx hM hS hw dX3_failsBy_34
  · have hw := mm_ip hc hw
    refine lv_iconst (v := (1 : Int32)) hx hb dX3_failsBy_11 (by decide) ?_
    exact mm_iret cx hM hS hw dX3_failsBy_12
theorem C3_failsBy {l : Launch} {p : Program} {e : Env} {R : Room} {s : State} {m : MethodId} {args : Array Value} {below : List Frame} {meth : Method} {c : Code} {H : Heap} {locs : List Loc} {cells slots : Nat} {Qz : State → Prop} {cc : ByteArray} {nL : Nat} {ret : Option FieldType} {G : mm_G} {pc : Nat} {ls : Array Slot} {rest : List Value} {x1 : Int32} {x2 : Int32} {x3 : Int32} {σ : MS} (cx : mm_X cc nL ret G p s m args meth c) (hM : mm_R G σ H) (hS0 : va_S (mm_A G) s.heap H locs) {Qf : Int32 → MS → Prop} (hw : w3_failsBy x1 x2 x3 σ Qf) (hR : (({ frames := 3, cells := 0, slots := 0, locals := 120 } : Room)).frames + 1 ≤ R.frames ∧ 8 + (7 + 11) + (({ frames := 3, cells := 0, slots := 0, locals := 120 } : Room)).locals ≤ R.locals) (hroom : (rest.map fun v => v.category).sum ≤ 8) (hsize : ls.size = nL) (hf : cells ≤ R.cells ∧ slots ≤ R.slots) (hdg : decode cc pc = .ok (.invokevirtual 367, 3))
    (kk : ∀ (r : Int32) (σ1 : MS) (H1 : Heap) (locs1 : List Loc), Qf r σ1 → mm_R G σ1 H1 → va_S (mm_A G) s.heap H1 locs1 → W p l e R s m args below meth c H1 locs1 cells slots Qz (F0 m (pc + 3) ls (.int r :: rest))) : W p l e R s m args below meth c H locs cells slots Qz (F0 m pc ls (.int x3 :: .int x2 :: .int x1 :: .ref (mm_o G) :: rest)) := by
  obtain ⟨hx, hb, hml, hown, hts, hr, hlk, hK, hZ⟩ := id cx
  exact mm_Vi cx hM hS0 (As := [.int x1, .int x2, .int x3]) (M3_failsBy l G x1 x2 x3 σ Qf hw) (cwV 3 hts (lw_V q2788 q2790 qs127 q172 q2791) rfl rfl rfl (by decide +kernel) hR) rfl hsize rfl hroom hf hdg kk
def w3_failing (x1 : Int32) (σ : MS) (Q : Int32 → MS → Prop) : Prop :=
  w3_laysBacks σ (fun s1 => w3_its x1 (4 : Int32) s1 (fun r2 s2 => w3_its x1 (5 : Int32) s2 (fun r3 s3 => w3_failsBy x1 r2 r3 s3 (fun r4 s4 => Q r4 s4))))
set_option maxHeartbeats 4000000 in
theorem M3_failing (l : Launch) (G : mm_G) (x1 : Int32) (σ : MS) (Q : Int32 → MS → Prop) (hw : w3_failing x1 σ Q) : mm_Mi l yX3_failing (ws_ yX3_failing cX3_failing 2 (some .int)) ({ frames := 4, cells := 0, slots := 0, locals := 160 } : Room) G [.ref (mm_o G), .int x1] σ Q := by
  refine mm_of (by decide) rfl ?_
  intro p e s m args below meth c cx hM ha
  refine mm_entry [.ref (mm_o G), .int x1] 2 [(0, .ref (mm_o G)), (1, .int x1)] ha (Nat.le_of_ble_eq_true rfl) rfl (fun ls hl => ?_)
  have hS : va_S (mm_A G) s.heap s.heap [] := va_S.rf
  unfold w3_failing at hw
  obtain ⟨hx, hb, hml, hown, hts, hr, hlk, hMK, hZ⟩ := id cx
  refine lv_aload_n hx hb dX3_failing_0 rfl (lv_at hl 0 rfl) ?_
  refine C3_laysBacks cx hM hS hw ⟨Nat.le_of_ble_eq_true rfl, Nat.le_of_ble_eq_true rfl⟩ (Nat.le_of_ble_eq_true rfl) hl.1 ⟨Nat.zero_le _, Nat.zero_le _⟩ dX3_failing_1 (fun s1 H locs hw hM hS => ?_)
  refine lv_aload_n hx hb dX3_failing_4 rfl (lv_at hl 0 rfl) ?_
  refine lv_iload_n hx hb dX3_failing_5 rfl (lv_at hl 1 rfl) ?_
  refine lv_aload_n hx hb dX3_failing_6 rfl (lv_at hl 0 rfl) ?_
  refine lv_iload_n hx hb dX3_failing_7 rfl (lv_at hl 1 rfl) ?_
  refine lv_iconst (v := (4 : Int32)) hx hb dX3_failing_8 (by decide) ?_
  refine C3_its cx hM hS hw ⟨Nat.le_of_ble_eq_true rfl, Nat.le_of_ble_eq_true rfl⟩ (Nat.le_of_ble_eq_true rfl) hl.1 ⟨Nat.zero_le _, Nat.zero_le _⟩ dX3_failing_9 (fun r2 s2 H locs hw hM hS => ?_)
  refine lv_aload_n hx hb dX3_failing_12 rfl (lv_at hl 0 rfl) ?_
  refine lv_iload_n hx hb dX3_failing_13 rfl (lv_at hl 1 rfl) ?_
  refine lv_iconst (v := (5 : Int32)) hx hb dX3_failing_14 (by decide) ?_
  refine C3_its cx hM hS hw ⟨Nat.le_of_ble_eq_true rfl, Nat.le_of_ble_eq_true rfl⟩ (Nat.le_of_ble_eq_true rfl) hl.1 ⟨Nat.zero_le _, Nat.zero_le _⟩ dX3_failing_15 (fun r3 s3 H locs hw hM hS => ?_)
  refine C3_failsBy cx hM hS hw ⟨Nat.le_of_ble_eq_true rfl, Nat.le_of_ble_eq_true rfl⟩ (Nat.le_of_ble_eq_true rfl) hl.1 ⟨Nat.zero_le _, Nat.zero_le _⟩ dX3_failing_18 (fun r4 s4 H locs hw hM hS => ?_)
  exact mm_iret cx hM hS hw dX3_failing_21
theorem C3_failing {l : Launch} {p : Program} {e : Env} {R : Room} {s : State} {m : MethodId} {args : Array Value} {below : List Frame} {meth : Method} {c : Code} {H : Heap} {locs : List Loc} {cells slots : Nat} {Qz : State → Prop} {cc : ByteArray} {nL : Nat} {ret : Option FieldType} {G : mm_G} {pc : Nat} {ls : Array Slot} {rest : List Value} {x1 : Int32} {σ : MS} (cx : mm_X cc nL ret G p s m args meth c) (hM : mm_R G σ H) (hS0 : va_S (mm_A G) s.heap H locs) {Qf : Int32 → MS → Prop} (hw : w3_failing x1 σ Qf) (hR : (({ frames := 4, cells := 0, slots := 0, locals := 160 } : Room)).frames + 1 ≤ R.frames ∧ 8 + (2 + 11) + (({ frames := 4, cells := 0, slots := 0, locals := 160 } : Room)).locals ≤ R.locals) (hroom : (rest.map fun v => v.category).sum ≤ 8) (hsize : ls.size = nL) (hf : cells ≤ R.cells ∧ slots ≤ R.slots) (hdg : decode cc pc = .ok (.invokevirtual 371, 3))
    (kk : ∀ (r : Int32) (σ1 : MS) (H1 : Heap) (locs1 : List Loc), Qf r σ1 → mm_R G σ1 H1 → va_S (mm_A G) s.heap H1 locs1 → W p l e R s m args below meth c H1 locs1 cells slots Qz (F0 m (pc + 3) ls (.int r :: rest))) : W p l e R s m args below meth c H locs cells slots Qz (F0 m pc ls (.int x1 :: .ref (mm_o G) :: rest)) := by
  obtain ⟨hx, hb, hml, hown, hts, hr, hlk, hK, hZ⟩ := id cx
  exact mm_Vi cx hM hS0 (As := [.int x1]) (M3_failing l G x1 σ Qf hw) (cwV 1 hts (lw_V q2784 q2786 qs126 q172 q2787) rfl rfl rfl (by decide +kernel) hR) rfl hsize rfl hroom hf hdg kk
def w3_of (x1 : Int32) (x2 : Int32) (σ : MS) (Q : Int32 → MS → Prop) : Prop :=
  w3_isCount x1 σ (fun r1 s1 => if r1 = 0 then (Q (-1 : Int32) s1) else (w3_laysBacks s1 (fun s2 => w3_laysInjuries s2 (fun s3 => if x2 = 0 then (w3_its x1 (2 : Int32) s3 (fun r4 s4 => Q r4 s4)) else (if x2 = 1 then (w3_its x1 (3 : Int32) s3 (fun r5 s5 => Q r5 s5)) else (if x2 = 2 then (w3_its x1 (1 : Int32) s3 (fun r6 s6 => Q r6 s6)) else (if x2 = 3 then (vp_in x1 8 ∧ (Q (gA s3 29 x1.toNatClampNeg) s3)) else (if x2 = 4 then (w3_its x1 (3 : Int32) s3 (fun r7 s7 => vp_in x1 8 ∧ (Q (r7 + (gA s7 29 x1.toNatClampNeg)) s7))) else (if x2 = 5 then (w3_needs x1 s3 (fun r8 s8 => Q r8 s8)) else (if x2 = 6 then (w3_bars x1 s3 (fun r9 s9 => Q r9 s9)) else (if x2 = 7 then (w3_its x1 (4 : Int32) s3 (fun r10 s10 => Q r10 s10)) else (if x2 = 8 then (w3_its x1 (5 : Int32) s3 (fun r11 s11 => Q r11 s11)) else (if x2 = 9 then (w3_failing x1 s3 (fun r12 s12 => Q r12 s12)) else (if x2 = 10 then (vp_in x1 8 ∧ (Q (gA s3 30 x1.toNatClampNeg) s3)) else (Q (-1 : Int32) s3)))))))))))))))
set_option maxHeartbeats 4000000 in
theorem M3_of (l : Launch) (G : mm_G) (x1 : Int32) (x2 : Int32) (σ : MS) (Q : Int32 → MS → Prop) (hw : w3_of x1 x2 σ Q) : mm_Mi l yX3_of (ws_ yX3_of cX3_of 3 (some .int)) ({ frames := 5, cells := 0, slots := 0, locals := 200 } : Room) G [.ref (mm_o G), .int x1, .int x2] σ Q := by
  refine mm_of (by decide) rfl ?_
  intro p e s m args below meth c cx hM ha
  refine mm_entry [.ref (mm_o G), .int x1, .int x2] 3 [(0, .ref (mm_o G)), (1, .int x1), (2, .int x2)] ha (Nat.le_of_ble_eq_true rfl) rfl (fun ls hl => ?_)
  have hS : va_S (mm_A G) s.heap s.heap [] := va_S.rf
  unfold w3_of at hw
  obtain ⟨hx, hb, hml, hown, hts, hr, hlk, hMK, hZ⟩ := id cx
  refine lv_aload_n hx hb dX3_of_0 rfl (lv_at hl 0 rfl) ?_
  refine lv_iload_n hx hb dX3_of_1 rfl (lv_at hl 1 rfl) ?_
  refine C3_isCount cx hM hS hw ⟨Nat.le_of_ble_eq_true rfl, Nat.le_of_ble_eq_true rfl⟩ (Nat.le_of_ble_eq_true rfl) hl.1 ⟨Nat.zero_le _, Nat.zero_le _⟩ dX3_of_2 (fun r1 s1 H locs hw hM hS => ?_)
  refine lv_if_ne (tgt := 10) hx hb dX3_of_5 (by decide) (fun hc => ?_) (fun hc => ?_)
  · have hw := mm_in hc hw
    refine lv_aload_n hx hb dX3_of_10 rfl (lv_at hl 0 rfl) ?_
    refine C3_laysBacks cx hM hS hw ⟨Nat.le_of_ble_eq_true rfl, Nat.le_of_ble_eq_true rfl⟩ (Nat.le_of_ble_eq_true rfl) hl.1 ⟨Nat.zero_le _, Nat.zero_le _⟩ dX3_of_11 (fun s2 H locs hw hM hS => ?_)
    refine lv_aload_n hx hb dX3_of_14 rfl (lv_at hl 0 rfl) ?_
    refine C3_laysInjuries cx hM hS hw ⟨Nat.le_of_ble_eq_true rfl, Nat.le_of_ble_eq_true rfl⟩ (Nat.le_of_ble_eq_true rfl) hl.1 ⟨Nat.zero_le _, Nat.zero_le _⟩ dX3_of_15 (fun s3 H locs hw hM hS => ?_)
    refine lv_iload_n hx hb dX3_of_18 rfl (lv_at hl 2 rfl) ?_
    by_cases hc0 : x2 = 0
    · have hw := mm_ip hc0 hw
      refine lv_tableIn (off := 57) (tgt := 76) hx hb dX3_of_19 (by rw [hc0]; decide) (by rw [hc0]; decide) (by rw [hc0]; decide) (by decide) ?_
      refine lv_aload_n hx hb dX3_of_76 rfl (lv_at hl 0 rfl) ?_
      refine lv_iload_n hx hb dX3_of_77 rfl (lv_at hl 1 rfl) ?_
      refine lv_iconst (v := (2 : Int32)) hx hb dX3_of_78 (by decide) ?_
      refine C3_its cx hM hS hw ⟨Nat.le_of_ble_eq_true rfl, Nat.le_of_ble_eq_true rfl⟩ (Nat.le_of_ble_eq_true rfl) hl.1 ⟨Nat.zero_le _, Nat.zero_le _⟩ dX3_of_79 (fun r4 s4 H locs hw hM hS => ?_)
      exact mm_iret cx hM hS hw dX3_of_82
    have hw := mm_in hc0 hw
    by_cases hc1 : x2 = 1
    · have hw := mm_ip hc1 hw
      refine lv_tableIn (off := 64) (tgt := 83) hx hb dX3_of_19 (by rw [hc1]; decide) (by rw [hc1]; decide) (by rw [hc1]; decide) (by decide) ?_
      refine lv_aload_n hx hb dX3_of_83 rfl (lv_at hl 0 rfl) ?_
      refine lv_iload_n hx hb dX3_of_84 rfl (lv_at hl 1 rfl) ?_
      refine lv_iconst (v := (3 : Int32)) hx hb dX3_of_85 (by decide) ?_
      refine C3_its cx hM hS hw ⟨Nat.le_of_ble_eq_true rfl, Nat.le_of_ble_eq_true rfl⟩ (Nat.le_of_ble_eq_true rfl) hl.1 ⟨Nat.zero_le _, Nat.zero_le _⟩ dX3_of_86 (fun r5 s5 H locs hw hM hS => ?_)
      exact mm_iret cx hM hS hw dX3_of_89
    have hw := mm_in hc1 hw
    by_cases hc2 : x2 = 2
    · have hw := mm_ip hc2 hw
      refine lv_tableIn (off := 71) (tgt := 90) hx hb dX3_of_19 (by rw [hc2]; decide) (by rw [hc2]; decide) (by rw [hc2]; decide) (by decide) ?_
      refine lv_aload_n hx hb dX3_of_90 rfl (lv_at hl 0 rfl) ?_
      refine lv_iload_n hx hb dX3_of_91 rfl (lv_at hl 1 rfl) ?_
      refine lv_iconst (v := (1 : Int32)) hx hb dX3_of_92 (by decide) ?_
      refine C3_its cx hM hS hw ⟨Nat.le_of_ble_eq_true rfl, Nat.le_of_ble_eq_true rfl⟩ (Nat.le_of_ble_eq_true rfl) hl.1 ⟨Nat.zero_le _, Nat.zero_le _⟩ dX3_of_93 (fun r6 s6 H locs hw hM hS => ?_)
      exact mm_iret cx hM hS hw dX3_of_96
    have hw := mm_in hc2 hw
    by_cases hc3 : x2 = 3
    · have hw := mm_ip hc3 hw
      refine lv_tableIn (off := 78) (tgt := 97) hx hb dX3_of_19 (by rw [hc3]; decide) (by rw [hc3]; decide) (by rw [hc3]; decide) (by decide) ?_
      refine lv_aload_n hx hb dX3_of_97 rfl (lv_at hl 0 rfl) ?_
      refine mg_29 cx hM dX3_of_98 ?_
      refine lv_iload_n hx hb dX3_of_101 rfl (lv_at hl 1 rfl) ?_
      obtain ⟨hi, hw⟩ := hw
      refine mm_iald cx hM 29 rfl rfl hi dX3_of_102 ?_
      exact mm_iret cx hM hS hw dX3_of_103
    have hw := mm_in hc3 hw
    by_cases hc4 : x2 = 4
    · have hw := mm_ip hc4 hw
      refine lv_tableIn (off := 85) (tgt := 104) hx hb dX3_of_19 (by rw [hc4]; decide) (by rw [hc4]; decide) (by rw [hc4]; decide) (by decide) ?_
      refine lv_aload_n hx hb dX3_of_104 rfl (lv_at hl 0 rfl) ?_
      refine lv_iload_n hx hb dX3_of_105 rfl (lv_at hl 1 rfl) ?_
      refine lv_iconst (v := (3 : Int32)) hx hb dX3_of_106 (by decide) ?_
      refine C3_its cx hM hS hw ⟨Nat.le_of_ble_eq_true rfl, Nat.le_of_ble_eq_true rfl⟩ (Nat.le_of_ble_eq_true rfl) hl.1 ⟨Nat.zero_le _, Nat.zero_le _⟩ dX3_of_107 (fun r7 s7 H locs hw hM hS => ?_)
      refine lv_aload_n hx hb dX3_of_110 rfl (lv_at hl 0 rfl) ?_
      refine mg_29 cx hM dX3_of_111 ?_
      refine lv_iload_n hx hb dX3_of_114 rfl (lv_at hl 1 rfl) ?_
      obtain ⟨hi, hw⟩ := hw
      refine mm_iald cx hM 29 rfl rfl hi dX3_of_115 ?_
      refine lv_iadd hx hb dX3_of_116 ?_
      exact mm_iret cx hM hS hw dX3_of_117
    have hw := mm_in hc4 hw
    by_cases hc5 : x2 = 5
    · have hw := mm_ip hc5 hw
      refine lv_tableIn (off := 99) (tgt := 118) hx hb dX3_of_19 (by rw [hc5]; decide) (by rw [hc5]; decide) (by rw [hc5]; decide) (by decide) ?_
      refine lv_aload_n hx hb dX3_of_118 rfl (lv_at hl 0 rfl) ?_
      refine lv_iload_n hx hb dX3_of_119 rfl (lv_at hl 1 rfl) ?_
      refine C3_needs cx hM hS hw ⟨Nat.le_of_ble_eq_true rfl, Nat.le_of_ble_eq_true rfl⟩ (Nat.le_of_ble_eq_true rfl) hl.1 ⟨Nat.zero_le _, Nat.zero_le _⟩ dX3_of_120 (fun r8 s8 H locs hw hM hS => ?_)
      exact mm_iret cx hM hS hw dX3_of_123
    have hw := mm_in hc5 hw
    by_cases hc6 : x2 = 6
    · have hw := mm_ip hc6 hw
      refine lv_tableIn (off := 105) (tgt := 124) hx hb dX3_of_19 (by rw [hc6]; decide) (by rw [hc6]; decide) (by rw [hc6]; decide) (by decide) ?_
      refine lv_aload_n hx hb dX3_of_124 rfl (lv_at hl 0 rfl) ?_
      refine lv_iload_n hx hb dX3_of_125 rfl (lv_at hl 1 rfl) ?_
      refine C3_bars cx hM hS hw ⟨Nat.le_of_ble_eq_true rfl, Nat.le_of_ble_eq_true rfl⟩ (Nat.le_of_ble_eq_true rfl) hl.1 ⟨Nat.zero_le _, Nat.zero_le _⟩ dX3_of_126 (fun r9 s9 H locs hw hM hS => ?_)
      exact mm_iret cx hM hS hw dX3_of_129
    have hw := mm_in hc6 hw
    by_cases hc7 : x2 = 7
    · have hw := mm_ip hc7 hw
      refine lv_tableIn (off := 111) (tgt := 130) hx hb dX3_of_19 (by rw [hc7]; decide) (by rw [hc7]; decide) (by rw [hc7]; decide) (by decide) ?_
      refine lv_aload_n hx hb dX3_of_130 rfl (lv_at hl 0 rfl) ?_
      refine lv_iload_n hx hb dX3_of_131 rfl (lv_at hl 1 rfl) ?_
      refine lv_iconst (v := (4 : Int32)) hx hb dX3_of_132 (by decide) ?_
      refine C3_its cx hM hS hw ⟨Nat.le_of_ble_eq_true rfl, Nat.le_of_ble_eq_true rfl⟩ (Nat.le_of_ble_eq_true rfl) hl.1 ⟨Nat.zero_le _, Nat.zero_le _⟩ dX3_of_133 (fun r10 s10 H locs hw hM hS => ?_)
      exact mm_iret cx hM hS hw dX3_of_136
    have hw := mm_in hc7 hw
    by_cases hc8 : x2 = 8
    · have hw := mm_ip hc8 hw
      refine lv_tableIn (off := 118) (tgt := 137) hx hb dX3_of_19 (by rw [hc8]; decide) (by rw [hc8]; decide) (by rw [hc8]; decide) (by decide) ?_
      refine lv_aload_n hx hb dX3_of_137 rfl (lv_at hl 0 rfl) ?_
      refine lv_iload_n hx hb dX3_of_138 rfl (lv_at hl 1 rfl) ?_
      refine lv_iconst (v := (5 : Int32)) hx hb dX3_of_139 (by decide) ?_
      refine C3_its cx hM hS hw ⟨Nat.le_of_ble_eq_true rfl, Nat.le_of_ble_eq_true rfl⟩ (Nat.le_of_ble_eq_true rfl) hl.1 ⟨Nat.zero_le _, Nat.zero_le _⟩ dX3_of_140 (fun r11 s11 H locs hw hM hS => ?_)
      exact mm_iret cx hM hS hw dX3_of_143
    have hw := mm_in hc8 hw
    by_cases hc9 : x2 = 9
    · have hw := mm_ip hc9 hw
      refine lv_tableIn (off := 125) (tgt := 144) hx hb dX3_of_19 (by rw [hc9]; decide) (by rw [hc9]; decide) (by rw [hc9]; decide) (by decide) ?_
      refine lv_aload_n hx hb dX3_of_144 rfl (lv_at hl 0 rfl) ?_
      refine lv_iload_n hx hb dX3_of_145 rfl (lv_at hl 1 rfl) ?_
      refine C3_failing cx hM hS hw ⟨Nat.le_of_ble_eq_true rfl, Nat.le_of_ble_eq_true rfl⟩ (Nat.le_of_ble_eq_true rfl) hl.1 ⟨Nat.zero_le _, Nat.zero_le _⟩ dX3_of_146 (fun r12 s12 H locs hw hM hS => ?_)
      exact mm_iret cx hM hS hw dX3_of_149
    have hw := mm_in hc9 hw
    by_cases hc10 : x2 = 10
    · have hw := mm_ip hc10 hw
      refine lv_tableIn (off := 131) (tgt := 150) hx hb dX3_of_19 (by rw [hc10]; decide) (by rw [hc10]; decide) (by rw [hc10]; decide) (by decide) ?_
      refine lv_aload_n hx hb dX3_of_150 rfl (lv_at hl 0 rfl) ?_
      refine mg_30 cx hM dX3_of_151 ?_
      refine lv_iload_n hx hb dX3_of_154 rfl (lv_at hl 1 rfl) ?_
      obtain ⟨hi, hw⟩ := hw
      refine mm_iald cx hM 30 rfl rfl hi dX3_of_155 ?_
      exact mm_iret cx hM hS hw dX3_of_156
    have hw := mm_in hc10 hw
    refine lv_tableOut (tgt := 157) hx hb dX3_of_19 (sw_out 0 10 [(0 : Int32), (1 : Int32), (2 : Int32), (3 : Int32), (4 : Int32), (5 : Int32), (6 : Int32), (7 : Int32), (8 : Int32), (9 : Int32), (10 : Int32)] (by simp only [List.all_cons, List.all_nil, Bool.and_true, Bool.and_eq_true, decide_eq_true_eq]; exact ⟨hc0, hc1, hc2, hc3, hc4, hc5, hc6, hc7, hc8, hc9, hc10⟩) (by intro z h1 h2; exact sw_in11 z h1 h2)) (by decide) ?_
    refine lv_iconst (v := (-1 : Int32)) hx hb dX3_of_157 (by decide) ?_
    exact mm_iret cx hM hS hw dX3_of_158
  · have hw := mm_ip hc hw
    refine lv_iconst (v := (-1 : Int32)) hx hb dX3_of_8 (by decide) ?_
    exact mm_iret cx hM hS hw dX3_of_9
-- no call of of
def w3_turned (x0 : Int32) (σ : MS) (Q : Int32 → MS → Prop) : Prop :=
  if x0 = (2 : Int32) then (Q (2 : Int32) σ) else (Q ((1 : Int32) - x0) σ)
set_option maxHeartbeats 4000000 in
theorem M3_turned (l : Launch) (G : mm_G) (x0 : Int32) (σ : MS) (Q : Int32 → MS → Prop) (hw : w3_turned x0 σ Q) : mm_Mi l yX3_turned (ws_ yX3_turned cX3_turned 1 (some .int)) ({ frames := 0, cells := 0, slots := 0, locals := 0 } : Room) G [.int x0] σ Q := by
  refine mm_of (by decide) rfl ?_
  intro p e s m args below meth c cx hM ha
  refine mm_entry [.int x0] 1 [(0, .int x0)] ha (Nat.le_of_ble_eq_true rfl) rfl (fun ls hl => ?_)
  have hS : va_S (mm_A G) s.heap s.heap [] := va_S.rf
  unfold w3_turned at hw
  obtain ⟨hx, hb, hml, hown, hts, hr, hlk, hMK, hZ⟩ := id cx
  refine lv_iload_n hx hb dX3_turned_0 rfl (lv_at hl 0 rfl) ?_
  refine lv_iconst (v := (2 : Int32)) hx hb dX3_turned_1 (by decide) ?_
  refine lv_icmp_ne (tgt := 9) hx hb dX3_turned_2 (by decide) (fun hc => ?_) (fun hc => ?_)
  · have hw := mm_in hc hw
    refine lv_iconst (v := (1 : Int32)) hx hb dX3_turned_9 (by decide) ?_
    refine lv_iload_n hx hb dX3_turned_10 rfl (lv_at hl 0 rfl) ?_
    refine lv_isub hx hb dX3_turned_11 ?_
    exact mm_iret cx hM hS hw dX3_turned_12
  · have hw := mm_ip hc hw
    refine lv_iconst (v := (2 : Int32)) hx hb dX3_turned_5 (by decide) ?_
    refine lv_goto (tgt := 12) hx hb dX3_turned_6 (by decide) ?_
    exact mm_iret cx hM hS hw dX3_turned_12
theorem C3_turned {l : Launch} {p : Program} {e : Env} {R : Room} {s : State} {m : MethodId} {args : Array Value} {below : List Frame} {meth : Method} {c : Code} {H : Heap} {locs : List Loc} {cells slots : Nat} {Qz : State → Prop} {cc : ByteArray} {nL : Nat} {ret : Option FieldType} {G : mm_G} {pc : Nat} {ls : Array Slot} {rest : List Value} {x0 : Int32} {σ : MS} (cx : mm_X cc nL ret G p s m args meth c) (hM : mm_R G σ H) (hS0 : va_S (mm_A G) s.heap H locs) {Qf : Int32 → MS → Prop} (hw : w3_turned x0 σ Qf) (hR : (({ frames := 0, cells := 0, slots := 0, locals := 0 } : Room)).frames + 1 ≤ R.frames ∧ 8 + (1 + 11) + (({ frames := 0, cells := 0, slots := 0, locals := 0 } : Room)).locals ≤ R.locals) (hroom : (rest.map fun v => v.category).sum ≤ 8) (hsize : ls.size = nL) (hf : cells ≤ R.cells ∧ slots ≤ R.slots) (hdg : decode cc pc = .ok (.invokestatic 386, 3))
    (kk : ∀ (r : Int32) (σ1 : MS) (H1 : Heap) (locs1 : List Loc), Qf r σ1 → mm_R G σ1 H1 → va_S (mm_A G) s.heap H1 locs1 → W p l e R s m args below meth c H1 locs1 cells slots Qz (F0 m (pc + 3) ls (.int r :: rest))) : W p l e R s m args below meth c H locs cells slots Qz (F0 m pc ls (.int x0 :: rest)) := by
  obtain ⟨hx, hb, hml, hown, hts, hr, hlk, hK, hZ⟩ := id cx
  exact mm_Si cx hM hS0 (As := [.int x0]) (M3_turned l G x0 σ Qf hw) (va_cwS 1 hts (lw_S q2819 q2820 q172 q2821) rfl rfl rfl (by decide +kernel) hR) rfl hsize rfl hroom hf hdg kk
def w3_andOf_8 (Q : Int32 → MS → Prop) (σ : MS) : Prop :=
  Q (0 : Int32) σ
set_option maxHeartbeats 4000000 in
theorem B3_andOf_8 {l : Launch} {p : Program} {e : Env} {s : State} {m : MethodId} {args : Array Value} {below : List Frame} {meth : Method} {c : Code} {G : mm_G} {Q : Int32 → MS → Prop} (cx : mm_X cX3_andOf 2 (some .int) G p s m args meth c) : ∀ (σ : MS), w3_andOf_8 Q σ → mm_T p l e ({ frames := 0, cells := 0, slots := 0, locals := 0 } : Room) s m args below meth c G (mm_Qi G Q) 2 8 σ [] [] := by
  intro σ hw H locs ls hM hS hl
  unfold w3_andOf_8 at hw
  obtain ⟨hx, hb, hml, hown, hts, hr, hlk, hMK, hZ⟩ := id cx
  refine lv_iconst (v := (0 : Int32)) hx hb dX3_andOf_8 (by decide) ?_
  refine lv_goto (tgt := 27) hx hb dX3_andOf_9 (by decide) ?_
  exact mm_iret cx hM hS hw dX3_andOf_27
def w3_andOf (x0 : Int32) (x1 : Int32) (σ : MS) (Q : Int32 → MS → Prop) : Prop :=
  if x0 = 0 then (w3_andOf_8 Q σ) else (if x1 = 0 then (w3_andOf_8 Q σ) else (if x0 = (1 : Int32) then (if x1 = (1 : Int32) then (Q (1 : Int32) σ) else (Q (2 : Int32) σ)) else (Q (2 : Int32) σ)))
set_option maxHeartbeats 4000000 in
theorem M3_andOf (l : Launch) (G : mm_G) (x0 : Int32) (x1 : Int32) (σ : MS) (Q : Int32 → MS → Prop) (hw : w3_andOf x0 x1 σ Q) : mm_Mi l yX3_andOf (ws_ yX3_andOf cX3_andOf 2 (some .int)) ({ frames := 0, cells := 0, slots := 0, locals := 0 } : Room) G [.int x0, .int x1] σ Q := by
  refine mm_of (by decide) rfl ?_
  intro p e s m args below meth c cx hM ha
  refine mm_entry [.int x0, .int x1] 2 [(0, .int x0), (1, .int x1)] ha (Nat.le_of_ble_eq_true rfl) rfl (fun ls hl => ?_)
  have hS : va_S (mm_A G) s.heap s.heap [] := va_S.rf
  unfold w3_andOf at hw
  obtain ⟨hx, hb, hml, hown, hts, hr, hlk, hMK, hZ⟩ := id cx
  refine lv_iload_n hx hb dX3_andOf_0 rfl (lv_at hl 0 rfl) ?_
  refine lv_if_eq (tgt := 8) hx hb dX3_andOf_1 (by decide) (fun hc => ?_) (fun hc => ?_)
  · have hw := mm_ip hc hw
    exact B3_andOf_8 cx _ hw _ _ _ hM hS (lv_sub hl [] rfl)
  · have hw := mm_in hc hw
    refine lv_iload_n hx hb dX3_andOf_4 rfl (lv_at hl 1 rfl) ?_
    refine lv_if_ne (tgt := 12) hx hb dX3_andOf_5 (by decide) (fun hc => ?_) (fun hc => ?_)
    · have hw := mm_in hc hw
      refine lv_iload_n hx hb dX3_andOf_12 rfl (lv_at hl 0 rfl) ?_
      refine lv_iconst (v := (1 : Int32)) hx hb dX3_andOf_13 (by decide) ?_
      refine lv_icmp_ne (tgt := 26) hx hb dX3_andOf_14 (by decide) (fun hc => ?_) (fun hc => ?_)
      · have hw := mm_in hc hw
        refine lv_iconst (v := (2 : Int32)) hx hb dX3_andOf_26 (by decide) ?_
        exact mm_iret cx hM hS hw dX3_andOf_27
      · have hw := mm_ip hc hw
        refine lv_iload_n hx hb dX3_andOf_17 rfl (lv_at hl 1 rfl) ?_
        refine lv_iconst (v := (1 : Int32)) hx hb dX3_andOf_18 (by decide) ?_
        refine lv_icmp_ne (tgt := 26) hx hb dX3_andOf_19 (by decide) (fun hc => ?_) (fun hc => ?_)
        · have hw := mm_in hc hw
          refine lv_iconst (v := (2 : Int32)) hx hb dX3_andOf_26 (by decide) ?_
          exact mm_iret cx hM hS hw dX3_andOf_27
        · have hw := mm_ip hc hw
          refine lv_iconst (v := (1 : Int32)) hx hb dX3_andOf_22 (by decide) ?_
          refine lv_goto (tgt := 27) hx hb dX3_andOf_23 (by decide) ?_
          exact mm_iret cx hM hS hw dX3_andOf_27
    · have hw := mm_ip hc hw
      exact B3_andOf_8 cx _ hw _ _ _ hM hS (lv_sub hl [] rfl)
theorem C3_andOf {l : Launch} {p : Program} {e : Env} {R : Room} {s : State} {m : MethodId} {args : Array Value} {below : List Frame} {meth : Method} {c : Code} {H : Heap} {locs : List Loc} {cells slots : Nat} {Qz : State → Prop} {cc : ByteArray} {nL : Nat} {ret : Option FieldType} {G : mm_G} {pc : Nat} {ls : Array Slot} {rest : List Value} {x0 : Int32} {x1 : Int32} {σ : MS} (cx : mm_X cc nL ret G p s m args meth c) (hM : mm_R G σ H) (hS0 : va_S (mm_A G) s.heap H locs) {Qf : Int32 → MS → Prop} (hw : w3_andOf x0 x1 σ Qf) (hR : (({ frames := 0, cells := 0, slots := 0, locals := 0 } : Room)).frames + 1 ≤ R.frames ∧ 8 + (2 + 11) + (({ frames := 0, cells := 0, slots := 0, locals := 0 } : Room)).locals ≤ R.locals) (hroom : (rest.map fun v => v.category).sum ≤ 8) (hsize : ls.size = nL) (hf : cells ≤ R.cells ∧ slots ≤ R.slots) (hdg : decode cc pc = .ok (.invokestatic 389, 3))
    (kk : ∀ (r : Int32) (σ1 : MS) (H1 : Heap) (locs1 : List Loc), Qf r σ1 → mm_R G σ1 H1 → va_S (mm_A G) s.heap H1 locs1 → W p l e R s m args below meth c H1 locs1 cells slots Qz (F0 m (pc + 3) ls (.int r :: rest))) : W p l e R s m args below meth c H locs cells slots Qz (F0 m pc ls (.int x1 :: .int x0 :: rest)) := by
  obtain ⟨hx, hb, hml, hown, hts, hr, hlk, hK, hZ⟩ := id cx
  exact mm_Si cx hM hS0 (As := [.int x0, .int x1]) (M3_andOf l G x0 x1 σ Qf hw) (va_cwS 2 hts (lw_S q2822 q2823 q172 q2824) rfl rfl rfl (by decide +kernel) hR) rfl hsize rfl hroom hf hdg kk
def w3_seen_312 (Q : Int32 → MS → Prop) (K13 : Int32 → Int32 → Int32 → Int32 → MS → Prop) (x1 : Int32) (x2 : Int32) (x3 : Int32) (x4 : Int32) (σ : MS) : Prop :=
  ∀ v1 : Int32, v1 = x4 + (1 : Int32) → K13 x1 x2 x3 v1 σ
set_option maxHeartbeats 4000000 in
theorem B3_seen_312 {l : Launch} {p : Program} {e : Env} {s : State} {m : MethodId} {args : Array Value} {below : List Frame} {meth : Method} {c : Code} {G : mm_G} {Q : Int32 → MS → Prop} {K13 : Int32 → Int32 → Int32 → Int32 → MS → Prop} (cx : mm_X cX3_seen 10 (some .int) G p s m args meth c) (hK13 : ∀ (x1 : Int32) (x2 : Int32) (x3 : Int32) (x4 : Int32) (σ : MS), K13 x1 x2 x3 x4 σ → mm_T p l e ({ frames := 1, cells := 0, slots := 0, locals := 40 } : Room) s m args below meth c G (mm_Qi G Q) 10 13 σ [(0, .ref (mm_o G)), (1, .int x1), (2, .int x2), (3, .int x3), (4, .int x4)] []) : ∀ (x1 : Int32) (x2 : Int32) (x3 : Int32) (x4 : Int32) (σ : MS), w3_seen_312 Q K13 x1 x2 x3 x4 σ → mm_T p l e ({ frames := 1, cells := 0, slots := 0, locals := 40 } : Room) s m args below meth c G (mm_Qi G Q) 10 312 σ [(0, .ref (mm_o G)), (1, .int x1), (2, .int x2), (3, .int x3), (4, .int x4)] [] := by
  intro x1 x2 x3 x4 σ hw H locs ls hM hS hl
  unfold w3_seen_312 at hw
  obtain ⟨hx, hb, hml, hown, hts, hr, hlk, hMK, hZ⟩ := id cx
  obtain ⟨v1, hv1⟩ : ∃ v : Int32, v = x4 + (1 : Int32) := ⟨_, rfl⟩
  have hw := hw v1 hv1
  refine lv_iinc (v := v1) (lv' := [(4, .int v1), (0, .ref (mm_o G)), (1, .int x1), (2, .int x2), (3, .int x3)]) hx hb dX3_seen_312 hl (k := 4) rfl (by rw [hv1]; rfl) (by decide) rfl (fun ls hl => ?_)
  refine lv_goto (tgt := 13) hx hb dX3_seen_315 (by decide) ?_
  exact hK13 _ _ _ _ _ hw _ _ _ hM hS (lv_sub hl [1, 2, 3, 4, 0] rfl)
def w3_seen_311 (Q : Int32 → MS → Prop) (K13 : Int32 → Int32 → Int32 → Int32 → MS → Prop) (x1 : Int32) (x2 : Int32) (x3 : Int32) (x4 : Int32) (t0 : Nat) (t1 : Int32) (t2 : Int32) (σ : MS) : Prop :=
  mm_w t0 = true ∧ (vp_in t1 (mm_z t0) ∧ (w3_seen_312 Q K13 x1 x2 x3 x4 (sA σ t0 t1.toNatClampNeg t2)))
set_option maxHeartbeats 4000000 in
theorem B3_seen_311 {l : Launch} {p : Program} {e : Env} {s : State} {m : MethodId} {args : Array Value} {below : List Frame} {meth : Method} {c : Code} {G : mm_G} {Q : Int32 → MS → Prop} {K13 : Int32 → Int32 → Int32 → Int32 → MS → Prop} (cx : mm_X cX3_seen 10 (some .int) G p s m args meth c) (hK13 : ∀ (x1 : Int32) (x2 : Int32) (x3 : Int32) (x4 : Int32) (σ : MS), K13 x1 x2 x3 x4 σ → mm_T p l e ({ frames := 1, cells := 0, slots := 0, locals := 40 } : Room) s m args below meth c G (mm_Qi G Q) 10 13 σ [(0, .ref (mm_o G)), (1, .int x1), (2, .int x2), (3, .int x3), (4, .int x4)] []) : ∀ (x1 : Int32) (x2 : Int32) (x3 : Int32) (x4 : Int32) (t0 : Nat) (t1 : Int32) (t2 : Int32) (σ : MS), w3_seen_311 Q K13 x1 x2 x3 x4 t0 t1 t2 σ → mm_T p l e ({ frames := 1, cells := 0, slots := 0, locals := 40 } : Room) s m args below meth c G (mm_Qi G Q) 10 311 σ [(0, .ref (mm_o G)), (1, .int x1), (2, .int x2), (3, .int x3), (4, .int x4)] [.int t2, .int t1, .ref (mm_a G t0)] := by
  intro x1 x2 x3 x4 t0 t1 t2 σ hw H locs ls hM hS hl
  unfold w3_seen_311 at hw
  obtain ⟨hx, hb, hml, hown, hts, hr, hlk, hMK, hZ⟩ := id cx
  obtain ⟨hk, hw⟩ := hw
  obtain ⟨hi, hw⟩ := hw
  refine mm_iast cx hM hS t0 hk rfl hi dX3_seen_311 (fun H locs hM hS => ?_)
  exact B3_seen_312 cx hK13 _ _ _ _ _ hw _ _ _ hM hS (lv_sub hl [0, 1, 2, 3, 4] rfl)
def w3_seen_244 (Q : Int32 → MS → Prop) (K13 : Int32 → Int32 → Int32 → Int32 → MS → Prop) (x1 : Int32) (x2 : Int32) (x3 : Int32) (x4 : Int32) (t0 : Nat) (t1 : Int32) (t2 : Int32) (σ : MS) : Prop :=
  mm_w t0 = true ∧ (vp_in t1 (mm_z t0) ∧ (∀ v2 : Int32, v2 = x3 + (1 : Int32) → w3_seen_312 Q K13 x1 x2 v2 x4 (sA σ t0 t1.toNatClampNeg t2)))
set_option maxHeartbeats 4000000 in
theorem B3_seen_244 {l : Launch} {p : Program} {e : Env} {s : State} {m : MethodId} {args : Array Value} {below : List Frame} {meth : Method} {c : Code} {G : mm_G} {Q : Int32 → MS → Prop} {K13 : Int32 → Int32 → Int32 → Int32 → MS → Prop} (cx : mm_X cX3_seen 10 (some .int) G p s m args meth c) (hK13 : ∀ (x1 : Int32) (x2 : Int32) (x3 : Int32) (x4 : Int32) (σ : MS), K13 x1 x2 x3 x4 σ → mm_T p l e ({ frames := 1, cells := 0, slots := 0, locals := 40 } : Room) s m args below meth c G (mm_Qi G Q) 10 13 σ [(0, .ref (mm_o G)), (1, .int x1), (2, .int x2), (3, .int x3), (4, .int x4)] []) : ∀ (x1 : Int32) (x2 : Int32) (x3 : Int32) (x4 : Int32) (t0 : Nat) (t1 : Int32) (t2 : Int32) (σ : MS), w3_seen_244 Q K13 x1 x2 x3 x4 t0 t1 t2 σ → mm_T p l e ({ frames := 1, cells := 0, slots := 0, locals := 40 } : Room) s m args below meth c G (mm_Qi G Q) 10 244 σ [(0, .ref (mm_o G)), (1, .int x1), (2, .int x2), (3, .int x3), (4, .int x4)] [.int t2, .int t1, .ref (mm_a G t0)] := by
  intro x1 x2 x3 x4 t0 t1 t2 σ hw H locs ls hM hS hl
  unfold w3_seen_244 at hw
  obtain ⟨hx, hb, hml, hown, hts, hr, hlk, hMK, hZ⟩ := id cx
  obtain ⟨hk, hw⟩ := hw
  obtain ⟨hi, hw⟩ := hw
  refine mm_iast cx hM hS t0 hk rfl hi dX3_seen_244 (fun H locs hM hS => ?_)
  obtain ⟨v2, hv2⟩ : ∃ v : Int32, v = x3 + (1 : Int32) := ⟨_, rfl⟩
  have hw := hw v2 hv2
  refine lv_iinc (v := v2) (lv' := [(3, .int v2), (0, .ref (mm_o G)), (1, .int x1), (2, .int x2), (4, .int x4)]) hx hb dX3_seen_245 hl (k := 3) rfl (by rw [hv2]; rfl) (by decide) rfl (fun ls hl => ?_)
  refine lv_goto (tgt := 312) hx hb dX3_seen_248 (by decide) ?_
  exact B3_seen_312 cx hK13 _ _ _ _ _ hw _ _ _ hM hS (lv_sub hl [1, 2, 3, 0, 4] rfl)
def w3_seen_198 (Q : Int32 → MS → Prop) (K13 : Int32 → Int32 → Int32 → Int32 → MS → Prop) (K148 : Int32 → Int32 → Int32 → Int32 → Int32 → Int32 → Int32 → Int32 → MS → Prop) (x1 : Int32) (x2 : Int32) (x3 : Int32) (x4 : Int32) (x6 : Int32) (x7 : Int32) (x9 : Int32) (t0 : Int32) (t1 : Int32) (σ : MS) : Prop :=
  ∀ v3 : Int32, v3 = (t0 + t1) → ∀ v4 : Int32, v4 = x9 + (1 : Int32) → K148 x1 x2 x3 x4 x6 x7 v3 v4 σ
set_option maxHeartbeats 4000000 in
theorem B3_seen_198 {l : Launch} {p : Program} {e : Env} {s : State} {m : MethodId} {args : Array Value} {below : List Frame} {meth : Method} {c : Code} {G : mm_G} {Q : Int32 → MS → Prop} {K13 : Int32 → Int32 → Int32 → Int32 → MS → Prop} {K148 : Int32 → Int32 → Int32 → Int32 → Int32 → Int32 → Int32 → Int32 → MS → Prop} (cx : mm_X cX3_seen 10 (some .int) G p s m args meth c) (hK13 : ∀ (x1 : Int32) (x2 : Int32) (x3 : Int32) (x4 : Int32) (σ : MS), K13 x1 x2 x3 x4 σ → mm_T p l e ({ frames := 1, cells := 0, slots := 0, locals := 40 } : Room) s m args below meth c G (mm_Qi G Q) 10 13 σ [(0, .ref (mm_o G)), (1, .int x1), (2, .int x2), (3, .int x3), (4, .int x4)] []) (hK148 : ∀ (x1 : Int32) (x2 : Int32) (x3 : Int32) (x4 : Int32) (x6 : Int32) (x7 : Int32) (x8 : Int32) (x9 : Int32) (σ : MS), K148 x1 x2 x3 x4 x6 x7 x8 x9 σ → mm_T p l e ({ frames := 1, cells := 0, slots := 0, locals := 40 } : Room) s m args below meth c G (mm_Qi G Q) 10 148 σ [(0, .ref (mm_o G)), (1, .int x1), (2, .int x2), (3, .int x3), (4, .int x4), (6, .int x6), (7, .int x7), (8, .int x8), (9, .int x9)] []) : ∀ (x1 : Int32) (x2 : Int32) (x3 : Int32) (x4 : Int32) (x6 : Int32) (x7 : Int32) (x9 : Int32) (t0 : Int32) (t1 : Int32) (σ : MS), w3_seen_198 Q K13 K148 x1 x2 x3 x4 x6 x7 x9 t0 t1 σ → mm_T p l e ({ frames := 1, cells := 0, slots := 0, locals := 40 } : Room) s m args below meth c G (mm_Qi G Q) 10 198 σ [(0, .ref (mm_o G)), (1, .int x1), (2, .int x2), (3, .int x3), (4, .int x4), (6, .int x6), (7, .int x7), (9, .int x9)] [.int t1, .int t0] := by
  intro x1 x2 x3 x4 x6 x7 x9 t0 t1 σ hw H locs ls hM hS hl
  unfold w3_seen_198 at hw
  obtain ⟨hx, hb, hml, hown, hts, hr, hlk, hMK, hZ⟩ := id cx
  refine lv_iadd hx hb dX3_seen_198 ?_
  refine lv_topi (fun v3 hv3 => ?_)
  have hw := hw v3 hv3
  refine lv_istore (lv' := [(8, .int v3), (0, .ref (mm_o G)), (1, .int x1), (2, .int x2), (3, .int x3), (4, .int x4), (6, .int x6), (7, .int x7), (9, .int x9)]) hx hb dX3_seen_199 hl (by decide) rfl (fun ls hl => ?_)
  obtain ⟨v4, hv4⟩ : ∃ v : Int32, v = x9 + (1 : Int32) := ⟨_, rfl⟩
  have hw := hw v4 hv4
  refine lv_iinc (v := v4) (lv' := [(9, .int v4), (8, .int v3), (0, .ref (mm_o G)), (1, .int x1), (2, .int x2), (3, .int x3), (4, .int x4), (6, .int x6), (7, .int x7)]) hx hb dX3_seen_201 hl (k := 8) rfl (by rw [hv4]; rfl) (by decide) rfl (fun ls hl => ?_)
  refine lv_goto (tgt := 148) hx hb dX3_seen_204 (by decide) ?_
  exact hK148 _ _ _ _ _ _ _ _ _ hw _ _ _ hM hS (lv_sub hl [2, 3, 4, 5, 6, 7, 8, 1, 0] rfl)
def w3_seen_178 (Q : Int32 → MS → Prop) (K13 : Int32 → Int32 → Int32 → Int32 → MS → Prop) (K148 : Int32 → Int32 → Int32 → Int32 → Int32 → Int32 → Int32 → Int32 → MS → Prop) (x1 : Int32) (x2 : Int32) (x3 : Int32) (x4 : Int32) (x6 : Int32) (x8 : Int32) (x9 : Int32) (t0 : Int32) (t1 : Int32) (σ : MS) : Prop :=
  ∀ v5 : Int32, v5 = (t0 + t1) → vp_in x3 490 ∧ (if (gA σ 23 x3.toNatClampNeg) = (2 : Int32) then (w3_seen_198 Q K13 K148 x1 x2 x3 x4 x6 v5 x9 x8 (1 : Int32) σ) else (w3_seen_198 Q K13 K148 x1 x2 x3 x4 x6 v5 x9 x8 (0 : Int32) σ))
set_option maxHeartbeats 4000000 in
theorem B3_seen_178 {l : Launch} {p : Program} {e : Env} {s : State} {m : MethodId} {args : Array Value} {below : List Frame} {meth : Method} {c : Code} {G : mm_G} {Q : Int32 → MS → Prop} {K13 : Int32 → Int32 → Int32 → Int32 → MS → Prop} {K148 : Int32 → Int32 → Int32 → Int32 → Int32 → Int32 → Int32 → Int32 → MS → Prop} (cx : mm_X cX3_seen 10 (some .int) G p s m args meth c) (hK13 : ∀ (x1 : Int32) (x2 : Int32) (x3 : Int32) (x4 : Int32) (σ : MS), K13 x1 x2 x3 x4 σ → mm_T p l e ({ frames := 1, cells := 0, slots := 0, locals := 40 } : Room) s m args below meth c G (mm_Qi G Q) 10 13 σ [(0, .ref (mm_o G)), (1, .int x1), (2, .int x2), (3, .int x3), (4, .int x4)] []) (hK148 : ∀ (x1 : Int32) (x2 : Int32) (x3 : Int32) (x4 : Int32) (x6 : Int32) (x7 : Int32) (x8 : Int32) (x9 : Int32) (σ : MS), K148 x1 x2 x3 x4 x6 x7 x8 x9 σ → mm_T p l e ({ frames := 1, cells := 0, slots := 0, locals := 40 } : Room) s m args below meth c G (mm_Qi G Q) 10 148 σ [(0, .ref (mm_o G)), (1, .int x1), (2, .int x2), (3, .int x3), (4, .int x4), (6, .int x6), (7, .int x7), (8, .int x8), (9, .int x9)] []) : ∀ (x1 : Int32) (x2 : Int32) (x3 : Int32) (x4 : Int32) (x6 : Int32) (x8 : Int32) (x9 : Int32) (t0 : Int32) (t1 : Int32) (σ : MS), w3_seen_178 Q K13 K148 x1 x2 x3 x4 x6 x8 x9 t0 t1 σ → mm_T p l e ({ frames := 1, cells := 0, slots := 0, locals := 40 } : Room) s m args below meth c G (mm_Qi G Q) 10 178 σ [(0, .ref (mm_o G)), (1, .int x1), (2, .int x2), (3, .int x3), (4, .int x4), (6, .int x6), (8, .int x8), (9, .int x9)] [.int t1, .int t0] := by
  intro x1 x2 x3 x4 x6 x8 x9 t0 t1 σ hw H locs ls hM hS hl
  unfold w3_seen_178 at hw
  obtain ⟨hx, hb, hml, hown, hts, hr, hlk, hMK, hZ⟩ := id cx
  refine lv_iadd hx hb dX3_seen_178 ?_
  refine lv_topi (fun v5 hv5 => ?_)
  have hw := hw v5 hv5
  refine lv_istore (lv' := [(7, .int v5), (0, .ref (mm_o G)), (1, .int x1), (2, .int x2), (3, .int x3), (4, .int x4), (6, .int x6), (8, .int x8), (9, .int x9)]) hx hb dX3_seen_179 hl (by decide) rfl (fun ls hl => ?_)
  refine lv_iload hx hb dX3_seen_181 (lv_at hl 7 rfl) ?_
  refine lv_aload_n hx hb dX3_seen_183 rfl (lv_at hl 1 rfl) ?_
  refine mg_23 cx hM dX3_seen_184 ?_
  refine lv_iload_n hx hb dX3_seen_187 rfl (lv_at hl 4 rfl) ?_
  obtain ⟨hi, hw⟩ := hw
  refine mm_iald cx hM 23 rfl rfl hi dX3_seen_188 ?_
  refine lv_iconst (v := (2 : Int32)) hx hb dX3_seen_189 (by decide) ?_
  refine lv_icmp_ne (tgt := 197) hx hb dX3_seen_190 (by decide) (fun hc => ?_) (fun hc => ?_)
  · have hw := mm_in hc hw
    refine lv_iconst (v := (0 : Int32)) hx hb dX3_seen_197 (by decide) ?_
    exact B3_seen_198 cx hK13 hK148 _ _ _ _ _ _ _ _ _ _ hw _ _ _ hM hS (lv_sub hl [1, 2, 3, 4, 5, 6, 0, 8] rfl)
  · have hw := mm_ip hc hw
    refine lv_iconst (v := (1 : Int32)) hx hb dX3_seen_193 (by decide) ?_
    refine lv_goto (tgt := 198) hx hb dX3_seen_194 (by decide) ?_
    exact B3_seen_198 cx hK13 hK148 _ _ _ _ _ _ _ _ _ _ hw _ _ _ hM hS (lv_sub hl [1, 2, 3, 4, 5, 6, 0, 8] rfl)
def w3_seen_148 (Q : Int32 → MS → Prop) (K13 : Int32 → Int32 → Int32 → Int32 → MS → Prop) (K148 : Int32 → Int32 → Int32 → Int32 → Int32 → Int32 → Int32 → Int32 → MS → Prop) (x1 : Int32) (x2 : Int32) (x3 : Int32) (x4 : Int32) (x6 : Int32) (x7 : Int32) (x8 : Int32) (x9 : Int32) (σ : MS) : Prop :=
  if (x6 - x6 / (10 : Int32) * (10 : Int32)) ≤ x9 then (if x7 < (x6 / (10 : Int32)) then (if (x6 / (10 : Int32)) ≤ (x7 + x8) then (w3_seen_244 Q K13 x1 x2 x3 x4 23 x3 (2 : Int32) σ) else (w3_seen_244 Q K13 x1 x2 x3 x4 23 x3 (0 : Int32) σ)) else (w3_seen_244 Q K13 x1 x2 x3 x4 23 x3 (1 : Int32) σ)) else (∀ v6 : Int32, v6 = x3 + (-1 : Int32) → vp_in v6 490 ∧ (if (gA σ 23 v6.toNatClampNeg) = (1 : Int32) then (w3_seen_178 Q K13 K148 x1 x2 v6 x4 x6 x8 x9 x7 (1 : Int32) σ) else (w3_seen_178 Q K13 K148 x1 x2 v6 x4 x6 x8 x9 x7 (0 : Int32) σ)))
set_option maxHeartbeats 4000000 in
theorem B3_seen_148 {l : Launch} {p : Program} {e : Env} {s : State} {m : MethodId} {args : Array Value} {below : List Frame} {meth : Method} {c : Code} {G : mm_G} {Q : Int32 → MS → Prop} {K13 : Int32 → Int32 → Int32 → Int32 → MS → Prop} {K148 : Int32 → Int32 → Int32 → Int32 → Int32 → Int32 → Int32 → Int32 → MS → Prop} (cx : mm_X cX3_seen 10 (some .int) G p s m args meth c) (hK13 : ∀ (x1 : Int32) (x2 : Int32) (x3 : Int32) (x4 : Int32) (σ : MS), K13 x1 x2 x3 x4 σ → mm_T p l e ({ frames := 1, cells := 0, slots := 0, locals := 40 } : Room) s m args below meth c G (mm_Qi G Q) 10 13 σ [(0, .ref (mm_o G)), (1, .int x1), (2, .int x2), (3, .int x3), (4, .int x4)] []) (hK148 : ∀ (x1 : Int32) (x2 : Int32) (x3 : Int32) (x4 : Int32) (x6 : Int32) (x7 : Int32) (x8 : Int32) (x9 : Int32) (σ : MS), K148 x1 x2 x3 x4 x6 x7 x8 x9 σ → mm_T p l e ({ frames := 1, cells := 0, slots := 0, locals := 40 } : Room) s m args below meth c G (mm_Qi G Q) 10 148 σ [(0, .ref (mm_o G)), (1, .int x1), (2, .int x2), (3, .int x3), (4, .int x4), (6, .int x6), (7, .int x7), (8, .int x8), (9, .int x9)] []) : ∀ (x1 : Int32) (x2 : Int32) (x3 : Int32) (x4 : Int32) (x6 : Int32) (x7 : Int32) (x8 : Int32) (x9 : Int32) (σ : MS), w3_seen_148 Q K13 K148 x1 x2 x3 x4 x6 x7 x8 x9 σ → mm_T p l e ({ frames := 1, cells := 0, slots := 0, locals := 40 } : Room) s m args below meth c G (mm_Qi G Q) 10 148 σ [(0, .ref (mm_o G)), (1, .int x1), (2, .int x2), (3, .int x3), (4, .int x4), (6, .int x6), (7, .int x7), (8, .int x8), (9, .int x9)] [] := by
  intro x1 x2 x3 x4 x6 x7 x8 x9 σ hw H locs ls hM hS hl
  unfold w3_seen_148 at hw
  obtain ⟨hx, hb, hml, hown, hts, hr, hlk, hMK, hZ⟩ := id cx
  refine lv_iload hx hb dX3_seen_148 (lv_at hl 8 rfl) ?_
  refine lv_iload hx hb dX3_seen_150 (lv_at hl 5 rfl) ?_
  refine lv_bipush (v := (10 : Int32)) hx hb dX3_seen_152 (by decide) ?_
  refine lv_irem hx hb dX3_seen_154 (by decide) ?_
  refine lv_icmp_ge (tgt := 207) hx hb dX3_seen_155 (by decide) (fun hc => ?_) (fun hc => ?_)
  · have hw := mm_ip hc hw
    refine lv_aload_n hx hb dX3_seen_207 rfl (lv_at hl 0 rfl) ?_
    refine mg_23 cx hM dX3_seen_208 ?_
    refine lv_iload_n hx hb dX3_seen_211 rfl (lv_at hl 3 rfl) ?_
    refine lv_iload hx hb dX3_seen_212 (lv_at hl 6 rfl) ?_
    refine lv_iload hx hb dX3_seen_214 (lv_at hl 5 rfl) ?_
    refine lv_bipush (v := (10 : Int32)) hx hb dX3_seen_216 (by decide) ?_
    refine lv_idiv hx hb dX3_seen_218 (by decide) ?_
    refine lv_icmp_lt (tgt := 226) hx hb dX3_seen_219 (by decide) (fun hc => ?_) (fun hc => ?_)
    · have hw := mm_ip hc hw
      refine lv_iload hx hb dX3_seen_226 (lv_at hl 6 rfl) ?_
      refine lv_iload hx hb dX3_seen_228 (lv_at hl 7 rfl) ?_
      refine lv_iadd hx hb dX3_seen_230 ?_
      refine lv_iload hx hb dX3_seen_231 (lv_at hl 5 rfl) ?_
      refine lv_bipush (v := (10 : Int32)) hx hb dX3_seen_233 (by decide) ?_
      refine lv_idiv hx hb dX3_seen_235 (by decide) ?_
      refine lv_icmp_ge (tgt := 243) hx hb dX3_seen_236 (by decide) (fun hc => ?_) (fun hc => ?_)
      · have hw := mm_ip hc hw
        refine lv_iconst (v := (2 : Int32)) hx hb dX3_seen_243 (by decide) ?_
        exact B3_seen_244 cx hK13 _ _ _ _ _ _ _ _ hw _ _ _ hM hS (lv_sub hl [0, 1, 2, 3, 4] rfl)
      · have hw := mm_in hc hw
        refine lv_iconst (v := (0 : Int32)) hx hb dX3_seen_239 (by decide) ?_
        refine lv_goto (tgt := 244) hx hb dX3_seen_240 (by decide) ?_
        exact B3_seen_244 cx hK13 _ _ _ _ _ _ _ _ hw _ _ _ hM hS (lv_sub hl [0, 1, 2, 3, 4] rfl)
    · have hw := mm_in hc hw
      refine lv_iconst (v := (1 : Int32)) hx hb dX3_seen_222 (by decide) ?_
      refine lv_goto (tgt := 244) hx hb dX3_seen_223 (by decide) ?_
      exact B3_seen_244 cx hK13 _ _ _ _ _ _ _ _ hw _ _ _ hM hS (lv_sub hl [0, 1, 2, 3, 4] rfl)
  · have hw := mm_in hc hw
    obtain ⟨v6, hv6⟩ : ∃ v : Int32, v = x3 + (-1 : Int32) := ⟨_, rfl⟩
    have hw := hw v6 hv6
    refine lv_iinc (v := v6) (lv' := [(3, .int v6), (0, .ref (mm_o G)), (1, .int x1), (2, .int x2), (4, .int x4), (6, .int x6), (7, .int x7), (8, .int x8), (9, .int x9)]) hx hb dX3_seen_158 hl (k := 3) rfl (by rw [hv6]; rfl) (by decide) rfl (fun ls hl => ?_)
    refine lv_iload hx hb dX3_seen_161 (lv_at hl 6 rfl) ?_
    refine lv_aload_n hx hb dX3_seen_163 rfl (lv_at hl 1 rfl) ?_
    refine mg_23 cx hM dX3_seen_164 ?_
    refine lv_iload_n hx hb dX3_seen_167 rfl (lv_at hl 0 rfl) ?_
    obtain ⟨hi, hw⟩ := hw
    refine mm_iald cx hM 23 rfl rfl hi dX3_seen_168 ?_
    refine lv_iconst (v := (1 : Int32)) hx hb dX3_seen_169 (by decide) ?_
    refine lv_icmp_ne (tgt := 177) hx hb dX3_seen_170 (by decide) (fun hc => ?_) (fun hc => ?_)
    · have hw := mm_in hc hw
      refine lv_iconst (v := (0 : Int32)) hx hb dX3_seen_177 (by decide) ?_
      exact B3_seen_178 cx hK13 hK148 _ _ _ _ _ _ _ _ _ _ hw _ _ _ hM hS (lv_sub hl [1, 2, 3, 0, 4, 5, 7, 8] rfl)
    · have hw := mm_ip hc hw
      refine lv_iconst (v := (1 : Int32)) hx hb dX3_seen_173 (by decide) ?_
      refine lv_goto (tgt := 178) hx hb dX3_seen_174 (by decide) ?_
      exact B3_seen_178 cx hK13 hK148 _ _ _ _ _ _ _ _ _ _ hw _ _ _ hM hS (lv_sub hl [1, 2, 3, 0, 4, 5, 7, 8] rfl)
theorem L3_seen_148 {l : Launch} {p : Program} {e : Env} {s : State} {m : MethodId} {args : Array Value} {below : List Frame} {meth : Method} {c : Code} {G : mm_G} {Q : Int32 → MS → Prop} {K13 : Int32 → Int32 → Int32 → Int32 → MS → Prop} (cx : mm_X cX3_seen 10 (some .int) G p s m args meth c) (hK13 : ∀ (x1 : Int32) (x2 : Int32) (x3 : Int32) (x4 : Int32) (σ : MS), K13 x1 x2 x3 x4 σ → mm_T p l e ({ frames := 1, cells := 0, slots := 0, locals := 40 } : Room) s m args below meth c G (mm_Qi G Q) 10 13 σ [(0, .ref (mm_o G)), (1, .int x1), (2, .int x2), (3, .int x3), (4, .int x4)] []) : ∀ (x1 : Int32) (x2 : Int32) (x3 : Int32) (x4 : Int32) (x6 : Int32) (x7 : Int32) (x8 : Int32) (x9 : Int32) (σ : MS), lp9F (w3_seen_148 Q K13) x1 x2 x3 x4 x6 x7 x8 x9 σ → mm_T p l e ({ frames := 1, cells := 0, slots := 0, locals := 40 } : Room) s m args below meth c G (mm_Qi G Q) 10 148 σ [(0, .ref (mm_o G)), (1, .int x1), (2, .int x2), (3, .int x3), (4, .int x4), (6, .int x6), (7, .int x7), (8, .int x8), (9, .int x9)] [] :=
  lp9F_of (fun K hK => B3_seen_148 cx hK13 hK)
def w3_seen_98 (Q : Int32 → MS → Prop) (K13 : Int32 → Int32 → Int32 → Int32 → MS → Prop) (x1 : Int32) (x2 : Int32) (x3 : Int32) (x4 : Int32) (t0 : Nat) (t1 : Int32) (t2 : Int32) (σ : MS) : Prop :=
  mm_w t0 = true ∧ (vp_in t1 (mm_z t0) ∧ (∀ v7 : Int32, v7 = x3 + (1 : Int32) → w3_seen_312 Q K13 x1 x2 v7 x4 (sA σ t0 t1.toNatClampNeg t2)))
set_option maxHeartbeats 4000000 in
theorem B3_seen_98 {l : Launch} {p : Program} {e : Env} {s : State} {m : MethodId} {args : Array Value} {below : List Frame} {meth : Method} {c : Code} {G : mm_G} {Q : Int32 → MS → Prop} {K13 : Int32 → Int32 → Int32 → Int32 → MS → Prop} (cx : mm_X cX3_seen 10 (some .int) G p s m args meth c) (hK13 : ∀ (x1 : Int32) (x2 : Int32) (x3 : Int32) (x4 : Int32) (σ : MS), K13 x1 x2 x3 x4 σ → mm_T p l e ({ frames := 1, cells := 0, slots := 0, locals := 40 } : Room) s m args below meth c G (mm_Qi G Q) 10 13 σ [(0, .ref (mm_o G)), (1, .int x1), (2, .int x2), (3, .int x3), (4, .int x4)] []) : ∀ (x1 : Int32) (x2 : Int32) (x3 : Int32) (x4 : Int32) (t0 : Nat) (t1 : Int32) (t2 : Int32) (σ : MS), w3_seen_98 Q K13 x1 x2 x3 x4 t0 t1 t2 σ → mm_T p l e ({ frames := 1, cells := 0, slots := 0, locals := 40 } : Room) s m args below meth c G (mm_Qi G Q) 10 98 σ [(0, .ref (mm_o G)), (1, .int x1), (2, .int x2), (3, .int x3), (4, .int x4)] [.int t2, .int t1, .ref (mm_a G t0)] := by
  intro x1 x2 x3 x4 t0 t1 t2 σ hw H locs ls hM hS hl
  unfold w3_seen_98 at hw
  obtain ⟨hx, hb, hml, hown, hts, hr, hlk, hMK, hZ⟩ := id cx
  obtain ⟨hk, hw⟩ := hw
  obtain ⟨hi, hw⟩ := hw
  refine mm_iast cx hM hS t0 hk rfl hi dX3_seen_98 (fun H locs hM hS => ?_)
  obtain ⟨v7, hv7⟩ : ∃ v : Int32, v = x3 + (1 : Int32) := ⟨_, rfl⟩
  have hw := hw v7 hv7
  refine lv_iinc (v := v7) (lv' := [(3, .int v7), (0, .ref (mm_o G)), (1, .int x1), (2, .int x2), (4, .int x4)]) hx hb dX3_seen_99 hl (k := 3) rfl (by rw [hv7]; rfl) (by decide) rfl (fun ls hl => ?_)
  refine lv_goto (tgt := 312) hx hb dX3_seen_102 (by decide) ?_
  exact B3_seen_312 cx hK13 _ _ _ _ _ hw _ _ _ hM hS (lv_sub hl [1, 2, 3, 0, 4] rfl)
def w3_seen_13 (Q : Int32 → MS → Prop) (K13 : Int32 → Int32 → Int32 → Int32 → MS → Prop) (x1 : Int32) (x2 : Int32) (x3 : Int32) (x4 : Int32) (σ : MS) : Prop :=
  vp_in ((117 : Int32) + x1) 640 ∧ (if (gA σ 0 ((117 : Int32) + x1).toNatClampNeg) ≤ x4 then (Q (gA σ 23 0) σ) else (vp_in ((150 : Int32) + x4) 640 ∧ (∀ v8 : Int32, v8 = ((gA σ 0 ((150 : Int32) + x4).toNatClampNeg) / (100 : Int32)) → vp_in ((150 : Int32) + x4) 640 ∧ (∀ v9 : Int32, v9 = ((gA σ 0 ((150 : Int32) + x4).toNatClampNeg) - (gA σ 0 ((150 : Int32) + x4).toNatClampNeg) / (100 : Int32) * (100 : Int32)) → if v8 = 0 then (w3_its x2 (4 : Int32) σ (fun r19 s19 => w3_has r19 v9 s19 (fun r20 s20 => if r20 = 0 then (w3_seen_98 Q K13 x1 x2 x3 x4 23 x3 (2 : Int32) s20) else (w3_its x2 (5 : Int32) s20 (fun r21 s21 => w3_seen_98 Q K13 x1 x2 x3 x4 23 x3 ((r21 >>> (v9 &&& 31)) &&& (1 : Int32)) s21))))) else (if v8 = (1 : Int32) then (vp_in (x3 - (1 : Int32)) 490 ∧ (w3_turned (gA σ 23 (x3 - (1 : Int32)).toNatClampNeg) σ (fun r18 s18 => vp_in (x3 - (1 : Int32)) 490 ∧ (w3_seen_312 Q K13 x1 x2 x3 x4 (sA s18 23 (x3 - (1 : Int32)).toNatClampNeg r18))))) else (if v8 = (4 : Int32) then (lp9F (w3_seen_148 Q K13) x1 x2 x3 x4 v9 (0 : Int32) (0 : Int32) (0 : Int32) σ) else (∀ v10 : Int32, v10 = x3 + (-1 : Int32) → vp_in (v10 - (1 : Int32)) 490 ∧ (∀ v11 : Int32, v11 = (gA σ 23 (v10 - (1 : Int32)).toNatClampNeg) → vp_in v10 490 ∧ (∀ v12 : Int32, v12 = (gA σ 23 v10.toNatClampNeg) → if v8 = (2 : Int32) then (w3_andOf v11 v12 σ (fun r17 s17 => w3_seen_311 Q K13 x1 x2 v10 x4 23 (v10 - (1 : Int32)) r17 s17)) else (w3_turned v11 σ (fun r13 s13 => w3_turned v12 s13 (fun r14 s14 => w3_andOf r13 r14 s14 (fun r15 s15 => w3_turned r15 s15 (fun r16 s16 => w3_seen_311 Q K13 x1 x2 v10 x4 23 (v10 - (1 : Int32)) r16 s16))))))))))))))
set_option maxHeartbeats 4000000 in
theorem B3_seen_13 {l : Launch} {p : Program} {e : Env} {s : State} {m : MethodId} {args : Array Value} {below : List Frame} {meth : Method} {c : Code} {G : mm_G} {Q : Int32 → MS → Prop} {K13 : Int32 → Int32 → Int32 → Int32 → MS → Prop} (cx : mm_X cX3_seen 10 (some .int) G p s m args meth c) (hK13 : ∀ (x1 : Int32) (x2 : Int32) (x3 : Int32) (x4 : Int32) (σ : MS), K13 x1 x2 x3 x4 σ → mm_T p l e ({ frames := 1, cells := 0, slots := 0, locals := 40 } : Room) s m args below meth c G (mm_Qi G Q) 10 13 σ [(0, .ref (mm_o G)), (1, .int x1), (2, .int x2), (3, .int x3), (4, .int x4)] []) : ∀ (x1 : Int32) (x2 : Int32) (x3 : Int32) (x4 : Int32) (σ : MS), w3_seen_13 Q K13 x1 x2 x3 x4 σ → mm_T p l e ({ frames := 1, cells := 0, slots := 0, locals := 40 } : Room) s m args below meth c G (mm_Qi G Q) 10 13 σ [(0, .ref (mm_o G)), (1, .int x1), (2, .int x2), (3, .int x3), (4, .int x4)] [] := by
  intro x1 x2 x3 x4 σ hw H locs ls hM hS hl
  unfold w3_seen_13 at hw
  obtain ⟨hx, hb, hml, hown, hts, hr, hlk, hMK, hZ⟩ := id cx
  refine lv_iload hx hb dX3_seen_13 (lv_at hl 4 rfl) ?_
  refine lv_aload_n hx hb dX3_seen_15 rfl (lv_at hl 0 rfl) ?_
  refine mg_0 cx hM dX3_seen_16 ?_
  refine lv_bipush (v := (117 : Int32)) hx hb dX3_seen_19 (by decide) ?_
  refine lv_iload_n hx hb dX3_seen_21 rfl (lv_at hl 1 rfl) ?_
  refine lv_iadd hx hb dX3_seen_22 ?_
  obtain ⟨hi, hw⟩ := hw
  refine mm_iald cx hM 0 rfl rfl hi dX3_seen_23 ?_
  refine lv_icmp_ge (tgt := 318) hx hb dX3_seen_24 (by decide) (fun hc => ?_) (fun hc => ?_)
  · have hw := mm_ip hc hw
    refine lv_aload_n hx hb dX3_seen_318 rfl (lv_at hl 0 rfl) ?_
    refine mg_23 cx hM dX3_seen_319 ?_
    refine lv_iconst (v := (0 : Int32)) hx hb dX3_seen_322 (by decide) ?_
    refine mm_iald cx hM 23 rfl (j := 0) (by decide) (vp_lit (by decide)) dX3_seen_323 ?_
    exact mm_iret cx hM hS hw dX3_seen_324
  · have hw := mm_in hc hw
    refine lv_aload_n hx hb dX3_seen_27 rfl (lv_at hl 0 rfl) ?_
    refine mg_0 cx hM dX3_seen_28 ?_
    refine lv_sipush (v := (150 : Int32)) hx hb dX3_seen_31 (by decide) ?_
    refine lv_iload hx hb dX3_seen_34 (lv_at hl 4 rfl) ?_
    refine lv_iadd hx hb dX3_seen_36 ?_
    obtain ⟨hi, hw⟩ := hw
    refine mm_iald cx hM 0 rfl rfl hi dX3_seen_37 ?_
    refine lv_bipush (v := (100 : Int32)) hx hb dX3_seen_38 (by decide) ?_
    refine lv_idiv hx hb dX3_seen_40 (by decide) ?_
    refine lv_topi (fun v8 hv8 => ?_)
    have hw := hw v8 hv8
    refine lv_istore (lv' := [(5, .int v8), (0, .ref (mm_o G)), (1, .int x1), (2, .int x2), (3, .int x3), (4, .int x4)]) hx hb dX3_seen_41 hl (by decide) rfl (fun ls hl => ?_)
    refine lv_aload_n hx hb dX3_seen_43 rfl (lv_at hl 1 rfl) ?_
    refine mg_0 cx hM dX3_seen_44 ?_
    refine lv_sipush (v := (150 : Int32)) hx hb dX3_seen_47 (by decide) ?_
    refine lv_iload hx hb dX3_seen_50 (lv_at hl 5 rfl) ?_
    refine lv_iadd hx hb dX3_seen_52 ?_
    obtain ⟨hi, hw⟩ := hw
    refine mm_iald cx hM 0 rfl rfl hi dX3_seen_53 ?_
    refine lv_bipush (v := (100 : Int32)) hx hb dX3_seen_54 (by decide) ?_
    refine lv_irem hx hb dX3_seen_56 (by decide) ?_
    refine lv_topi (fun v9 hv9 => ?_)
    have hw := hw v9 hv9
    refine lv_istore (lv' := [(6, .int v9), (5, .int v8), (0, .ref (mm_o G)), (1, .int x1), (2, .int x2), (3, .int x3), (4, .int x4)]) hx hb dX3_seen_57 hl (by decide) rfl (fun ls hl => ?_)
    refine lv_iload hx hb dX3_seen_59 (lv_at hl 1 rfl) ?_
    refine lv_if_ne (tgt := 105) hx hb dX3_seen_61 (by decide) (fun hc => ?_) (fun hc => ?_)
    · have hw := mm_in hc hw
      refine lv_iload hx hb dX3_seen_105 (lv_at hl 1 rfl) ?_
      refine lv_iconst (v := (1 : Int32)) hx hb dX3_seen_107 (by decide) ?_
      refine lv_icmp_ne (tgt := 133) hx hb dX3_seen_108 (by decide) (fun hc => ?_) (fun hc => ?_)
      · have hw := mm_in hc hw
        refine lv_iload hx hb dX3_seen_133 (lv_at hl 1 rfl) ?_
        refine lv_iconst (v := (4 : Int32)) hx hb dX3_seen_135 (by decide) ?_
        refine lv_icmp_ne (tgt := 251) hx hb dX3_seen_136 (by decide) (fun hc => ?_) (fun hc => ?_)
        · have hw := mm_in hc hw
          obtain ⟨v10, hv10⟩ : ∃ v : Int32, v = x3 + (-1 : Int32) := ⟨_, rfl⟩
          have hw := hw v10 hv10
          refine lv_iinc (v := v10) (lv' := [(3, .int v10), (6, .int v9), (5, .int v8), (0, .ref (mm_o G)), (1, .int x1), (2, .int x2), (4, .int x4)]) hx hb dX3_seen_251 hl (k := 5) rfl (by rw [hv10]; rfl) (by decide) rfl (fun ls hl => ?_)
          refine lv_aload_n hx hb dX3_seen_254 rfl (lv_at hl 3 rfl) ?_
          refine mg_23 cx hM dX3_seen_255 ?_
          refine lv_iload_n hx hb dX3_seen_258 rfl (lv_at hl 0 rfl) ?_
          refine lv_iconst (v := (1 : Int32)) hx hb dX3_seen_259 (by decide) ?_
          refine lv_isub hx hb dX3_seen_260 ?_
          obtain ⟨hi, hw⟩ := hw
          refine mm_iald cx hM 23 rfl rfl hi dX3_seen_261 ?_
          refine lv_topi (fun v11 hv11 => ?_)
          have hw := hw v11 hv11
          refine lv_istore (lv' := [(7, .int v11), (3, .int v10), (6, .int v9), (5, .int v8), (0, .ref (mm_o G)), (1, .int x1), (2, .int x2), (4, .int x4)]) hx hb dX3_seen_262 hl (by decide) rfl (fun ls hl => ?_)
          refine lv_aload_n hx hb dX3_seen_264 rfl (lv_at hl 4 rfl) ?_
          refine mg_23 cx hM dX3_seen_265 ?_
          refine lv_iload_n hx hb dX3_seen_268 rfl (lv_at hl 1 rfl) ?_
          obtain ⟨hi, hw⟩ := hw
          refine mm_iald cx hM 23 rfl rfl hi dX3_seen_269 ?_
          refine lv_topi (fun v12 hv12 => ?_)
          have hw := hw v12 hv12
          refine lv_istore (lv' := [(8, .int v12), (7, .int v11), (3, .int v10), (6, .int v9), (5, .int v8), (0, .ref (mm_o G)), (1, .int x1), (2, .int x2), (4, .int x4)]) hx hb dX3_seen_270 hl (by decide) rfl (fun ls hl => ?_)
          refine lv_aload_n hx hb dX3_seen_272 rfl (lv_at hl 5 rfl) ?_
          refine mg_23 cx hM dX3_seen_273 ?_
          refine lv_iload_n hx hb dX3_seen_276 rfl (lv_at hl 2 rfl) ?_
          refine lv_iconst (v := (1 : Int32)) hx hb dX3_seen_277 (by decide) ?_
          refine lv_isub hx hb dX3_seen_278 ?_
          refine lv_iload hx hb dX3_seen_279 (lv_at hl 4 rfl) ?_
          refine lv_iconst (v := (2 : Int32)) hx hb dX3_seen_281 (by decide) ?_
          refine lv_icmp_ne (tgt := 295) hx hb dX3_seen_282 (by decide) (fun hc => ?_) (fun hc => ?_)
          · have hw := mm_in hc hw
            refine lv_iload hx hb dX3_seen_295 (lv_at hl 1 rfl) ?_
            refine C3_turned cx hM hS hw ⟨Nat.le_of_ble_eq_true rfl, Nat.le_of_ble_eq_true rfl⟩ (Nat.le_of_ble_eq_true rfl) hl.1 ⟨Nat.zero_le _, Nat.zero_le _⟩ dX3_seen_297 (fun r13 s13 H locs hw hM hS => ?_)
            refine lv_iload hx hb dX3_seen_300 (lv_at hl 0 rfl) ?_
            refine C3_turned cx hM hS hw ⟨Nat.le_of_ble_eq_true rfl, Nat.le_of_ble_eq_true rfl⟩ (Nat.le_of_ble_eq_true rfl) hl.1 ⟨Nat.zero_le _, Nat.zero_le _⟩ dX3_seen_302 (fun r14 s14 H locs hw hM hS => ?_)
            refine C3_andOf cx hM hS hw ⟨Nat.le_of_ble_eq_true rfl, Nat.le_of_ble_eq_true rfl⟩ (Nat.le_of_ble_eq_true rfl) hl.1 ⟨Nat.zero_le _, Nat.zero_le _⟩ dX3_seen_305 (fun r15 s15 H locs hw hM hS => ?_)
            refine C3_turned cx hM hS hw ⟨Nat.le_of_ble_eq_true rfl, Nat.le_of_ble_eq_true rfl⟩ (Nat.le_of_ble_eq_true rfl) hl.1 ⟨Nat.zero_le _, Nat.zero_le _⟩ dX3_seen_308 (fun r16 s16 H locs hw hM hS => ?_)
            exact B3_seen_311 cx hK13 _ _ _ _ _ _ _ _ hw _ _ _ hM hS (lv_sub hl [5, 6, 7, 2, 8] rfl)
          · have hw := mm_ip hc hw
            refine lv_iload hx hb dX3_seen_285 (lv_at hl 1 rfl) ?_
            refine lv_iload hx hb dX3_seen_287 (lv_at hl 0 rfl) ?_
            refine C3_andOf cx hM hS hw ⟨Nat.le_of_ble_eq_true rfl, Nat.le_of_ble_eq_true rfl⟩ (Nat.le_of_ble_eq_true rfl) hl.1 ⟨Nat.zero_le _, Nat.zero_le _⟩ dX3_seen_289 (fun r17 s17 H locs hw hM hS => ?_)
            refine lv_goto (tgt := 311) hx hb dX3_seen_292 (by decide) ?_
            exact B3_seen_311 cx hK13 _ _ _ _ _ _ _ _ hw _ _ _ hM hS (lv_sub hl [5, 6, 7, 2, 8] rfl)
        · have hw := mm_ip hc hw
          refine lv_iconst (v := (0 : Int32)) hx hb dX3_seen_139 (by decide) ?_
          refine lv_istore (lv' := [(7, .int (0 : Int32)), (6, .int v9), (5, .int v8), (0, .ref (mm_o G)), (1, .int x1), (2, .int x2), (3, .int x3), (4, .int x4)]) hx hb dX3_seen_140 hl (by decide) rfl (fun ls hl => ?_)
          refine lv_iconst (v := (0 : Int32)) hx hb dX3_seen_142 (by decide) ?_
          refine lv_istore (lv' := [(8, .int (0 : Int32)), (7, .int (0 : Int32)), (6, .int v9), (5, .int v8), (0, .ref (mm_o G)), (1, .int x1), (2, .int x2), (3, .int x3), (4, .int x4)]) hx hb dX3_seen_143 hl (by decide) rfl (fun ls hl => ?_)
          refine lv_iconst (v := (0 : Int32)) hx hb dX3_seen_145 (by decide) ?_
          refine lv_istore (lv' := [(9, .int (0 : Int32)), (8, .int (0 : Int32)), (7, .int (0 : Int32)), (6, .int v9), (5, .int v8), (0, .ref (mm_o G)), (1, .int x1), (2, .int x2), (3, .int x3), (4, .int x4)]) hx hb dX3_seen_146 hl (by decide) rfl (fun ls hl => ?_)
          exact L3_seen_148 cx hK13 _ _ _ _ _ _ _ _ _ hw _ _ _ hM hS (lv_sub hl [5, 6, 7, 8, 9, 3, 2, 1, 0] rfl)
      · have hw := mm_ip hc hw
        refine lv_aload_n hx hb dX3_seen_111 rfl (lv_at hl 2 rfl) ?_
        refine mg_23 cx hM dX3_seen_112 ?_
        refine lv_iload_n hx hb dX3_seen_115 rfl (lv_at hl 5 rfl) ?_
        refine lv_iconst (v := (1 : Int32)) hx hb dX3_seen_116 (by decide) ?_
        refine lv_isub hx hb dX3_seen_117 ?_
        refine lv_aload_n hx hb dX3_seen_118 rfl (lv_at hl 2 rfl) ?_
        refine mg_23 cx hM dX3_seen_119 ?_
        refine lv_iload_n hx hb dX3_seen_122 rfl (lv_at hl 5 rfl) ?_
        refine lv_iconst (v := (1 : Int32)) hx hb dX3_seen_123 (by decide) ?_
        refine lv_isub hx hb dX3_seen_124 ?_
        obtain ⟨hi, hw⟩ := hw
        refine mm_iald cx hM 23 rfl rfl hi dX3_seen_125 ?_
        refine C3_turned cx hM hS hw ⟨Nat.le_of_ble_eq_true rfl, Nat.le_of_ble_eq_true rfl⟩ (Nat.le_of_ble_eq_true rfl) hl.1 ⟨Nat.zero_le _, Nat.zero_le _⟩ dX3_seen_126 (fun r18 s18 H locs hw hM hS => ?_)
        obtain ⟨hi, hw⟩ := hw
        refine mm_iast cx hM hS 23 rfl rfl hi dX3_seen_129 (fun H locs hM hS => ?_)
        refine lv_goto (tgt := 312) hx hb dX3_seen_130 (by decide) ?_
        exact B3_seen_312 cx hK13 _ _ _ _ _ hw _ _ _ hM hS (lv_sub hl [2, 3, 4, 5, 6] rfl)
    · have hw := mm_ip hc hw
      refine lv_aload_n hx hb dX3_seen_64 rfl (lv_at hl 2 rfl) ?_
      refine mg_23 cx hM dX3_seen_65 ?_
      refine lv_iload_n hx hb dX3_seen_68 rfl (lv_at hl 5 rfl) ?_
      refine lv_aload_n hx hb dX3_seen_69 rfl (lv_at hl 2 rfl) ?_
      refine lv_iload_n hx hb dX3_seen_70 rfl (lv_at hl 4 rfl) ?_
      refine lv_iconst (v := (4 : Int32)) hx hb dX3_seen_71 (by decide) ?_
      refine C3_its cx hM hS hw ⟨Nat.le_of_ble_eq_true rfl, Nat.le_of_ble_eq_true rfl⟩ (Nat.le_of_ble_eq_true rfl) hl.1 ⟨Nat.zero_le _, Nat.zero_le _⟩ dX3_seen_72 (fun r19 s19 H locs hw hM hS => ?_)
      refine lv_iload hx hb dX3_seen_75 (lv_at hl 0 rfl) ?_
      refine C3_has cx hM hS hw ⟨Nat.le_of_ble_eq_true rfl, Nat.le_of_ble_eq_true rfl⟩ (Nat.le_of_ble_eq_true rfl) hl.1 ⟨Nat.zero_le _, Nat.zero_le _⟩ dX3_seen_77 (fun r20 s20 H locs hw hM hS => ?_)
      refine lv_if_ne (tgt := 87) hx hb dX3_seen_80 (by decide) (fun hc => ?_) (fun hc => ?_)
      · have hw := mm_in hc hw
        refine lv_aload_n hx hb dX3_seen_87 rfl (lv_at hl 2 rfl) ?_
        refine lv_iload_n hx hb dX3_seen_88 rfl (lv_at hl 4 rfl) ?_
        refine lv_iconst (v := (5 : Int32)) hx hb dX3_seen_89 (by decide) ?_
        refine C3_its cx hM hS hw ⟨Nat.le_of_ble_eq_true rfl, Nat.le_of_ble_eq_true rfl⟩ (Nat.le_of_ble_eq_true rfl) hl.1 ⟨Nat.zero_le _, Nat.zero_le _⟩ dX3_seen_90 (fun r21 s21 H locs hw hM hS => ?_)
        refine lv_iload hx hb dX3_seen_93 (lv_at hl 0 rfl) ?_
        refine lv_ishr hx hb dX3_seen_95 ?_
        refine lv_iconst (v := (1 : Int32)) hx hb dX3_seen_96 (by decide) ?_
        refine lv_iand hx hb dX3_seen_97 ?_
        exact B3_seen_98 cx hK13 _ _ _ _ _ _ _ _ hw _ _ _ hM hS (lv_sub hl [2, 3, 4, 5, 6] rfl)
      · have hw := mm_ip hc hw
        refine lv_iconst (v := (2 : Int32)) hx hb dX3_seen_83 (by decide) ?_
        refine lv_goto (tgt := 98) hx hb dX3_seen_84 (by decide) ?_
        exact B3_seen_98 cx hK13 _ _ _ _ _ _ _ _ hw _ _ _ hM hS (lv_sub hl [2, 3, 4, 5, 6] rfl)
theorem L3_seen_13 {l : Launch} {p : Program} {e : Env} {s : State} {m : MethodId} {args : Array Value} {below : List Frame} {meth : Method} {c : Code} {G : mm_G} {Q : Int32 → MS → Prop} (cx : mm_X cX3_seen 10 (some .int) G p s m args meth c) : ∀ (x1 : Int32) (x2 : Int32) (x3 : Int32) (x4 : Int32) (σ : MS), lp5F (w3_seen_13 Q) x1 x2 x3 x4 σ → mm_T p l e ({ frames := 1, cells := 0, slots := 0, locals := 40 } : Room) s m args below meth c G (mm_Qi G Q) 10 13 σ [(0, .ref (mm_o G)), (1, .int x1), (2, .int x2), (3, .int x3), (4, .int x4)] [] :=
  lp5F_of (fun K hK => B3_seen_13 cx hK)
def w3_seen (x1 : Int32) (x2 : Int32) (σ : MS) (Q : Int32 → MS → Prop) : Prop :=
  vp_in ((84 : Int32) + x1) 640 ∧ (∀ v22 : Int32, v22 = (gA σ 0 ((84 : Int32) + x1).toNatClampNeg) → lp5F (w3_seen_13 Q) x1 x2 (0 : Int32) v22 σ)
set_option maxHeartbeats 4000000 in
theorem M3_seen (l : Launch) (G : mm_G) (x1 : Int32) (x2 : Int32) (σ : MS) (Q : Int32 → MS → Prop) (hw : w3_seen x1 x2 σ Q) : mm_Mi l yX3_seen (ws_ yX3_seen cX3_seen 10 (some .int)) ({ frames := 1, cells := 0, slots := 0, locals := 40 } : Room) G [.ref (mm_o G), .int x1, .int x2] σ Q := by
  refine mm_of (by decide) rfl ?_
  intro p e s m args below meth c cx hM ha
  refine mm_entry [.ref (mm_o G), .int x1, .int x2] 10 [(0, .ref (mm_o G)), (1, .int x1), (2, .int x2)] ha (Nat.le_of_ble_eq_true rfl) rfl (fun ls hl => ?_)
  have hS : va_S (mm_A G) s.heap s.heap [] := va_S.rf
  unfold w3_seen at hw
  obtain ⟨hx, hb, hml, hown, hts, hr, hlk, hMK, hZ⟩ := id cx
  refine lv_iconst (v := (0 : Int32)) hx hb dX3_seen_0 (by decide) ?_
  refine lv_istore_n (lv' := [(3, .int (0 : Int32)), (0, .ref (mm_o G)), (1, .int x1), (2, .int x2)]) hx hb dX3_seen_1 rfl hl (by decide) rfl (fun ls hl => ?_)
  refine lv_aload_n hx hb dX3_seen_2 rfl (lv_at hl 1 rfl) ?_
  refine mg_0 cx hM dX3_seen_3 ?_
  refine lv_bipush (v := (84 : Int32)) hx hb dX3_seen_6 (by decide) ?_
  refine lv_iload_n hx hb dX3_seen_8 rfl (lv_at hl 2 rfl) ?_
  refine lv_iadd hx hb dX3_seen_9 ?_
  obtain ⟨hi, hw⟩ := hw
  refine mm_iald cx hM 0 rfl rfl hi dX3_seen_10 ?_
  refine lv_topi (fun v22 hv22 => ?_)
  have hw := hw v22 hv22
  refine lv_istore (lv' := [(4, .int v22), (3, .int (0 : Int32)), (0, .ref (mm_o G)), (1, .int x1), (2, .int x2)]) hx hb dX3_seen_11 hl (by decide) rfl (fun ls hl => ?_)
  exact L3_seen_13 cx _ _ _ _ _ hw _ _ _ hM hS (lv_sub hl [2, 3, 4, 1, 0] rfl)
theorem C3_seen {l : Launch} {p : Program} {e : Env} {R : Room} {s : State} {m : MethodId} {args : Array Value} {below : List Frame} {meth : Method} {c : Code} {H : Heap} {locs : List Loc} {cells slots : Nat} {Qz : State → Prop} {cc : ByteArray} {nL : Nat} {ret : Option FieldType} {G : mm_G} {pc : Nat} {ls : Array Slot} {rest : List Value} {x1 : Int32} {x2 : Int32} {σ : MS} (cx : mm_X cc nL ret G p s m args meth c) (hM : mm_R G σ H) (hS0 : va_S (mm_A G) s.heap H locs) {Qf : Int32 → MS → Prop} (hw : w3_seen x1 x2 σ Qf) (hR : (({ frames := 1, cells := 0, slots := 0, locals := 40 } : Room)).frames + 1 ≤ R.frames ∧ 8 + (10 + 11) + (({ frames := 1, cells := 0, slots := 0, locals := 40 } : Room)).locals ≤ R.locals) (hroom : (rest.map fun v => v.category).sum ≤ 8) (hsize : ls.size = nL) (hf : cells ≤ R.cells ∧ slots ≤ R.slots) (hdg : decode cc pc = .ok (.invokevirtual 392, 3))
    (kk : ∀ (r : Int32) (σ1 : MS) (H1 : Heap) (locs1 : List Loc), Qf r σ1 → mm_R G σ1 H1 → va_S (mm_A G) s.heap H1 locs1 → W p l e R s m args below meth c H1 locs1 cells slots Qz (F0 m (pc + 3) ls (.int r :: rest))) : W p l e R s m args below meth c H locs cells slots Qz (F0 m pc ls (.int x2 :: .int x1 :: .ref (mm_o G) :: rest)) := by
  obtain ⟨hx, hb, hml, hown, hts, hr, hlk, hK, hZ⟩ := id cx
  exact mm_Vi cx hM hS0 (As := [.int x1, .int x2]) (M3_seen l G x1 x2 σ Qf hw) (cwV 2 hts (lw_V q2815 q2817 qs132 q172 q2818) rfl rfl rfl (by decide +kernel) hR) rfl hsize rfl hroom hf hdg kk
def w3_tellsOf (x1 : Int32) (x2 : Int32) (x3 : Int32) (σ : MS) (Q : Int32 → MS → Prop) : Prop :=
  if x3 = 0 then (w3_seen x1 x2 σ (fun r7 s7 => Q r7 s7)) else (if x3 = (1 : Int32) then (w3_its x2 (4 : Int32) σ (fun r3 s3 => w3_its x2 (5 : Int32) s3 (fun r4 s4 => w3_laysAgreed 28 r3 r4 s4 (fun s5 => w3_isSure 28 x1 s5 (fun r6 s6 => if r6 = 0 then (Q (0 : Int32) s6) else (Q (1 : Int32) s6)))))) else (w3_holdsIn 27 x1 σ (fun r1 s1 => if r1 = 0 then (Q (0 : Int32) s1) else (w3_many 27 s1 (fun r2 s2 => if r1 = r2 then (Q (1 : Int32) s2) else (Q (2 : Int32) s2))))))
set_option maxHeartbeats 4000000 in
theorem M3_tellsOf (l : Launch) (G : mm_G) (x1 : Int32) (x2 : Int32) (x3 : Int32) (σ : MS) (Q : Int32 → MS → Prop) (hw : w3_tellsOf x1 x2 x3 σ Q) : mm_Mi l yX3_tellsOf (ws_ yX3_tellsOf cX3_tellsOf 5 (some .int)) ({ frames := 3, cells := 0, slots := 0, locals := 120 } : Room) G [.ref (mm_o G), .int x1, .int x2, .int x3] σ Q := by
  refine mm_of (by decide) rfl ?_
  intro p e s m args below meth c cx hM ha
  refine mm_entry [.ref (mm_o G), .int x1, .int x2, .int x3] 5 [(0, .ref (mm_o G)), (1, .int x1), (2, .int x2), (3, .int x3)] ha (Nat.le_of_ble_eq_true rfl) rfl (fun ls hl => ?_)
  have hS : va_S (mm_A G) s.heap s.heap [] := va_S.rf
  unfold w3_tellsOf at hw
  obtain ⟨hx, hb, hml, hown, hts, hr, hlk, hMK, hZ⟩ := id cx
  refine lv_iload_n hx hb dX3_tellsOf_0 rfl (lv_at hl 3 rfl) ?_
  refine lv_if_ne (tgt := 11) hx hb dX3_tellsOf_1 (by decide) (fun hc => ?_) (fun hc => ?_)
  · have hw := mm_in hc hw
    refine lv_iload_n hx hb dX3_tellsOf_11 rfl (lv_at hl 3 rfl) ?_
    refine lv_iconst (v := (1 : Int32)) hx hb dX3_tellsOf_12 (by decide) ?_
    refine lv_icmp_ne (tgt := 54) hx hb dX3_tellsOf_13 (by decide) (fun hc => ?_) (fun hc => ?_)
    · have hw := mm_in hc hw
      refine lv_aload_n hx hb dX3_tellsOf_54 rfl (lv_at hl 0 rfl) ?_
      refine lv_aload_n hx hb dX3_tellsOf_55 rfl (lv_at hl 0 rfl) ?_
      refine mg_27 cx hM dX3_tellsOf_56 ?_
      refine lv_iload_n hx hb dX3_tellsOf_59 rfl (lv_at hl 1 rfl) ?_
      refine C3_holdsIn cx hM hS hw ⟨Nat.le_of_ble_eq_true rfl, Nat.le_of_ble_eq_true rfl⟩ (Nat.le_of_ble_eq_true rfl) hl.1 ⟨Nat.zero_le _, Nat.zero_le _⟩ dX3_tellsOf_60 (fun r1 s1 H locs hw hM hS => ?_)
      refine lv_istore (lv' := [(4, .int r1), (0, .ref (mm_o G)), (1, .int x1), (2, .int x2), (3, .int x3)]) hx hb dX3_tellsOf_63 hl (by decide) rfl (fun ls hl => ?_)
      refine lv_iload hx hb dX3_tellsOf_65 (lv_at hl 0 rfl) ?_
      refine lv_if_ne (tgt := 74) hx hb dX3_tellsOf_67 (by decide) (fun hc => ?_) (fun hc => ?_)
      · have hw := mm_in hc hw
        refine lv_iload hx hb dX3_tellsOf_74 (lv_at hl 0 rfl) ?_
        refine lv_aload_n hx hb dX3_tellsOf_76 rfl (lv_at hl 1 rfl) ?_
        refine mg_27 cx hM dX3_tellsOf_77 ?_
        refine C3_many cx hM hS hw ⟨Nat.le_of_ble_eq_true rfl, Nat.le_of_ble_eq_true rfl⟩ (Nat.le_of_ble_eq_true rfl) hl.1 ⟨Nat.zero_le _, Nat.zero_le _⟩ dX3_tellsOf_80 (fun r2 s2 H locs hw hM hS => ?_)
        refine lv_icmp_ne (tgt := 90) hx hb dX3_tellsOf_83 (by decide) (fun hc => ?_) (fun hc => ?_)
        · have hw := mm_in hc hw
          refine lv_iconst (v := (2 : Int32)) hx hb dX3_tellsOf_90 (by decide) ?_
          exact mm_iret cx hM hS hw dX3_tellsOf_91
        · have hw := mm_ip hc hw
          refine lv_iconst (v := (1 : Int32)) hx hb dX3_tellsOf_86 (by decide) ?_
          refine lv_goto (tgt := 91) hx hb dX3_tellsOf_87 (by decide) ?_
          exact mm_iret cx hM hS hw dX3_tellsOf_91
      · have hw := mm_ip hc hw
        refine lv_iconst (v := (0 : Int32)) hx hb dX3_tellsOf_70 (by decide) ?_
        refine lv_goto (tgt := 91) hx hb dX3_tellsOf_71 (by decide) ?_
        exact mm_iret cx hM hS hw dX3_tellsOf_91
    · have hw := mm_ip hc hw
      refine lv_aload_n hx hb dX3_tellsOf_16 rfl (lv_at hl 0 rfl) ?_
      refine lv_aload_n hx hb dX3_tellsOf_17 rfl (lv_at hl 0 rfl) ?_
      refine mg_28 cx hM dX3_tellsOf_18 ?_
      refine lv_aload_n hx hb dX3_tellsOf_21 rfl (lv_at hl 0 rfl) ?_
      refine lv_iload_n hx hb dX3_tellsOf_22 rfl (lv_at hl 2 rfl) ?_
      refine lv_iconst (v := (4 : Int32)) hx hb dX3_tellsOf_23 (by decide) ?_
      refine C3_its cx hM hS hw ⟨Nat.le_of_ble_eq_true rfl, Nat.le_of_ble_eq_true rfl⟩ (Nat.le_of_ble_eq_true rfl) hl.1 ⟨Nat.zero_le _, Nat.zero_le _⟩ dX3_tellsOf_24 (fun r3 s3 H locs hw hM hS => ?_)
      refine lv_aload_n hx hb dX3_tellsOf_27 rfl (lv_at hl 0 rfl) ?_
      refine lv_iload_n hx hb dX3_tellsOf_28 rfl (lv_at hl 2 rfl) ?_
      refine lv_iconst (v := (5 : Int32)) hx hb dX3_tellsOf_29 (by decide) ?_
      refine C3_its cx hM hS hw ⟨Nat.le_of_ble_eq_true rfl, Nat.le_of_ble_eq_true rfl⟩ (Nat.le_of_ble_eq_true rfl) hl.1 ⟨Nat.zero_le _, Nat.zero_le _⟩ dX3_tellsOf_30 (fun r4 s4 H locs hw hM hS => ?_)
      refine C3_laysAgreed cx hM hS hw ⟨Nat.le_of_ble_eq_true rfl, Nat.le_of_ble_eq_true rfl⟩ (Nat.le_of_ble_eq_true rfl) hl.1 ⟨Nat.zero_le _, Nat.zero_le _⟩ dX3_tellsOf_33 (fun s5 H locs hw hM hS => ?_)
      refine lv_aload_n hx hb dX3_tellsOf_36 rfl (lv_at hl 0 rfl) ?_
      refine lv_aload_n hx hb dX3_tellsOf_37 rfl (lv_at hl 0 rfl) ?_
      refine mg_28 cx hM dX3_tellsOf_38 ?_
      refine lv_iload_n hx hb dX3_tellsOf_41 rfl (lv_at hl 1 rfl) ?_
      refine C3_isSure cx hM hS hw ⟨Nat.le_of_ble_eq_true rfl, Nat.le_of_ble_eq_true rfl⟩ (Nat.le_of_ble_eq_true rfl) hl.1 ⟨Nat.zero_le _, Nat.zero_le _⟩ dX3_tellsOf_42 (fun r6 s6 H locs hw hM hS => ?_)
      refine lv_if_eq (tgt := 52) hx hb dX3_tellsOf_45 (by decide) (fun hc => ?_) (fun hc => ?_)
      · have hw := mm_ip hc hw
        refine lv_iconst (v := (0 : Int32)) hx hb dX3_tellsOf_52 (by decide) ?_
        exact mm_iret cx hM hS hw dX3_tellsOf_53
      · have hw := mm_in hc hw
        refine lv_iconst (v := (1 : Int32)) hx hb dX3_tellsOf_48 (by decide) ?_
        refine lv_goto (tgt := 53) hx hb dX3_tellsOf_49 (by decide) ?_
        exact mm_iret cx hM hS hw dX3_tellsOf_53
  · have hw := mm_ip hc hw
    refine lv_aload_n hx hb dX3_tellsOf_4 rfl (lv_at hl 0 rfl) ?_
    refine lv_iload_n hx hb dX3_tellsOf_5 rfl (lv_at hl 1 rfl) ?_
    refine lv_iload_n hx hb dX3_tellsOf_6 rfl (lv_at hl 2 rfl) ?_
    refine C3_seen cx hM hS hw ⟨Nat.le_of_ble_eq_true rfl, Nat.le_of_ble_eq_true rfl⟩ (Nat.le_of_ble_eq_true rfl) hl.1 ⟨Nat.zero_le _, Nat.zero_le _⟩ dX3_tellsOf_7 (fun r7 s7 H locs hw hM hS => ?_)
    exact mm_iret cx hM hS hw dX3_tellsOf_10
theorem C3_tellsOf {l : Launch} {p : Program} {e : Env} {R : Room} {s : State} {m : MethodId} {args : Array Value} {below : List Frame} {meth : Method} {c : Code} {H : Heap} {locs : List Loc} {cells slots : Nat} {Qz : State → Prop} {cc : ByteArray} {nL : Nat} {ret : Option FieldType} {G : mm_G} {pc : Nat} {ls : Array Slot} {rest : List Value} {x1 : Int32} {x2 : Int32} {x3 : Int32} {σ : MS} (cx : mm_X cc nL ret G p s m args meth c) (hM : mm_R G σ H) (hS0 : va_S (mm_A G) s.heap H locs) {Qf : Int32 → MS → Prop} (hw : w3_tellsOf x1 x2 x3 σ Qf) (hR : (({ frames := 3, cells := 0, slots := 0, locals := 120 } : Room)).frames + 1 ≤ R.frames ∧ 8 + (5 + 11) + (({ frames := 3, cells := 0, slots := 0, locals := 120 } : Room)).locals ≤ R.locals) (hroom : (rest.map fun v => v.category).sum ≤ 8) (hsize : ls.size = nL) (hf : cells ≤ R.cells ∧ slots ≤ R.slots) (hdg : decode cc pc = .ok (.invokevirtual 395, 3))
    (kk : ∀ (r : Int32) (σ1 : MS) (H1 : Heap) (locs1 : List Loc), Qf r σ1 → mm_R G σ1 H1 → va_S (mm_A G) s.heap H1 locs1 → W p l e R s m args below meth c H1 locs1 cells slots Qz (F0 m (pc + 3) ls (.int r :: rest))) : W p l e R s m args below meth c H locs cells slots Qz (F0 m pc ls (.int x3 :: .int x2 :: .int x1 :: .ref (mm_o G) :: rest)) := by
  obtain ⟨hx, hb, hml, hown, hts, hr, hlk, hK, hZ⟩ := id cx
  exact mm_Vi cx hM hS0 (As := [.int x1, .int x2, .int x3]) (M3_tellsOf l G x1 x2 x3 σ Qf hw) (cwV 3 hts (lw_V q2811 q2813 qs131 q172 q2814) rfl rfl rfl (by decide +kernel) hR) rfl hsize rfl hroom hf hdg kk
def w3_element (x1 : Int32) (x2 : Int32) (x3 : Int32) (σ : MS) (Q : Int32 → MS → Prop) : Prop :=
  w3_isCount x1 σ (fun r1 s1 => if r1 = 0 then (Q (-1 : Int32) s1) else (w3_needs x1 s1 (fun r2 s2 => w3_in x2 (0 : Int32) (r2 - (1 : Int32)) s2 (fun r3 s3 => if r3 = 0 then (Q (-1 : Int32) s3) else (w3_in x3 (0 : Int32) (2 : Int32) s3 (fun r4 s4 => if r4 = 0 then (Q (-1 : Int32) s4) else (w3_need x1 x2 s4 (fun r5 s5 => w3_tellsOf r5 x1 x3 s5 (fun r6 s6 => Q r6 s6)))))))))
set_option maxHeartbeats 4000000 in
theorem M3_element (l : Launch) (G : mm_G) (x1 : Int32) (x2 : Int32) (x3 : Int32) (σ : MS) (Q : Int32 → MS → Prop) (hw : w3_element x1 x2 x3 σ Q) : mm_Mi l yX3_element (ws_ yX3_element cX3_element 4 (some .int)) ({ frames := 4, cells := 0, slots := 0, locals := 160 } : Room) G [.ref (mm_o G), .int x1, .int x2, .int x3] σ Q := by
  refine mm_of (by decide) rfl ?_
  intro p e s m args below meth c cx hM ha
  refine mm_entry [.ref (mm_o G), .int x1, .int x2, .int x3] 4 [(0, .ref (mm_o G)), (1, .int x1), (2, .int x2), (3, .int x3)] ha (Nat.le_of_ble_eq_true rfl) rfl (fun ls hl => ?_)
  have hS : va_S (mm_A G) s.heap s.heap [] := va_S.rf
  unfold w3_element at hw
  obtain ⟨hx, hb, hml, hown, hts, hr, hlk, hMK, hZ⟩ := id cx
  refine lv_aload_n hx hb dX3_element_0 rfl (lv_at hl 0 rfl) ?_
  refine lv_iload_n hx hb dX3_element_1 rfl (lv_at hl 1 rfl) ?_
  refine C3_isCount cx hM hS hw ⟨Nat.le_of_ble_eq_true rfl, Nat.le_of_ble_eq_true rfl⟩ (Nat.le_of_ble_eq_true rfl) hl.1 ⟨Nat.zero_le _, Nat.zero_le _⟩ dX3_element_2 (fun r1 s1 H locs hw hM hS => ?_)
  refine lv_if_eq (tgt := 47) hx hb dX3_element_5 (by decide) (fun hc => ?_) (fun hc => ?_)
  · have hw := mm_ip hc hw
    refine lv_iconst (v := (-1 : Int32)) hx hb dX3_element_47 (by decide) ?_
    exact mm_iret cx hM hS hw dX3_element_48
  · have hw := mm_in hc hw
    refine lv_iload_n hx hb dX3_element_8 rfl (lv_at hl 2 rfl) ?_
    refine lv_iconst (v := (0 : Int32)) hx hb dX3_element_9 (by decide) ?_
    refine lv_aload_n hx hb dX3_element_10 rfl (lv_at hl 0 rfl) ?_
    refine lv_iload_n hx hb dX3_element_11 rfl (lv_at hl 1 rfl) ?_
    refine C3_needs cx hM hS hw ⟨Nat.le_of_ble_eq_true rfl, Nat.le_of_ble_eq_true rfl⟩ (Nat.le_of_ble_eq_true rfl) hl.1 ⟨Nat.zero_le _, Nat.zero_le _⟩ dX3_element_12 (fun r2 s2 H locs hw hM hS => ?_)
    refine lv_iconst (v := (1 : Int32)) hx hb dX3_element_15 (by decide) ?_
    refine lv_isub hx hb dX3_element_16 ?_
    refine C3_in cx hM hS hw ⟨Nat.le_of_ble_eq_true rfl, Nat.le_of_ble_eq_true rfl⟩ (Nat.le_of_ble_eq_true rfl) hl.1 ⟨Nat.zero_le _, Nat.zero_le _⟩ dX3_element_17 (fun r3 s3 H locs hw hM hS => ?_)
    refine lv_if_eq (tgt := 47) hx hb dX3_element_20 (by decide) (fun hc => ?_) (fun hc => ?_)
    · have hw := mm_ip hc hw
      refine lv_iconst (v := (-1 : Int32)) hx hb dX3_element_47 (by decide) ?_
      exact mm_iret cx hM hS hw dX3_element_48
    · have hw := mm_in hc hw
      refine lv_iload_n hx hb dX3_element_23 rfl (lv_at hl 3 rfl) ?_
      refine lv_iconst (v := (0 : Int32)) hx hb dX3_element_24 (by decide) ?_
      refine lv_iconst (v := (2 : Int32)) hx hb dX3_element_25 (by decide) ?_
      refine C3_in cx hM hS hw ⟨Nat.le_of_ble_eq_true rfl, Nat.le_of_ble_eq_true rfl⟩ (Nat.le_of_ble_eq_true rfl) hl.1 ⟨Nat.zero_le _, Nat.zero_le _⟩ dX3_element_26 (fun r4 s4 H locs hw hM hS => ?_)
      refine lv_if_eq (tgt := 47) hx hb dX3_element_29 (by decide) (fun hc => ?_) (fun hc => ?_)
      · have hw := mm_ip hc hw
        refine lv_iconst (v := (-1 : Int32)) hx hb dX3_element_47 (by decide) ?_
        exact mm_iret cx hM hS hw dX3_element_48
      · have hw := mm_in hc hw
        refine lv_aload_n hx hb dX3_element_32 rfl (lv_at hl 0 rfl) ?_
        refine lv_aload_n hx hb dX3_element_33 rfl (lv_at hl 0 rfl) ?_
        refine lv_iload_n hx hb dX3_element_34 rfl (lv_at hl 1 rfl) ?_
        refine lv_iload_n hx hb dX3_element_35 rfl (lv_at hl 2 rfl) ?_
        refine C3_need cx hM hS hw ⟨Nat.le_of_ble_eq_true rfl, Nat.le_of_ble_eq_true rfl⟩ (Nat.le_of_ble_eq_true rfl) hl.1 ⟨Nat.zero_le _, Nat.zero_le _⟩ dX3_element_36 (fun r5 s5 H locs hw hM hS => ?_)
        refine lv_iload_n hx hb dX3_element_39 rfl (lv_at hl 1 rfl) ?_
        refine lv_iload_n hx hb dX3_element_40 rfl (lv_at hl 3 rfl) ?_
        refine C3_tellsOf cx hM hS hw ⟨Nat.le_of_ble_eq_true rfl, Nat.le_of_ble_eq_true rfl⟩ (Nat.le_of_ble_eq_true rfl) hl.1 ⟨Nat.zero_le _, Nat.zero_le _⟩ dX3_element_41 (fun r6 s6 H locs hw hM hS => ?_)
        refine lv_goto (tgt := 48) hx hb dX3_element_44 (by decide) ?_
        exact mm_iret cx hM hS hw dX3_element_48
-- no call of element
def w3_bar (x1 : Int32) (x2 : Int32) (x3 : Int32) (σ : MS) (Q : Int32 → MS → Prop) : Prop :=
  w3_isCount x1 σ (fun r1 s1 => if r1 = 0 then (Q (-1 : Int32) s1) else (w3_bars x1 s1 (fun r2 s2 => w3_in x2 (0 : Int32) (r2 - (1 : Int32)) s2 (fun r3 s3 => if r3 = 0 then (Q (-1 : Int32) s3) else (w3_in x3 (0 : Int32) (2 : Int32) s3 (fun r4 s4 => if r4 = 0 then (Q (-1 : Int32) s4) else (w3_barOf x1 x2 s4 (fun r5 s5 => w3_tellsOf r5 x1 x3 s5 (fun r6 s6 => Q r6 s6)))))))))
set_option maxHeartbeats 4000000 in
theorem M3_bar (l : Launch) (G : mm_G) (x1 : Int32) (x2 : Int32) (x3 : Int32) (σ : MS) (Q : Int32 → MS → Prop) (hw : w3_bar x1 x2 x3 σ Q) : mm_Mi l yX3_bar (ws_ yX3_bar cX3_bar 4 (some .int)) ({ frames := 4, cells := 0, slots := 0, locals := 160 } : Room) G [.ref (mm_o G), .int x1, .int x2, .int x3] σ Q := by
  refine mm_of (by decide) rfl ?_
  intro p e s m args below meth c cx hM ha
  refine mm_entry [.ref (mm_o G), .int x1, .int x2, .int x3] 4 [(0, .ref (mm_o G)), (1, .int x1), (2, .int x2), (3, .int x3)] ha (Nat.le_of_ble_eq_true rfl) rfl (fun ls hl => ?_)
  have hS : va_S (mm_A G) s.heap s.heap [] := va_S.rf
  unfold w3_bar at hw
  obtain ⟨hx, hb, hml, hown, hts, hr, hlk, hMK, hZ⟩ := id cx
  refine lv_aload_n hx hb dX3_bar_0 rfl (lv_at hl 0 rfl) ?_
  refine lv_iload_n hx hb dX3_bar_1 rfl (lv_at hl 1 rfl) ?_
  refine C3_isCount cx hM hS hw ⟨Nat.le_of_ble_eq_true rfl, Nat.le_of_ble_eq_true rfl⟩ (Nat.le_of_ble_eq_true rfl) hl.1 ⟨Nat.zero_le _, Nat.zero_le _⟩ dX3_bar_2 (fun r1 s1 H locs hw hM hS => ?_)
  refine lv_if_eq (tgt := 47) hx hb dX3_bar_5 (by decide) (fun hc => ?_) (fun hc => ?_)
  · have hw := mm_ip hc hw
    refine lv_iconst (v := (-1 : Int32)) hx hb dX3_bar_47 (by decide) ?_
    exact mm_iret cx hM hS hw dX3_bar_48
  · have hw := mm_in hc hw
    refine lv_iload_n hx hb dX3_bar_8 rfl (lv_at hl 2 rfl) ?_
    refine lv_iconst (v := (0 : Int32)) hx hb dX3_bar_9 (by decide) ?_
    refine lv_aload_n hx hb dX3_bar_10 rfl (lv_at hl 0 rfl) ?_
    refine lv_iload_n hx hb dX3_bar_11 rfl (lv_at hl 1 rfl) ?_
    refine C3_bars cx hM hS hw ⟨Nat.le_of_ble_eq_true rfl, Nat.le_of_ble_eq_true rfl⟩ (Nat.le_of_ble_eq_true rfl) hl.1 ⟨Nat.zero_le _, Nat.zero_le _⟩ dX3_bar_12 (fun r2 s2 H locs hw hM hS => ?_)
    refine lv_iconst (v := (1 : Int32)) hx hb dX3_bar_15 (by decide) ?_
    refine lv_isub hx hb dX3_bar_16 ?_
    refine C3_in cx hM hS hw ⟨Nat.le_of_ble_eq_true rfl, Nat.le_of_ble_eq_true rfl⟩ (Nat.le_of_ble_eq_true rfl) hl.1 ⟨Nat.zero_le _, Nat.zero_le _⟩ dX3_bar_17 (fun r3 s3 H locs hw hM hS => ?_)
    refine lv_if_eq (tgt := 47) hx hb dX3_bar_20 (by decide) (fun hc => ?_) (fun hc => ?_)
    · have hw := mm_ip hc hw
      refine lv_iconst (v := (-1 : Int32)) hx hb dX3_bar_47 (by decide) ?_
      exact mm_iret cx hM hS hw dX3_bar_48
    · have hw := mm_in hc hw
      refine lv_iload_n hx hb dX3_bar_23 rfl (lv_at hl 3 rfl) ?_
      refine lv_iconst (v := (0 : Int32)) hx hb dX3_bar_24 (by decide) ?_
      refine lv_iconst (v := (2 : Int32)) hx hb dX3_bar_25 (by decide) ?_
      refine C3_in cx hM hS hw ⟨Nat.le_of_ble_eq_true rfl, Nat.le_of_ble_eq_true rfl⟩ (Nat.le_of_ble_eq_true rfl) hl.1 ⟨Nat.zero_le _, Nat.zero_le _⟩ dX3_bar_26 (fun r4 s4 H locs hw hM hS => ?_)
      refine lv_if_eq (tgt := 47) hx hb dX3_bar_29 (by decide) (fun hc => ?_) (fun hc => ?_)
      · have hw := mm_ip hc hw
        refine lv_iconst (v := (-1 : Int32)) hx hb dX3_bar_47 (by decide) ?_
        exact mm_iret cx hM hS hw dX3_bar_48
      · have hw := mm_in hc hw
        refine lv_aload_n hx hb dX3_bar_32 rfl (lv_at hl 0 rfl) ?_
        refine lv_aload_n hx hb dX3_bar_33 rfl (lv_at hl 0 rfl) ?_
        refine lv_iload_n hx hb dX3_bar_34 rfl (lv_at hl 1 rfl) ?_
        refine lv_iload_n hx hb dX3_bar_35 rfl (lv_at hl 2 rfl) ?_
        refine C3_barOf cx hM hS hw ⟨Nat.le_of_ble_eq_true rfl, Nat.le_of_ble_eq_true rfl⟩ (Nat.le_of_ble_eq_true rfl) hl.1 ⟨Nat.zero_le _, Nat.zero_le _⟩ dX3_bar_36 (fun r5 s5 H locs hw hM hS => ?_)
        refine lv_iload_n hx hb dX3_bar_39 rfl (lv_at hl 1 rfl) ?_
        refine lv_iload_n hx hb dX3_bar_40 rfl (lv_at hl 3 rfl) ?_
        refine C3_tellsOf cx hM hS hw ⟨Nat.le_of_ble_eq_true rfl, Nat.le_of_ble_eq_true rfl⟩ (Nat.le_of_ble_eq_true rfl) hl.1 ⟨Nat.zero_le _, Nat.zero_le _⟩ dX3_bar_41 (fun r6 s6 H locs hw hM hS => ?_)
        refine lv_goto (tgt := 48) hx hb dX3_bar_44 (by decide) ?_
        exact mm_iret cx hM hS hw dX3_bar_48
-- no call of bar
def w3_isLeft (x1 : Int32) (σ : MS) (Q : Int32 → MS → Prop) : Prop :=
  w3_isIn 27 (0 : Int32) x1 σ (fun r1 s1 => zb r1 ∧ Q r1 s1)
set_option maxHeartbeats 4000000 in
theorem M3_isLeft (l : Launch) (G : mm_G) (x1 : Int32) (σ : MS) (Q : Int32 → MS → Prop) (hw : w3_isLeft x1 σ Q) : mm_Mi l yX3_isLeft (ws_ yX3_isLeft cX3_isLeft 2 (some .boolean)) ({ frames := 1, cells := 0, slots := 0, locals := 40 } : Room) G [.ref (mm_o G), .int x1] σ Q := by
  refine mm_of (by decide) rfl ?_
  intro p e s m args below meth c cx hM ha
  refine mm_entry [.ref (mm_o G), .int x1] 2 [(0, .ref (mm_o G)), (1, .int x1)] ha (Nat.le_of_ble_eq_true rfl) rfl (fun ls hl => ?_)
  have hS : va_S (mm_A G) s.heap s.heap [] := va_S.rf
  unfold w3_isLeft at hw
  obtain ⟨hx, hb, hml, hown, hts, hr, hlk, hMK, hZ⟩ := id cx
  refine lv_aload_n hx hb dX3_isLeft_0 rfl (lv_at hl 0 rfl) ?_
  refine mg_27 cx hM dX3_isLeft_1 ?_
  refine lv_iconst (v := (0 : Int32)) hx hb dX3_isLeft_4 (by decide) ?_
  refine lv_iload_n hx hb dX3_isLeft_5 rfl (lv_at hl 1 rfl) ?_
  refine C3_isIn cx hM hS hw ⟨Nat.le_of_ble_eq_true rfl, Nat.le_of_ble_eq_true rfl⟩ (Nat.le_of_ble_eq_true rfl) hl.1 ⟨Nat.zero_le _, Nat.zero_le _⟩ dX3_isLeft_6 (fun r1 s1 H locs hw hM hS => ?_)
  obtain ⟨hz, hw⟩ := hw
  exact mm_zret cx hM hS hz hw dX3_isLeft_9
theorem C3_isLeft {l : Launch} {p : Program} {e : Env} {R : Room} {s : State} {m : MethodId} {args : Array Value} {below : List Frame} {meth : Method} {c : Code} {H : Heap} {locs : List Loc} {cells slots : Nat} {Qz : State → Prop} {cc : ByteArray} {nL : Nat} {ret : Option FieldType} {G : mm_G} {pc : Nat} {ls : Array Slot} {rest : List Value} {x1 : Int32} {σ : MS} (cx : mm_X cc nL ret G p s m args meth c) (hM : mm_R G σ H) (hS0 : va_S (mm_A G) s.heap H locs) {Qf : Int32 → MS → Prop} (hw : w3_isLeft x1 σ Qf) (hR : (({ frames := 1, cells := 0, slots := 0, locals := 40 } : Room)).frames + 1 ≤ R.frames ∧ 8 + (2 + 11) + (({ frames := 1, cells := 0, slots := 0, locals := 40 } : Room)).locals ≤ R.locals) (hroom : (rest.map fun v => v.category).sum ≤ 8) (hsize : ls.size = nL) (hf : cells ≤ R.cells ∧ slots ≤ R.slots) (hdg : decode cc pc = .ok (.invokevirtual 398, 3))
    (kk : ∀ (r : Int32) (σ1 : MS) (H1 : Heap) (locs1 : List Loc), Qf r σ1 → mm_R G σ1 H1 → va_S (mm_A G) s.heap H1 locs1 → W p l e R s m args below meth c H1 locs1 cells slots Qz (F0 m (pc + 3) ls (.int r :: rest))) : W p l e R s m args below meth c H locs cells slots Qz (F0 m pc ls (.int x1 :: .ref (mm_o G) :: rest)) := by
  obtain ⟨hx, hb, hml, hown, hts, hr, hlk, hK, hZ⟩ := id cx
  exact mm_Vi cx hM hS0 (As := [.int x1]) (M3_isLeft l G x1 σ Qf hw) (cwV 1 hts (lw_V q2837 q2839 qs134 q172 q2840) rfl rfl rfl (by decide +kernel) hR) rfl hsize rfl hroom hf hdg kk
def w3_isSomeBy_28 (Q : Int32 → MS → Prop) (K2 : Int32 → Int32 → Int32 → MS → Prop) (x1 : Int32) (x2 : Int32) (x3 : Int32) (σ : MS) : Prop :=
  ∀ v1 : Int32, v1 = x3 + (1 : Int32) → K2 x1 x2 v1 σ
set_option maxHeartbeats 4000000 in
theorem B3_isSomeBy_28 {l : Launch} {p : Program} {e : Env} {s : State} {m : MethodId} {args : Array Value} {below : List Frame} {meth : Method} {c : Code} {G : mm_G} {Q : Int32 → MS → Prop} {K2 : Int32 → Int32 → Int32 → MS → Prop} (cx : mm_X cX3_isSomeBy 4 (some .boolean) G p s m args meth c) (hK2 : ∀ (x1 : Int32) (x2 : Int32) (x3 : Int32) (σ : MS), K2 x1 x2 x3 σ → mm_T p l e ({ frames := 2, cells := 0, slots := 0, locals := 80 } : Room) s m args below meth c G (mm_Qi G Q) 4 2 σ [(0, .ref (mm_o G)), (1, .int x1), (2, .int x2), (3, .int x3)] []) : ∀ (x1 : Int32) (x2 : Int32) (x3 : Int32) (σ : MS), w3_isSomeBy_28 Q K2 x1 x2 x3 σ → mm_T p l e ({ frames := 2, cells := 0, slots := 0, locals := 80 } : Room) s m args below meth c G (mm_Qi G Q) 4 28 σ [(0, .ref (mm_o G)), (1, .int x1), (2, .int x2), (3, .int x3)] [] := by
  intro x1 x2 x3 σ hw H locs ls hM hS hl
  unfold w3_isSomeBy_28 at hw
  obtain ⟨hx, hb, hml, hown, hts, hr, hlk, hMK, hZ⟩ := id cx
  obtain ⟨v1, hv1⟩ : ∃ v : Int32, v = x3 + (1 : Int32) := ⟨_, rfl⟩
  have hw := hw v1 hv1
  refine lv_iinc (v := v1) (lv' := [(3, .int v1), (0, .ref (mm_o G)), (1, .int x1), (2, .int x2)]) hx hb dX3_isSomeBy_28 hl (k := 3) rfl (by rw [hv1]; rfl) (by decide) rfl (fun ls hl => ?_)
  refine lv_goto (tgt := 2) hx hb dX3_isSomeBy_31 (by decide) ?_
  exact hK2 _ _ _ _ hw _ _ _ hM hS (lv_sub hl [1, 2, 3, 0] rfl)
def w3_isSomeBy_2 (Q : Int32 → MS → Prop) (K2 : Int32 → Int32 → Int32 → MS → Prop) (x1 : Int32) (x2 : Int32) (x3 : Int32) (σ : MS) : Prop :=
  if (256 : Int32) ≤ x3 then (Q (0 : Int32) σ) else (w3_isLeft x3 σ (fun r2 s2 => if r2 = 0 then (w3_isSomeBy_28 Q K2 x1 x2 x3 s2) else (if ((x3 >>> (x1 &&& 31)) &&& (1 : Int32)) = x2 then (Q (1 : Int32) s2) else (w3_isSomeBy_28 Q K2 x1 x2 x3 s2))))
set_option maxHeartbeats 4000000 in
theorem B3_isSomeBy_2 {l : Launch} {p : Program} {e : Env} {s : State} {m : MethodId} {args : Array Value} {below : List Frame} {meth : Method} {c : Code} {G : mm_G} {Q : Int32 → MS → Prop} {K2 : Int32 → Int32 → Int32 → MS → Prop} (cx : mm_X cX3_isSomeBy 4 (some .boolean) G p s m args meth c) (hK2 : ∀ (x1 : Int32) (x2 : Int32) (x3 : Int32) (σ : MS), K2 x1 x2 x3 σ → mm_T p l e ({ frames := 2, cells := 0, slots := 0, locals := 80 } : Room) s m args below meth c G (mm_Qi G Q) 4 2 σ [(0, .ref (mm_o G)), (1, .int x1), (2, .int x2), (3, .int x3)] []) : ∀ (x1 : Int32) (x2 : Int32) (x3 : Int32) (σ : MS), w3_isSomeBy_2 Q K2 x1 x2 x3 σ → mm_T p l e ({ frames := 2, cells := 0, slots := 0, locals := 80 } : Room) s m args below meth c G (mm_Qi G Q) 4 2 σ [(0, .ref (mm_o G)), (1, .int x1), (2, .int x2), (3, .int x3)] [] := by
  intro x1 x2 x3 σ hw H locs ls hM hS hl
  unfold w3_isSomeBy_2 at hw
  obtain ⟨hx, hb, hml, hown, hts, hr, hlk, hMK, hZ⟩ := id cx
  refine lv_iload_n hx hb dX3_isSomeBy_2 rfl (lv_at hl 3 rfl) ?_
  refine lv_sipush (v := (256 : Int32)) hx hb dX3_isSomeBy_3 (by decide) ?_
  refine lv_icmp_ge (tgt := 34) hx hb dX3_isSomeBy_6 (by decide) (fun hc => ?_) (fun hc => ?_)
  · have hw := mm_ip hc hw
    refine lv_iconst (v := (0 : Int32)) hx hb dX3_isSomeBy_34 (by decide) ?_
    exact mm_zret cx hM hS (Or.inl rfl) hw dX3_isSomeBy_35
  · have hw := mm_in hc hw
    refine lv_aload_n hx hb dX3_isSomeBy_9 rfl (lv_at hl 0 rfl) ?_
    refine lv_iload_n hx hb dX3_isSomeBy_10 rfl (lv_at hl 3 rfl) ?_
    refine C3_isLeft cx hM hS hw ⟨Nat.le_of_ble_eq_true rfl, Nat.le_of_ble_eq_true rfl⟩ (Nat.le_of_ble_eq_true rfl) hl.1 ⟨Nat.zero_le _, Nat.zero_le _⟩ dX3_isSomeBy_11 (fun r2 s2 H locs hw hM hS => ?_)
    refine lv_if_eq (tgt := 28) hx hb dX3_isSomeBy_14 (by decide) (fun hc => ?_) (fun hc => ?_)
    · have hw := mm_ip hc hw
      exact B3_isSomeBy_28 cx hK2 _ _ _ _ hw _ _ _ hM hS (lv_sub hl [0, 1, 2, 3] rfl)
    · have hw := mm_in hc hw
      refine lv_iload_n hx hb dX3_isSomeBy_17 rfl (lv_at hl 3 rfl) ?_
      refine lv_iload_n hx hb dX3_isSomeBy_18 rfl (lv_at hl 1 rfl) ?_
      refine lv_ishr hx hb dX3_isSomeBy_19 ?_
      refine lv_iconst (v := (1 : Int32)) hx hb dX3_isSomeBy_20 (by decide) ?_
      refine lv_iand hx hb dX3_isSomeBy_21 ?_
      refine lv_iload_n hx hb dX3_isSomeBy_22 rfl (lv_at hl 2 rfl) ?_
      refine lv_icmp_ne (tgt := 28) hx hb dX3_isSomeBy_23 (by decide) (fun hc => ?_) (fun hc => ?_)
      · have hw := mm_in hc hw
        exact B3_isSomeBy_28 cx hK2 _ _ _ _ hw _ _ _ hM hS (lv_sub hl [0, 1, 2, 3] rfl)
      · have hw := mm_ip hc hw
        refine lv_iconst (v := (1 : Int32)) hx hb dX3_isSomeBy_26 (by decide) ?_
        exact mm_zret cx hM hS (Or.inr rfl) hw dX3_isSomeBy_27
theorem L3_isSomeBy_2 {l : Launch} {p : Program} {e : Env} {s : State} {m : MethodId} {args : Array Value} {below : List Frame} {meth : Method} {c : Code} {G : mm_G} {Q : Int32 → MS → Prop} (cx : mm_X cX3_isSomeBy 4 (some .boolean) G p s m args meth c) : ∀ (x1 : Int32) (x2 : Int32) (x3 : Int32) (σ : MS), lp4F (w3_isSomeBy_2 Q) x1 x2 x3 σ → mm_T p l e ({ frames := 2, cells := 0, slots := 0, locals := 80 } : Room) s m args below meth c G (mm_Qi G Q) 4 2 σ [(0, .ref (mm_o G)), (1, .int x1), (2, .int x2), (3, .int x3)] [] :=
  lp4F_of (fun K hK => B3_isSomeBy_2 cx hK)
def w3_isSomeBy (x1 : Int32) (x2 : Int32) (σ : MS) (Q : Int32 → MS → Prop) : Prop :=
  lp4F (w3_isSomeBy_2 Q) x1 x2 (0 : Int32) σ
set_option maxHeartbeats 4000000 in
theorem M3_isSomeBy (l : Launch) (G : mm_G) (x1 : Int32) (x2 : Int32) (σ : MS) (Q : Int32 → MS → Prop) (hw : w3_isSomeBy x1 x2 σ Q) : mm_Mi l yX3_isSomeBy (ws_ yX3_isSomeBy cX3_isSomeBy 4 (some .boolean)) ({ frames := 2, cells := 0, slots := 0, locals := 80 } : Room) G [.ref (mm_o G), .int x1, .int x2] σ Q := by
  refine mm_of (by decide) rfl ?_
  intro p e s m args below meth c cx hM ha
  refine mm_entry [.ref (mm_o G), .int x1, .int x2] 4 [(0, .ref (mm_o G)), (1, .int x1), (2, .int x2)] ha (Nat.le_of_ble_eq_true rfl) rfl (fun ls hl => ?_)
  have hS : va_S (mm_A G) s.heap s.heap [] := va_S.rf
  unfold w3_isSomeBy at hw
  obtain ⟨hx, hb, hml, hown, hts, hr, hlk, hMK, hZ⟩ := id cx
  refine lv_iconst (v := (0 : Int32)) hx hb dX3_isSomeBy_0 (by decide) ?_
  refine lv_istore_n (lv' := [(3, .int (0 : Int32)), (0, .ref (mm_o G)), (1, .int x1), (2, .int x2)]) hx hb dX3_isSomeBy_1 rfl hl (by decide) rfl (fun ls hl => ?_)
  exact L3_isSomeBy_2 cx _ _ _ _ hw _ _ _ hM hS (lv_sub hl [1, 2, 3, 0] rfl)
theorem C3_isSomeBy {l : Launch} {p : Program} {e : Env} {R : Room} {s : State} {m : MethodId} {args : Array Value} {below : List Frame} {meth : Method} {c : Code} {H : Heap} {locs : List Loc} {cells slots : Nat} {Qz : State → Prop} {cc : ByteArray} {nL : Nat} {ret : Option FieldType} {G : mm_G} {pc : Nat} {ls : Array Slot} {rest : List Value} {x1 : Int32} {x2 : Int32} {σ : MS} (cx : mm_X cc nL ret G p s m args meth c) (hM : mm_R G σ H) (hS0 : va_S (mm_A G) s.heap H locs) {Qf : Int32 → MS → Prop} (hw : w3_isSomeBy x1 x2 σ Qf) (hR : (({ frames := 2, cells := 0, slots := 0, locals := 80 } : Room)).frames + 1 ≤ R.frames ∧ 8 + (4 + 11) + (({ frames := 2, cells := 0, slots := 0, locals := 80 } : Room)).locals ≤ R.locals) (hroom : (rest.map fun v => v.category).sum ≤ 8) (hsize : ls.size = nL) (hf : cells ≤ R.cells ∧ slots ≤ R.slots) (hdg : decode cc pc = .ok (.invokevirtual 401, 3))
    (kk : ∀ (r : Int32) (σ1 : MS) (H1 : Heap) (locs1 : List Loc), Qf r σ1 → mm_R G σ1 H1 → va_S (mm_A G) s.heap H1 locs1 → W p l e R s m args below meth c H1 locs1 cells slots Qz (F0 m (pc + 3) ls (.int r :: rest))) : W p l e R s m args below meth c H locs cells slots Qz (F0 m pc ls (.int x2 :: .int x1 :: .ref (mm_o G) :: rest)) := by
  obtain ⟨hx, hb, hml, hown, hts, hr, hlk, hK, hZ⟩ := id cx
  exact mm_Vi cx hM hS0 (As := [.int x1, .int x2]) (M3_isSomeBy l G x1 x2 σ Qf hw) (cwV 2 hts (lw_V q2833 q2835 qs133 q172 q2836) rfl rfl rfl (by decide +kernel) hR) rfl hsize rfl hroom hf hdg kk
def w3_keepsAct_52 (Q : MS → Prop) (K52 : Int32 → MS → Prop) (x1 : Int32) (σ : MS) : Prop :=
  if (83 : Int32) ≤ x1 then (Q (sI σ 8 ((gI σ 8) + (1 : Int32)))) else (vp_in x1 83 ∧ (vp_in (((83 : Int32) * (gI σ 8)) + x1) 1328 ∧ (∀ v1 : Int32, v1 = x1 + (1 : Int32) → K52 v1 (sA σ 5 (((83 : Int32) * (gI σ 8)) + x1).toNatClampNeg (gA σ 4 x1.toNatClampNeg)))))
set_option maxHeartbeats 4000000 in
theorem B3_keepsAct_52 {l : Launch} {p : Program} {e : Env} {s : State} {m : MethodId} {args : Array Value} {below : List Frame} {meth : Method} {c : Code} {G : mm_G} {Q : MS → Prop} {K52 : Int32 → MS → Prop} (cx : mm_X cX3_keepsAct 2 none G p s m args meth c) (hK52 : ∀ (x1 : Int32) (σ : MS), K52 x1 σ → mm_T p l e ({ frames := 0, cells := 0, slots := 0, locals := 0 } : Room) s m args below meth c G (mm_Qv G Q) 2 52 σ [(0, .ref (mm_o G)), (1, .int x1)] []) : ∀ (x1 : Int32) (σ : MS), w3_keepsAct_52 Q K52 x1 σ → mm_T p l e ({ frames := 0, cells := 0, slots := 0, locals := 0 } : Room) s m args below meth c G (mm_Qv G Q) 2 52 σ [(0, .ref (mm_o G)), (1, .int x1)] [] := by
  intro x1 σ hw H locs ls hM hS hl
  unfold w3_keepsAct_52 at hw
  obtain ⟨hx, hb, hml, hown, hts, hr, hlk, hMK, hZ⟩ := id cx
  refine lv_iload_n hx hb dX3_keepsAct_52 rfl (lv_at hl 1 rfl) ?_
  refine lv_bipush (v := (83 : Int32)) hx hb dX3_keepsAct_53 (by decide) ?_
  refine lv_icmp_ge (tgt := 84) hx hb dX3_keepsAct_55 (by decide) (fun hc => ?_) (fun hc => ?_)
  · have hw := mm_ip hc hw
    refine lv_aload_n hx hb dX3_keepsAct_84 rfl (lv_at hl 0 rfl) ?_
    refine lv_dup hx hb dX3_keepsAct_85 rfl ?_
    refine mg_8 cx hM dX3_keepsAct_86 ?_
    refine lv_iconst (v := (1 : Int32)) hx hb dX3_keepsAct_89 (by decide) ?_
    refine lv_iadd hx hb dX3_keepsAct_90 ?_
    refine mp_8 cx hM hS dX3_keepsAct_91 (fun H locs hM hS => ?_)
    exact mm_vret cx hM hS hw dX3_keepsAct_94
  · have hw := mm_in hc hw
    refine lv_aload_n hx hb dX3_keepsAct_58 rfl (lv_at hl 0 rfl) ?_
    refine mg_5 cx hM dX3_keepsAct_59 ?_
    refine lv_bipush (v := (83 : Int32)) hx hb dX3_keepsAct_62 (by decide) ?_
    refine lv_aload_n hx hb dX3_keepsAct_64 rfl (lv_at hl 0 rfl) ?_
    refine mg_8 cx hM dX3_keepsAct_65 ?_
    refine lv_imul hx hb dX3_keepsAct_68 ?_
    refine lv_iload_n hx hb dX3_keepsAct_69 rfl (lv_at hl 1 rfl) ?_
    refine lv_iadd hx hb dX3_keepsAct_70 ?_
    refine lv_aload_n hx hb dX3_keepsAct_71 rfl (lv_at hl 0 rfl) ?_
    refine mg_4 cx hM dX3_keepsAct_72 ?_
    refine lv_iload_n hx hb dX3_keepsAct_75 rfl (lv_at hl 1 rfl) ?_
    obtain ⟨hi, hw⟩ := hw
    refine mm_iald cx hM 4 rfl rfl hi dX3_keepsAct_76 ?_
    obtain ⟨hi, hw⟩ := hw
    refine mm_iast cx hM hS 5 rfl rfl hi dX3_keepsAct_77 (fun H locs hM hS => ?_)
    obtain ⟨v1, hv1⟩ : ∃ v : Int32, v = x1 + (1 : Int32) := ⟨_, rfl⟩
    have hw := hw v1 hv1
    refine lv_iinc (v := v1) (lv' := [(1, .int v1), (0, .ref (mm_o G))]) hx hb dX3_keepsAct_78 hl (k := 1) rfl (by rw [hv1]; rfl) (by decide) rfl (fun ls hl => ?_)
    refine lv_goto (tgt := 52) hx hb dX3_keepsAct_81 (by decide) ?_
    exact hK52 _ _ hw _ _ _ hM hS (lv_sub hl [1, 0] rfl)
theorem L3_keepsAct_52 {l : Launch} {p : Program} {e : Env} {s : State} {m : MethodId} {args : Array Value} {below : List Frame} {meth : Method} {c : Code} {G : mm_G} {Q : MS → Prop} (cx : mm_X cX3_keepsAct 2 none G p s m args meth c) : ∀ (x1 : Int32) (σ : MS), lp2F (w3_keepsAct_52 Q) x1 σ → mm_T p l e ({ frames := 0, cells := 0, slots := 0, locals := 0 } : Room) s m args below meth c G (mm_Qv G Q) 2 52 σ [(0, .ref (mm_o G)), (1, .int x1)] [] :=
  lp2F_of (fun K hK => B3_keepsAct_52 cx hK)
def w3_keepsAct_50 (Q : MS → Prop) (σ : MS) : Prop :=
  lp2F (w3_keepsAct_52 Q) (0 : Int32) σ
set_option maxHeartbeats 4000000 in
theorem B3_keepsAct_50 {l : Launch} {p : Program} {e : Env} {s : State} {m : MethodId} {args : Array Value} {below : List Frame} {meth : Method} {c : Code} {G : mm_G} {Q : MS → Prop} (cx : mm_X cX3_keepsAct 2 none G p s m args meth c) : ∀ (σ : MS), w3_keepsAct_50 Q σ → mm_T p l e ({ frames := 0, cells := 0, slots := 0, locals := 0 } : Room) s m args below meth c G (mm_Qv G Q) 2 50 σ [(0, .ref (mm_o G))] [] := by
  intro σ hw H locs ls hM hS hl
  unfold w3_keepsAct_50 at hw
  obtain ⟨hx, hb, hml, hown, hts, hr, hlk, hMK, hZ⟩ := id cx
  refine lv_iconst (v := (0 : Int32)) hx hb dX3_keepsAct_50 (by decide) ?_
  refine lv_istore_n (lv' := [(1, .int (0 : Int32)), (0, .ref (mm_o G))]) hx hb dX3_keepsAct_51 rfl hl (by decide) rfl (fun ls hl => ?_)
  exact L3_keepsAct_52 cx _ _ hw _ _ _ hM hS (lv_sub hl [1, 0] rfl)
def w3_keepsAct_12 (Q : MS → Prop) (K12 : Int32 → MS → Prop) (x1 : Int32) (σ : MS) : Prop :=
  if (1328 : Int32) ≤ x1 then (w3_keepsAct_50 Q (sI σ 8 ((gI σ 8) - (1 : Int32)))) else (vp_in x1 1328 ∧ (vp_in (x1 - (83 : Int32)) 1328 ∧ (∀ v2 : Int32, v2 = x1 + (1 : Int32) → K12 v2 (sA σ 5 (x1 - (83 : Int32)).toNatClampNeg (gA σ 5 x1.toNatClampNeg)))))
set_option maxHeartbeats 4000000 in
theorem B3_keepsAct_12 {l : Launch} {p : Program} {e : Env} {s : State} {m : MethodId} {args : Array Value} {below : List Frame} {meth : Method} {c : Code} {G : mm_G} {Q : MS → Prop} {K12 : Int32 → MS → Prop} (cx : mm_X cX3_keepsAct 2 none G p s m args meth c) (hK12 : ∀ (x1 : Int32) (σ : MS), K12 x1 σ → mm_T p l e ({ frames := 0, cells := 0, slots := 0, locals := 0 } : Room) s m args below meth c G (mm_Qv G Q) 2 12 σ [(0, .ref (mm_o G)), (1, .int x1)] []) : ∀ (x1 : Int32) (σ : MS), w3_keepsAct_12 Q K12 x1 σ → mm_T p l e ({ frames := 0, cells := 0, slots := 0, locals := 0 } : Room) s m args below meth c G (mm_Qv G Q) 2 12 σ [(0, .ref (mm_o G)), (1, .int x1)] [] := by
  intro x1 σ hw H locs ls hM hS hl
  unfold w3_keepsAct_12 at hw
  obtain ⟨hx, hb, hml, hown, hts, hr, hlk, hMK, hZ⟩ := id cx
  refine lv_iload_n hx hb dX3_keepsAct_12 rfl (lv_at hl 1 rfl) ?_
  refine lv_sipush (v := (1328 : Int32)) hx hb dX3_keepsAct_13 (by decide) ?_
  refine lv_icmp_ge (tgt := 40) hx hb dX3_keepsAct_16 (by decide) (fun hc => ?_) (fun hc => ?_)
  · have hw := mm_ip hc hw
    refine lv_aload_n hx hb dX3_keepsAct_40 rfl (lv_at hl 0 rfl) ?_
    refine lv_dup hx hb dX3_keepsAct_41 rfl ?_
    refine mg_8 cx hM dX3_keepsAct_42 ?_
    refine lv_iconst (v := (1 : Int32)) hx hb dX3_keepsAct_45 (by decide) ?_
    refine lv_isub hx hb dX3_keepsAct_46 ?_
    refine mp_8 cx hM hS dX3_keepsAct_47 (fun H locs hM hS => ?_)
    exact B3_keepsAct_50 cx _ hw _ _ _ hM hS (lv_sub hl [0] rfl)
  · have hw := mm_in hc hw
    refine lv_aload_n hx hb dX3_keepsAct_19 rfl (lv_at hl 0 rfl) ?_
    refine mg_5 cx hM dX3_keepsAct_20 ?_
    refine lv_iload_n hx hb dX3_keepsAct_23 rfl (lv_at hl 1 rfl) ?_
    refine lv_bipush (v := (83 : Int32)) hx hb dX3_keepsAct_24 (by decide) ?_
    refine lv_isub hx hb dX3_keepsAct_26 ?_
    refine lv_aload_n hx hb dX3_keepsAct_27 rfl (lv_at hl 0 rfl) ?_
    refine mg_5 cx hM dX3_keepsAct_28 ?_
    refine lv_iload_n hx hb dX3_keepsAct_31 rfl (lv_at hl 1 rfl) ?_
    obtain ⟨hi, hw⟩ := hw
    refine mm_iald cx hM 5 rfl rfl hi dX3_keepsAct_32 ?_
    obtain ⟨hi, hw⟩ := hw
    refine mm_iast cx hM hS 5 rfl rfl hi dX3_keepsAct_33 (fun H locs hM hS => ?_)
    obtain ⟨v2, hv2⟩ : ∃ v : Int32, v = x1 + (1 : Int32) := ⟨_, rfl⟩
    have hw := hw v2 hv2
    refine lv_iinc (v := v2) (lv' := [(1, .int v2), (0, .ref (mm_o G))]) hx hb dX3_keepsAct_34 hl (k := 1) rfl (by rw [hv2]; rfl) (by decide) rfl (fun ls hl => ?_)
    refine lv_goto (tgt := 12) hx hb dX3_keepsAct_37 (by decide) ?_
    exact hK12 _ _ hw _ _ _ hM hS (lv_sub hl [1, 0] rfl)
theorem L3_keepsAct_12 {l : Launch} {p : Program} {e : Env} {s : State} {m : MethodId} {args : Array Value} {below : List Frame} {meth : Method} {c : Code} {G : mm_G} {Q : MS → Prop} (cx : mm_X cX3_keepsAct 2 none G p s m args meth c) : ∀ (x1 : Int32) (σ : MS), lp2F (w3_keepsAct_12 Q) x1 σ → mm_T p l e ({ frames := 0, cells := 0, slots := 0, locals := 0 } : Room) s m args below meth c G (mm_Qv G Q) 2 12 σ [(0, .ref (mm_o G)), (1, .int x1)] [] :=
  lp2F_of (fun K hK => B3_keepsAct_12 cx hK)
def w3_keepsAct (σ : MS) (Q : MS → Prop) : Prop :=
  if (gI σ 8) = (16 : Int32) then (lp2F (w3_keepsAct_12 Q) (83 : Int32) σ) else (w3_keepsAct_50 Q σ)
set_option maxHeartbeats 4000000 in
theorem M3_keepsAct (l : Launch) (G : mm_G) (σ : MS) (Q : MS → Prop) (hw : w3_keepsAct σ Q) : mm_Mv l yX3_keepsAct (ws_ yX3_keepsAct cX3_keepsAct 2 none) ({ frames := 0, cells := 0, slots := 0, locals := 0 } : Room) G [.ref (mm_o G)] σ Q := by
  refine mm_of (by decide) rfl ?_
  intro p e s m args below meth c cx hM ha
  refine mm_entry [.ref (mm_o G)] 2 [(0, .ref (mm_o G))] ha (Nat.le_of_ble_eq_true rfl) rfl (fun ls hl => ?_)
  have hS : va_S (mm_A G) s.heap s.heap [] := va_S.rf
  unfold w3_keepsAct at hw
  obtain ⟨hx, hb, hml, hown, hts, hr, hlk, hMK, hZ⟩ := id cx
  refine lv_aload_n hx hb dX3_keepsAct_0 rfl (lv_at hl 0 rfl) ?_
  refine mg_8 cx hM dX3_keepsAct_1 ?_
  refine lv_bipush (v := (16 : Int32)) hx hb dX3_keepsAct_4 (by decide) ?_
  refine lv_icmp_ne (tgt := 50) hx hb dX3_keepsAct_6 (by decide) (fun hc => ?_) (fun hc => ?_)
  · have hw := mm_in hc hw
    exact B3_keepsAct_50 cx _ hw _ _ _ hM hS (lv_sub hl [0] rfl)
  · have hw := mm_ip hc hw
    refine lv_bipush (v := (83 : Int32)) hx hb dX3_keepsAct_9 (by decide) ?_
    refine lv_istore_n (lv' := [(1, .int (83 : Int32)), (0, .ref (mm_o G))]) hx hb dX3_keepsAct_11 rfl hl (by decide) rfl (fun ls hl => ?_)
    exact L3_keepsAct_12 cx _ _ hw _ _ _ hM hS (lv_sub hl [1, 0] rfl)
theorem C3_keepsAct {l : Launch} {p : Program} {e : Env} {R : Room} {s : State} {m : MethodId} {args : Array Value} {below : List Frame} {meth : Method} {c : Code} {H : Heap} {locs : List Loc} {cells slots : Nat} {Qz : State → Prop} {cc : ByteArray} {nL : Nat} {ret : Option FieldType} {G : mm_G} {pc : Nat} {ls : Array Slot} {rest : List Value} {σ : MS} (cx : mm_X cc nL ret G p s m args meth c) (hM : mm_R G σ H) (hS0 : va_S (mm_A G) s.heap H locs) {Qf : MS → Prop} (hw : w3_keepsAct σ Qf) (hR : (({ frames := 0, cells := 0, slots := 0, locals := 0 } : Room)).frames + 1 ≤ R.frames ∧ 8 + (2 + 11) + (({ frames := 0, cells := 0, slots := 0, locals := 0 } : Room)).locals ≤ R.locals) (hroom : (rest.map fun v => v.category).sum ≤ 8) (hsize : ls.size = nL) (hf : cells ≤ R.cells ∧ slots ≤ R.slots) (hdg : decode cc pc = .ok (.invokevirtual 404, 3))
    (kk : ∀ (σ1 : MS) (H1 : Heap) (locs1 : List Loc), Qf σ1 → mm_R G σ1 H1 → va_S (mm_A G) s.heap H1 locs1 → W p l e R s m args below meth c H1 locs1 cells slots Qz (F0 m (pc + 3) ls rest)) : W p l e R s m args below meth c H locs cells slots Qz (F0 m pc ls (.ref (mm_o G) :: rest)) := by
  obtain ⟨hx, hb, hml, hown, hts, hr, hlk, hK, hZ⟩ := id cx
  exact mm_Vv cx hM hS0 (As := []) (M3_keepsAct l G σ Qf hw) (cwV 0 hts (lw_V q2841 q2843 qs135 q172 q2844) rfl rfl rfl (by decide +kernel) hR) rfl hsize rfl hroom hf hdg kk
def w3_makes (x1 : Int32) (x2 : Int32) (x3 : Int32) (σ : MS) (Q : MS → Prop) : Prop :=
  vp_in ((0 : Int32) + x1) 83 ∧ (vp_in ((8 : Int32) + x1) 83 ∧ (w3_laysKnown (sA (sA σ 4 ((0 : Int32) + x1).toNatClampNeg x2) 4 ((8 : Int32) + x1).toNatClampNeg x3) (fun s1 => Q s1)))
set_option maxHeartbeats 4000000 in
theorem M3_makes (l : Launch) (G : mm_G) (x1 : Int32) (x2 : Int32) (x3 : Int32) (σ : MS) (Q : MS → Prop) (hw : w3_makes x1 x2 x3 σ Q) : mm_Mv l yX3_makes (ws_ yX3_makes cX3_makes 4 none) ({ frames := 3, cells := 0, slots := 0, locals := 120 } : Room) G [.ref (mm_o G), .int x1, .int x2, .int x3] σ Q := by
  refine mm_of (by decide) rfl ?_
  intro p e s m args below meth c cx hM ha
  refine mm_entry [.ref (mm_o G), .int x1, .int x2, .int x3] 4 [(0, .ref (mm_o G)), (1, .int x1), (2, .int x2), (3, .int x3)] ha (Nat.le_of_ble_eq_true rfl) rfl (fun ls hl => ?_)
  have hS : va_S (mm_A G) s.heap s.heap [] := va_S.rf
  unfold w3_makes at hw
  obtain ⟨hx, hb, hml, hown, hts, hr, hlk, hMK, hZ⟩ := id cx
  refine lv_aload_n hx hb dX3_makes_0 rfl (lv_at hl 0 rfl) ?_
  refine mg_4 cx hM dX3_makes_1 ?_
  refine lv_iconst (v := (0 : Int32)) hx hb dX3_makes_4 (by decide) ?_
  refine lv_iload_n hx hb dX3_makes_5 rfl (lv_at hl 1 rfl) ?_
  refine lv_iadd hx hb dX3_makes_6 ?_
  refine lv_iload_n hx hb dX3_makes_7 rfl (lv_at hl 2 rfl) ?_
  obtain ⟨hi, hw⟩ := hw
  refine mm_iast cx hM hS 4 rfl rfl hi dX3_makes_8 (fun H locs hM hS => ?_)
  refine lv_aload_n hx hb dX3_makes_9 rfl (lv_at hl 0 rfl) ?_
  refine mg_4 cx hM dX3_makes_10 ?_
  refine lv_bipush (v := (8 : Int32)) hx hb dX3_makes_13 (by decide) ?_
  refine lv_iload_n hx hb dX3_makes_15 rfl (lv_at hl 1 rfl) ?_
  refine lv_iadd hx hb dX3_makes_16 ?_
  refine lv_iload_n hx hb dX3_makes_17 rfl (lv_at hl 3 rfl) ?_
  obtain ⟨hi, hw⟩ := hw
  refine mm_iast cx hM hS 4 rfl rfl hi dX3_makes_18 (fun H locs hM hS => ?_)
  refine lv_aload_n hx hb dX3_makes_19 rfl (lv_at hl 0 rfl) ?_
  refine C3_laysKnown cx hM hS hw ⟨Nat.le_of_ble_eq_true rfl, Nat.le_of_ble_eq_true rfl⟩ (Nat.le_of_ble_eq_true rfl) hl.1 ⟨Nat.zero_le _, Nat.zero_le _⟩ dX3_makes_20 (fun s1 H locs hw hM hS => ?_)
  exact mm_vret cx hM hS hw dX3_makes_23
theorem C3_makes {l : Launch} {p : Program} {e : Env} {R : Room} {s : State} {m : MethodId} {args : Array Value} {below : List Frame} {meth : Method} {c : Code} {H : Heap} {locs : List Loc} {cells slots : Nat} {Qz : State → Prop} {cc : ByteArray} {nL : Nat} {ret : Option FieldType} {G : mm_G} {pc : Nat} {ls : Array Slot} {rest : List Value} {x1 : Int32} {x2 : Int32} {x3 : Int32} {σ : MS} (cx : mm_X cc nL ret G p s m args meth c) (hM : mm_R G σ H) (hS0 : va_S (mm_A G) s.heap H locs) {Qf : MS → Prop} (hw : w3_makes x1 x2 x3 σ Qf) (hR : (({ frames := 3, cells := 0, slots := 0, locals := 120 } : Room)).frames + 1 ≤ R.frames ∧ 8 + (4 + 11) + (({ frames := 3, cells := 0, slots := 0, locals := 120 } : Room)).locals ≤ R.locals) (hroom : (rest.map fun v => v.category).sum ≤ 8) (hsize : ls.size = nL) (hf : cells ≤ R.cells ∧ slots ≤ R.slots) (hdg : decode cc pc = .ok (.invokevirtual 407, 3))
    (kk : ∀ (σ1 : MS) (H1 : Heap) (locs1 : List Loc), Qf σ1 → mm_R G σ1 H1 → va_S (mm_A G) s.heap H1 locs1 → W p l e R s m args below meth c H1 locs1 cells slots Qz (F0 m (pc + 3) ls rest)) : W p l e R s m args below meth c H locs cells slots Qz (F0 m pc ls (.int x3 :: .int x2 :: .int x1 :: .ref (mm_o G) :: rest)) := by
  obtain ⟨hx, hb, hml, hown, hts, hr, hlk, hK, hZ⟩ := id cx
  exact mm_Vv cx hM hS0 (As := [.int x1, .int x2, .int x3]) (M3_makes l G x1 x2 x3 σ Qf hw) (cwV 3 hts (lw_V q2845 q2847 qs136 q172 q2848) rfl rfl rfl (by decide +kernel) hR) rfl hsize rfl hroom hf hdg kk
def w3_answered_31 (Q : Int32 → MS → Prop) (K4 : Int32 → Int32 → MS → Prop) (x2 : Int32) (t0 : Int32) (t1 : Int32) (σ : MS) : Prop :=
  ∀ v1 : Int32, v1 = (t0 + t1) → ∀ v2 : Int32, v2 = x2 + (1 : Int32) → K4 v1 v2 σ
set_option maxHeartbeats 4000000 in
theorem B3_answered_31 {l : Launch} {p : Program} {e : Env} {s : State} {m : MethodId} {args : Array Value} {below : List Frame} {meth : Method} {c : Code} {G : mm_G} {Q : Int32 → MS → Prop} {K4 : Int32 → Int32 → MS → Prop} (cx : mm_X cX3_answered 3 (some .int) G p s m args meth c) (hK4 : ∀ (x1 : Int32) (x2 : Int32) (σ : MS), K4 x1 x2 σ → mm_T p l e ({ frames := 0, cells := 0, slots := 0, locals := 0 } : Room) s m args below meth c G (mm_Qi G Q) 3 4 σ [(0, .ref (mm_o G)), (1, .int x1), (2, .int x2)] []) : ∀ (x2 : Int32) (t0 : Int32) (t1 : Int32) (σ : MS), w3_answered_31 Q K4 x2 t0 t1 σ → mm_T p l e ({ frames := 0, cells := 0, slots := 0, locals := 0 } : Room) s m args below meth c G (mm_Qi G Q) 3 31 σ [(0, .ref (mm_o G)), (2, .int x2)] [.int t1, .int t0] := by
  intro x2 t0 t1 σ hw H locs ls hM hS hl
  unfold w3_answered_31 at hw
  obtain ⟨hx, hb, hml, hown, hts, hr, hlk, hMK, hZ⟩ := id cx
  refine lv_iadd hx hb dX3_answered_31 ?_
  refine lv_topi (fun v1 hv1 => ?_)
  have hw := hw v1 hv1
  refine lv_istore_n (lv' := [(1, .int v1), (0, .ref (mm_o G)), (2, .int x2)]) hx hb dX3_answered_32 rfl hl (by decide) rfl (fun ls hl => ?_)
  obtain ⟨v2, hv2⟩ : ∃ v : Int32, v = x2 + (1 : Int32) := ⟨_, rfl⟩
  have hw := hw v2 hv2
  refine lv_iinc (v := v2) (lv' := [(2, .int v2), (1, .int v1), (0, .ref (mm_o G))]) hx hb dX3_answered_33 hl (k := 2) rfl (by rw [hv2]; rfl) (by decide) rfl (fun ls hl => ?_)
  refine lv_goto (tgt := 4) hx hb dX3_answered_36 (by decide) ?_
  exact hK4 _ _ _ hw _ _ _ hM hS (lv_sub hl [2, 1, 0] rfl)
def w3_answered_4 (Q : Int32 → MS → Prop) (K4 : Int32 → Int32 → MS → Prop) (x1 : Int32) (x2 : Int32) (σ : MS) : Prop :=
  if (gA σ 0 1) ≤ x2 then (Q x1 σ) else (vp_in ((0 : Int32) + x2) 83 ∧ (if (gA σ 4 ((0 : Int32) + x2).toNatClampNeg) = 0 then (w3_answered_31 Q K4 x2 x1 (0 : Int32) σ) else (w3_answered_31 Q K4 x2 x1 (1 : Int32) σ)))
set_option maxHeartbeats 4000000 in
theorem B3_answered_4 {l : Launch} {p : Program} {e : Env} {s : State} {m : MethodId} {args : Array Value} {below : List Frame} {meth : Method} {c : Code} {G : mm_G} {Q : Int32 → MS → Prop} {K4 : Int32 → Int32 → MS → Prop} (cx : mm_X cX3_answered 3 (some .int) G p s m args meth c) (hK4 : ∀ (x1 : Int32) (x2 : Int32) (σ : MS), K4 x1 x2 σ → mm_T p l e ({ frames := 0, cells := 0, slots := 0, locals := 0 } : Room) s m args below meth c G (mm_Qi G Q) 3 4 σ [(0, .ref (mm_o G)), (1, .int x1), (2, .int x2)] []) : ∀ (x1 : Int32) (x2 : Int32) (σ : MS), w3_answered_4 Q K4 x1 x2 σ → mm_T p l e ({ frames := 0, cells := 0, slots := 0, locals := 0 } : Room) s m args below meth c G (mm_Qi G Q) 3 4 σ [(0, .ref (mm_o G)), (1, .int x1), (2, .int x2)] [] := by
  intro x1 x2 σ hw H locs ls hM hS hl
  unfold w3_answered_4 at hw
  obtain ⟨hx, hb, hml, hown, hts, hr, hlk, hMK, hZ⟩ := id cx
  refine lv_iload_n hx hb dX3_answered_4 rfl (lv_at hl 2 rfl) ?_
  refine lv_aload_n hx hb dX3_answered_5 rfl (lv_at hl 0 rfl) ?_
  refine mg_0 cx hM dX3_answered_6 ?_
  refine lv_iconst (v := (1 : Int32)) hx hb dX3_answered_9 (by decide) ?_
  refine mm_iald cx hM 0 rfl (j := 1) (by decide) (vp_lit (by decide)) dX3_answered_10 ?_
  refine lv_icmp_ge (tgt := 39) hx hb dX3_answered_11 (by decide) (fun hc => ?_) (fun hc => ?_)
  · have hw := mm_ip hc hw
    refine lv_iload_n hx hb dX3_answered_39 rfl (lv_at hl 1 rfl) ?_
    exact mm_iret cx hM hS hw dX3_answered_40
  · have hw := mm_in hc hw
    refine lv_iload_n hx hb dX3_answered_14 rfl (lv_at hl 1 rfl) ?_
    refine lv_aload_n hx hb dX3_answered_15 rfl (lv_at hl 0 rfl) ?_
    refine mg_4 cx hM dX3_answered_16 ?_
    refine lv_iconst (v := (0 : Int32)) hx hb dX3_answered_19 (by decide) ?_
    refine lv_iload_n hx hb dX3_answered_20 rfl (lv_at hl 2 rfl) ?_
    refine lv_iadd hx hb dX3_answered_21 ?_
    obtain ⟨hi, hw⟩ := hw
    refine mm_iald cx hM 4 rfl rfl hi dX3_answered_22 ?_
    refine lv_if_eq (tgt := 30) hx hb dX3_answered_23 (by decide) (fun hc => ?_) (fun hc => ?_)
    · have hw := mm_ip hc hw
      refine lv_iconst (v := (0 : Int32)) hx hb dX3_answered_30 (by decide) ?_
      exact B3_answered_31 cx hK4 _ _ _ _ hw _ _ _ hM hS (lv_sub hl [0, 2] rfl)
    · have hw := mm_in hc hw
      refine lv_iconst (v := (1 : Int32)) hx hb dX3_answered_26 (by decide) ?_
      refine lv_goto (tgt := 31) hx hb dX3_answered_27 (by decide) ?_
      exact B3_answered_31 cx hK4 _ _ _ _ hw _ _ _ hM hS (lv_sub hl [0, 2] rfl)
theorem L3_answered_4 {l : Launch} {p : Program} {e : Env} {s : State} {m : MethodId} {args : Array Value} {below : List Frame} {meth : Method} {c : Code} {G : mm_G} {Q : Int32 → MS → Prop} (cx : mm_X cX3_answered 3 (some .int) G p s m args meth c) : ∀ (x1 : Int32) (x2 : Int32) (σ : MS), lp3F (w3_answered_4 Q) x1 x2 σ → mm_T p l e ({ frames := 0, cells := 0, slots := 0, locals := 0 } : Room) s m args below meth c G (mm_Qi G Q) 3 4 σ [(0, .ref (mm_o G)), (1, .int x1), (2, .int x2)] [] :=
  lp3F_of (fun K hK => B3_answered_4 cx hK)
def w3_answered (σ : MS) (Q : Int32 → MS → Prop) : Prop :=
  lp3F (w3_answered_4 Q) (0 : Int32) (0 : Int32) σ
set_option maxHeartbeats 4000000 in
theorem M3_answered (l : Launch) (G : mm_G) (σ : MS) (Q : Int32 → MS → Prop) (hw : w3_answered σ Q) : mm_Mi l yX3_answered (ws_ yX3_answered cX3_answered 3 (some .int)) ({ frames := 0, cells := 0, slots := 0, locals := 0 } : Room) G [.ref (mm_o G)] σ Q := by
  refine mm_of (by decide) rfl ?_
  intro p e s m args below meth c cx hM ha
  refine mm_entry [.ref (mm_o G)] 3 [(0, .ref (mm_o G))] ha (Nat.le_of_ble_eq_true rfl) rfl (fun ls hl => ?_)
  have hS : va_S (mm_A G) s.heap s.heap [] := va_S.rf
  unfold w3_answered at hw
  obtain ⟨hx, hb, hml, hown, hts, hr, hlk, hMK, hZ⟩ := id cx
  refine lv_iconst (v := (0 : Int32)) hx hb dX3_answered_0 (by decide) ?_
  refine lv_istore_n (lv' := [(1, .int (0 : Int32)), (0, .ref (mm_o G))]) hx hb dX3_answered_1 rfl hl (by decide) rfl (fun ls hl => ?_)
  refine lv_iconst (v := (0 : Int32)) hx hb dX3_answered_2 (by decide) ?_
  refine lv_istore_n (lv' := [(2, .int (0 : Int32)), (1, .int (0 : Int32)), (0, .ref (mm_o G))]) hx hb dX3_answered_3 rfl hl (by decide) rfl (fun ls hl => ?_)
  exact L3_answered_4 cx _ _ _ hw _ _ _ hM hS (lv_sub hl [2, 1, 0] rfl)
theorem C3_answered {l : Launch} {p : Program} {e : Env} {R : Room} {s : State} {m : MethodId} {args : Array Value} {below : List Frame} {meth : Method} {c : Code} {H : Heap} {locs : List Loc} {cells slots : Nat} {Qz : State → Prop} {cc : ByteArray} {nL : Nat} {ret : Option FieldType} {G : mm_G} {pc : Nat} {ls : Array Slot} {rest : List Value} {σ : MS} (cx : mm_X cc nL ret G p s m args meth c) (hM : mm_R G σ H) (hS0 : va_S (mm_A G) s.heap H locs) {Qf : Int32 → MS → Prop} (hw : w3_answered σ Qf) (hR : (({ frames := 0, cells := 0, slots := 0, locals := 0 } : Room)).frames + 1 ≤ R.frames ∧ 8 + (3 + 11) + (({ frames := 0, cells := 0, slots := 0, locals := 0 } : Room)).locals ≤ R.locals) (hroom : (rest.map fun v => v.category).sum ≤ 8) (hsize : ls.size = nL) (hf : cells ≤ R.cells ∧ slots ≤ R.slots) (hdg : decode cc pc = .ok (.invokevirtual 410, 3))
    (kk : ∀ (r : Int32) (σ1 : MS) (H1 : Heap) (locs1 : List Loc), Qf r σ1 → mm_R G σ1 H1 → va_S (mm_A G) s.heap H1 locs1 → W p l e R s m args below meth c H1 locs1 cells slots Qz (F0 m (pc + 3) ls (.int r :: rest))) : W p l e R s m args below meth c H locs cells slots Qz (F0 m pc ls (.ref (mm_o G) :: rest)) := by
  obtain ⟨hx, hb, hml, hown, hts, hr, hlk, hK, hZ⟩ := id cx
  exact mm_Vi cx hM hS0 (As := []) (M3_answered l G σ Qf hw) (cwV 0 hts (lw_V q2849 q2851 qs137 q172 q2852) rfl rfl rfl (by decide +kernel) hR) rfl hsize rfl hroom hf hdg kk
def w3_answer_104 (Q : Int32 → MS → Prop) (t1 : Int32) (t2 : Int32) (t3 : Int32) (σ : MS) : Prop :=
  w3_makes t1 t2 t3 σ (fun s1 => w3_answered s1 (fun r2 s2 => Q r2 s2))
set_option maxHeartbeats 4000000 in
theorem B3_answer_104 {l : Launch} {p : Program} {e : Env} {s : State} {m : MethodId} {args : Array Value} {below : List Frame} {meth : Method} {c : Code} {G : mm_G} {Q : Int32 → MS → Prop} (cx : mm_X cX3_answer 3 (some .int) G p s m args meth c) : ∀ (t1 : Int32) (t2 : Int32) (t3 : Int32) (σ : MS), w3_answer_104 Q t1 t2 t3 σ → mm_T p l e ({ frames := 4, cells := 0, slots := 0, locals := 160 } : Room) s m args below meth c G (mm_Qi G Q) 3 104 σ [(0, .ref (mm_o G))] [.int t3, .int t2, .int t1, .ref (mm_o G)] := by
  intro t1 t2 t3 σ hw H locs ls hM hS hl
  unfold w3_answer_104 at hw
  obtain ⟨hx, hb, hml, hown, hts, hr, hlk, hMK, hZ⟩ := id cx
  refine C3_makes cx hM hS hw ⟨Nat.le_of_ble_eq_true rfl, Nat.le_of_ble_eq_true rfl⟩ (Nat.le_of_ble_eq_true rfl) hl.1 ⟨Nat.zero_le _, Nat.zero_le _⟩ dX3_answer_104 (fun s1 H locs hw hM hS => ?_)
  refine lv_aload_n hx hb dX3_answer_107 rfl (lv_at hl 0 rfl) ?_
  refine C3_answered cx hM hS hw ⟨Nat.le_of_ble_eq_true rfl, Nat.le_of_ble_eq_true rfl⟩ (Nat.le_of_ble_eq_true rfl) hl.1 ⟨Nat.zero_le _, Nat.zero_le _⟩ dX3_answer_108 (fun r2 s2 H locs hw hM hS => ?_)
  exact mm_iret cx hM hS hw dX3_answer_111
def w3_answer_94 (Q : Int32 → MS → Prop) (x2 : Int32) (t1 : Int32) (t2 : Int32) (σ : MS) : Prop :=
  if x2 = (1 : Int32) then (w3_answer_104 Q t1 t2 (1 : Int32) σ) else (w3_answer_104 Q t1 t2 (0 : Int32) σ)
set_option maxHeartbeats 4000000 in
theorem B3_answer_94 {l : Launch} {p : Program} {e : Env} {s : State} {m : MethodId} {args : Array Value} {below : List Frame} {meth : Method} {c : Code} {G : mm_G} {Q : Int32 → MS → Prop} (cx : mm_X cX3_answer 3 (some .int) G p s m args meth c) : ∀ (x2 : Int32) (t1 : Int32) (t2 : Int32) (σ : MS), w3_answer_94 Q x2 t1 t2 σ → mm_T p l e ({ frames := 4, cells := 0, slots := 0, locals := 160 } : Room) s m args below meth c G (mm_Qi G Q) 3 94 σ [(0, .ref (mm_o G)), (2, .int x2)] [.int t2, .int t1, .ref (mm_o G)] := by
  intro x2 t1 t2 σ hw H locs ls hM hS hl
  unfold w3_answer_94 at hw
  obtain ⟨hx, hb, hml, hown, hts, hr, hlk, hMK, hZ⟩ := id cx
  refine lv_iload_n hx hb dX3_answer_94 rfl (lv_at hl 1 rfl) ?_
  refine lv_iconst (v := (1 : Int32)) hx hb dX3_answer_95 (by decide) ?_
  refine lv_icmp_ne (tgt := 103) hx hb dX3_answer_96 (by decide) (fun hc => ?_) (fun hc => ?_)
  · have hw := mm_in hc hw
    refine lv_iconst (v := (0 : Int32)) hx hb dX3_answer_103 (by decide) ?_
    exact B3_answer_104 cx _ _ _ _ hw _ _ _ hM hS (lv_sub hl [0] rfl)
  · have hw := mm_ip hc hw
    refine lv_iconst (v := (1 : Int32)) hx hb dX3_answer_99 (by decide) ?_
    refine lv_goto (tgt := 104) hx hb dX3_answer_100 (by decide) ?_
    exact B3_answer_104 cx _ _ _ _ hw _ _ _ hM hS (lv_sub hl [0] rfl)
def w3_answer_78 (Q : Int32 → MS → Prop) (x1 : Int32) (x2 : Int32) (σ : MS) : Prop :=
  w3_keepsAct σ (fun s3 => if (2 : Int32) ≤ x2 then (w3_answer_94 Q x2 x1 x2 s3) else (w3_answer_94 Q x2 x1 (1 : Int32) s3))
set_option maxHeartbeats 4000000 in
theorem B3_answer_78 {l : Launch} {p : Program} {e : Env} {s : State} {m : MethodId} {args : Array Value} {below : List Frame} {meth : Method} {c : Code} {G : mm_G} {Q : Int32 → MS → Prop} (cx : mm_X cX3_answer 3 (some .int) G p s m args meth c) : ∀ (x1 : Int32) (x2 : Int32) (σ : MS), w3_answer_78 Q x1 x2 σ → mm_T p l e ({ frames := 4, cells := 0, slots := 0, locals := 160 } : Room) s m args below meth c G (mm_Qi G Q) 3 78 σ [(0, .ref (mm_o G)), (1, .int x1), (2, .int x2)] [] := by
  intro x1 x2 σ hw H locs ls hM hS hl
  unfold w3_answer_78 at hw
  obtain ⟨hx, hb, hml, hown, hts, hr, hlk, hMK, hZ⟩ := id cx
  refine lv_aload_n hx hb dX3_answer_78 rfl (lv_at hl 0 rfl) ?_
  refine C3_keepsAct cx hM hS hw ⟨Nat.le_of_ble_eq_true rfl, Nat.le_of_ble_eq_true rfl⟩ (Nat.le_of_ble_eq_true rfl) hl.1 ⟨Nat.zero_le _, Nat.zero_le _⟩ dX3_answer_79 (fun s3 H locs hw hM hS => ?_)
  refine lv_aload_n hx hb dX3_answer_82 rfl (lv_at hl 0 rfl) ?_
  refine lv_iload_n hx hb dX3_answer_83 rfl (lv_at hl 1 rfl) ?_
  refine lv_iload_n hx hb dX3_answer_84 rfl (lv_at hl 2 rfl) ?_
  refine lv_iconst (v := (2 : Int32)) hx hb dX3_answer_85 (by decide) ?_
  refine lv_icmp_ge (tgt := 93) hx hb dX3_answer_86 (by decide) (fun hc => ?_) (fun hc => ?_)
  · have hw := mm_ip hc hw
    refine lv_iload_n hx hb dX3_answer_93 rfl (lv_at hl 2 rfl) ?_
    exact B3_answer_94 cx _ _ _ _ hw _ _ _ hM hS (lv_sub hl [0, 2] rfl)
  · have hw := mm_in hc hw
    refine lv_iconst (v := (1 : Int32)) hx hb dX3_answer_89 (by decide) ?_
    refine lv_goto (tgt := 94) hx hb dX3_answer_90 (by decide) ?_
    exact B3_answer_94 cx _ _ _ _ hw _ _ _ hM hS (lv_sub hl [0, 2] rfl)
def w3_answer_61 (Q : Int32 → MS → Prop) (x1 : Int32) (x2 : Int32) (σ : MS) : Prop :=
  if (2 : Int32) ≤ x2 then (w3_answer_78 Q x1 x2 σ) else (w3_isSomeBy x1 x2 σ (fun r4 s4 => if r4 = 0 then (Q (-4 : Int32) s4) else (w3_answer_78 Q x1 x2 s4)))
set_option maxHeartbeats 4000000 in
theorem B3_answer_61 {l : Launch} {p : Program} {e : Env} {s : State} {m : MethodId} {args : Array Value} {below : List Frame} {meth : Method} {c : Code} {G : mm_G} {Q : Int32 → MS → Prop} (cx : mm_X cX3_answer 3 (some .int) G p s m args meth c) : ∀ (x1 : Int32) (x2 : Int32) (σ : MS), w3_answer_61 Q x1 x2 σ → mm_T p l e ({ frames := 4, cells := 0, slots := 0, locals := 160 } : Room) s m args below meth c G (mm_Qi G Q) 3 61 σ [(0, .ref (mm_o G)), (1, .int x1), (2, .int x2)] [] := by
  intro x1 x2 σ hw H locs ls hM hS hl
  unfold w3_answer_61 at hw
  obtain ⟨hx, hb, hml, hown, hts, hr, hlk, hMK, hZ⟩ := id cx
  refine lv_iload_n hx hb dX3_answer_61 rfl (lv_at hl 2 rfl) ?_
  refine lv_iconst (v := (2 : Int32)) hx hb dX3_answer_62 (by decide) ?_
  refine lv_icmp_ge (tgt := 78) hx hb dX3_answer_63 (by decide) (fun hc => ?_) (fun hc => ?_)
  · have hw := mm_ip hc hw
    exact B3_answer_78 cx _ _ _ hw _ _ _ hM hS (lv_sub hl [0, 1, 2] rfl)
  · have hw := mm_in hc hw
    refine lv_aload_n hx hb dX3_answer_66 rfl (lv_at hl 0 rfl) ?_
    refine lv_iload_n hx hb dX3_answer_67 rfl (lv_at hl 1 rfl) ?_
    refine lv_iload_n hx hb dX3_answer_68 rfl (lv_at hl 2 rfl) ?_
    refine C3_isSomeBy cx hM hS hw ⟨Nat.le_of_ble_eq_true rfl, Nat.le_of_ble_eq_true rfl⟩ (Nat.le_of_ble_eq_true rfl) hl.1 ⟨Nat.zero_le _, Nat.zero_le _⟩ dX3_answer_69 (fun r4 s4 H locs hw hM hS => ?_)
    refine lv_if_ne (tgt := 78) hx hb dX3_answer_72 (by decide) (fun hc => ?_) (fun hc => ?_)
    · have hw := mm_in hc hw
      exact B3_answer_78 cx _ _ _ hw _ _ _ hM hS (lv_sub hl [0, 1, 2] rfl)
    · have hw := mm_ip hc hw
      refine lv_bipush (v := (-4 : Int32)) hx hb dX3_answer_75 (by decide) ?_
      exact mm_iret cx hM hS hw dX3_answer_77
def w3_answer (x1 : Int32) (x2 : Int32) (σ : MS) (Q : Int32 → MS → Prop) : Prop :=
  w3_isFact x1 σ (fun r5 s5 => if r5 = 0 then (Q (-1 : Int32) s5) else (w3_in x2 (0 : Int32) (3 : Int32) s5 (fun r6 s6 => if r6 = 0 then (Q (-1 : Int32) s6) else (if (gA s6 4 16) = (1 : Int32) then (Q (-2 : Int32) s6) else (w3_isKnown x1 s6 (fun r7 s7 => if r7 = 0 then (if x2 ≤ (1 : Int32) then (w3_answer_61 Q x1 x2 s7) else (vp_in ((0 : Int32) + x1) 83 ∧ (if (gA s7 4 ((0 : Int32) + x1).toNatClampNeg) = x2 then (Q (-3 : Int32) s7) else (w3_answer_61 Q x1 x2 s7)))) else (Q (-3 : Int32) s7)))))))
set_option maxHeartbeats 4000000 in
theorem M3_answer (l : Launch) (G : mm_G) (x1 : Int32) (x2 : Int32) (σ : MS) (Q : Int32 → MS → Prop) (hw : w3_answer x1 x2 σ Q) : mm_Mi l yX3_answer (ws_ yX3_answer cX3_answer 3 (some .int)) ({ frames := 4, cells := 0, slots := 0, locals := 160 } : Room) G [.ref (mm_o G), .int x1, .int x2] σ Q := by
  refine mm_of (by decide) rfl ?_
  intro p e s m args below meth c cx hM ha
  refine mm_entry [.ref (mm_o G), .int x1, .int x2] 3 [(0, .ref (mm_o G)), (1, .int x1), (2, .int x2)] ha (Nat.le_of_ble_eq_true rfl) rfl (fun ls hl => ?_)
  have hS : va_S (mm_A G) s.heap s.heap [] := va_S.rf
  unfold w3_answer at hw
  obtain ⟨hx, hb, hml, hown, hts, hr, hlk, hMK, hZ⟩ := id cx
  refine lv_aload_n hx hb dX3_answer_0 rfl (lv_at hl 0 rfl) ?_
  refine lv_iload_n hx hb dX3_answer_1 rfl (lv_at hl 1 rfl) ?_
  refine C3_isFact cx hM hS hw ⟨Nat.le_of_ble_eq_true rfl, Nat.le_of_ble_eq_true rfl⟩ (Nat.le_of_ble_eq_true rfl) hl.1 ⟨Nat.zero_le _, Nat.zero_le _⟩ dX3_answer_2 (fun r5 s5 H locs hw hM hS => ?_)
  refine lv_if_eq (tgt := 17) hx hb dX3_answer_5 (by decide) (fun hc => ?_) (fun hc => ?_)
  · have hw := mm_ip hc hw
    refine lv_iconst (v := (-1 : Int32)) hx hb dX3_answer_17 (by decide) ?_
    exact mm_iret cx hM hS hw dX3_answer_18
  · have hw := mm_in hc hw
    refine lv_iload_n hx hb dX3_answer_8 rfl (lv_at hl 2 rfl) ?_
    refine lv_iconst (v := (0 : Int32)) hx hb dX3_answer_9 (by decide) ?_
    refine lv_iconst (v := (3 : Int32)) hx hb dX3_answer_10 (by decide) ?_
    refine C3_in cx hM hS hw ⟨Nat.le_of_ble_eq_true rfl, Nat.le_of_ble_eq_true rfl⟩ (Nat.le_of_ble_eq_true rfl) hl.1 ⟨Nat.zero_le _, Nat.zero_le _⟩ dX3_answer_11 (fun r6 s6 H locs hw hM hS => ?_)
    refine lv_if_ne (tgt := 19) hx hb dX3_answer_14 (by decide) (fun hc => ?_) (fun hc => ?_)
    · have hw := mm_in hc hw
      refine lv_aload_n hx hb dX3_answer_19 rfl (lv_at hl 0 rfl) ?_
      refine mg_4 cx hM dX3_answer_20 ?_
      refine lv_bipush (v := (16 : Int32)) hx hb dX3_answer_23 (by decide) ?_
      refine mm_iald cx hM 4 rfl (j := 16) (by decide) (vp_lit (by decide)) dX3_answer_25 ?_
      refine lv_iconst (v := (1 : Int32)) hx hb dX3_answer_26 (by decide) ?_
      refine lv_icmp_ne (tgt := 33) hx hb dX3_answer_27 (by decide) (fun hc => ?_) (fun hc => ?_)
      · have hw := mm_in hc hw
        refine lv_aload_n hx hb dX3_answer_33 rfl (lv_at hl 0 rfl) ?_
        refine lv_iload_n hx hb dX3_answer_34 rfl (lv_at hl 1 rfl) ?_
        refine C3_isKnown cx hM hS hw ⟨Nat.le_of_ble_eq_true rfl, Nat.le_of_ble_eq_true rfl⟩ (Nat.le_of_ble_eq_true rfl) hl.1 ⟨Nat.zero_le _, Nat.zero_le _⟩ dX3_answer_35 (fun r7 s7 H locs hw hM hS => ?_)
        refine lv_if_ne (tgt := 58) hx hb dX3_answer_38 (by decide) (fun hc => ?_) (fun hc => ?_)
        · have hw := mm_in hc hw
          refine lv_bipush (v := (-3 : Int32)) hx hb dX3_answer_58 (by decide) ?_
          exact mm_iret cx hM hS hw dX3_answer_60
        · have hw := mm_ip hc hw
          refine lv_iload_n hx hb dX3_answer_41 rfl (lv_at hl 2 rfl) ?_
          refine lv_iconst (v := (1 : Int32)) hx hb dX3_answer_42 (by decide) ?_
          refine lv_icmp_le (tgt := 61) hx hb dX3_answer_43 (by decide) (fun hc => ?_) (fun hc => ?_)
          · have hw := mm_ip hc hw
            exact B3_answer_61 cx _ _ _ hw _ _ _ hM hS (lv_sub hl [0, 1, 2] rfl)
          · have hw := mm_in hc hw
            refine lv_aload_n hx hb dX3_answer_46 rfl (lv_at hl 0 rfl) ?_
            refine mg_4 cx hM dX3_answer_47 ?_
            refine lv_iconst (v := (0 : Int32)) hx hb dX3_answer_50 (by decide) ?_
            refine lv_iload_n hx hb dX3_answer_51 rfl (lv_at hl 1 rfl) ?_
            refine lv_iadd hx hb dX3_answer_52 ?_
            obtain ⟨hi, hw⟩ := hw
            refine mm_iald cx hM 4 rfl rfl hi dX3_answer_53 ?_
            refine lv_iload_n hx hb dX3_answer_54 rfl (lv_at hl 2 rfl) ?_
            refine lv_icmp_ne (tgt := 61) hx hb dX3_answer_55 (by decide) (fun hc => ?_) (fun hc => ?_)
            · have hw := mm_in hc hw
              exact B3_answer_61 cx _ _ _ hw _ _ _ hM hS (lv_sub hl [0, 1, 2] rfl)
            · have hw := mm_ip hc hw
              refine lv_bipush (v := (-3 : Int32)) hx hb dX3_answer_58 (by decide) ?_
              exact mm_iret cx hM hS hw dX3_answer_60
      · have hw := mm_ip hc hw
        refine lv_bipush (v := (-2 : Int32)) hx hb dX3_answer_30 (by decide) ?_
        exact mm_iret cx hM hS hw dX3_answer_32
    · have hw := mm_ip hc hw
      refine lv_iconst (v := (-1 : Int32)) hx hb dX3_answer_17 (by decide) ?_
      exact mm_iret cx hM hS hw dX3_answer_18
-- no call of answer
def w3_withdraw (x1 : Int32) (σ : MS) (Q : Int32 → MS → Prop) : Prop :=
  w3_isFact x1 σ (fun r1 s1 => if r1 = 0 then (Q (-1 : Int32) s1) else (if (gA s1 4 16) = (1 : Int32) then (Q (-2 : Int32) s1) else (vp_in ((0 : Int32) + x1) 83 ∧ (if (gA s1 4 ((0 : Int32) + x1).toNatClampNeg) = (1 : Int32) then (w3_keepsAct s1 (fun s2 => w3_makes x1 (0 : Int32) (0 : Int32) s2 (fun s3 => w3_answered s3 (fun r4 s4 => Q r4 s4)))) else (Q (-3 : Int32) s1)))))
set_option maxHeartbeats 4000000 in
theorem M3_withdraw (l : Launch) (G : mm_G) (x1 : Int32) (σ : MS) (Q : Int32 → MS → Prop) (hw : w3_withdraw x1 σ Q) : mm_Mi l yX3_withdraw (ws_ yX3_withdraw cX3_withdraw 2 (some .int)) ({ frames := 4, cells := 0, slots := 0, locals := 160 } : Room) G [.ref (mm_o G), .int x1] σ Q := by
  refine mm_of (by decide) rfl ?_
  intro p e s m args below meth c cx hM ha
  refine mm_entry [.ref (mm_o G), .int x1] 2 [(0, .ref (mm_o G)), (1, .int x1)] ha (Nat.le_of_ble_eq_true rfl) rfl (fun ls hl => ?_)
  have hS : va_S (mm_A G) s.heap s.heap [] := va_S.rf
  unfold w3_withdraw at hw
  obtain ⟨hx, hb, hml, hown, hts, hr, hlk, hMK, hZ⟩ := id cx
  refine lv_aload_n hx hb dX3_withdraw_0 rfl (lv_at hl 0 rfl) ?_
  refine lv_iload_n hx hb dX3_withdraw_1 rfl (lv_at hl 1 rfl) ?_
  refine C3_isFact cx hM hS hw ⟨Nat.le_of_ble_eq_true rfl, Nat.le_of_ble_eq_true rfl⟩ (Nat.le_of_ble_eq_true rfl) hl.1 ⟨Nat.zero_le _, Nat.zero_le _⟩ dX3_withdraw_2 (fun r1 s1 H locs hw hM hS => ?_)
  refine lv_if_ne (tgt := 10) hx hb dX3_withdraw_5 (by decide) (fun hc => ?_) (fun hc => ?_)
  · have hw := mm_in hc hw
    refine lv_aload_n hx hb dX3_withdraw_10 rfl (lv_at hl 0 rfl) ?_
    refine mg_4 cx hM dX3_withdraw_11 ?_
    refine lv_bipush (v := (16 : Int32)) hx hb dX3_withdraw_14 (by decide) ?_
    refine mm_iald cx hM 4 rfl (j := 16) (by decide) (vp_lit (by decide)) dX3_withdraw_16 ?_
    refine lv_iconst (v := (1 : Int32)) hx hb dX3_withdraw_17 (by decide) ?_
    refine lv_icmp_ne (tgt := 24) hx hb dX3_withdraw_18 (by decide) (fun hc => ?_) (fun hc => ?_)
    · have hw := mm_in hc hw
      refine lv_aload_n hx hb dX3_withdraw_24 rfl (lv_at hl 0 rfl) ?_
      refine mg_4 cx hM dX3_withdraw_25 ?_
      refine lv_iconst (v := (0 : Int32)) hx hb dX3_withdraw_28 (by decide) ?_
      refine lv_iload_n hx hb dX3_withdraw_29 rfl (lv_at hl 1 rfl) ?_
      refine lv_iadd hx hb dX3_withdraw_30 ?_
      obtain ⟨hi, hw⟩ := hw
      refine mm_iald cx hM 4 rfl rfl hi dX3_withdraw_31 ?_
      refine lv_iconst (v := (1 : Int32)) hx hb dX3_withdraw_32 (by decide) ?_
      refine lv_icmp_eq (tgt := 39) hx hb dX3_withdraw_33 (by decide) (fun hc => ?_) (fun hc => ?_)
      · have hw := mm_ip hc hw
        refine lv_aload_n hx hb dX3_withdraw_39 rfl (lv_at hl 0 rfl) ?_
        refine C3_keepsAct cx hM hS hw ⟨Nat.le_of_ble_eq_true rfl, Nat.le_of_ble_eq_true rfl⟩ (Nat.le_of_ble_eq_true rfl) hl.1 ⟨Nat.zero_le _, Nat.zero_le _⟩ dX3_withdraw_40 (fun s2 H locs hw hM hS => ?_)
        refine lv_aload_n hx hb dX3_withdraw_43 rfl (lv_at hl 0 rfl) ?_
        refine lv_iload_n hx hb dX3_withdraw_44 rfl (lv_at hl 1 rfl) ?_
        refine lv_iconst (v := (0 : Int32)) hx hb dX3_withdraw_45 (by decide) ?_
        refine lv_iconst (v := (0 : Int32)) hx hb dX3_withdraw_46 (by decide) ?_
        refine C3_makes cx hM hS hw ⟨Nat.le_of_ble_eq_true rfl, Nat.le_of_ble_eq_true rfl⟩ (Nat.le_of_ble_eq_true rfl) hl.1 ⟨Nat.zero_le _, Nat.zero_le _⟩ dX3_withdraw_47 (fun s3 H locs hw hM hS => ?_)
        refine lv_aload_n hx hb dX3_withdraw_50 rfl (lv_at hl 0 rfl) ?_
        refine C3_answered cx hM hS hw ⟨Nat.le_of_ble_eq_true rfl, Nat.le_of_ble_eq_true rfl⟩ (Nat.le_of_ble_eq_true rfl) hl.1 ⟨Nat.zero_le _, Nat.zero_le _⟩ dX3_withdraw_51 (fun r4 s4 H locs hw hM hS => ?_)
        exact mm_iret cx hM hS hw dX3_withdraw_54
      · have hw := mm_in hc hw
        refine lv_bipush (v := (-3 : Int32)) hx hb dX3_withdraw_36 (by decide) ?_
        exact mm_iret cx hM hS hw dX3_withdraw_38
    · have hw := mm_ip hc hw
      refine lv_bipush (v := (-2 : Int32)) hx hb dX3_withdraw_21 (by decide) ?_
      exact mm_iret cx hM hS hw dX3_withdraw_23
  · have hw := mm_ip hc hw
    refine lv_iconst (v := (-1 : Int32)) hx hb dX3_withdraw_8 (by decide) ?_
    exact mm_iret cx hM hS hw dX3_withdraw_9
-- no call of withdraw
def w3_firstSayer_38 (Q : Int32 → MS → Prop) (K2 : Int32 → Int32 → MS → Prop) (x1 : Int32) (x2 : Int32) (σ : MS) : Prop :=
  ∀ v1 : Int32, v1 = x2 + (1 : Int32) → K2 x1 v1 σ
set_option maxHeartbeats 4000000 in
theorem B3_firstSayer_38 {l : Launch} {p : Program} {e : Env} {s : State} {m : MethodId} {args : Array Value} {below : List Frame} {meth : Method} {c : Code} {G : mm_G} {Q : Int32 → MS → Prop} {K2 : Int32 → Int32 → MS → Prop} (cx : mm_X cX3_firstSayer 3 (some .int) G p s m args meth c) (hK2 : ∀ (x1 : Int32) (x2 : Int32) (σ : MS), K2 x1 x2 σ → mm_T p l e ({ frames := 1, cells := 0, slots := 0, locals := 40 } : Room) s m args below meth c G (mm_Qi G Q) 3 2 σ [(0, .ref (mm_o G)), (1, .int x1), (2, .int x2)] []) : ∀ (x1 : Int32) (x2 : Int32) (σ : MS), w3_firstSayer_38 Q K2 x1 x2 σ → mm_T p l e ({ frames := 1, cells := 0, slots := 0, locals := 40 } : Room) s m args below meth c G (mm_Qi G Q) 3 38 σ [(0, .ref (mm_o G)), (1, .int x1), (2, .int x2)] [] := by
  intro x1 x2 σ hw H locs ls hM hS hl
  unfold w3_firstSayer_38 at hw
  obtain ⟨hx, hb, hml, hown, hts, hr, hlk, hMK, hZ⟩ := id cx
  obtain ⟨v1, hv1⟩ : ∃ v : Int32, v = x2 + (1 : Int32) := ⟨_, rfl⟩
  have hw := hw v1 hv1
  refine lv_iinc (v := v1) (lv' := [(2, .int v1), (0, .ref (mm_o G)), (1, .int x1)]) hx hb dX3_firstSayer_38 hl (k := 2) rfl (by rw [hv1]; rfl) (by decide) rfl (fun ls hl => ?_)
  refine lv_goto (tgt := 2) hx hb dX3_firstSayer_41 (by decide) ?_
  exact hK2 _ _ _ hw _ _ _ hM hS (lv_sub hl [1, 2, 0] rfl)
def w3_firstSayer_2 (Q : Int32 → MS → Prop) (K2 : Int32 → Int32 → MS → Prop) (x1 : Int32) (x2 : Int32) (σ : MS) : Prop :=
  if (gA σ 4 18) ≤ x2 then (Q (-1 : Int32) σ) else (w3_its x2 (6 : Int32) σ (fun r2 s2 => if r2 = 0 then (w3_its x2 (4 : Int32) s2 (fun r3 s3 => w3_has r3 x1 s3 (fun r4 s4 => if r4 = 0 then (w3_firstSayer_38 Q K2 x1 x2 s4) else (Q x2 s4)))) else (w3_firstSayer_38 Q K2 x1 x2 s2)))
set_option maxHeartbeats 4000000 in
theorem B3_firstSayer_2 {l : Launch} {p : Program} {e : Env} {s : State} {m : MethodId} {args : Array Value} {below : List Frame} {meth : Method} {c : Code} {G : mm_G} {Q : Int32 → MS → Prop} {K2 : Int32 → Int32 → MS → Prop} (cx : mm_X cX3_firstSayer 3 (some .int) G p s m args meth c) (hK2 : ∀ (x1 : Int32) (x2 : Int32) (σ : MS), K2 x1 x2 σ → mm_T p l e ({ frames := 1, cells := 0, slots := 0, locals := 40 } : Room) s m args below meth c G (mm_Qi G Q) 3 2 σ [(0, .ref (mm_o G)), (1, .int x1), (2, .int x2)] []) : ∀ (x1 : Int32) (x2 : Int32) (σ : MS), w3_firstSayer_2 Q K2 x1 x2 σ → mm_T p l e ({ frames := 1, cells := 0, slots := 0, locals := 40 } : Room) s m args below meth c G (mm_Qi G Q) 3 2 σ [(0, .ref (mm_o G)), (1, .int x1), (2, .int x2)] [] := by
  intro x1 x2 σ hw H locs ls hM hS hl
  unfold w3_firstSayer_2 at hw
  obtain ⟨hx, hb, hml, hown, hts, hr, hlk, hMK, hZ⟩ := id cx
  refine lv_iload_n hx hb dX3_firstSayer_2 rfl (lv_at hl 2 rfl) ?_
  refine lv_aload_n hx hb dX3_firstSayer_3 rfl (lv_at hl 0 rfl) ?_
  refine mg_4 cx hM dX3_firstSayer_4 ?_
  refine lv_bipush (v := (18 : Int32)) hx hb dX3_firstSayer_7 (by decide) ?_
  refine mm_iald cx hM 4 rfl (j := 18) (by decide) (vp_lit (by decide)) dX3_firstSayer_9 ?_
  refine lv_icmp_ge (tgt := 44) hx hb dX3_firstSayer_10 (by decide) (fun hc => ?_) (fun hc => ?_)
  · have hw := mm_ip hc hw
    refine lv_iconst (v := (-1 : Int32)) hx hb dX3_firstSayer_44 (by decide) ?_
    exact mm_iret cx hM hS hw dX3_firstSayer_45
  · have hw := mm_in hc hw
    refine lv_aload_n hx hb dX3_firstSayer_13 rfl (lv_at hl 0 rfl) ?_
    refine lv_iload_n hx hb dX3_firstSayer_14 rfl (lv_at hl 2 rfl) ?_
    refine lv_bipush (v := (6 : Int32)) hx hb dX3_firstSayer_15 (by decide) ?_
    refine C3_its cx hM hS hw ⟨Nat.le_of_ble_eq_true rfl, Nat.le_of_ble_eq_true rfl⟩ (Nat.le_of_ble_eq_true rfl) hl.1 ⟨Nat.zero_le _, Nat.zero_le _⟩ dX3_firstSayer_17 (fun r2 s2 H locs hw hM hS => ?_)
    refine lv_if_ne (tgt := 38) hx hb dX3_firstSayer_20 (by decide) (fun hc => ?_) (fun hc => ?_)
    · have hw := mm_in hc hw
      exact B3_firstSayer_38 cx hK2 _ _ _ hw _ _ _ hM hS (lv_sub hl [0, 1, 2] rfl)
    · have hw := mm_ip hc hw
      refine lv_aload_n hx hb dX3_firstSayer_23 rfl (lv_at hl 0 rfl) ?_
      refine lv_iload_n hx hb dX3_firstSayer_24 rfl (lv_at hl 2 rfl) ?_
      refine lv_iconst (v := (4 : Int32)) hx hb dX3_firstSayer_25 (by decide) ?_
      refine C3_its cx hM hS hw ⟨Nat.le_of_ble_eq_true rfl, Nat.le_of_ble_eq_true rfl⟩ (Nat.le_of_ble_eq_true rfl) hl.1 ⟨Nat.zero_le _, Nat.zero_le _⟩ dX3_firstSayer_26 (fun r3 s3 H locs hw hM hS => ?_)
      refine lv_iload_n hx hb dX3_firstSayer_29 rfl (lv_at hl 1 rfl) ?_
      refine C3_has cx hM hS hw ⟨Nat.le_of_ble_eq_true rfl, Nat.le_of_ble_eq_true rfl⟩ (Nat.le_of_ble_eq_true rfl) hl.1 ⟨Nat.zero_le _, Nat.zero_le _⟩ dX3_firstSayer_30 (fun r4 s4 H locs hw hM hS => ?_)
      refine lv_if_eq (tgt := 38) hx hb dX3_firstSayer_33 (by decide) (fun hc => ?_) (fun hc => ?_)
      · have hw := mm_ip hc hw
        exact B3_firstSayer_38 cx hK2 _ _ _ hw _ _ _ hM hS (lv_sub hl [0, 1, 2] rfl)
      · have hw := mm_in hc hw
        refine lv_iload_n hx hb dX3_firstSayer_36 rfl (lv_at hl 2 rfl) ?_
        exact mm_iret cx hM hS hw dX3_firstSayer_37
theorem L3_firstSayer_2 {l : Launch} {p : Program} {e : Env} {s : State} {m : MethodId} {args : Array Value} {below : List Frame} {meth : Method} {c : Code} {G : mm_G} {Q : Int32 → MS → Prop} (cx : mm_X cX3_firstSayer 3 (some .int) G p s m args meth c) : ∀ (x1 : Int32) (x2 : Int32) (σ : MS), lp3F (w3_firstSayer_2 Q) x1 x2 σ → mm_T p l e ({ frames := 1, cells := 0, slots := 0, locals := 40 } : Room) s m args below meth c G (mm_Qi G Q) 3 2 σ [(0, .ref (mm_o G)), (1, .int x1), (2, .int x2)] [] :=
  lp3F_of (fun K hK => B3_firstSayer_2 cx hK)
def w3_firstSayer (x1 : Int32) (σ : MS) (Q : Int32 → MS → Prop) : Prop :=
  lp3F (w3_firstSayer_2 Q) x1 (0 : Int32) σ
set_option maxHeartbeats 4000000 in
theorem M3_firstSayer (l : Launch) (G : mm_G) (x1 : Int32) (σ : MS) (Q : Int32 → MS → Prop) (hw : w3_firstSayer x1 σ Q) : mm_Mi l yX3_firstSayer (ws_ yX3_firstSayer cX3_firstSayer 3 (some .int)) ({ frames := 1, cells := 0, slots := 0, locals := 40 } : Room) G [.ref (mm_o G), .int x1] σ Q := by
  refine mm_of (by decide) rfl ?_
  intro p e s m args below meth c cx hM ha
  refine mm_entry [.ref (mm_o G), .int x1] 3 [(0, .ref (mm_o G)), (1, .int x1)] ha (Nat.le_of_ble_eq_true rfl) rfl (fun ls hl => ?_)
  have hS : va_S (mm_A G) s.heap s.heap [] := va_S.rf
  unfold w3_firstSayer at hw
  obtain ⟨hx, hb, hml, hown, hts, hr, hlk, hMK, hZ⟩ := id cx
  refine lv_iconst (v := (0 : Int32)) hx hb dX3_firstSayer_0 (by decide) ?_
  refine lv_istore_n (lv' := [(2, .int (0 : Int32)), (0, .ref (mm_o G)), (1, .int x1)]) hx hb dX3_firstSayer_1 rfl hl (by decide) rfl (fun ls hl => ?_)
  exact L3_firstSayer_2 cx _ _ _ hw _ _ _ hM hS (lv_sub hl [1, 2, 0] rfl)
theorem C3_firstSayer {l : Launch} {p : Program} {e : Env} {R : Room} {s : State} {m : MethodId} {args : Array Value} {below : List Frame} {meth : Method} {c : Code} {H : Heap} {locs : List Loc} {cells slots : Nat} {Qz : State → Prop} {cc : ByteArray} {nL : Nat} {ret : Option FieldType} {G : mm_G} {pc : Nat} {ls : Array Slot} {rest : List Value} {x1 : Int32} {σ : MS} (cx : mm_X cc nL ret G p s m args meth c) (hM : mm_R G σ H) (hS0 : va_S (mm_A G) s.heap H locs) {Qf : Int32 → MS → Prop} (hw : w3_firstSayer x1 σ Qf) (hR : (({ frames := 1, cells := 0, slots := 0, locals := 40 } : Room)).frames + 1 ≤ R.frames ∧ 8 + (3 + 11) + (({ frames := 1, cells := 0, slots := 0, locals := 40 } : Room)).locals ≤ R.locals) (hroom : (rest.map fun v => v.category).sum ≤ 8) (hsize : ls.size = nL) (hf : cells ≤ R.cells ∧ slots ≤ R.slots) (hdg : decode cc pc = .ok (.invokevirtual 413, 3))
    (kk : ∀ (r : Int32) (σ1 : MS) (H1 : Heap) (locs1 : List Loc), Qf r σ1 → mm_R G σ1 H1 → va_S (mm_A G) s.heap H1 locs1 → W p l e R s m args below meth c H1 locs1 cells slots Qz (F0 m (pc + 3) ls (.int r :: rest))) : W p l e R s m args below meth c H locs cells slots Qz (F0 m pc ls (.int x1 :: .ref (mm_o G) :: rest)) := by
  obtain ⟨hx, hb, hml, hown, hts, hr, hlk, hK, hZ⟩ := id cx
  exact mm_Vi cx hM hS0 (As := [.int x1]) (M3_firstSayer l G x1 σ Qf hw) (cwV 1 hts (lw_V q2861 q2863 qs138 q172 q2864) rfl rfl rfl (by decide +kernel) hR) rfl hsize rfl hroom hf hdg kk
def w3_close_117 (Q : Int32 → MS → Prop) (K22 : Int32 → Int32 → MS → Prop) (x1 : Int32) (x2 : Int32) (σ : MS) : Prop :=
  ∀ v1 : Int32, v1 = x2 + (1 : Int32) → K22 x1 v1 σ
set_option maxHeartbeats 4000000 in
theorem B3_close_117 {l : Launch} {p : Program} {e : Env} {s : State} {m : MethodId} {args : Array Value} {below : List Frame} {meth : Method} {c : Code} {G : mm_G} {Q : Int32 → MS → Prop} {K22 : Int32 → Int32 → MS → Prop} (cx : mm_X cX3_close 6 (some .int) G p s m args meth c) (hK22 : ∀ (x1 : Int32) (x2 : Int32) (σ : MS), K22 x1 x2 σ → mm_T p l e ({ frames := 4, cells := 0, slots := 0, locals := 160 } : Room) s m args below meth c G (mm_Qi G Q) 6 22 σ [(0, .ref (mm_o G)), (1, .int x1), (2, .int x2)] []) : ∀ (x1 : Int32) (x2 : Int32) (σ : MS), w3_close_117 Q K22 x1 x2 σ → mm_T p l e ({ frames := 4, cells := 0, slots := 0, locals := 160 } : Room) s m args below meth c G (mm_Qi G Q) 6 117 σ [(0, .ref (mm_o G)), (1, .int x1), (2, .int x2)] [] := by
  intro x1 x2 σ hw H locs ls hM hS hl
  unfold w3_close_117 at hw
  obtain ⟨hx, hb, hml, hown, hts, hr, hlk, hMK, hZ⟩ := id cx
  obtain ⟨v1, hv1⟩ : ∃ v : Int32, v = x2 + (1 : Int32) := ⟨_, rfl⟩
  have hw := hw v1 hv1
  refine lv_iinc (v := v1) (lv' := [(2, .int v1), (0, .ref (mm_o G)), (1, .int x1)]) hx hb dX3_close_117 hl (k := 2) rfl (by rw [hv1]; rfl) (by decide) rfl (fun ls hl => ?_)
  refine lv_goto (tgt := 22) hx hb dX3_close_120 (by decide) ?_
  exact hK22 _ _ _ hw _ _ _ hM hS (lv_sub hl [1, 2, 0] rfl)
def w3_close_115 (Q : Int32 → MS → Prop) (K22 : Int32 → Int32 → MS → Prop) (x2 : Int32) (t0 : Int32) (t1 : Int32) (σ : MS) : Prop :=
  ∀ v2 : Int32, v2 = (t0 + t1) → w3_close_117 Q K22 v2 x2 σ
set_option maxHeartbeats 4000000 in
theorem B3_close_115 {l : Launch} {p : Program} {e : Env} {s : State} {m : MethodId} {args : Array Value} {below : List Frame} {meth : Method} {c : Code} {G : mm_G} {Q : Int32 → MS → Prop} {K22 : Int32 → Int32 → MS → Prop} (cx : mm_X cX3_close 6 (some .int) G p s m args meth c) (hK22 : ∀ (x1 : Int32) (x2 : Int32) (σ : MS), K22 x1 x2 σ → mm_T p l e ({ frames := 4, cells := 0, slots := 0, locals := 160 } : Room) s m args below meth c G (mm_Qi G Q) 6 22 σ [(0, .ref (mm_o G)), (1, .int x1), (2, .int x2)] []) : ∀ (x2 : Int32) (t0 : Int32) (t1 : Int32) (σ : MS), w3_close_115 Q K22 x2 t0 t1 σ → mm_T p l e ({ frames := 4, cells := 0, slots := 0, locals := 160 } : Room) s m args below meth c G (mm_Qi G Q) 6 115 σ [(0, .ref (mm_o G)), (2, .int x2)] [.int t1, .int t0] := by
  intro x2 t0 t1 σ hw H locs ls hM hS hl
  unfold w3_close_115 at hw
  obtain ⟨hx, hb, hml, hown, hts, hr, hlk, hMK, hZ⟩ := id cx
  refine lv_iadd hx hb dX3_close_115 ?_
  refine lv_topi (fun v2 hv2 => ?_)
  have hw := hw v2 hv2
  refine lv_istore_n (lv' := [(1, .int v2), (0, .ref (mm_o G)), (2, .int x2)]) hx hb dX3_close_116 rfl hl (by decide) rfl (fun ls hl => ?_)
  exact B3_close_117 cx hK22 _ _ _ hw _ _ _ hM hS (lv_sub hl [1, 0, 2] rfl)
def w3_close_101 (Q : Int32 → MS → Prop) (K22 : Int32 → Int32 → MS → Prop) (x1 : Int32) (x2 : Int32) (x5 : Int32) (t1 : Int32) (t2 : Int32) (t3 : Int32) (σ : MS) : Prop :=
  w3_makes t1 t2 t3 σ (fun s3 => if x5 = 0 then (w3_close_115 Q K22 x2 x1 (0 : Int32) s3) else (w3_close_115 Q K22 x2 x1 (1 : Int32) s3))
set_option maxHeartbeats 4000000 in
theorem B3_close_101 {l : Launch} {p : Program} {e : Env} {s : State} {m : MethodId} {args : Array Value} {below : List Frame} {meth : Method} {c : Code} {G : mm_G} {Q : Int32 → MS → Prop} {K22 : Int32 → Int32 → MS → Prop} (cx : mm_X cX3_close 6 (some .int) G p s m args meth c) (hK22 : ∀ (x1 : Int32) (x2 : Int32) (σ : MS), K22 x1 x2 σ → mm_T p l e ({ frames := 4, cells := 0, slots := 0, locals := 160 } : Room) s m args below meth c G (mm_Qi G Q) 6 22 σ [(0, .ref (mm_o G)), (1, .int x1), (2, .int x2)] []) : ∀ (x1 : Int32) (x2 : Int32) (x5 : Int32) (t1 : Int32) (t2 : Int32) (t3 : Int32) (σ : MS), w3_close_101 Q K22 x1 x2 x5 t1 t2 t3 σ → mm_T p l e ({ frames := 4, cells := 0, slots := 0, locals := 160 } : Room) s m args below meth c G (mm_Qi G Q) 6 101 σ [(0, .ref (mm_o G)), (1, .int x1), (2, .int x2), (5, .int x5)] [.int t3, .int t2, .int t1, .ref (mm_o G)] := by
  intro x1 x2 x5 t1 t2 t3 σ hw H locs ls hM hS hl
  unfold w3_close_101 at hw
  obtain ⟨hx, hb, hml, hown, hts, hr, hlk, hMK, hZ⟩ := id cx
  refine C3_makes cx hM hS hw ⟨Nat.le_of_ble_eq_true rfl, Nat.le_of_ble_eq_true rfl⟩ (Nat.le_of_ble_eq_true rfl) hl.1 ⟨Nat.zero_le _, Nat.zero_le _⟩ dX3_close_101 (fun s3 H locs hw hM hS => ?_)
  refine lv_iload_n hx hb dX3_close_104 rfl (lv_at hl 1 rfl) ?_
  refine lv_iload hx hb dX3_close_105 (lv_at hl 3 rfl) ?_
  refine lv_if_eq (tgt := 114) hx hb dX3_close_107 (by decide) (fun hc => ?_) (fun hc => ?_)
  · have hw := mm_ip hc hw
    refine lv_iconst (v := (0 : Int32)) hx hb dX3_close_114 (by decide) ?_
    exact B3_close_115 cx hK22 _ _ _ _ hw _ _ _ hM hS (lv_sub hl [0, 2] rfl)
  · have hw := mm_in hc hw
    refine lv_iconst (v := (1 : Int32)) hx hb dX3_close_110 (by decide) ?_
    refine lv_goto (tgt := 115) hx hb dX3_close_111 (by decide) ?_
    exact B3_close_115 cx hK22 _ _ _ _ hw _ _ _ hM hS (lv_sub hl [0, 2] rfl)
def w3_close_90 (Q : Int32 → MS → Prop) (K22 : Int32 → Int32 → MS → Prop) (x1 : Int32) (x2 : Int32) (x4 : Int32) (x5 : Int32) (t1 : Int32) (t2 : Int32) (σ : MS) : Prop :=
  if x5 = 0 then (w3_close_101 Q K22 x1 x2 x5 t1 t2 (0 : Int32) σ) else (w3_close_101 Q K22 x1 x2 x5 t1 t2 x4 σ)
set_option maxHeartbeats 4000000 in
theorem B3_close_90 {l : Launch} {p : Program} {e : Env} {s : State} {m : MethodId} {args : Array Value} {below : List Frame} {meth : Method} {c : Code} {G : mm_G} {Q : Int32 → MS → Prop} {K22 : Int32 → Int32 → MS → Prop} (cx : mm_X cX3_close 6 (some .int) G p s m args meth c) (hK22 : ∀ (x1 : Int32) (x2 : Int32) (σ : MS), K22 x1 x2 σ → mm_T p l e ({ frames := 4, cells := 0, slots := 0, locals := 160 } : Room) s m args below meth c G (mm_Qi G Q) 6 22 σ [(0, .ref (mm_o G)), (1, .int x1), (2, .int x2)] []) : ∀ (x1 : Int32) (x2 : Int32) (x4 : Int32) (x5 : Int32) (t1 : Int32) (t2 : Int32) (σ : MS), w3_close_90 Q K22 x1 x2 x4 x5 t1 t2 σ → mm_T p l e ({ frames := 4, cells := 0, slots := 0, locals := 160 } : Room) s m args below meth c G (mm_Qi G Q) 6 90 σ [(0, .ref (mm_o G)), (1, .int x1), (2, .int x2), (4, .int x4), (5, .int x5)] [.int t2, .int t1, .ref (mm_o G)] := by
  intro x1 x2 x4 x5 t1 t2 σ hw H locs ls hM hS hl
  unfold w3_close_90 at hw
  obtain ⟨hx, hb, hml, hown, hts, hr, hlk, hMK, hZ⟩ := id cx
  refine lv_iload hx hb dX3_close_90 (lv_at hl 4 rfl) ?_
  refine lv_if_eq (tgt := 100) hx hb dX3_close_92 (by decide) (fun hc => ?_) (fun hc => ?_)
  · have hw := mm_ip hc hw
    refine lv_iconst (v := (0 : Int32)) hx hb dX3_close_100 (by decide) ?_
    exact B3_close_101 cx hK22 _ _ _ _ _ _ _ hw _ _ _ hM hS (lv_sub hl [0, 1, 2, 4] rfl)
  · have hw := mm_in hc hw
    refine lv_iload hx hb dX3_close_95 (lv_at hl 3 rfl) ?_
    refine lv_goto (tgt := 101) hx hb dX3_close_97 (by decide) ?_
    exact B3_close_101 cx hK22 _ _ _ _ _ _ _ hw _ _ _ hM hS (lv_sub hl [0, 1, 2, 4] rfl)
def w3_close_22 (Q : Int32 → MS → Prop) (K22 : Int32 → Int32 → MS → Prop) (x1 : Int32) (x2 : Int32) (σ : MS) : Prop :=
  if (gA σ 0 1) ≤ x2 then (Q x1 (sA σ 4 16 (1 : Int32))) else (w3_firstSayer x2 σ (fun r4 s4 => vp_in ((0 : Int32) + x2) 83 ∧ (if (gA s4 4 ((0 : Int32) + x2).toNatClampNeg) = 0 then (if r4 = (-1 : Int32) then (w3_close_117 Q K22 x1 x2 s4) else (w3_its r4 (5 : Int32) s4 (fun r5 s5 => ∀ v6 : Int32, v6 = ((r5 >>> (x2 &&& 31)) &&& (1 : Int32)) → w3_isSomeBy x2 v6 s5 (fun r7 s7 => if r7 = 0 then (w3_close_90 Q K22 x1 x2 v6 r7 x2 (3 : Int32) s7) else (w3_close_90 Q K22 x1 x2 v6 r7 x2 (1 : Int32) s7))))) else (w3_close_117 Q K22 x1 x2 s4))))
set_option maxHeartbeats 4000000 in
theorem B3_close_22 {l : Launch} {p : Program} {e : Env} {s : State} {m : MethodId} {args : Array Value} {below : List Frame} {meth : Method} {c : Code} {G : mm_G} {Q : Int32 → MS → Prop} {K22 : Int32 → Int32 → MS → Prop} (cx : mm_X cX3_close 6 (some .int) G p s m args meth c) (hK22 : ∀ (x1 : Int32) (x2 : Int32) (σ : MS), K22 x1 x2 σ → mm_T p l e ({ frames := 4, cells := 0, slots := 0, locals := 160 } : Room) s m args below meth c G (mm_Qi G Q) 6 22 σ [(0, .ref (mm_o G)), (1, .int x1), (2, .int x2)] []) : ∀ (x1 : Int32) (x2 : Int32) (σ : MS), w3_close_22 Q K22 x1 x2 σ → mm_T p l e ({ frames := 4, cells := 0, slots := 0, locals := 160 } : Room) s m args below meth c G (mm_Qi G Q) 6 22 σ [(0, .ref (mm_o G)), (1, .int x1), (2, .int x2)] [] := by
  intro x1 x2 σ hw H locs ls hM hS hl
  unfold w3_close_22 at hw
  obtain ⟨hx, hb, hml, hown, hts, hr, hlk, hMK, hZ⟩ := id cx
  refine lv_iload_n hx hb dX3_close_22 rfl (lv_at hl 2 rfl) ?_
  refine lv_aload_n hx hb dX3_close_23 rfl (lv_at hl 0 rfl) ?_
  refine mg_0 cx hM dX3_close_24 ?_
  refine lv_iconst (v := (1 : Int32)) hx hb dX3_close_27 (by decide) ?_
  refine mm_iald cx hM 0 rfl (j := 1) (by decide) (vp_lit (by decide)) dX3_close_28 ?_
  refine lv_icmp_ge (tgt := 123) hx hb dX3_close_29 (by decide) (fun hc => ?_) (fun hc => ?_)
  · have hw := mm_ip hc hw
    refine lv_aload_n hx hb dX3_close_123 rfl (lv_at hl 0 rfl) ?_
    refine mg_4 cx hM dX3_close_124 ?_
    refine lv_bipush (v := (16 : Int32)) hx hb dX3_close_127 (by decide) ?_
    refine lv_iconst (v := (1 : Int32)) hx hb dX3_close_129 (by decide) ?_
    refine mm_iast cx hM hS 4 rfl (j0 := 16) (by decide) (vp_lit (by decide)) dX3_close_130 (fun H locs hM hS => ?_)
    refine lv_iload_n hx hb dX3_close_131 rfl (lv_at hl 1 rfl) ?_
    exact mm_iret cx hM hS hw dX3_close_132
  · have hw := mm_in hc hw
    refine lv_aload_n hx hb dX3_close_32 rfl (lv_at hl 0 rfl) ?_
    refine lv_iload_n hx hb dX3_close_33 rfl (lv_at hl 2 rfl) ?_
    refine C3_firstSayer cx hM hS hw ⟨Nat.le_of_ble_eq_true rfl, Nat.le_of_ble_eq_true rfl⟩ (Nat.le_of_ble_eq_true rfl) hl.1 ⟨Nat.zero_le _, Nat.zero_le _⟩ dX3_close_34 (fun r4 s4 H locs hw hM hS => ?_)
    refine lv_istore_n (lv' := [(3, .int r4), (0, .ref (mm_o G)), (1, .int x1), (2, .int x2)]) hx hb dX3_close_37 rfl hl (by decide) rfl (fun ls hl => ?_)
    refine lv_aload_n hx hb dX3_close_38 rfl (lv_at hl 1 rfl) ?_
    refine mg_4 cx hM dX3_close_39 ?_
    refine lv_iconst (v := (0 : Int32)) hx hb dX3_close_42 (by decide) ?_
    refine lv_iload_n hx hb dX3_close_43 rfl (lv_at hl 3 rfl) ?_
    refine lv_iadd hx hb dX3_close_44 ?_
    obtain ⟨hi, hw⟩ := hw
    refine mm_iald cx hM 4 rfl rfl hi dX3_close_45 ?_
    refine lv_if_ne (tgt := 117) hx hb dX3_close_46 (by decide) (fun hc => ?_) (fun hc => ?_)
    · have hw := mm_in hc hw
      exact B3_close_117 cx hK22 _ _ _ hw _ _ _ hM hS (lv_sub hl [1, 2, 3] rfl)
    · have hw := mm_ip hc hw
      refine lv_iload_n hx hb dX3_close_49 rfl (lv_at hl 0 rfl) ?_
      refine lv_iconst (v := (-1 : Int32)) hx hb dX3_close_50 (by decide) ?_
      refine lv_icmp_ne (tgt := 57) hx hb dX3_close_51 (by decide) (fun hc => ?_) (fun hc => ?_)
      · have hw := mm_in hc hw
        refine lv_aload_n hx hb dX3_close_57 rfl (lv_at hl 1 rfl) ?_
        refine lv_iload_n hx hb dX3_close_58 rfl (lv_at hl 0 rfl) ?_
        refine lv_iconst (v := (5 : Int32)) hx hb dX3_close_59 (by decide) ?_
        refine C3_its cx hM hS hw ⟨Nat.le_of_ble_eq_true rfl, Nat.le_of_ble_eq_true rfl⟩ (Nat.le_of_ble_eq_true rfl) hl.1 ⟨Nat.zero_le _, Nat.zero_le _⟩ dX3_close_60 (fun r5 s5 H locs hw hM hS => ?_)
        refine lv_iload_n hx hb dX3_close_63 rfl (lv_at hl 3 rfl) ?_
        refine lv_ishr hx hb dX3_close_64 ?_
        refine lv_iconst (v := (1 : Int32)) hx hb dX3_close_65 (by decide) ?_
        refine lv_iand hx hb dX3_close_66 ?_
        refine lv_topi (fun v6 hv6 => ?_)
        have hw := hw v6 hv6
        refine lv_istore (lv' := [(4, .int v6), (3, .int r4), (0, .ref (mm_o G)), (1, .int x1), (2, .int x2)]) hx hb dX3_close_67 hl (by decide) rfl (fun ls hl => ?_)
        refine lv_aload_n hx hb dX3_close_69 rfl (lv_at hl 2 rfl) ?_
        refine lv_iload_n hx hb dX3_close_70 rfl (lv_at hl 4 rfl) ?_
        refine lv_iload hx hb dX3_close_71 (lv_at hl 0 rfl) ?_
        refine C3_isSomeBy cx hM hS hw ⟨Nat.le_of_ble_eq_true rfl, Nat.le_of_ble_eq_true rfl⟩ (Nat.le_of_ble_eq_true rfl) hl.1 ⟨Nat.zero_le _, Nat.zero_le _⟩ dX3_close_73 (fun r7 s7 H locs hw hM hS => ?_)
        refine lv_istore (lv' := [(5, .int r7), (4, .int v6), (3, .int r4), (0, .ref (mm_o G)), (1, .int x1), (2, .int x2)]) hx hb dX3_close_76 hl (by decide) rfl (fun ls hl => ?_)
        refine lv_aload_n hx hb dX3_close_78 rfl (lv_at hl 3 rfl) ?_
        refine lv_iload_n hx hb dX3_close_79 rfl (lv_at hl 5 rfl) ?_
        refine lv_iload hx hb dX3_close_80 (lv_at hl 0 rfl) ?_
        refine lv_if_eq (tgt := 89) hx hb dX3_close_82 (by decide) (fun hc => ?_) (fun hc => ?_)
        · have hw := mm_ip hc hw
          refine lv_iconst (v := (3 : Int32)) hx hb dX3_close_89 (by decide) ?_
          exact B3_close_90 cx hK22 _ _ _ _ _ _ _ hw _ _ _ hM hS (lv_sub hl [3, 4, 5, 1, 0] rfl)
        · have hw := mm_in hc hw
          refine lv_iconst (v := (1 : Int32)) hx hb dX3_close_85 (by decide) ?_
          refine lv_goto (tgt := 90) hx hb dX3_close_86 (by decide) ?_
          exact B3_close_90 cx hK22 _ _ _ _ _ _ _ hw _ _ _ hM hS (lv_sub hl [3, 4, 5, 1, 0] rfl)
      · have hw := mm_ip hc hw
        refine lv_goto (tgt := 117) hx hb dX3_close_54 (by decide) ?_
        exact B3_close_117 cx hK22 _ _ _ hw _ _ _ hM hS (lv_sub hl [1, 2, 3] rfl)
theorem L3_close_22 {l : Launch} {p : Program} {e : Env} {s : State} {m : MethodId} {args : Array Value} {below : List Frame} {meth : Method} {c : Code} {G : mm_G} {Q : Int32 → MS → Prop} (cx : mm_X cX3_close 6 (some .int) G p s m args meth c) : ∀ (x1 : Int32) (x2 : Int32) (σ : MS), lp3F (w3_close_22 Q) x1 x2 σ → mm_T p l e ({ frames := 4, cells := 0, slots := 0, locals := 160 } : Room) s m args below meth c G (mm_Qi G Q) 6 22 σ [(0, .ref (mm_o G)), (1, .int x1), (2, .int x2)] [] :=
  lp3F_of (fun K hK => B3_close_22 cx hK)
def w3_close (σ : MS) (Q : Int32 → MS → Prop) : Prop :=
  if (gA σ 4 16) = (1 : Int32) then (Q (-2 : Int32) σ) else (w3_keepsAct σ (fun s8 => lp3F (w3_close_22 Q) (0 : Int32) (0 : Int32) s8))
set_option maxHeartbeats 4000000 in
theorem M3_close (l : Launch) (G : mm_G) (σ : MS) (Q : Int32 → MS → Prop) (hw : w3_close σ Q) : mm_Mi l yX3_close (ws_ yX3_close cX3_close 6 (some .int)) ({ frames := 4, cells := 0, slots := 0, locals := 160 } : Room) G [.ref (mm_o G)] σ Q := by
  refine mm_of (by decide) rfl ?_
  intro p e s m args below meth c cx hM ha
  refine mm_entry [.ref (mm_o G)] 6 [(0, .ref (mm_o G))] ha (Nat.le_of_ble_eq_true rfl) rfl (fun ls hl => ?_)
  have hS : va_S (mm_A G) s.heap s.heap [] := va_S.rf
  unfold w3_close at hw
  obtain ⟨hx, hb, hml, hown, hts, hr, hlk, hMK, hZ⟩ := id cx
  refine lv_aload_n hx hb dX3_close_0 rfl (lv_at hl 0 rfl) ?_
  refine mg_4 cx hM dX3_close_1 ?_
  refine lv_bipush (v := (16 : Int32)) hx hb dX3_close_4 (by decide) ?_
  refine mm_iald cx hM 4 rfl (j := 16) (by decide) (vp_lit (by decide)) dX3_close_6 ?_
  refine lv_iconst (v := (1 : Int32)) hx hb dX3_close_7 (by decide) ?_
  refine lv_icmp_ne (tgt := 14) hx hb dX3_close_8 (by decide) (fun hc => ?_) (fun hc => ?_)
  · have hw := mm_in hc hw
    refine lv_aload_n hx hb dX3_close_14 rfl (lv_at hl 0 rfl) ?_
    refine C3_keepsAct cx hM hS hw ⟨Nat.le_of_ble_eq_true rfl, Nat.le_of_ble_eq_true rfl⟩ (Nat.le_of_ble_eq_true rfl) hl.1 ⟨Nat.zero_le _, Nat.zero_le _⟩ dX3_close_15 (fun s8 H locs hw hM hS => ?_)
    refine lv_iconst (v := (0 : Int32)) hx hb dX3_close_18 (by decide) ?_
    refine lv_istore_n (lv' := [(1, .int (0 : Int32)), (0, .ref (mm_o G))]) hx hb dX3_close_19 rfl hl (by decide) rfl (fun ls hl => ?_)
    refine lv_iconst (v := (0 : Int32)) hx hb dX3_close_20 (by decide) ?_
    refine lv_istore_n (lv' := [(2, .int (0 : Int32)), (1, .int (0 : Int32)), (0, .ref (mm_o G))]) hx hb dX3_close_21 rfl hl (by decide) rfl (fun ls hl => ?_)
    exact L3_close_22 cx _ _ _ hw _ _ _ hM hS (lv_sub hl [2, 1, 0] rfl)
  · have hw := mm_ip hc hw
    refine lv_bipush (v := (-2 : Int32)) hx hb dX3_close_11 (by decide) ?_
    exact mm_iret cx hM hS hw dX3_close_13
-- no call of close
def w3_find_70 (Q : Int32 → MS → Prop) (t1 : Int32) (t2 : Int32) (t3 : Int32) (σ : MS) : Prop :=
  w3_makes t1 t2 t3 σ (fun s1 => w3_knownFacts s1 (fun r2 s2 => w3_bits r2 s2 (fun r3 s3 => Q ((gA s1 0 1) - r3) s3)))
set_option maxHeartbeats 4000000 in
theorem B3_find_70 {l : Launch} {p : Program} {e : Env} {s : State} {m : MethodId} {args : Array Value} {below : List Frame} {meth : Method} {c : Code} {G : mm_G} {Q : Int32 → MS → Prop} (cx : mm_X cX3_find 3 (some .int) G p s m args meth c) : ∀ (t1 : Int32) (t2 : Int32) (t3 : Int32) (σ : MS), w3_find_70 Q t1 t2 t3 σ → mm_T p l e ({ frames := 4, cells := 0, slots := 0, locals := 160 } : Room) s m args below meth c G (mm_Qi G Q) 3 70 σ [(0, .ref (mm_o G))] [.int t3, .int t2, .int t1, .ref (mm_o G)] := by
  intro t1 t2 t3 σ hw H locs ls hM hS hl
  unfold w3_find_70 at hw
  obtain ⟨hx, hb, hml, hown, hts, hr, hlk, hMK, hZ⟩ := id cx
  refine C3_makes cx hM hS hw ⟨Nat.le_of_ble_eq_true rfl, Nat.le_of_ble_eq_true rfl⟩ (Nat.le_of_ble_eq_true rfl) hl.1 ⟨Nat.zero_le _, Nat.zero_le _⟩ dX3_find_70 (fun s1 H locs hw hM hS => ?_)
  refine lv_aload_n hx hb dX3_find_73 rfl (lv_at hl 0 rfl) ?_
  refine mg_0 cx hM dX3_find_74 ?_
  refine lv_iconst (v := (1 : Int32)) hx hb dX3_find_77 (by decide) ?_
  refine mm_iald cx hM 0 rfl (j := 1) (by decide) (vp_lit (by decide)) dX3_find_78 ?_
  refine lv_aload_n hx hb dX3_find_79 rfl (lv_at hl 0 rfl) ?_
  refine C3_knownFacts cx hM hS hw ⟨Nat.le_of_ble_eq_true rfl, Nat.le_of_ble_eq_true rfl⟩ (Nat.le_of_ble_eq_true rfl) hl.1 ⟨Nat.zero_le _, Nat.zero_le _⟩ dX3_find_80 (fun r2 s2 H locs hw hM hS => ?_)
  refine C3_bits cx hM hS hw ⟨Nat.le_of_ble_eq_true rfl, Nat.le_of_ble_eq_true rfl⟩ (Nat.le_of_ble_eq_true rfl) hl.1 ⟨Nat.zero_le _, Nat.zero_le _⟩ dX3_find_83 (fun r3 s3 H locs hw hM hS => ?_)
  refine lv_isub hx hb dX3_find_86 ?_
  exact mm_iret cx hM hS hw dX3_find_87
def w3_find_45 (Q : Int32 → MS → Prop) (x1 : Int32) (x2 : Int32) (t1 : Int32) (t2 : Int32) (σ : MS) : Prop :=
  w3_isSomeBy t1 t2 σ (fun r4 s4 => if r4 = 0 then (Q (-4 : Int32) s4) else (w3_keepsAct s4 (fun s5 => if x2 = 0 then (w3_find_70 Q x1 (4 : Int32) (0 : Int32) s5) else (w3_find_70 Q x1 (4 : Int32) (1 : Int32) s5))))
set_option maxHeartbeats 4000000 in
theorem B3_find_45 {l : Launch} {p : Program} {e : Env} {s : State} {m : MethodId} {args : Array Value} {below : List Frame} {meth : Method} {c : Code} {G : mm_G} {Q : Int32 → MS → Prop} (cx : mm_X cX3_find 3 (some .int) G p s m args meth c) : ∀ (x1 : Int32) (x2 : Int32) (t1 : Int32) (t2 : Int32) (σ : MS), w3_find_45 Q x1 x2 t1 t2 σ → mm_T p l e ({ frames := 4, cells := 0, slots := 0, locals := 160 } : Room) s m args below meth c G (mm_Qi G Q) 3 45 σ [(0, .ref (mm_o G)), (1, .int x1), (2, .int x2)] [.int t2, .int t1, .ref (mm_o G)] := by
  intro x1 x2 t1 t2 σ hw H locs ls hM hS hl
  unfold w3_find_45 at hw
  obtain ⟨hx, hb, hml, hown, hts, hr, hlk, hMK, hZ⟩ := id cx
  refine C3_isSomeBy cx hM hS hw ⟨Nat.le_of_ble_eq_true rfl, Nat.le_of_ble_eq_true rfl⟩ (Nat.le_of_ble_eq_true rfl) hl.1 ⟨Nat.zero_le _, Nat.zero_le _⟩ dX3_find_45 (fun r4 s4 H locs hw hM hS => ?_)
  refine lv_if_ne (tgt := 54) hx hb dX3_find_48 (by decide) (fun hc => ?_) (fun hc => ?_)
  · have hw := mm_in hc hw
    refine lv_aload_n hx hb dX3_find_54 rfl (lv_at hl 0 rfl) ?_
    refine C3_keepsAct cx hM hS hw ⟨Nat.le_of_ble_eq_true rfl, Nat.le_of_ble_eq_true rfl⟩ (Nat.le_of_ble_eq_true rfl) hl.1 ⟨Nat.zero_le _, Nat.zero_le _⟩ dX3_find_55 (fun s5 H locs hw hM hS => ?_)
    refine lv_aload_n hx hb dX3_find_58 rfl (lv_at hl 0 rfl) ?_
    refine lv_iload_n hx hb dX3_find_59 rfl (lv_at hl 1 rfl) ?_
    refine lv_iconst (v := (4 : Int32)) hx hb dX3_find_60 (by decide) ?_
    refine lv_iload_n hx hb dX3_find_61 rfl (lv_at hl 2 rfl) ?_
    refine lv_if_eq (tgt := 69) hx hb dX3_find_62 (by decide) (fun hc => ?_) (fun hc => ?_)
    · have hw := mm_ip hc hw
      refine lv_iconst (v := (0 : Int32)) hx hb dX3_find_69 (by decide) ?_
      exact B3_find_70 cx _ _ _ _ hw _ _ _ hM hS (lv_sub hl [0] rfl)
    · have hw := mm_in hc hw
      refine lv_iconst (v := (1 : Int32)) hx hb dX3_find_65 (by decide) ?_
      refine lv_goto (tgt := 70) hx hb dX3_find_66 (by decide) ?_
      exact B3_find_70 cx _ _ _ _ hw _ _ _ hM hS (lv_sub hl [0] rfl)
  · have hw := mm_ip hc hw
    refine lv_bipush (v := (-4 : Int32)) hx hb dX3_find_51 (by decide) ?_
    exact mm_iret cx hM hS hw dX3_find_53
def w3_find (x1 : Int32) (x2 : Int32) (σ : MS) (Q : Int32 → MS → Prop) : Prop :=
  w3_isFact x1 σ (fun r6 s6 => if r6 = 0 then (Q (-1 : Int32) s6) else (if (gA s6 4 16) = 0 then (Q (-2 : Int32) s6) else (w3_isKnown x1 s6 (fun r7 s7 => if r7 = 0 then (if x2 = 0 then (w3_find_45 Q x1 x2 x1 (0 : Int32) s7) else (w3_find_45 Q x1 x2 x1 (1 : Int32) s7)) else (Q (-3 : Int32) s7)))))
set_option maxHeartbeats 4000000 in
theorem M3_find (l : Launch) (G : mm_G) (x1 : Int32) (x2 : Int32) (σ : MS) (Q : Int32 → MS → Prop) (hw : w3_find x1 x2 σ Q) : mm_Mi l yX3_find (ws_ yX3_find cX3_find 3 (some .int)) ({ frames := 4, cells := 0, slots := 0, locals := 160 } : Room) G [.ref (mm_o G), .int x1, .int x2] σ Q := by
  refine mm_of (by decide) rfl ?_
  intro p e s m args below meth c cx hM ha
  refine mm_entry [.ref (mm_o G), .int x1, .int x2] 3 [(0, .ref (mm_o G)), (1, .int x1), (2, .int x2)] ha (Nat.le_of_ble_eq_true rfl) rfl (fun ls hl => ?_)
  have hS : va_S (mm_A G) s.heap s.heap [] := va_S.rf
  unfold w3_find at hw
  obtain ⟨hx, hb, hml, hown, hts, hr, hlk, hMK, hZ⟩ := id cx
  refine lv_aload_n hx hb dX3_find_0 rfl (lv_at hl 0 rfl) ?_
  refine lv_iload_n hx hb dX3_find_1 rfl (lv_at hl 1 rfl) ?_
  refine C3_isFact cx hM hS hw ⟨Nat.le_of_ble_eq_true rfl, Nat.le_of_ble_eq_true rfl⟩ (Nat.le_of_ble_eq_true rfl) hl.1 ⟨Nat.zero_le _, Nat.zero_le _⟩ dX3_find_2 (fun r6 s6 H locs hw hM hS => ?_)
  refine lv_if_ne (tgt := 10) hx hb dX3_find_5 (by decide) (fun hc => ?_) (fun hc => ?_)
  · have hw := mm_in hc hw
    refine lv_aload_n hx hb dX3_find_10 rfl (lv_at hl 0 rfl) ?_
    refine mg_4 cx hM dX3_find_11 ?_
    refine lv_bipush (v := (16 : Int32)) hx hb dX3_find_14 (by decide) ?_
    refine mm_iald cx hM 4 rfl (j := 16) (by decide) (vp_lit (by decide)) dX3_find_16 ?_
    refine lv_if_ne (tgt := 23) hx hb dX3_find_17 (by decide) (fun hc => ?_) (fun hc => ?_)
    · have hw := mm_in hc hw
      refine lv_aload_n hx hb dX3_find_23 rfl (lv_at hl 0 rfl) ?_
      refine lv_iload_n hx hb dX3_find_24 rfl (lv_at hl 1 rfl) ?_
      refine C3_isKnown cx hM hS hw ⟨Nat.le_of_ble_eq_true rfl, Nat.le_of_ble_eq_true rfl⟩ (Nat.le_of_ble_eq_true rfl) hl.1 ⟨Nat.zero_le _, Nat.zero_le _⟩ dX3_find_25 (fun r7 s7 H locs hw hM hS => ?_)
      refine lv_if_eq (tgt := 34) hx hb dX3_find_28 (by decide) (fun hc => ?_) (fun hc => ?_)
      · have hw := mm_ip hc hw
        refine lv_aload_n hx hb dX3_find_34 rfl (lv_at hl 0 rfl) ?_
        refine lv_iload_n hx hb dX3_find_35 rfl (lv_at hl 1 rfl) ?_
        refine lv_iload_n hx hb dX3_find_36 rfl (lv_at hl 2 rfl) ?_
        refine lv_if_eq (tgt := 44) hx hb dX3_find_37 (by decide) (fun hc => ?_) (fun hc => ?_)
        · have hw := mm_ip hc hw
          refine lv_iconst (v := (0 : Int32)) hx hb dX3_find_44 (by decide) ?_
          exact B3_find_45 cx _ _ _ _ _ hw _ _ _ hM hS (lv_sub hl [0, 1, 2] rfl)
        · have hw := mm_in hc hw
          refine lv_iconst (v := (1 : Int32)) hx hb dX3_find_40 (by decide) ?_
          refine lv_goto (tgt := 45) hx hb dX3_find_41 (by decide) ?_
          exact B3_find_45 cx _ _ _ _ _ hw _ _ _ hM hS (lv_sub hl [0, 1, 2] rfl)
      · have hw := mm_in hc hw
        refine lv_bipush (v := (-3 : Int32)) hx hb dX3_find_31 (by decide) ?_
        exact mm_iret cx hM hS hw dX3_find_33
    · have hw := mm_ip hc hw
      refine lv_bipush (v := (-2 : Int32)) hx hb dX3_find_20 (by decide) ?_
      exact mm_iret cx hM hS hw dX3_find_22
  · have hw := mm_ip hc hw
    refine lv_iconst (v := (-1 : Int32)) hx hb dX3_find_8 (by decide) ?_
    exact mm_iret cx hM hS hw dX3_find_9
-- no call of find
def w3_say_171 (Q : Int32 → MS → Prop) (x1 : Int32) (t1 : Int32) (t2 : Int32) (t3 : Int32) (t4 : Int32) (σ : MS) : Prop :=
  w3_puts t1 t2 (t3 ||| t4) σ (fun s1 => w3_its x1 (4 : Int32) s1 (fun r2 s2 => w3_bits r2 s2 (fun r3 s3 => Q r3 s3)))
set_option maxHeartbeats 4000000 in
theorem B3_say_171 {l : Launch} {p : Program} {e : Env} {s : State} {m : MethodId} {args : Array Value} {below : List Frame} {meth : Method} {c : Code} {G : mm_G} {Q : Int32 → MS → Prop} (cx : mm_X cX3_say 6 (some .int) G p s m args meth c) : ∀ (x1 : Int32) (t1 : Int32) (t2 : Int32) (t3 : Int32) (t4 : Int32) (σ : MS), w3_say_171 Q x1 t1 t2 t3 t4 σ → mm_T p l e ({ frames := 2, cells := 0, slots := 0, locals := 80 } : Room) s m args below meth c G (mm_Qi G Q) 6 171 σ [(0, .ref (mm_o G)), (1, .int x1)] [.int t4, .int t3, .int t2, .int t1, .ref (mm_o G)] := by
  intro x1 t1 t2 t3 t4 σ hw H locs ls hM hS hl
  unfold w3_say_171 at hw
  obtain ⟨hx, hb, hml, hown, hts, hr, hlk, hMK, hZ⟩ := id cx
  refine lv_ior hx hb dX3_say_171 ?_
  refine C3_puts cx hM hS hw ⟨Nat.le_of_ble_eq_true rfl, Nat.le_of_ble_eq_true rfl⟩ (Nat.le_of_ble_eq_true rfl) hl.1 ⟨Nat.zero_le _, Nat.zero_le _⟩ dX3_say_172 (fun s1 H locs hw hM hS => ?_)
  refine lv_aload_n hx hb dX3_say_175 rfl (lv_at hl 0 rfl) ?_
  refine lv_iload_n hx hb dX3_say_176 rfl (lv_at hl 1 rfl) ?_
  refine lv_iconst (v := (4 : Int32)) hx hb dX3_say_177 (by decide) ?_
  refine C3_its cx hM hS hw ⟨Nat.le_of_ble_eq_true rfl, Nat.le_of_ble_eq_true rfl⟩ (Nat.le_of_ble_eq_true rfl) hl.1 ⟨Nat.zero_le _, Nat.zero_le _⟩ dX3_say_178 (fun r2 s2 H locs hw hM hS => ?_)
  refine C3_bits cx hM hS hw ⟨Nat.le_of_ble_eq_true rfl, Nat.le_of_ble_eq_true rfl⟩ (Nat.le_of_ble_eq_true rfl) hl.1 ⟨Nat.zero_le _, Nat.zero_le _⟩ dX3_say_181 (fun r3 s3 H locs hw hM hS => ?_)
  exact mm_iret cx hM hS hw dX3_say_184
def w3_say_143 (Q : Int32 → MS → Prop) (x1 : Int32) (x2 : Int32) (x3 : Int32) (x5 : Int32) (t1 : Int32) (t2 : Int32) (t3 : Int32) (t4 : Int32) (σ : MS) : Prop :=
  w3_puts t1 t2 (t3 ||| t4) σ (fun s4 => w3_its x1 (5 : Int32) s4 (fun r5 s5 => if x3 = (1 : Int32) then (w3_say_171 Q x1 x1 (5 : Int32) (r5 &&& x5) ((1 : Int32) <<< (x2 &&& 31)) s5) else (w3_say_171 Q x1 x1 (5 : Int32) (r5 &&& x5) (0 : Int32) s5)))
set_option maxHeartbeats 4000000 in
theorem B3_say_143 {l : Launch} {p : Program} {e : Env} {s : State} {m : MethodId} {args : Array Value} {below : List Frame} {meth : Method} {c : Code} {G : mm_G} {Q : Int32 → MS → Prop} (cx : mm_X cX3_say 6 (some .int) G p s m args meth c) : ∀ (x1 : Int32) (x2 : Int32) (x3 : Int32) (x5 : Int32) (t1 : Int32) (t2 : Int32) (t3 : Int32) (t4 : Int32) (σ : MS), w3_say_143 Q x1 x2 x3 x5 t1 t2 t3 t4 σ → mm_T p l e ({ frames := 2, cells := 0, slots := 0, locals := 80 } : Room) s m args below meth c G (mm_Qi G Q) 6 143 σ [(0, .ref (mm_o G)), (1, .int x1), (2, .int x2), (3, .int x3), (5, .int x5)] [.int t4, .int t3, .int t2, .int t1, .ref (mm_o G)] := by
  intro x1 x2 x3 x5 t1 t2 t3 t4 σ hw H locs ls hM hS hl
  unfold w3_say_143 at hw
  obtain ⟨hx, hb, hml, hown, hts, hr, hlk, hMK, hZ⟩ := id cx
  refine lv_ior hx hb dX3_say_143 ?_
  refine C3_puts cx hM hS hw ⟨Nat.le_of_ble_eq_true rfl, Nat.le_of_ble_eq_true rfl⟩ (Nat.le_of_ble_eq_true rfl) hl.1 ⟨Nat.zero_le _, Nat.zero_le _⟩ dX3_say_144 (fun s4 H locs hw hM hS => ?_)
  refine lv_aload_n hx hb dX3_say_147 rfl (lv_at hl 0 rfl) ?_
  refine lv_iload_n hx hb dX3_say_148 rfl (lv_at hl 1 rfl) ?_
  refine lv_iconst (v := (5 : Int32)) hx hb dX3_say_149 (by decide) ?_
  refine lv_aload_n hx hb dX3_say_150 rfl (lv_at hl 0 rfl) ?_
  refine lv_iload_n hx hb dX3_say_151 rfl (lv_at hl 1 rfl) ?_
  refine lv_iconst (v := (5 : Int32)) hx hb dX3_say_152 (by decide) ?_
  refine C3_its cx hM hS hw ⟨Nat.le_of_ble_eq_true rfl, Nat.le_of_ble_eq_true rfl⟩ (Nat.le_of_ble_eq_true rfl) hl.1 ⟨Nat.zero_le _, Nat.zero_le _⟩ dX3_say_153 (fun r5 s5 H locs hw hM hS => ?_)
  refine lv_iload hx hb dX3_say_156 (lv_at hl 4 rfl) ?_
  refine lv_iand hx hb dX3_say_158 ?_
  refine lv_iload_n hx hb dX3_say_159 rfl (lv_at hl 3 rfl) ?_
  refine lv_iconst (v := (1 : Int32)) hx hb dX3_say_160 (by decide) ?_
  refine lv_icmp_ne (tgt := 170) hx hb dX3_say_161 (by decide) (fun hc => ?_) (fun hc => ?_)
  · have hw := mm_in hc hw
    refine lv_iconst (v := (0 : Int32)) hx hb dX3_say_170 (by decide) ?_
    exact B3_say_171 cx _ _ _ _ _ _ hw _ _ _ hM hS (lv_sub hl [0, 1] rfl)
  · have hw := mm_ip hc hw
    refine lv_iconst (v := (1 : Int32)) hx hb dX3_say_164 (by decide) ?_
    refine lv_iload_n hx hb dX3_say_165 rfl (lv_at hl 2 rfl) ?_
    refine lv_ishl hx hb dX3_say_166 ?_
    refine lv_goto (tgt := 171) hx hb dX3_say_167 (by decide) ?_
    exact B3_say_171 cx _ _ _ _ _ _ hw _ _ _ hM hS (lv_sub hl [0, 1] rfl)
def w3_say_108 (Q : Int32 → MS → Prop) (x1 : Int32) (x2 : Int32) (x3 : Int32) (σ : MS) : Prop :=
  w3_keepsAct σ (fun s6 => ∀ v7 : Int32, v7 = (((1 : Int32) <<< (x2 &&& 31)) ^^^ (-1 : Int32)) → w3_its x1 (4 : Int32) s6 (fun r8 s8 => if (2 : Int32) ≤ x3 then (w3_say_143 Q x1 x2 x3 v7 x1 (4 : Int32) (r8 &&& v7) (0 : Int32) s8) else (w3_say_143 Q x1 x2 x3 v7 x1 (4 : Int32) (r8 &&& v7) ((1 : Int32) <<< (x2 &&& 31)) s8)))
set_option maxHeartbeats 4000000 in
theorem B3_say_108 {l : Launch} {p : Program} {e : Env} {s : State} {m : MethodId} {args : Array Value} {below : List Frame} {meth : Method} {c : Code} {G : mm_G} {Q : Int32 → MS → Prop} (cx : mm_X cX3_say 6 (some .int) G p s m args meth c) : ∀ (x1 : Int32) (x2 : Int32) (x3 : Int32) (σ : MS), w3_say_108 Q x1 x2 x3 σ → mm_T p l e ({ frames := 2, cells := 0, slots := 0, locals := 80 } : Room) s m args below meth c G (mm_Qi G Q) 6 108 σ [(0, .ref (mm_o G)), (1, .int x1), (2, .int x2), (3, .int x3)] [] := by
  intro x1 x2 x3 σ hw H locs ls hM hS hl
  unfold w3_say_108 at hw
  obtain ⟨hx, hb, hml, hown, hts, hr, hlk, hMK, hZ⟩ := id cx
  refine lv_aload_n hx hb dX3_say_108 rfl (lv_at hl 0 rfl) ?_
  refine C3_keepsAct cx hM hS hw ⟨Nat.le_of_ble_eq_true rfl, Nat.le_of_ble_eq_true rfl⟩ (Nat.le_of_ble_eq_true rfl) hl.1 ⟨Nat.zero_le _, Nat.zero_le _⟩ dX3_say_109 (fun s6 H locs hw hM hS => ?_)
  refine lv_iconst (v := (1 : Int32)) hx hb dX3_say_112 (by decide) ?_
  refine lv_iload_n hx hb dX3_say_113 rfl (lv_at hl 2 rfl) ?_
  refine lv_ishl hx hb dX3_say_114 ?_
  refine lv_iconst (v := (-1 : Int32)) hx hb dX3_say_115 (by decide) ?_
  refine lv_ixor hx hb dX3_say_116 ?_
  refine lv_topi (fun v7 hv7 => ?_)
  have hw := hw v7 hv7
  refine lv_istore (lv' := [(5, .int v7), (0, .ref (mm_o G)), (1, .int x1), (2, .int x2), (3, .int x3)]) hx hb dX3_say_117 hl (by decide) rfl (fun ls hl => ?_)
  refine lv_aload_n hx hb dX3_say_119 rfl (lv_at hl 1 rfl) ?_
  refine lv_iload_n hx hb dX3_say_120 rfl (lv_at hl 2 rfl) ?_
  refine lv_iconst (v := (4 : Int32)) hx hb dX3_say_121 (by decide) ?_
  refine lv_aload_n hx hb dX3_say_122 rfl (lv_at hl 1 rfl) ?_
  refine lv_iload_n hx hb dX3_say_123 rfl (lv_at hl 2 rfl) ?_
  refine lv_iconst (v := (4 : Int32)) hx hb dX3_say_124 (by decide) ?_
  refine C3_its cx hM hS hw ⟨Nat.le_of_ble_eq_true rfl, Nat.le_of_ble_eq_true rfl⟩ (Nat.le_of_ble_eq_true rfl) hl.1 ⟨Nat.zero_le _, Nat.zero_le _⟩ dX3_say_125 (fun r8 s8 H locs hw hM hS => ?_)
  refine lv_iload hx hb dX3_say_128 (lv_at hl 0 rfl) ?_
  refine lv_iand hx hb dX3_say_130 ?_
  refine lv_iload_n hx hb dX3_say_131 rfl (lv_at hl 4 rfl) ?_
  refine lv_iconst (v := (2 : Int32)) hx hb dX3_say_132 (by decide) ?_
  refine lv_icmp_ge (tgt := 142) hx hb dX3_say_133 (by decide) (fun hc => ?_) (fun hc => ?_)
  · have hw := mm_ip hc hw
    refine lv_iconst (v := (0 : Int32)) hx hb dX3_say_142 (by decide) ?_
    exact B3_say_143 cx _ _ _ _ _ _ _ _ _ hw _ _ _ hM hS (lv_sub hl [1, 2, 3, 4, 0] rfl)
  · have hw := mm_in hc hw
    refine lv_iconst (v := (1 : Int32)) hx hb dX3_say_136 (by decide) ?_
    refine lv_iload_n hx hb dX3_say_137 rfl (lv_at hl 3 rfl) ?_
    refine lv_ishl hx hb dX3_say_138 ?_
    refine lv_goto (tgt := 143) hx hb dX3_say_139 (by decide) ?_
    exact B3_say_143 cx _ _ _ _ _ _ _ _ _ hw _ _ _ hM hS (lv_sub hl [1, 2, 3, 4, 0] rfl)
def w3_say_68 (Q : Int32 → MS → Prop) (x1 : Int32) (x2 : Int32) (x3 : Int32) (t0 : Int32) (σ : MS) : Prop :=
  if t0 = x3 then (Q (-3 : Int32) σ) else (if (2 : Int32) ≤ x3 then (w3_say_108 Q x1 x2 x3 σ) else (w3_isKnown x2 σ (fun r9 s9 => if r9 = 0 then (w3_say_108 Q x1 x2 x3 s9) else (vp_in ((8 : Int32) + x2) 83 ∧ (if (gA s9 4 ((8 : Int32) + x2).toNatClampNeg) = x3 then (w3_say_108 Q x1 x2 x3 s9) else (Q (-4 : Int32) s9))))))
set_option maxHeartbeats 4000000 in
theorem B3_say_68 {l : Launch} {p : Program} {e : Env} {s : State} {m : MethodId} {args : Array Value} {below : List Frame} {meth : Method} {c : Code} {G : mm_G} {Q : Int32 → MS → Prop} (cx : mm_X cX3_say 6 (some .int) G p s m args meth c) : ∀ (x1 : Int32) (x2 : Int32) (x3 : Int32) (t0 : Int32) (σ : MS), w3_say_68 Q x1 x2 x3 t0 σ → mm_T p l e ({ frames := 2, cells := 0, slots := 0, locals := 80 } : Room) s m args below meth c G (mm_Qi G Q) 6 68 σ [(0, .ref (mm_o G)), (1, .int x1), (2, .int x2), (3, .int x3)] [.int t0] := by
  intro x1 x2 x3 t0 σ hw H locs ls hM hS hl
  unfold w3_say_68 at hw
  obtain ⟨hx, hb, hml, hown, hts, hr, hlk, hMK, hZ⟩ := id cx
  refine lv_istore (lv' := [(4, .int t0), (0, .ref (mm_o G)), (1, .int x1), (2, .int x2), (3, .int x3)]) hx hb dX3_say_68 hl (by decide) rfl (fun ls hl => ?_)
  refine lv_iload hx hb dX3_say_70 (lv_at hl 0 rfl) ?_
  refine lv_iload_n hx hb dX3_say_72 rfl (lv_at hl 4 rfl) ?_
  refine lv_icmp_ne (tgt := 79) hx hb dX3_say_73 (by decide) (fun hc => ?_) (fun hc => ?_)
  · have hw := mm_in hc hw
    refine lv_iload_n hx hb dX3_say_79 rfl (lv_at hl 4 rfl) ?_
    refine lv_iconst (v := (2 : Int32)) hx hb dX3_say_80 (by decide) ?_
    refine lv_icmp_ge (tgt := 108) hx hb dX3_say_81 (by decide) (fun hc => ?_) (fun hc => ?_)
    · have hw := mm_ip hc hw
      exact B3_say_108 cx _ _ _ _ hw _ _ _ hM hS (lv_sub hl [1, 2, 3, 4] rfl)
    · have hw := mm_in hc hw
      refine lv_aload_n hx hb dX3_say_84 rfl (lv_at hl 1 rfl) ?_
      refine lv_iload_n hx hb dX3_say_85 rfl (lv_at hl 3 rfl) ?_
      refine C3_isKnown cx hM hS hw ⟨Nat.le_of_ble_eq_true rfl, Nat.le_of_ble_eq_true rfl⟩ (Nat.le_of_ble_eq_true rfl) hl.1 ⟨Nat.zero_le _, Nat.zero_le _⟩ dX3_say_86 (fun r9 s9 H locs hw hM hS => ?_)
      refine lv_if_eq (tgt := 108) hx hb dX3_say_89 (by decide) (fun hc => ?_) (fun hc => ?_)
      · have hw := mm_ip hc hw
        exact B3_say_108 cx _ _ _ _ hw _ _ _ hM hS (lv_sub hl [1, 2, 3, 4] rfl)
      · have hw := mm_in hc hw
        refine lv_aload_n hx hb dX3_say_92 rfl (lv_at hl 1 rfl) ?_
        refine mg_4 cx hM dX3_say_93 ?_
        refine lv_bipush (v := (8 : Int32)) hx hb dX3_say_96 (by decide) ?_
        refine lv_iload_n hx hb dX3_say_98 rfl (lv_at hl 3 rfl) ?_
        refine lv_iadd hx hb dX3_say_99 ?_
        obtain ⟨hi, hw⟩ := hw
        refine mm_iald cx hM 4 rfl rfl hi dX3_say_100 ?_
        refine lv_iload_n hx hb dX3_say_101 rfl (lv_at hl 4 rfl) ?_
        refine lv_icmp_eq (tgt := 108) hx hb dX3_say_102 (by decide) (fun hc => ?_) (fun hc => ?_)
        · have hw := mm_ip hc hw
          exact B3_say_108 cx _ _ _ _ hw _ _ _ hM hS (lv_sub hl [1, 2, 3, 4] rfl)
        · have hw := mm_in hc hw
          refine lv_bipush (v := (-4 : Int32)) hx hb dX3_say_105 (by decide) ?_
          exact mm_iret cx hM hS hw dX3_say_107
  · have hw := mm_ip hc hw
    refine lv_bipush (v := (-3 : Int32)) hx hb dX3_say_76 (by decide) ?_
    exact mm_iret cx hM hS hw dX3_say_78
def w3_say (x1 : Int32) (x2 : Int32) (x3 : Int32) (σ : MS) (Q : Int32 → MS → Prop) : Prop :=
  w3_isCount x1 σ (fun r10 s10 => if r10 = 0 then (Q (-1 : Int32) s10) else (w3_isFact x2 s10 (fun r11 s11 => if r11 = 0 then (Q (-1 : Int32) s11) else (w3_in x3 (0 : Int32) (2 : Int32) s11 (fun r12 s12 => if r12 = 0 then (Q (-1 : Int32) s12) else (w3_its x1 (6 : Int32) s12 (fun r13 s13 => if r13 = (1 : Int32) then (Q (-2 : Int32) s13) else (w3_its x1 (4 : Int32) s13 (fun r14 s14 => w3_has r14 x2 s14 (fun r15 s15 => if r15 = 0 then (w3_say_68 Q x1 x2 x3 (2 : Int32) s15) else (w3_its x1 (5 : Int32) s15 (fun r16 s16 => w3_say_68 Q x1 x2 x3 ((r16 >>> (x2 &&& 31)) &&& (1 : Int32)) s16))))))))))))
set_option maxHeartbeats 4000000 in
theorem M3_say (l : Launch) (G : mm_G) (x1 : Int32) (x2 : Int32) (x3 : Int32) (σ : MS) (Q : Int32 → MS → Prop) (hw : w3_say x1 x2 x3 σ Q) : mm_Mi l yX3_say (ws_ yX3_say cX3_say 6 (some .int)) ({ frames := 2, cells := 0, slots := 0, locals := 80 } : Room) G [.ref (mm_o G), .int x1, .int x2, .int x3] σ Q := by
  refine mm_of (by decide) rfl ?_
  intro p e s m args below meth c cx hM ha
  refine mm_entry [.ref (mm_o G), .int x1, .int x2, .int x3] 6 [(0, .ref (mm_o G)), (1, .int x1), (2, .int x2), (3, .int x3)] ha (Nat.le_of_ble_eq_true rfl) rfl (fun ls hl => ?_)
  have hS : va_S (mm_A G) s.heap s.heap [] := va_S.rf
  unfold w3_say at hw
  obtain ⟨hx, hb, hml, hown, hts, hr, hlk, hMK, hZ⟩ := id cx
  refine lv_aload_n hx hb dX3_say_0 rfl (lv_at hl 0 rfl) ?_
  refine lv_iload_n hx hb dX3_say_1 rfl (lv_at hl 1 rfl) ?_
  refine C3_isCount cx hM hS hw ⟨Nat.le_of_ble_eq_true rfl, Nat.le_of_ble_eq_true rfl⟩ (Nat.le_of_ble_eq_true rfl) hl.1 ⟨Nat.zero_le _, Nat.zero_le _⟩ dX3_say_2 (fun r10 s10 H locs hw hM hS => ?_)
  refine lv_if_eq (tgt := 25) hx hb dX3_say_5 (by decide) (fun hc => ?_) (fun hc => ?_)
  · have hw := mm_ip hc hw
    refine lv_iconst (v := (-1 : Int32)) hx hb dX3_say_25 (by decide) ?_
    exact mm_iret cx hM hS hw dX3_say_26
  · have hw := mm_in hc hw
    refine lv_aload_n hx hb dX3_say_8 rfl (lv_at hl 0 rfl) ?_
    refine lv_iload_n hx hb dX3_say_9 rfl (lv_at hl 2 rfl) ?_
    refine C3_isFact cx hM hS hw ⟨Nat.le_of_ble_eq_true rfl, Nat.le_of_ble_eq_true rfl⟩ (Nat.le_of_ble_eq_true rfl) hl.1 ⟨Nat.zero_le _, Nat.zero_le _⟩ dX3_say_10 (fun r11 s11 H locs hw hM hS => ?_)
    refine lv_if_eq (tgt := 25) hx hb dX3_say_13 (by decide) (fun hc => ?_) (fun hc => ?_)
    · have hw := mm_ip hc hw
      refine lv_iconst (v := (-1 : Int32)) hx hb dX3_say_25 (by decide) ?_
      exact mm_iret cx hM hS hw dX3_say_26
    · have hw := mm_in hc hw
      refine lv_iload_n hx hb dX3_say_16 rfl (lv_at hl 3 rfl) ?_
      refine lv_iconst (v := (0 : Int32)) hx hb dX3_say_17 (by decide) ?_
      refine lv_iconst (v := (2 : Int32)) hx hb dX3_say_18 (by decide) ?_
      refine C3_in cx hM hS hw ⟨Nat.le_of_ble_eq_true rfl, Nat.le_of_ble_eq_true rfl⟩ (Nat.le_of_ble_eq_true rfl) hl.1 ⟨Nat.zero_le _, Nat.zero_le _⟩ dX3_say_19 (fun r12 s12 H locs hw hM hS => ?_)
      refine lv_if_ne (tgt := 27) hx hb dX3_say_22 (by decide) (fun hc => ?_) (fun hc => ?_)
      · have hw := mm_in hc hw
        refine lv_aload_n hx hb dX3_say_27 rfl (lv_at hl 0 rfl) ?_
        refine lv_iload_n hx hb dX3_say_28 rfl (lv_at hl 1 rfl) ?_
        refine lv_bipush (v := (6 : Int32)) hx hb dX3_say_29 (by decide) ?_
        refine C3_its cx hM hS hw ⟨Nat.le_of_ble_eq_true rfl, Nat.le_of_ble_eq_true rfl⟩ (Nat.le_of_ble_eq_true rfl) hl.1 ⟨Nat.zero_le _, Nat.zero_le _⟩ dX3_say_31 (fun r13 s13 H locs hw hM hS => ?_)
        refine lv_iconst (v := (1 : Int32)) hx hb dX3_say_34 (by decide) ?_
        refine lv_icmp_ne (tgt := 41) hx hb dX3_say_35 (by decide) (fun hc => ?_) (fun hc => ?_)
        · have hw := mm_in hc hw
          refine lv_aload_n hx hb dX3_say_41 rfl (lv_at hl 0 rfl) ?_
          refine lv_iload_n hx hb dX3_say_42 rfl (lv_at hl 1 rfl) ?_
          refine lv_iconst (v := (4 : Int32)) hx hb dX3_say_43 (by decide) ?_
          refine C3_its cx hM hS hw ⟨Nat.le_of_ble_eq_true rfl, Nat.le_of_ble_eq_true rfl⟩ (Nat.le_of_ble_eq_true rfl) hl.1 ⟨Nat.zero_le _, Nat.zero_le _⟩ dX3_say_44 (fun r14 s14 H locs hw hM hS => ?_)
          refine lv_iload_n hx hb dX3_say_47 rfl (lv_at hl 2 rfl) ?_
          refine C3_has cx hM hS hw ⟨Nat.le_of_ble_eq_true rfl, Nat.le_of_ble_eq_true rfl⟩ (Nat.le_of_ble_eq_true rfl) hl.1 ⟨Nat.zero_le _, Nat.zero_le _⟩ dX3_say_48 (fun r15 s15 H locs hw hM hS => ?_)
          refine lv_if_ne (tgt := 58) hx hb dX3_say_51 (by decide) (fun hc => ?_) (fun hc => ?_)
          · have hw := mm_in hc hw
            refine lv_aload_n hx hb dX3_say_58 rfl (lv_at hl 0 rfl) ?_
            refine lv_iload_n hx hb dX3_say_59 rfl (lv_at hl 1 rfl) ?_
            refine lv_iconst (v := (5 : Int32)) hx hb dX3_say_60 (by decide) ?_
            refine C3_its cx hM hS hw ⟨Nat.le_of_ble_eq_true rfl, Nat.le_of_ble_eq_true rfl⟩ (Nat.le_of_ble_eq_true rfl) hl.1 ⟨Nat.zero_le _, Nat.zero_le _⟩ dX3_say_61 (fun r16 s16 H locs hw hM hS => ?_)
            refine lv_iload_n hx hb dX3_say_64 rfl (lv_at hl 2 rfl) ?_
            refine lv_ishr hx hb dX3_say_65 ?_
            refine lv_iconst (v := (1 : Int32)) hx hb dX3_say_66 (by decide) ?_
            refine lv_iand hx hb dX3_say_67 ?_
            exact B3_say_68 cx _ _ _ _ _ hw _ _ _ hM hS (lv_sub hl [0, 1, 2, 3] rfl)
          · have hw := mm_ip hc hw
            refine lv_iconst (v := (2 : Int32)) hx hb dX3_say_54 (by decide) ?_
            refine lv_goto (tgt := 68) hx hb dX3_say_55 (by decide) ?_
            exact B3_say_68 cx _ _ _ _ _ hw _ _ _ hM hS (lv_sub hl [0, 1, 2, 3] rfl)
        · have hw := mm_ip hc hw
          refine lv_bipush (v := (-2 : Int32)) hx hb dX3_say_38 (by decide) ?_
          exact mm_iret cx hM hS hw dX3_say_40
      · have hw := mm_ip hc hw
        refine lv_iconst (v := (-1 : Int32)) hx hb dX3_say_25 (by decide) ?_
        exact mm_iret cx hM hS hw dX3_say_26
-- no call of say
def w3_add_74 (Q : Int32 → MS → Prop) (K74 : Int32 → Int32 → Int32 → Int32 → Int32 → MS → Prop) (x1 : Int32) (x2 : Int32) (x3 : Int32) (x4 : Int32) (x5 : Int32) (σ : MS) : Prop :=
  if (8 : Int32) ≤ x5 then (w3_its x1 (0 : Int32) σ (fun r1 s1 => w3_puts x4 (0 : Int32) r1 s1 (fun s2 => w3_puts x4 (1 : Int32) (gA s2 4 17) s2 (fun s3 => w3_puts x4 (2 : Int32) x2 s3 (fun s4 => w3_puts x4 (3 : Int32) x3 s4 (fun s5 => w3_puts x4 (7 : Int32) x1 s5 (fun s6 => Q x4 s6))))))) else (w3_puts x4 x5 (0 : Int32) σ (fun s7 => ∀ v8 : Int32, v8 = x5 + (1 : Int32) → K74 x1 x2 x3 x4 v8 s7))
set_option maxHeartbeats 4000000 in
theorem B3_add_74 {l : Launch} {p : Program} {e : Env} {s : State} {m : MethodId} {args : Array Value} {below : List Frame} {meth : Method} {c : Code} {G : mm_G} {Q : Int32 → MS → Prop} {K74 : Int32 → Int32 → Int32 → Int32 → Int32 → MS → Prop} (cx : mm_X cX3_add 6 (some .int) G p s m args meth c) (hK74 : ∀ (x1 : Int32) (x2 : Int32) (x3 : Int32) (x4 : Int32) (x5 : Int32) (σ : MS), K74 x1 x2 x3 x4 x5 σ → mm_T p l e ({ frames := 2, cells := 0, slots := 0, locals := 80 } : Room) s m args below meth c G (mm_Qi G Q) 6 74 σ [(0, .ref (mm_o G)), (1, .int x1), (2, .int x2), (3, .int x3), (4, .int x4), (5, .int x5)] []) : ∀ (x1 : Int32) (x2 : Int32) (x3 : Int32) (x4 : Int32) (x5 : Int32) (σ : MS), w3_add_74 Q K74 x1 x2 x3 x4 x5 σ → mm_T p l e ({ frames := 2, cells := 0, slots := 0, locals := 80 } : Room) s m args below meth c G (mm_Qi G Q) 6 74 σ [(0, .ref (mm_o G)), (1, .int x1), (2, .int x2), (3, .int x3), (4, .int x4), (5, .int x5)] [] := by
  intro x1 x2 x3 x4 x5 σ hw H locs ls hM hS hl
  unfold w3_add_74 at hw
  obtain ⟨hx, hb, hml, hown, hts, hr, hlk, hMK, hZ⟩ := id cx
  refine lv_iload hx hb dX3_add_74 (lv_at hl 5 rfl) ?_
  refine lv_bipush (v := (8 : Int32)) hx hb dX3_add_76 (by decide) ?_
  refine lv_icmp_ge (tgt := 96) hx hb dX3_add_78 (by decide) (fun hc => ?_) (fun hc => ?_)
  · have hw := mm_ip hc hw
    refine lv_aload_n hx hb dX3_add_96 rfl (lv_at hl 0 rfl) ?_
    refine lv_iload hx hb dX3_add_97 (lv_at hl 4 rfl) ?_
    refine lv_iconst (v := (0 : Int32)) hx hb dX3_add_99 (by decide) ?_
    refine lv_aload_n hx hb dX3_add_100 rfl (lv_at hl 0 rfl) ?_
    refine lv_iload_n hx hb dX3_add_101 rfl (lv_at hl 1 rfl) ?_
    refine lv_iconst (v := (0 : Int32)) hx hb dX3_add_102 (by decide) ?_
    refine C3_its cx hM hS hw ⟨Nat.le_of_ble_eq_true rfl, Nat.le_of_ble_eq_true rfl⟩ (Nat.le_of_ble_eq_true rfl) hl.1 ⟨Nat.zero_le _, Nat.zero_le _⟩ dX3_add_103 (fun r1 s1 H locs hw hM hS => ?_)
    refine C3_puts cx hM hS hw ⟨Nat.le_of_ble_eq_true rfl, Nat.le_of_ble_eq_true rfl⟩ (Nat.le_of_ble_eq_true rfl) hl.1 ⟨Nat.zero_le _, Nat.zero_le _⟩ dX3_add_106 (fun s2 H locs hw hM hS => ?_)
    refine lv_aload_n hx hb dX3_add_109 rfl (lv_at hl 0 rfl) ?_
    refine lv_iload hx hb dX3_add_110 (lv_at hl 4 rfl) ?_
    refine lv_iconst (v := (1 : Int32)) hx hb dX3_add_112 (by decide) ?_
    refine lv_aload_n hx hb dX3_add_113 rfl (lv_at hl 0 rfl) ?_
    refine mg_4 cx hM dX3_add_114 ?_
    refine lv_bipush (v := (17 : Int32)) hx hb dX3_add_117 (by decide) ?_
    refine mm_iald cx hM 4 rfl (j := 17) (by decide) (vp_lit (by decide)) dX3_add_119 ?_
    refine C3_puts cx hM hS hw ⟨Nat.le_of_ble_eq_true rfl, Nat.le_of_ble_eq_true rfl⟩ (Nat.le_of_ble_eq_true rfl) hl.1 ⟨Nat.zero_le _, Nat.zero_le _⟩ dX3_add_120 (fun s3 H locs hw hM hS => ?_)
    refine lv_aload_n hx hb dX3_add_123 rfl (lv_at hl 0 rfl) ?_
    refine lv_iload hx hb dX3_add_124 (lv_at hl 4 rfl) ?_
    refine lv_iconst (v := (2 : Int32)) hx hb dX3_add_126 (by decide) ?_
    refine lv_iload_n hx hb dX3_add_127 rfl (lv_at hl 2 rfl) ?_
    refine C3_puts cx hM hS hw ⟨Nat.le_of_ble_eq_true rfl, Nat.le_of_ble_eq_true rfl⟩ (Nat.le_of_ble_eq_true rfl) hl.1 ⟨Nat.zero_le _, Nat.zero_le _⟩ dX3_add_128 (fun s4 H locs hw hM hS => ?_)
    refine lv_aload_n hx hb dX3_add_131 rfl (lv_at hl 0 rfl) ?_
    refine lv_iload hx hb dX3_add_132 (lv_at hl 4 rfl) ?_
    refine lv_iconst (v := (3 : Int32)) hx hb dX3_add_134 (by decide) ?_
    refine lv_iload_n hx hb dX3_add_135 rfl (lv_at hl 3 rfl) ?_
    refine C3_puts cx hM hS hw ⟨Nat.le_of_ble_eq_true rfl, Nat.le_of_ble_eq_true rfl⟩ (Nat.le_of_ble_eq_true rfl) hl.1 ⟨Nat.zero_le _, Nat.zero_le _⟩ dX3_add_136 (fun s5 H locs hw hM hS => ?_)
    refine lv_aload_n hx hb dX3_add_139 rfl (lv_at hl 0 rfl) ?_
    refine lv_iload hx hb dX3_add_140 (lv_at hl 4 rfl) ?_
    refine lv_bipush (v := (7 : Int32)) hx hb dX3_add_142 (by decide) ?_
    refine lv_iload_n hx hb dX3_add_144 rfl (lv_at hl 1 rfl) ?_
    refine C3_puts cx hM hS hw ⟨Nat.le_of_ble_eq_true rfl, Nat.le_of_ble_eq_true rfl⟩ (Nat.le_of_ble_eq_true rfl) hl.1 ⟨Nat.zero_le _, Nat.zero_le _⟩ dX3_add_145 (fun s6 H locs hw hM hS => ?_)
    refine lv_iload hx hb dX3_add_148 (lv_at hl 4 rfl) ?_
    exact mm_iret cx hM hS hw dX3_add_150
  · have hw := mm_in hc hw
    refine lv_aload_n hx hb dX3_add_81 rfl (lv_at hl 0 rfl) ?_
    refine lv_iload hx hb dX3_add_82 (lv_at hl 4 rfl) ?_
    refine lv_iload hx hb dX3_add_84 (lv_at hl 5 rfl) ?_
    refine lv_iconst (v := (0 : Int32)) hx hb dX3_add_86 (by decide) ?_
    refine C3_puts cx hM hS hw ⟨Nat.le_of_ble_eq_true rfl, Nat.le_of_ble_eq_true rfl⟩ (Nat.le_of_ble_eq_true rfl) hl.1 ⟨Nat.zero_le _, Nat.zero_le _⟩ dX3_add_87 (fun s7 H locs hw hM hS => ?_)
    obtain ⟨v8, hv8⟩ : ∃ v : Int32, v = x5 + (1 : Int32) := ⟨_, rfl⟩
    have hw := hw v8 hv8
    refine lv_iinc (v := v8) (lv' := [(5, .int v8), (0, .ref (mm_o G)), (1, .int x1), (2, .int x2), (3, .int x3), (4, .int x4)]) hx hb dX3_add_90 hl (k := 5) rfl (by rw [hv8]; rfl) (by decide) rfl (fun ls hl => ?_)
    refine lv_goto (tgt := 74) hx hb dX3_add_93 (by decide) ?_
    exact hK74 _ _ _ _ _ _ hw _ _ _ hM hS (lv_sub hl [1, 2, 3, 4, 5, 0] rfl)
theorem L3_add_74 {l : Launch} {p : Program} {e : Env} {s : State} {m : MethodId} {args : Array Value} {below : List Frame} {meth : Method} {c : Code} {G : mm_G} {Q : Int32 → MS → Prop} (cx : mm_X cX3_add 6 (some .int) G p s m args meth c) : ∀ (x1 : Int32) (x2 : Int32) (x3 : Int32) (x4 : Int32) (x5 : Int32) (σ : MS), lp6F (w3_add_74 Q) x1 x2 x3 x4 x5 σ → mm_T p l e ({ frames := 2, cells := 0, slots := 0, locals := 80 } : Room) s m args below meth c G (mm_Qi G Q) 6 74 σ [(0, .ref (mm_o G)), (1, .int x1), (2, .int x2), (3, .int x3), (4, .int x4), (5, .int x5)] [] :=
  lp6F_of (fun K hK => B3_add_74 cx hK)
def w3_add (x1 : Int32) (x2 : Int32) (x3 : Int32) (σ : MS) (Q : Int32 → MS → Prop) : Prop :=
  w3_isCount x1 σ (fun r9 s9 => if r9 = 0 then (Q (-1 : Int32) s9) else (w3_in x2 (0 : Int32) (999 : Int32) s9 (fun r10 s10 => if r10 = 0 then (Q (-1 : Int32) s10) else (w3_in x3 (0 : Int32) (999 : Int32) s10 (fun r11 s11 => if r11 = 0 then (Q (-1 : Int32) s11) else (if (gA s11 4 18) = (8 : Int32) then (Q (-2 : Int32) s11) else (w3_keepsAct s11 (fun s12 => ∀ v13 : Int32, v13 = (gA s12 4 18) → lp6F (w3_add_74 Q) x1 x2 x3 v13 (0 : Int32) (sA s12 4 18 ((gA s12 4 18) + (1 : Int32)))))))))))
set_option maxHeartbeats 4000000 in
theorem M3_add (l : Launch) (G : mm_G) (x1 : Int32) (x2 : Int32) (x3 : Int32) (σ : MS) (Q : Int32 → MS → Prop) (hw : w3_add x1 x2 x3 σ Q) : mm_Mi l yX3_add (ws_ yX3_add cX3_add 6 (some .int)) ({ frames := 2, cells := 0, slots := 0, locals := 80 } : Room) G [.ref (mm_o G), .int x1, .int x2, .int x3] σ Q := by
  refine mm_of (by decide) rfl ?_
  intro p e s m args below meth c cx hM ha
  refine mm_entry [.ref (mm_o G), .int x1, .int x2, .int x3] 6 [(0, .ref (mm_o G)), (1, .int x1), (2, .int x2), (3, .int x3)] ha (Nat.le_of_ble_eq_true rfl) rfl (fun ls hl => ?_)
  have hS : va_S (mm_A G) s.heap s.heap [] := va_S.rf
  unfold w3_add at hw
  obtain ⟨hx, hb, hml, hown, hts, hr, hlk, hMK, hZ⟩ := id cx
  refine lv_aload_n hx hb dX3_add_0 rfl (lv_at hl 0 rfl) ?_
  refine lv_iload_n hx hb dX3_add_1 rfl (lv_at hl 1 rfl) ?_
  refine C3_isCount cx hM hS hw ⟨Nat.le_of_ble_eq_true rfl, Nat.le_of_ble_eq_true rfl⟩ (Nat.le_of_ble_eq_true rfl) hl.1 ⟨Nat.zero_le _, Nat.zero_le _⟩ dX3_add_2 (fun r9 s9 H locs hw hM hS => ?_)
  refine lv_if_eq (tgt := 30) hx hb dX3_add_5 (by decide) (fun hc => ?_) (fun hc => ?_)
  · have hw := mm_ip hc hw
    refine lv_iconst (v := (-1 : Int32)) hx hb dX3_add_30 (by decide) ?_
    exact mm_iret cx hM hS hw dX3_add_31
  · have hw := mm_in hc hw
    refine lv_iload_n hx hb dX3_add_8 rfl (lv_at hl 2 rfl) ?_
    refine lv_iconst (v := (0 : Int32)) hx hb dX3_add_9 (by decide) ?_
    refine lv_sipush (v := (999 : Int32)) hx hb dX3_add_10 (by decide) ?_
    refine C3_in cx hM hS hw ⟨Nat.le_of_ble_eq_true rfl, Nat.le_of_ble_eq_true rfl⟩ (Nat.le_of_ble_eq_true rfl) hl.1 ⟨Nat.zero_le _, Nat.zero_le _⟩ dX3_add_13 (fun r10 s10 H locs hw hM hS => ?_)
    refine lv_if_eq (tgt := 30) hx hb dX3_add_16 (by decide) (fun hc => ?_) (fun hc => ?_)
    · have hw := mm_ip hc hw
      refine lv_iconst (v := (-1 : Int32)) hx hb dX3_add_30 (by decide) ?_
      exact mm_iret cx hM hS hw dX3_add_31
    · have hw := mm_in hc hw
      refine lv_iload_n hx hb dX3_add_19 rfl (lv_at hl 3 rfl) ?_
      refine lv_iconst (v := (0 : Int32)) hx hb dX3_add_20 (by decide) ?_
      refine lv_sipush (v := (999 : Int32)) hx hb dX3_add_21 (by decide) ?_
      refine C3_in cx hM hS hw ⟨Nat.le_of_ble_eq_true rfl, Nat.le_of_ble_eq_true rfl⟩ (Nat.le_of_ble_eq_true rfl) hl.1 ⟨Nat.zero_le _, Nat.zero_le _⟩ dX3_add_24 (fun r11 s11 H locs hw hM hS => ?_)
      refine lv_if_ne (tgt := 32) hx hb dX3_add_27 (by decide) (fun hc => ?_) (fun hc => ?_)
      · have hw := mm_in hc hw
        refine lv_aload_n hx hb dX3_add_32 rfl (lv_at hl 0 rfl) ?_
        refine mg_4 cx hM dX3_add_33 ?_
        refine lv_bipush (v := (18 : Int32)) hx hb dX3_add_36 (by decide) ?_
        refine mm_iald cx hM 4 rfl (j := 18) (by decide) (vp_lit (by decide)) dX3_add_38 ?_
        refine lv_bipush (v := (8 : Int32)) hx hb dX3_add_39 (by decide) ?_
        refine lv_icmp_ne (tgt := 47) hx hb dX3_add_41 (by decide) (fun hc => ?_) (fun hc => ?_)
        · have hw := mm_in hc hw
          refine lv_aload_n hx hb dX3_add_47 rfl (lv_at hl 0 rfl) ?_
          refine C3_keepsAct cx hM hS hw ⟨Nat.le_of_ble_eq_true rfl, Nat.le_of_ble_eq_true rfl⟩ (Nat.le_of_ble_eq_true rfl) hl.1 ⟨Nat.zero_le _, Nat.zero_le _⟩ dX3_add_48 (fun s12 H locs hw hM hS => ?_)
          refine lv_aload_n hx hb dX3_add_51 rfl (lv_at hl 0 rfl) ?_
          refine mg_4 cx hM dX3_add_52 ?_
          refine lv_bipush (v := (18 : Int32)) hx hb dX3_add_55 (by decide) ?_
          refine mm_iald cx hM 4 rfl (j := 18) (by decide) (vp_lit (by decide)) dX3_add_57 ?_
          refine lv_topi (fun v13 hv13 => ?_)
          have hw := hw v13 hv13
          refine lv_istore (lv' := [(4, .int v13), (0, .ref (mm_o G)), (1, .int x1), (2, .int x2), (3, .int x3)]) hx hb dX3_add_58 hl (by decide) rfl (fun ls hl => ?_)
          refine lv_aload_n hx hb dX3_add_60 rfl (lv_at hl 1 rfl) ?_
          refine mg_4 cx hM dX3_add_61 ?_
          refine lv_bipush (v := (18 : Int32)) hx hb dX3_add_64 (by decide) ?_
          refine lv_dup2_11 hx hb dX3_add_66 rfl rfl ?_
          refine mm_iald cx hM 4 rfl (j := 18) (by decide) (vp_lit (by decide)) dX3_add_67 ?_
          refine lv_iconst (v := (1 : Int32)) hx hb dX3_add_68 (by decide) ?_
          refine lv_iadd hx hb dX3_add_69 ?_
          refine mm_iast cx hM hS 4 rfl (j0 := 18) (by decide) (vp_lit (by decide)) dX3_add_70 (fun H locs hM hS => ?_)
          refine lv_iconst (v := (0 : Int32)) hx hb dX3_add_71 (by decide) ?_
          refine lv_istore (lv' := [(5, .int (0 : Int32)), (4, .int v13), (0, .ref (mm_o G)), (1, .int x1), (2, .int x2), (3, .int x3)]) hx hb dX3_add_72 hl (by decide) rfl (fun ls hl => ?_)
          exact L3_add_74 cx _ _ _ _ _ _ hw _ _ _ hM hS (lv_sub hl [2, 3, 4, 5, 1, 0] rfl)
        · have hw := mm_ip hc hw
          refine lv_bipush (v := (-2 : Int32)) hx hb dX3_add_44 (by decide) ?_
          exact mm_iret cx hM hS hw dX3_add_46
      · have hw := mm_ip hc hw
        refine lv_iconst (v := (-1 : Int32)) hx hb dX3_add_30 (by decide) ?_
        exact mm_iret cx hM hS hw dX3_add_31
-- no call of add
def w3_strike_40 (Q : Int32 → MS → Prop) (K40 : Int32 → Int32 → MS → Prop) (x2 : Int32) (x3 : Int32) (σ : MS) : Prop :=
  if (gA σ 4 18) ≤ x3 then (Q x2 σ) else (w3_its x3 (6 : Int32) σ (fun r1 s1 => ∀ v2 : Int32, v2 = (x2 + ((1 : Int32) - r1)) → ∀ v3 : Int32, v3 = x3 + (1 : Int32) → K40 v2 v3 s1))
set_option maxHeartbeats 4000000 in
theorem B3_strike_40 {l : Launch} {p : Program} {e : Env} {s : State} {m : MethodId} {args : Array Value} {below : List Frame} {meth : Method} {c : Code} {G : mm_G} {Q : Int32 → MS → Prop} {K40 : Int32 → Int32 → MS → Prop} (cx : mm_X cX3_strike 4 (some .int) G p s m args meth c) (hK40 : ∀ (x2 : Int32) (x3 : Int32) (σ : MS), K40 x2 x3 σ → mm_T p l e ({ frames := 2, cells := 0, slots := 0, locals := 80 } : Room) s m args below meth c G (mm_Qi G Q) 4 40 σ [(0, .ref (mm_o G)), (2, .int x2), (3, .int x3)] []) : ∀ (x2 : Int32) (x3 : Int32) (σ : MS), w3_strike_40 Q K40 x2 x3 σ → mm_T p l e ({ frames := 2, cells := 0, slots := 0, locals := 80 } : Room) s m args below meth c G (mm_Qi G Q) 4 40 σ [(0, .ref (mm_o G)), (2, .int x2), (3, .int x3)] [] := by
  intro x2 x3 σ hw H locs ls hM hS hl
  unfold w3_strike_40 at hw
  obtain ⟨hx, hb, hml, hown, hts, hr, hlk, hMK, hZ⟩ := id cx
  refine lv_iload_n hx hb dX3_strike_40 rfl (lv_at hl 2 rfl) ?_
  refine lv_aload_n hx hb dX3_strike_41 rfl (lv_at hl 0 rfl) ?_
  refine mg_4 cx hM dX3_strike_42 ?_
  refine lv_bipush (v := (18 : Int32)) hx hb dX3_strike_45 (by decide) ?_
  refine mm_iald cx hM 4 rfl (j := 18) (by decide) (vp_lit (by decide)) dX3_strike_47 ?_
  refine lv_icmp_ge (tgt := 69) hx hb dX3_strike_48 (by decide) (fun hc => ?_) (fun hc => ?_)
  · have hw := mm_ip hc hw
    refine lv_iload_n hx hb dX3_strike_69 rfl (lv_at hl 1 rfl) ?_
    exact mm_iret cx hM hS hw dX3_strike_70
  · have hw := mm_in hc hw
    refine lv_iload_n hx hb dX3_strike_51 rfl (lv_at hl 1 rfl) ?_
    refine lv_iconst (v := (1 : Int32)) hx hb dX3_strike_52 (by decide) ?_
    refine lv_aload_n hx hb dX3_strike_53 rfl (lv_at hl 0 rfl) ?_
    refine lv_iload_n hx hb dX3_strike_54 rfl (lv_at hl 2 rfl) ?_
    refine lv_bipush (v := (6 : Int32)) hx hb dX3_strike_55 (by decide) ?_
    refine C3_its cx hM hS hw ⟨Nat.le_of_ble_eq_true rfl, Nat.le_of_ble_eq_true rfl⟩ (Nat.le_of_ble_eq_true rfl) hl.1 ⟨Nat.zero_le _, Nat.zero_le _⟩ dX3_strike_57 (fun r1 s1 H locs hw hM hS => ?_)
    refine lv_isub hx hb dX3_strike_60 ?_
    refine lv_iadd hx hb dX3_strike_61 ?_
    refine lv_topi (fun v2 hv2 => ?_)
    have hw := hw v2 hv2
    refine lv_istore_n (lv' := [(2, .int v2), (0, .ref (mm_o G)), (3, .int x3)]) hx hb dX3_strike_62 rfl hl (by decide) rfl (fun ls hl => ?_)
    obtain ⟨v3, hv3⟩ : ∃ v : Int32, v = x3 + (1 : Int32) := ⟨_, rfl⟩
    have hw := hw v3 hv3
    refine lv_iinc (v := v3) (lv' := [(3, .int v3), (2, .int v2), (0, .ref (mm_o G))]) hx hb dX3_strike_63 hl (k := 2) rfl (by rw [hv3]; rfl) (by decide) rfl (fun ls hl => ?_)
    refine lv_goto (tgt := 40) hx hb dX3_strike_66 (by decide) ?_
    exact hK40 _ _ _ hw _ _ _ hM hS (lv_sub hl [2, 1, 0] rfl)
theorem L3_strike_40 {l : Launch} {p : Program} {e : Env} {s : State} {m : MethodId} {args : Array Value} {below : List Frame} {meth : Method} {c : Code} {G : mm_G} {Q : Int32 → MS → Prop} (cx : mm_X cX3_strike 4 (some .int) G p s m args meth c) : ∀ (x2 : Int32) (x3 : Int32) (σ : MS), lp3F (w3_strike_40 Q) x2 x3 σ → mm_T p l e ({ frames := 2, cells := 0, slots := 0, locals := 80 } : Room) s m args below meth c G (mm_Qi G Q) 4 40 σ [(0, .ref (mm_o G)), (2, .int x2), (3, .int x3)] [] :=
  lp3F_of (fun K hK => B3_strike_40 cx hK)
def w3_strike (x1 : Int32) (σ : MS) (Q : Int32 → MS → Prop) : Prop :=
  w3_isCount x1 σ (fun r4 s4 => if r4 = 0 then (Q (-1 : Int32) s4) else (w3_its x1 (6 : Int32) s4 (fun r5 s5 => if r5 = (1 : Int32) then (Q (-2 : Int32) s5) else (w3_keepsAct s5 (fun s6 => w3_puts x1 (6 : Int32) (1 : Int32) s6 (fun s7 => lp3F (w3_strike_40 Q) (0 : Int32) (0 : Int32) s7))))))
set_option maxHeartbeats 4000000 in
theorem M3_strike (l : Launch) (G : mm_G) (x1 : Int32) (σ : MS) (Q : Int32 → MS → Prop) (hw : w3_strike x1 σ Q) : mm_Mi l yX3_strike (ws_ yX3_strike cX3_strike 4 (some .int)) ({ frames := 2, cells := 0, slots := 0, locals := 80 } : Room) G [.ref (mm_o G), .int x1] σ Q := by
  refine mm_of (by decide) rfl ?_
  intro p e s m args below meth c cx hM ha
  refine mm_entry [.ref (mm_o G), .int x1] 4 [(0, .ref (mm_o G)), (1, .int x1)] ha (Nat.le_of_ble_eq_true rfl) rfl (fun ls hl => ?_)
  have hS : va_S (mm_A G) s.heap s.heap [] := va_S.rf
  unfold w3_strike at hw
  obtain ⟨hx, hb, hml, hown, hts, hr, hlk, hMK, hZ⟩ := id cx
  refine lv_aload_n hx hb dX3_strike_0 rfl (lv_at hl 0 rfl) ?_
  refine lv_iload_n hx hb dX3_strike_1 rfl (lv_at hl 1 rfl) ?_
  refine C3_isCount cx hM hS hw ⟨Nat.le_of_ble_eq_true rfl, Nat.le_of_ble_eq_true rfl⟩ (Nat.le_of_ble_eq_true rfl) hl.1 ⟨Nat.zero_le _, Nat.zero_le _⟩ dX3_strike_2 (fun r4 s4 H locs hw hM hS => ?_)
  refine lv_if_ne (tgt := 10) hx hb dX3_strike_5 (by decide) (fun hc => ?_) (fun hc => ?_)
  · have hw := mm_in hc hw
    refine lv_aload_n hx hb dX3_strike_10 rfl (lv_at hl 0 rfl) ?_
    refine lv_iload_n hx hb dX3_strike_11 rfl (lv_at hl 1 rfl) ?_
    refine lv_bipush (v := (6 : Int32)) hx hb dX3_strike_12 (by decide) ?_
    refine C3_its cx hM hS hw ⟨Nat.le_of_ble_eq_true rfl, Nat.le_of_ble_eq_true rfl⟩ (Nat.le_of_ble_eq_true rfl) hl.1 ⟨Nat.zero_le _, Nat.zero_le _⟩ dX3_strike_14 (fun r5 s5 H locs hw hM hS => ?_)
    refine lv_iconst (v := (1 : Int32)) hx hb dX3_strike_17 (by decide) ?_
    refine lv_icmp_ne (tgt := 24) hx hb dX3_strike_18 (by decide) (fun hc => ?_) (fun hc => ?_)
    · have hw := mm_in hc hw
      refine lv_aload_n hx hb dX3_strike_24 rfl (lv_at hl 0 rfl) ?_
      refine C3_keepsAct cx hM hS hw ⟨Nat.le_of_ble_eq_true rfl, Nat.le_of_ble_eq_true rfl⟩ (Nat.le_of_ble_eq_true rfl) hl.1 ⟨Nat.zero_le _, Nat.zero_le _⟩ dX3_strike_25 (fun s6 H locs hw hM hS => ?_)
      refine lv_aload_n hx hb dX3_strike_28 rfl (lv_at hl 0 rfl) ?_
      refine lv_iload_n hx hb dX3_strike_29 rfl (lv_at hl 1 rfl) ?_
      refine lv_bipush (v := (6 : Int32)) hx hb dX3_strike_30 (by decide) ?_
      refine lv_iconst (v := (1 : Int32)) hx hb dX3_strike_32 (by decide) ?_
      refine C3_puts cx hM hS hw ⟨Nat.le_of_ble_eq_true rfl, Nat.le_of_ble_eq_true rfl⟩ (Nat.le_of_ble_eq_true rfl) hl.1 ⟨Nat.zero_le _, Nat.zero_le _⟩ dX3_strike_33 (fun s7 H locs hw hM hS => ?_)
      refine lv_iconst (v := (0 : Int32)) hx hb dX3_strike_36 (by decide) ?_
      refine lv_istore_n (lv' := [(2, .int (0 : Int32)), (0, .ref (mm_o G)), (1, .int x1)]) hx hb dX3_strike_37 rfl hl (by decide) rfl (fun ls hl => ?_)
      refine lv_iconst (v := (0 : Int32)) hx hb dX3_strike_38 (by decide) ?_
      refine lv_istore_n (lv' := [(3, .int (0 : Int32)), (2, .int (0 : Int32)), (0, .ref (mm_o G)), (1, .int x1)]) hx hb dX3_strike_39 rfl hl (by decide) rfl (fun ls hl => ?_)
      exact L3_strike_40 cx _ _ _ hw _ _ _ hM hS (lv_sub hl [2, 1, 0] rfl)
    · have hw := mm_ip hc hw
      refine lv_bipush (v := (-2 : Int32)) hx hb dX3_strike_21 (by decide) ?_
      exact mm_iret cx hM hS hw dX3_strike_23
  · have hw := mm_ip hc hw
    refine lv_iconst (v := (-1 : Int32)) hx hb dX3_strike_8 (by decide) ?_
    exact mm_iret cx hM hS hw dX3_strike_9
-- no call of strike
def w3_days (x1 : Int32) (σ : MS) (Q : Int32 → MS → Prop) : Prop :=
  w3_in x1 (1 : Int32) (999 : Int32) σ (fun r1 s1 => if r1 = 0 then (Q (-1 : Int32) s1) else (if ((gA s1 4 17) + x1) ≤ (9999 : Int32) then (w3_keepsAct s1 (fun s2 => Q (gA (sA s2 4 17 ((gA s2 4 17) + x1)) 4 17) (sA s2 4 17 ((gA s2 4 17) + x1)))) else (Q (-2 : Int32) s1)))
set_option maxHeartbeats 4000000 in
theorem M3_days (l : Launch) (G : mm_G) (x1 : Int32) (σ : MS) (Q : Int32 → MS → Prop) (hw : w3_days x1 σ Q) : mm_Mi l yX3_days (ws_ yX3_days cX3_days 2 (some .int)) ({ frames := 1, cells := 0, slots := 0, locals := 40 } : Room) G [.ref (mm_o G), .int x1] σ Q := by
  refine mm_of (by decide) rfl ?_
  intro p e s m args below meth c cx hM ha
  refine mm_entry [.ref (mm_o G), .int x1] 2 [(0, .ref (mm_o G)), (1, .int x1)] ha (Nat.le_of_ble_eq_true rfl) rfl (fun ls hl => ?_)
  have hS : va_S (mm_A G) s.heap s.heap [] := va_S.rf
  unfold w3_days at hw
  obtain ⟨hx, hb, hml, hown, hts, hr, hlk, hMK, hZ⟩ := id cx
  refine lv_iload_n hx hb dX3_days_0 rfl (lv_at hl 1 rfl) ?_
  refine lv_iconst (v := (1 : Int32)) hx hb dX3_days_1 (by decide) ?_
  refine lv_sipush (v := (999 : Int32)) hx hb dX3_days_2 (by decide) ?_
  refine C3_in cx hM hS hw ⟨Nat.le_of_ble_eq_true rfl, Nat.le_of_ble_eq_true rfl⟩ (Nat.le_of_ble_eq_true rfl) hl.1 ⟨Nat.zero_le _, Nat.zero_le _⟩ dX3_days_5 (fun r1 s1 H locs hw hM hS => ?_)
  refine lv_if_ne (tgt := 13) hx hb dX3_days_8 (by decide) (fun hc => ?_) (fun hc => ?_)
  · have hw := mm_in hc hw
    refine lv_aload_n hx hb dX3_days_13 rfl (lv_at hl 0 rfl) ?_
    refine mg_4 cx hM dX3_days_14 ?_
    refine lv_bipush (v := (17 : Int32)) hx hb dX3_days_17 (by decide) ?_
    refine mm_iald cx hM 4 rfl (j := 17) (by decide) (vp_lit (by decide)) dX3_days_19 ?_
    refine lv_iload_n hx hb dX3_days_20 rfl (lv_at hl 1 rfl) ?_
    refine lv_iadd hx hb dX3_days_21 ?_
    refine lv_sipush (v := (9999 : Int32)) hx hb dX3_days_22 (by decide) ?_
    refine lv_icmp_le (tgt := 31) hx hb dX3_days_25 (by decide) (fun hc => ?_) (fun hc => ?_)
    · have hw := mm_ip hc hw
      refine lv_aload_n hx hb dX3_days_31 rfl (lv_at hl 0 rfl) ?_
      refine C3_keepsAct cx hM hS hw ⟨Nat.le_of_ble_eq_true rfl, Nat.le_of_ble_eq_true rfl⟩ (Nat.le_of_ble_eq_true rfl) hl.1 ⟨Nat.zero_le _, Nat.zero_le _⟩ dX3_days_32 (fun s2 H locs hw hM hS => ?_)
      refine lv_aload_n hx hb dX3_days_35 rfl (lv_at hl 0 rfl) ?_
      refine mg_4 cx hM dX3_days_36 ?_
      refine lv_bipush (v := (17 : Int32)) hx hb dX3_days_39 (by decide) ?_
      refine lv_dup2_11 hx hb dX3_days_41 rfl rfl ?_
      refine mm_iald cx hM 4 rfl (j := 17) (by decide) (vp_lit (by decide)) dX3_days_42 ?_
      refine lv_iload_n hx hb dX3_days_43 rfl (lv_at hl 1 rfl) ?_
      refine lv_iadd hx hb dX3_days_44 ?_
      refine mm_iast cx hM hS 4 rfl (j0 := 17) (by decide) (vp_lit (by decide)) dX3_days_45 (fun H locs hM hS => ?_)
      refine lv_aload_n hx hb dX3_days_46 rfl (lv_at hl 0 rfl) ?_
      refine mg_4 cx hM dX3_days_47 ?_
      refine lv_bipush (v := (17 : Int32)) hx hb dX3_days_50 (by decide) ?_
      refine mm_iald cx hM 4 rfl (j := 17) (by decide) (vp_lit (by decide)) dX3_days_52 ?_
      exact mm_iret cx hM hS hw dX3_days_53
    · have hw := mm_in hc hw
      refine lv_bipush (v := (-2 : Int32)) hx hb dX3_days_28 (by decide) ?_
      exact mm_iret cx hM hS hw dX3_days_30
  · have hw := mm_ip hc hw
    refine lv_iconst (v := (-1 : Int32)) hx hb dX3_days_11 (by decide) ?_
    exact mm_iret cx hM hS hw dX3_days_12
-- no call of days
def w3_undo_21 (Q : Int32 → MS → Prop) (K21 : Int32 → MS → Prop) (x1 : Int32) (σ : MS) : Prop :=
  if (83 : Int32) ≤ x1 then (w3_laysKnown σ (fun s1 => Q (gI s1 8) s1)) else (vp_in (((83 : Int32) * (gI σ 8)) + x1) 1328 ∧ (vp_in x1 83 ∧ (∀ v2 : Int32, v2 = x1 + (1 : Int32) → K21 v2 (sA σ 4 x1.toNatClampNeg (gA σ 5 (((83 : Int32) * (gI σ 8)) + x1).toNatClampNeg)))))
set_option maxHeartbeats 4000000 in
theorem B3_undo_21 {l : Launch} {p : Program} {e : Env} {s : State} {m : MethodId} {args : Array Value} {below : List Frame} {meth : Method} {c : Code} {G : mm_G} {Q : Int32 → MS → Prop} {K21 : Int32 → MS → Prop} (cx : mm_X cX3_undo 2 (some .int) G p s m args meth c) (hK21 : ∀ (x1 : Int32) (σ : MS), K21 x1 σ → mm_T p l e ({ frames := 3, cells := 0, slots := 0, locals := 120 } : Room) s m args below meth c G (mm_Qi G Q) 2 21 σ [(0, .ref (mm_o G)), (1, .int x1)] []) : ∀ (x1 : Int32) (σ : MS), w3_undo_21 Q K21 x1 σ → mm_T p l e ({ frames := 3, cells := 0, slots := 0, locals := 120 } : Room) s m args below meth c G (mm_Qi G Q) 2 21 σ [(0, .ref (mm_o G)), (1, .int x1)] [] := by
  intro x1 σ hw H locs ls hM hS hl
  unfold w3_undo_21 at hw
  obtain ⟨hx, hb, hml, hown, hts, hr, hlk, hMK, hZ⟩ := id cx
  refine lv_iload_n hx hb dX3_undo_21 rfl (lv_at hl 1 rfl) ?_
  refine lv_bipush (v := (83 : Int32)) hx hb dX3_undo_22 (by decide) ?_
  refine lv_icmp_ge (tgt := 53) hx hb dX3_undo_24 (by decide) (fun hc => ?_) (fun hc => ?_)
  · have hw := mm_ip hc hw
    refine lv_aload_n hx hb dX3_undo_53 rfl (lv_at hl 0 rfl) ?_
    refine C3_laysKnown cx hM hS hw ⟨Nat.le_of_ble_eq_true rfl, Nat.le_of_ble_eq_true rfl⟩ (Nat.le_of_ble_eq_true rfl) hl.1 ⟨Nat.zero_le _, Nat.zero_le _⟩ dX3_undo_54 (fun s1 H locs hw hM hS => ?_)
    refine lv_aload_n hx hb dX3_undo_57 rfl (lv_at hl 0 rfl) ?_
    refine mg_8 cx hM dX3_undo_58 ?_
    exact mm_iret cx hM hS hw dX3_undo_61
  · have hw := mm_in hc hw
    refine lv_aload_n hx hb dX3_undo_27 rfl (lv_at hl 0 rfl) ?_
    refine mg_4 cx hM dX3_undo_28 ?_
    refine lv_iload_n hx hb dX3_undo_31 rfl (lv_at hl 1 rfl) ?_
    refine lv_aload_n hx hb dX3_undo_32 rfl (lv_at hl 0 rfl) ?_
    refine mg_5 cx hM dX3_undo_33 ?_
    refine lv_bipush (v := (83 : Int32)) hx hb dX3_undo_36 (by decide) ?_
    refine lv_aload_n hx hb dX3_undo_38 rfl (lv_at hl 0 rfl) ?_
    refine mg_8 cx hM dX3_undo_39 ?_
    refine lv_imul hx hb dX3_undo_42 ?_
    refine lv_iload_n hx hb dX3_undo_43 rfl (lv_at hl 1 rfl) ?_
    refine lv_iadd hx hb dX3_undo_44 ?_
    obtain ⟨hi, hw⟩ := hw
    refine mm_iald cx hM 5 rfl rfl hi dX3_undo_45 ?_
    obtain ⟨hi, hw⟩ := hw
    refine mm_iast cx hM hS 4 rfl rfl hi dX3_undo_46 (fun H locs hM hS => ?_)
    obtain ⟨v2, hv2⟩ : ∃ v : Int32, v = x1 + (1 : Int32) := ⟨_, rfl⟩
    have hw := hw v2 hv2
    refine lv_iinc (v := v2) (lv' := [(1, .int v2), (0, .ref (mm_o G))]) hx hb dX3_undo_47 hl (k := 1) rfl (by rw [hv2]; rfl) (by decide) rfl (fun ls hl => ?_)
    refine lv_goto (tgt := 21) hx hb dX3_undo_50 (by decide) ?_
    exact hK21 _ _ hw _ _ _ hM hS (lv_sub hl [1, 0] rfl)
theorem L3_undo_21 {l : Launch} {p : Program} {e : Env} {s : State} {m : MethodId} {args : Array Value} {below : List Frame} {meth : Method} {c : Code} {G : mm_G} {Q : Int32 → MS → Prop} (cx : mm_X cX3_undo 2 (some .int) G p s m args meth c) : ∀ (x1 : Int32) (σ : MS), lp2F (w3_undo_21 Q) x1 σ → mm_T p l e ({ frames := 3, cells := 0, slots := 0, locals := 120 } : Room) s m args below meth c G (mm_Qi G Q) 2 21 σ [(0, .ref (mm_o G)), (1, .int x1)] [] :=
  lp2F_of (fun K hK => B3_undo_21 cx hK)
def w3_undo (σ : MS) (Q : Int32 → MS → Prop) : Prop :=
  if (gI σ 8) = 0 then (Q (-1 : Int32) σ) else (lp2F (w3_undo_21 Q) (0 : Int32) (sI σ 8 ((gI σ 8) - (1 : Int32))))
set_option maxHeartbeats 4000000 in
theorem M3_undo (l : Launch) (G : mm_G) (σ : MS) (Q : Int32 → MS → Prop) (hw : w3_undo σ Q) : mm_Mi l yX3_undo (ws_ yX3_undo cX3_undo 2 (some .int)) ({ frames := 3, cells := 0, slots := 0, locals := 120 } : Room) G [.ref (mm_o G)] σ Q := by
  refine mm_of (by decide) rfl ?_
  intro p e s m args below meth c cx hM ha
  refine mm_entry [.ref (mm_o G)] 2 [(0, .ref (mm_o G))] ha (Nat.le_of_ble_eq_true rfl) rfl (fun ls hl => ?_)
  have hS : va_S (mm_A G) s.heap s.heap [] := va_S.rf
  unfold w3_undo at hw
  obtain ⟨hx, hb, hml, hown, hts, hr, hlk, hMK, hZ⟩ := id cx
  refine lv_aload_n hx hb dX3_undo_0 rfl (lv_at hl 0 rfl) ?_
  refine mg_8 cx hM dX3_undo_1 ?_
  refine lv_if_ne (tgt := 9) hx hb dX3_undo_4 (by decide) (fun hc => ?_) (fun hc => ?_)
  · have hw := mm_in hc hw
    refine lv_aload_n hx hb dX3_undo_9 rfl (lv_at hl 0 rfl) ?_
    refine lv_dup hx hb dX3_undo_10 rfl ?_
    refine mg_8 cx hM dX3_undo_11 ?_
    refine lv_iconst (v := (1 : Int32)) hx hb dX3_undo_14 (by decide) ?_
    refine lv_isub hx hb dX3_undo_15 ?_
    refine mp_8 cx hM hS dX3_undo_16 (fun H locs hM hS => ?_)
    refine lv_iconst (v := (0 : Int32)) hx hb dX3_undo_19 (by decide) ?_
    refine lv_istore_n (lv' := [(1, .int (0 : Int32)), (0, .ref (mm_o G))]) hx hb dX3_undo_20 rfl hl (by decide) rfl (fun ls hl => ?_)
    exact L3_undo_21 cx _ _ hw _ _ _ hM hS (lv_sub hl [1, 0] rfl)
  · have hw := mm_ip hc hw
    refine lv_iconst (v := (-1 : Int32)) hx hb dX3_undo_7 (by decide) ?_
    exact mm_iret cx hM hS hw dX3_undo_8
-- no call of undo
def w3_keep_20 (Q : Int32 → MS → Prop) (K20 : Int32 → Int32 → MS → Prop) (x1 : Int32) (x2 : Int32) (σ : MS) : Prop :=
  if (83 : Int32) ≤ x2 then (Q (1 : Int32) σ) else (vp_in x2 83 ∧ (vp_in (((83 : Int32) * x1) + x2) 166 ∧ (∀ v1 : Int32, v1 = x2 + (1 : Int32) → K20 x1 v1 (sA σ 6 (((83 : Int32) * x1) + x2).toNatClampNeg (gA σ 4 x2.toNatClampNeg)))))
set_option maxHeartbeats 4000000 in
theorem B3_keep_20 {l : Launch} {p : Program} {e : Env} {s : State} {m : MethodId} {args : Array Value} {below : List Frame} {meth : Method} {c : Code} {G : mm_G} {Q : Int32 → MS → Prop} {K20 : Int32 → Int32 → MS → Prop} (cx : mm_X cX3_keep 3 (some .boolean) G p s m args meth c) (hK20 : ∀ (x1 : Int32) (x2 : Int32) (σ : MS), K20 x1 x2 σ → mm_T p l e ({ frames := 1, cells := 0, slots := 0, locals := 40 } : Room) s m args below meth c G (mm_Qi G Q) 3 20 σ [(0, .ref (mm_o G)), (1, .int x1), (2, .int x2)] []) : ∀ (x1 : Int32) (x2 : Int32) (σ : MS), w3_keep_20 Q K20 x1 x2 σ → mm_T p l e ({ frames := 1, cells := 0, slots := 0, locals := 40 } : Room) s m args below meth c G (mm_Qi G Q) 3 20 σ [(0, .ref (mm_o G)), (1, .int x1), (2, .int x2)] [] := by
  intro x1 x2 σ hw H locs ls hM hS hl
  unfold w3_keep_20 at hw
  obtain ⟨hx, hb, hml, hown, hts, hr, hlk, hMK, hZ⟩ := id cx
  refine lv_iload_n hx hb dX3_keep_20 rfl (lv_at hl 2 rfl) ?_
  refine lv_bipush (v := (83 : Int32)) hx hb dX3_keep_21 (by decide) ?_
  refine lv_icmp_ge (tgt := 49) hx hb dX3_keep_23 (by decide) (fun hc => ?_) (fun hc => ?_)
  · have hw := mm_ip hc hw
    refine lv_iconst (v := (1 : Int32)) hx hb dX3_keep_49 (by decide) ?_
    exact mm_zret cx hM hS (Or.inr rfl) hw dX3_keep_50
  · have hw := mm_in hc hw
    refine lv_aload_n hx hb dX3_keep_26 rfl (lv_at hl 0 rfl) ?_
    refine mg_6 cx hM dX3_keep_27 ?_
    refine lv_bipush (v := (83 : Int32)) hx hb dX3_keep_30 (by decide) ?_
    refine lv_iload_n hx hb dX3_keep_32 rfl (lv_at hl 1 rfl) ?_
    refine lv_imul hx hb dX3_keep_33 ?_
    refine lv_iload_n hx hb dX3_keep_34 rfl (lv_at hl 2 rfl) ?_
    refine lv_iadd hx hb dX3_keep_35 ?_
    refine lv_aload_n hx hb dX3_keep_36 rfl (lv_at hl 0 rfl) ?_
    refine mg_4 cx hM dX3_keep_37 ?_
    refine lv_iload_n hx hb dX3_keep_40 rfl (lv_at hl 2 rfl) ?_
    obtain ⟨hi, hw⟩ := hw
    refine mm_iald cx hM 4 rfl rfl hi dX3_keep_41 ?_
    obtain ⟨hi, hw⟩ := hw
    refine mm_iast cx hM hS 6 rfl rfl hi dX3_keep_42 (fun H locs hM hS => ?_)
    obtain ⟨v1, hv1⟩ : ∃ v : Int32, v = x2 + (1 : Int32) := ⟨_, rfl⟩
    have hw := hw v1 hv1
    refine lv_iinc (v := v1) (lv' := [(2, .int v1), (0, .ref (mm_o G)), (1, .int x1)]) hx hb dX3_keep_43 hl (k := 2) rfl (by rw [hv1]; rfl) (by decide) rfl (fun ls hl => ?_)
    refine lv_goto (tgt := 20) hx hb dX3_keep_46 (by decide) ?_
    exact hK20 _ _ _ hw _ _ _ hM hS (lv_sub hl [1, 2, 0] rfl)
theorem L3_keep_20 {l : Launch} {p : Program} {e : Env} {s : State} {m : MethodId} {args : Array Value} {below : List Frame} {meth : Method} {c : Code} {G : mm_G} {Q : Int32 → MS → Prop} (cx : mm_X cX3_keep 3 (some .boolean) G p s m args meth c) : ∀ (x1 : Int32) (x2 : Int32) (σ : MS), lp3F (w3_keep_20 Q) x1 x2 σ → mm_T p l e ({ frames := 1, cells := 0, slots := 0, locals := 40 } : Room) s m args below meth c G (mm_Qi G Q) 3 20 σ [(0, .ref (mm_o G)), (1, .int x1), (2, .int x2)] [] :=
  lp3F_of (fun K hK => B3_keep_20 cx hK)
def w3_keep (x1 : Int32) (σ : MS) (Q : Int32 → MS → Prop) : Prop :=
  w3_in x1 (0 : Int32) (1 : Int32) σ (fun r2 s2 => if r2 = 0 then (Q (0 : Int32) s2) else (vp_in x1 2 ∧ (lp3F (w3_keep_20 Q) x1 (0 : Int32) (sA s2 7 x1.toNatClampNeg (1 : Int32)))))
set_option maxHeartbeats 4000000 in
theorem M3_keep (l : Launch) (G : mm_G) (x1 : Int32) (σ : MS) (Q : Int32 → MS → Prop) (hw : w3_keep x1 σ Q) : mm_Mi l yX3_keep (ws_ yX3_keep cX3_keep 3 (some .boolean)) ({ frames := 1, cells := 0, slots := 0, locals := 40 } : Room) G [.ref (mm_o G), .int x1] σ Q := by
  refine mm_of (by decide) rfl ?_
  intro p e s m args below meth c cx hM ha
  refine mm_entry [.ref (mm_o G), .int x1] 3 [(0, .ref (mm_o G)), (1, .int x1)] ha (Nat.le_of_ble_eq_true rfl) rfl (fun ls hl => ?_)
  have hS : va_S (mm_A G) s.heap s.heap [] := va_S.rf
  unfold w3_keep at hw
  obtain ⟨hx, hb, hml, hown, hts, hr, hlk, hMK, hZ⟩ := id cx
  refine lv_iload_n hx hb dX3_keep_0 rfl (lv_at hl 1 rfl) ?_
  refine lv_iconst (v := (0 : Int32)) hx hb dX3_keep_1 (by decide) ?_
  refine lv_iconst (v := (1 : Int32)) hx hb dX3_keep_2 (by decide) ?_
  refine C3_in cx hM hS hw ⟨Nat.le_of_ble_eq_true rfl, Nat.le_of_ble_eq_true rfl⟩ (Nat.le_of_ble_eq_true rfl) hl.1 ⟨Nat.zero_le _, Nat.zero_le _⟩ dX3_keep_3 (fun r2 s2 H locs hw hM hS => ?_)
  refine lv_if_ne (tgt := 11) hx hb dX3_keep_6 (by decide) (fun hc => ?_) (fun hc => ?_)
  · have hw := mm_in hc hw
    refine lv_aload_n hx hb dX3_keep_11 rfl (lv_at hl 0 rfl) ?_
    refine mg_7 cx hM dX3_keep_12 ?_
    refine lv_iload_n hx hb dX3_keep_15 rfl (lv_at hl 1 rfl) ?_
    refine lv_iconst (v := (1 : Int32)) hx hb dX3_keep_16 (by decide) ?_
    obtain ⟨hi, hw⟩ := hw
    refine mm_zast cx hM hS hi (Or.inr rfl) dX3_keep_17 (fun H locs hM hS => ?_)
    refine lv_iconst (v := (0 : Int32)) hx hb dX3_keep_18 (by decide) ?_
    refine lv_istore_n (lv' := [(2, .int (0 : Int32)), (0, .ref (mm_o G)), (1, .int x1)]) hx hb dX3_keep_19 rfl hl (by decide) rfl (fun ls hl => ?_)
    exact L3_keep_20 cx _ _ _ hw _ _ _ hM hS (lv_sub hl [1, 2, 0] rfl)
  · have hw := mm_ip hc hw
    refine lv_iconst (v := (0 : Int32)) hx hb dX3_keep_9 (by decide) ?_
    exact mm_zret cx hM hS (Or.inl rfl) hw dX3_keep_10
-- no call of keep
def w3_again_26 (Q : Int32 → MS → Prop) (K26 : Int32 → Int32 → MS → Prop) (x1 : Int32) (x2 : Int32) (σ : MS) : Prop :=
  if (83 : Int32) ≤ x2 then (w3_laysKnown σ (fun s1 => Q (1 : Int32) s1)) else (vp_in (((83 : Int32) * x1) + x2) 166 ∧ (vp_in x2 83 ∧ (∀ v2 : Int32, v2 = x2 + (1 : Int32) → K26 x1 v2 (sA σ 4 x2.toNatClampNeg (gA σ 6 (((83 : Int32) * x1) + x2).toNatClampNeg)))))
set_option maxHeartbeats 4000000 in
theorem B3_again_26 {l : Launch} {p : Program} {e : Env} {s : State} {m : MethodId} {args : Array Value} {below : List Frame} {meth : Method} {c : Code} {G : mm_G} {Q : Int32 → MS → Prop} {K26 : Int32 → Int32 → MS → Prop} (cx : mm_X cX3_again 3 (some .boolean) G p s m args meth c) (hK26 : ∀ (x1 : Int32) (x2 : Int32) (σ : MS), K26 x1 x2 σ → mm_T p l e ({ frames := 3, cells := 0, slots := 0, locals := 120 } : Room) s m args below meth c G (mm_Qi G Q) 3 26 σ [(0, .ref (mm_o G)), (1, .int x1), (2, .int x2)] []) : ∀ (x1 : Int32) (x2 : Int32) (σ : MS), w3_again_26 Q K26 x1 x2 σ → mm_T p l e ({ frames := 3, cells := 0, slots := 0, locals := 120 } : Room) s m args below meth c G (mm_Qi G Q) 3 26 σ [(0, .ref (mm_o G)), (1, .int x1), (2, .int x2)] [] := by
  intro x1 x2 σ hw H locs ls hM hS hl
  unfold w3_again_26 at hw
  obtain ⟨hx, hb, hml, hown, hts, hr, hlk, hMK, hZ⟩ := id cx
  refine lv_iload_n hx hb dX3_again_26 rfl (lv_at hl 2 rfl) ?_
  refine lv_bipush (v := (83 : Int32)) hx hb dX3_again_27 (by decide) ?_
  refine lv_icmp_ge (tgt := 55) hx hb dX3_again_29 (by decide) (fun hc => ?_) (fun hc => ?_)
  · have hw := mm_ip hc hw
    refine lv_aload_n hx hb dX3_again_55 rfl (lv_at hl 0 rfl) ?_
    refine C3_laysKnown cx hM hS hw ⟨Nat.le_of_ble_eq_true rfl, Nat.le_of_ble_eq_true rfl⟩ (Nat.le_of_ble_eq_true rfl) hl.1 ⟨Nat.zero_le _, Nat.zero_le _⟩ dX3_again_56 (fun s1 H locs hw hM hS => ?_)
    refine lv_iconst (v := (1 : Int32)) hx hb dX3_again_59 (by decide) ?_
    exact mm_zret cx hM hS (Or.inr rfl) hw dX3_again_60
  · have hw := mm_in hc hw
    refine lv_aload_n hx hb dX3_again_32 rfl (lv_at hl 0 rfl) ?_
    refine mg_4 cx hM dX3_again_33 ?_
    refine lv_iload_n hx hb dX3_again_36 rfl (lv_at hl 2 rfl) ?_
    refine lv_aload_n hx hb dX3_again_37 rfl (lv_at hl 0 rfl) ?_
    refine mg_6 cx hM dX3_again_38 ?_
    refine lv_bipush (v := (83 : Int32)) hx hb dX3_again_41 (by decide) ?_
    refine lv_iload_n hx hb dX3_again_43 rfl (lv_at hl 1 rfl) ?_
    refine lv_imul hx hb dX3_again_44 ?_
    refine lv_iload_n hx hb dX3_again_45 rfl (lv_at hl 2 rfl) ?_
    refine lv_iadd hx hb dX3_again_46 ?_
    obtain ⟨hi, hw⟩ := hw
    refine mm_iald cx hM 6 rfl rfl hi dX3_again_47 ?_
    obtain ⟨hi, hw⟩ := hw
    refine mm_iast cx hM hS 4 rfl rfl hi dX3_again_48 (fun H locs hM hS => ?_)
    obtain ⟨v2, hv2⟩ : ∃ v : Int32, v = x2 + (1 : Int32) := ⟨_, rfl⟩
    have hw := hw v2 hv2
    refine lv_iinc (v := v2) (lv' := [(2, .int v2), (0, .ref (mm_o G)), (1, .int x1)]) hx hb dX3_again_49 hl (k := 2) rfl (by rw [hv2]; rfl) (by decide) rfl (fun ls hl => ?_)
    refine lv_goto (tgt := 26) hx hb dX3_again_52 (by decide) ?_
    exact hK26 _ _ _ hw _ _ _ hM hS (lv_sub hl [1, 2, 0] rfl)
theorem L3_again_26 {l : Launch} {p : Program} {e : Env} {s : State} {m : MethodId} {args : Array Value} {below : List Frame} {meth : Method} {c : Code} {G : mm_G} {Q : Int32 → MS → Prop} (cx : mm_X cX3_again 3 (some .boolean) G p s m args meth c) : ∀ (x1 : Int32) (x2 : Int32) (σ : MS), lp3F (w3_again_26 Q) x1 x2 σ → mm_T p l e ({ frames := 3, cells := 0, slots := 0, locals := 120 } : Room) s m args below meth c G (mm_Qi G Q) 3 26 σ [(0, .ref (mm_o G)), (1, .int x1), (2, .int x2)] [] :=
  lp3F_of (fun K hK => B3_again_26 cx hK)
def w3_again (x1 : Int32) (σ : MS) (Q : Int32 → MS → Prop) : Prop :=
  w3_in x1 (0 : Int32) (1 : Int32) σ (fun r3 s3 => if r3 = 0 then (Q (0 : Int32) s3) else (vp_in x1 2 ∧ (if (gA s3 7 x1.toNatClampNeg) = 0 then (Q (0 : Int32) s3) else (w3_keepsAct s3 (fun s4 => lp3F (w3_again_26 Q) x1 (0 : Int32) s4)))))
set_option maxHeartbeats 4000000 in
theorem M3_again (l : Launch) (G : mm_G) (x1 : Int32) (σ : MS) (Q : Int32 → MS → Prop) (hw : w3_again x1 σ Q) : mm_Mi l yX3_again (ws_ yX3_again cX3_again 3 (some .boolean)) ({ frames := 3, cells := 0, slots := 0, locals := 120 } : Room) G [.ref (mm_o G), .int x1] σ Q := by
  refine mm_of (by decide) rfl ?_
  intro p e s m args below meth c cx hM ha
  refine mm_entry [.ref (mm_o G), .int x1] 3 [(0, .ref (mm_o G)), (1, .int x1)] ha (Nat.le_of_ble_eq_true rfl) rfl (fun ls hl => ?_)
  have hS : va_S (mm_A G) s.heap s.heap [] := va_S.rf
  unfold w3_again at hw
  obtain ⟨hx, hb, hml, hown, hts, hr, hlk, hMK, hZ⟩ := id cx
  refine lv_iload_n hx hb dX3_again_0 rfl (lv_at hl 1 rfl) ?_
  refine lv_iconst (v := (0 : Int32)) hx hb dX3_again_1 (by decide) ?_
  refine lv_iconst (v := (1 : Int32)) hx hb dX3_again_2 (by decide) ?_
  refine C3_in cx hM hS hw ⟨Nat.le_of_ble_eq_true rfl, Nat.le_of_ble_eq_true rfl⟩ (Nat.le_of_ble_eq_true rfl) hl.1 ⟨Nat.zero_le _, Nat.zero_le _⟩ dX3_again_3 (fun r3 s3 H locs hw hM hS => ?_)
  refine lv_if_eq (tgt := 18) hx hb dX3_again_6 (by decide) (fun hc => ?_) (fun hc => ?_)
  · have hw := mm_ip hc hw
    refine lv_iconst (v := (0 : Int32)) hx hb dX3_again_18 (by decide) ?_
    exact mm_zret cx hM hS (Or.inl rfl) hw dX3_again_19
  · have hw := mm_in hc hw
    refine lv_aload_n hx hb dX3_again_9 rfl (lv_at hl 0 rfl) ?_
    refine mg_7 cx hM dX3_again_10 ?_
    refine lv_iload_n hx hb dX3_again_13 rfl (lv_at hl 1 rfl) ?_
    obtain ⟨hi, hw⟩ := hw
    refine mm_zald cx hM hi dX3_again_14 ?_
    refine lv_if_ne (tgt := 20) hx hb dX3_again_15 (by decide) (fun hc => ?_) (fun hc => ?_)
    · have hw := mm_in hc hw
      refine lv_aload_n hx hb dX3_again_20 rfl (lv_at hl 0 rfl) ?_
      refine C3_keepsAct cx hM hS hw ⟨Nat.le_of_ble_eq_true rfl, Nat.le_of_ble_eq_true rfl⟩ (Nat.le_of_ble_eq_true rfl) hl.1 ⟨Nat.zero_le _, Nat.zero_le _⟩ dX3_again_21 (fun s4 H locs hw hM hS => ?_)
      refine lv_iconst (v := (0 : Int32)) hx hb dX3_again_24 (by decide) ?_
      refine lv_istore_n (lv' := [(2, .int (0 : Int32)), (0, .ref (mm_o G)), (1, .int x1)]) hx hb dX3_again_25 rfl hl (by decide) rfl (fun ls hl => ?_)
      exact L3_again_26 cx _ _ _ hw _ _ _ hM hS (lv_sub hl [1, 2, 0] rfl)
    · have hw := mm_ip hc hw
      refine lv_iconst (v := (0 : Int32)) hx hb dX3_again_18 (by decide) ?_
      exact mm_zret cx hM hS (Or.inl rfl) hw dX3_again_19
-- no call of again
def w3_worlds (x1 : Int32) (σ : MS) (Q : Int32 → MS → Prop) : Prop :=
  if x1 = 0 then (w3_many 24 σ (fun r2 s2 => Q r2 s2)) else (if x1 = (1 : Int32) then (w3_many 27 σ (fun r1 s1 => Q r1 s1)) else (Q (-1 : Int32) σ))
set_option maxHeartbeats 4000000 in
theorem M3_worlds (l : Launch) (G : mm_G) (x1 : Int32) (σ : MS) (Q : Int32 → MS → Prop) (hw : w3_worlds x1 σ Q) : mm_Mi l yX3_worlds (ws_ yX3_worlds cX3_worlds 2 (some .int)) ({ frames := 2, cells := 0, slots := 0, locals := 80 } : Room) G [.ref (mm_o G), .int x1] σ Q := by
  refine mm_of (by decide) rfl ?_
  intro p e s m args below meth c cx hM ha
  refine mm_entry [.ref (mm_o G), .int x1] 2 [(0, .ref (mm_o G)), (1, .int x1)] ha (Nat.le_of_ble_eq_true rfl) rfl (fun ls hl => ?_)
  have hS : va_S (mm_A G) s.heap s.heap [] := va_S.rf
  unfold w3_worlds at hw
  obtain ⟨hx, hb, hml, hown, hts, hr, hlk, hMK, hZ⟩ := id cx
  refine lv_iload_n hx hb dX3_worlds_0 rfl (lv_at hl 1 rfl) ?_
  refine lv_if_ne (tgt := 14) hx hb dX3_worlds_1 (by decide) (fun hc => ?_) (fun hc => ?_)
  · have hw := mm_in hc hw
    refine lv_iload_n hx hb dX3_worlds_14 rfl (lv_at hl 1 rfl) ?_
    refine lv_iconst (v := (1 : Int32)) hx hb dX3_worlds_15 (by decide) ?_
    refine lv_icmp_ne (tgt := 29) hx hb dX3_worlds_16 (by decide) (fun hc => ?_) (fun hc => ?_)
    · have hw := mm_in hc hw
      refine lv_iconst (v := (-1 : Int32)) hx hb dX3_worlds_29 (by decide) ?_
      exact mm_iret cx hM hS hw dX3_worlds_30
    · have hw := mm_ip hc hw
      refine lv_aload_n hx hb dX3_worlds_19 rfl (lv_at hl 0 rfl) ?_
      refine mg_27 cx hM dX3_worlds_20 ?_
      refine C3_many cx hM hS hw ⟨Nat.le_of_ble_eq_true rfl, Nat.le_of_ble_eq_true rfl⟩ (Nat.le_of_ble_eq_true rfl) hl.1 ⟨Nat.zero_le _, Nat.zero_le _⟩ dX3_worlds_23 (fun r1 s1 H locs hw hM hS => ?_)
      refine lv_goto (tgt := 30) hx hb dX3_worlds_26 (by decide) ?_
      exact mm_iret cx hM hS hw dX3_worlds_30
  · have hw := mm_ip hc hw
    refine lv_aload_n hx hb dX3_worlds_4 rfl (lv_at hl 0 rfl) ?_
    refine mg_24 cx hM dX3_worlds_5 ?_
    refine C3_many cx hM hS hw ⟨Nat.le_of_ble_eq_true rfl, Nat.le_of_ble_eq_true rfl⟩ (Nat.le_of_ble_eq_true rfl) hl.1 ⟨Nat.zero_le _, Nat.zero_le _⟩ dX3_worlds_8 (fun r2 s2 H locs hw hM hS => ?_)
    refine lv_goto (tgt := 30) hx hb dX3_worlds_11 (by decide) ?_
    exact mm_iret cx hM hS hw dX3_worlds_30
-- no call of worlds
def w3_clash_95 (Q : Int32 → MS → Prop) (σ : MS) : Prop :=
  Q (1 : Int32) σ
set_option maxHeartbeats 4000000 in
theorem B3_clash_95 {l : Launch} {p : Program} {e : Env} {s : State} {m : MethodId} {args : Array Value} {below : List Frame} {meth : Method} {c : Code} {G : mm_G} {Q : Int32 → MS → Prop} (cx : mm_X cX3_clash 4 (some .int) G p s m args meth c) : ∀ (σ : MS), w3_clash_95 Q σ → mm_T p l e ({ frames := 2, cells := 0, slots := 0, locals := 80 } : Room) s m args below meth c G (mm_Qi G Q) 4 95 σ [(0, .ref (mm_o G))] [] := by
  intro σ hw H locs ls hM hS hl
  unfold w3_clash_95 at hw
  obtain ⟨hx, hb, hml, hown, hts, hr, hlk, hMK, hZ⟩ := id cx
  refine lv_iconst (v := (1 : Int32)) hx hb dX3_clash_95 (by decide) ?_
  refine lv_goto (tgt := 100) hx hb dX3_clash_96 (by decide) ?_
  exact mm_iret cx hM hS hw dX3_clash_100
def w3_clash (x1 : Int32) (x2 : Int32) (σ : MS) (Q : Int32 → MS → Prop) : Prop :=
  w3_isCount x1 σ (fun r1 s1 => if r1 = 0 then (Q (-1 : Int32) s1) else (w3_isCount x2 s1 (fun r2 s2 => if r2 = 0 then (Q (-1 : Int32) s2) else (w3_its x1 (4 : Int32) s2 (fun r3 s3 => w3_its x2 (4 : Int32) s3 (fun r4 s4 => ∀ v5 : Int32, v5 = (r3 &&& r4) → w3_its x1 (4 : Int32) s4 (fun r6 s6 => w3_its x2 (4 : Int32) s6 (fun r7 s7 => w3_its x1 (5 : Int32) s7 (fun r8 s8 => w3_its x2 (5 : Int32) s8 (fun r9 s9 => w3_laysAgreed 28 (r6 ||| r7) (r8 ||| r9) s9 (fun s10 => w3_its x1 (5 : Int32) s10 (fun r11 s11 => w3_its x2 (5 : Int32) s11 (fun r12 s12 => if (r11 &&& v5) = (r12 &&& v5) then (w3_many 28 s12 (fun r13 s13 => if r13 = 0 then (w3_clash_95 Q s13) else (Q (0 : Int32) s13))) else (w3_clash_95 Q s12))))))))))))))
set_option maxHeartbeats 4000000 in
theorem M3_clash (l : Launch) (G : mm_G) (x1 : Int32) (x2 : Int32) (σ : MS) (Q : Int32 → MS → Prop) (hw : w3_clash x1 x2 σ Q) : mm_Mi l yX3_clash (ws_ yX3_clash cX3_clash 4 (some .int)) ({ frames := 2, cells := 0, slots := 0, locals := 80 } : Room) G [.ref (mm_o G), .int x1, .int x2] σ Q := by
  refine mm_of (by decide) rfl ?_
  intro p e s m args below meth c cx hM ha
  refine mm_entry [.ref (mm_o G), .int x1, .int x2] 4 [(0, .ref (mm_o G)), (1, .int x1), (2, .int x2)] ha (Nat.le_of_ble_eq_true rfl) rfl (fun ls hl => ?_)
  have hS : va_S (mm_A G) s.heap s.heap [] := va_S.rf
  unfold w3_clash at hw
  obtain ⟨hx, hb, hml, hown, hts, hr, hlk, hMK, hZ⟩ := id cx
  refine lv_aload_n hx hb dX3_clash_0 rfl (lv_at hl 0 rfl) ?_
  refine lv_iload_n hx hb dX3_clash_1 rfl (lv_at hl 1 rfl) ?_
  refine C3_isCount cx hM hS hw ⟨Nat.le_of_ble_eq_true rfl, Nat.le_of_ble_eq_true rfl⟩ (Nat.le_of_ble_eq_true rfl) hl.1 ⟨Nat.zero_le _, Nat.zero_le _⟩ dX3_clash_2 (fun r1 s1 H locs hw hM hS => ?_)
  refine lv_if_eq (tgt := 16) hx hb dX3_clash_5 (by decide) (fun hc => ?_) (fun hc => ?_)
  · have hw := mm_ip hc hw
    refine lv_iconst (v := (-1 : Int32)) hx hb dX3_clash_16 (by decide) ?_
    exact mm_iret cx hM hS hw dX3_clash_17
  · have hw := mm_in hc hw
    refine lv_aload_n hx hb dX3_clash_8 rfl (lv_at hl 0 rfl) ?_
    refine lv_iload_n hx hb dX3_clash_9 rfl (lv_at hl 2 rfl) ?_
    refine C3_isCount cx hM hS hw ⟨Nat.le_of_ble_eq_true rfl, Nat.le_of_ble_eq_true rfl⟩ (Nat.le_of_ble_eq_true rfl) hl.1 ⟨Nat.zero_le _, Nat.zero_le _⟩ dX3_clash_10 (fun r2 s2 H locs hw hM hS => ?_)
    refine lv_if_ne (tgt := 18) hx hb dX3_clash_13 (by decide) (fun hc => ?_) (fun hc => ?_)
    · have hw := mm_in hc hw
      refine lv_aload_n hx hb dX3_clash_18 rfl (lv_at hl 0 rfl) ?_
      refine lv_iload_n hx hb dX3_clash_19 rfl (lv_at hl 1 rfl) ?_
      refine lv_iconst (v := (4 : Int32)) hx hb dX3_clash_20 (by decide) ?_
      refine C3_its cx hM hS hw ⟨Nat.le_of_ble_eq_true rfl, Nat.le_of_ble_eq_true rfl⟩ (Nat.le_of_ble_eq_true rfl) hl.1 ⟨Nat.zero_le _, Nat.zero_le _⟩ dX3_clash_21 (fun r3 s3 H locs hw hM hS => ?_)
      refine lv_aload_n hx hb dX3_clash_24 rfl (lv_at hl 0 rfl) ?_
      refine lv_iload_n hx hb dX3_clash_25 rfl (lv_at hl 2 rfl) ?_
      refine lv_iconst (v := (4 : Int32)) hx hb dX3_clash_26 (by decide) ?_
      refine C3_its cx hM hS hw ⟨Nat.le_of_ble_eq_true rfl, Nat.le_of_ble_eq_true rfl⟩ (Nat.le_of_ble_eq_true rfl) hl.1 ⟨Nat.zero_le _, Nat.zero_le _⟩ dX3_clash_27 (fun r4 s4 H locs hw hM hS => ?_)
      refine lv_iand hx hb dX3_clash_30 ?_
      refine lv_topi (fun v5 hv5 => ?_)
      have hw := hw v5 hv5
      refine lv_istore_n (lv' := [(3, .int v5), (0, .ref (mm_o G)), (1, .int x1), (2, .int x2)]) hx hb dX3_clash_31 rfl hl (by decide) rfl (fun ls hl => ?_)
      refine lv_aload_n hx hb dX3_clash_32 rfl (lv_at hl 1 rfl) ?_
      refine lv_aload_n hx hb dX3_clash_33 rfl (lv_at hl 1 rfl) ?_
      refine mg_28 cx hM dX3_clash_34 ?_
      refine lv_aload_n hx hb dX3_clash_37 rfl (lv_at hl 1 rfl) ?_
      refine lv_iload_n hx hb dX3_clash_38 rfl (lv_at hl 2 rfl) ?_
      refine lv_iconst (v := (4 : Int32)) hx hb dX3_clash_39 (by decide) ?_
      refine C3_its cx hM hS hw ⟨Nat.le_of_ble_eq_true rfl, Nat.le_of_ble_eq_true rfl⟩ (Nat.le_of_ble_eq_true rfl) hl.1 ⟨Nat.zero_le _, Nat.zero_le _⟩ dX3_clash_40 (fun r6 s6 H locs hw hM hS => ?_)
      refine lv_aload_n hx hb dX3_clash_43 rfl (lv_at hl 1 rfl) ?_
      refine lv_iload_n hx hb dX3_clash_44 rfl (lv_at hl 3 rfl) ?_
      refine lv_iconst (v := (4 : Int32)) hx hb dX3_clash_45 (by decide) ?_
      refine C3_its cx hM hS hw ⟨Nat.le_of_ble_eq_true rfl, Nat.le_of_ble_eq_true rfl⟩ (Nat.le_of_ble_eq_true rfl) hl.1 ⟨Nat.zero_le _, Nat.zero_le _⟩ dX3_clash_46 (fun r7 s7 H locs hw hM hS => ?_)
      refine lv_ior hx hb dX3_clash_49 ?_
      refine lv_aload_n hx hb dX3_clash_50 rfl (lv_at hl 1 rfl) ?_
      refine lv_iload_n hx hb dX3_clash_51 rfl (lv_at hl 2 rfl) ?_
      refine lv_iconst (v := (5 : Int32)) hx hb dX3_clash_52 (by decide) ?_
      refine C3_its cx hM hS hw ⟨Nat.le_of_ble_eq_true rfl, Nat.le_of_ble_eq_true rfl⟩ (Nat.le_of_ble_eq_true rfl) hl.1 ⟨Nat.zero_le _, Nat.zero_le _⟩ dX3_clash_53 (fun r8 s8 H locs hw hM hS => ?_)
      refine lv_aload_n hx hb dX3_clash_56 rfl (lv_at hl 1 rfl) ?_
      refine lv_iload_n hx hb dX3_clash_57 rfl (lv_at hl 3 rfl) ?_
      refine lv_iconst (v := (5 : Int32)) hx hb dX3_clash_58 (by decide) ?_
      refine C3_its cx hM hS hw ⟨Nat.le_of_ble_eq_true rfl, Nat.le_of_ble_eq_true rfl⟩ (Nat.le_of_ble_eq_true rfl) hl.1 ⟨Nat.zero_le _, Nat.zero_le _⟩ dX3_clash_59 (fun r9 s9 H locs hw hM hS => ?_)
      refine lv_ior hx hb dX3_clash_62 ?_
      refine C3_laysAgreed cx hM hS hw ⟨Nat.le_of_ble_eq_true rfl, Nat.le_of_ble_eq_true rfl⟩ (Nat.le_of_ble_eq_true rfl) hl.1 ⟨Nat.zero_le _, Nat.zero_le _⟩ dX3_clash_63 (fun s10 H locs hw hM hS => ?_)
      refine lv_aload_n hx hb dX3_clash_66 rfl (lv_at hl 1 rfl) ?_
      refine lv_iload_n hx hb dX3_clash_67 rfl (lv_at hl 2 rfl) ?_
      refine lv_iconst (v := (5 : Int32)) hx hb dX3_clash_68 (by decide) ?_
      refine C3_its cx hM hS hw ⟨Nat.le_of_ble_eq_true rfl, Nat.le_of_ble_eq_true rfl⟩ (Nat.le_of_ble_eq_true rfl) hl.1 ⟨Nat.zero_le _, Nat.zero_le _⟩ dX3_clash_69 (fun r11 s11 H locs hw hM hS => ?_)
      refine lv_iload_n hx hb dX3_clash_72 rfl (lv_at hl 0 rfl) ?_
      refine lv_iand hx hb dX3_clash_73 ?_
      refine lv_aload_n hx hb dX3_clash_74 rfl (lv_at hl 1 rfl) ?_
      refine lv_iload_n hx hb dX3_clash_75 rfl (lv_at hl 3 rfl) ?_
      refine lv_iconst (v := (5 : Int32)) hx hb dX3_clash_76 (by decide) ?_
      refine C3_its cx hM hS hw ⟨Nat.le_of_ble_eq_true rfl, Nat.le_of_ble_eq_true rfl⟩ (Nat.le_of_ble_eq_true rfl) hl.1 ⟨Nat.zero_le _, Nat.zero_le _⟩ dX3_clash_77 (fun r12 s12 H locs hw hM hS => ?_)
      refine lv_iload_n hx hb dX3_clash_80 rfl (lv_at hl 0 rfl) ?_
      refine lv_iand hx hb dX3_clash_81 ?_
      refine lv_icmp_ne (tgt := 95) hx hb dX3_clash_82 (by decide) (fun hc => ?_) (fun hc => ?_)
      · have hw := mm_in hc hw
        exact B3_clash_95 cx _ hw _ _ _ hM hS (lv_sub hl [1] rfl)
      · have hw := mm_ip hc hw
        refine lv_aload_n hx hb dX3_clash_85 rfl (lv_at hl 1 rfl) ?_
        refine mg_28 cx hM dX3_clash_86 ?_
        refine C3_many cx hM hS hw ⟨Nat.le_of_ble_eq_true rfl, Nat.le_of_ble_eq_true rfl⟩ (Nat.le_of_ble_eq_true rfl) hl.1 ⟨Nat.zero_le _, Nat.zero_le _⟩ dX3_clash_89 (fun r13 s13 H locs hw hM hS => ?_)
        refine lv_if_ne (tgt := 99) hx hb dX3_clash_92 (by decide) (fun hc => ?_) (fun hc => ?_)
        · have hw := mm_in hc hw
          refine lv_iconst (v := (0 : Int32)) hx hb dX3_clash_99 (by decide) ?_
          exact mm_iret cx hM hS hw dX3_clash_100
        · have hw := mm_ip hc hw
          exact B3_clash_95 cx _ hw _ _ _ hM hS (lv_sub hl [1] rfl)
    · have hw := mm_ip hc hw
      refine lv_iconst (v := (-1 : Int32)) hx hb dX3_clash_16 (by decide) ?_
      exact mm_iret cx hM hS hw dX3_clash_17
-- no call of clash
def w3_isWon (x1 : Int32) (x2 : Int32) (σ : MS) (Q : Int32 → MS → Prop) : Prop :=
  w3_its x1 (0 : Int32) σ (fun r1 s1 => w3_isIn 26 r1 x2 s1 (fun r2 s2 => zb r2 ∧ Q r2 s2))
set_option maxHeartbeats 4000000 in
theorem M3_isWon (l : Launch) (G : mm_G) (x1 : Int32) (x2 : Int32) (σ : MS) (Q : Int32 → MS → Prop) (hw : w3_isWon x1 x2 σ Q) : mm_Mi l yX3_isWon (ws_ yX3_isWon cX3_isWon 3 (some .boolean)) ({ frames := 1, cells := 0, slots := 0, locals := 40 } : Room) G [.ref (mm_o G), .int x1, .int x2] σ Q := by
  refine mm_of (by decide) rfl ?_
  intro p e s m args below meth c cx hM ha
  refine mm_entry [.ref (mm_o G), .int x1, .int x2] 3 [(0, .ref (mm_o G)), (1, .int x1), (2, .int x2)] ha (Nat.le_of_ble_eq_true rfl) rfl (fun ls hl => ?_)
  have hS : va_S (mm_A G) s.heap s.heap [] := va_S.rf
  unfold w3_isWon at hw
  obtain ⟨hx, hb, hml, hown, hts, hr, hlk, hMK, hZ⟩ := id cx
  refine lv_aload_n hx hb dX3_isWon_0 rfl (lv_at hl 0 rfl) ?_
  refine mg_26 cx hM dX3_isWon_1 ?_
  refine lv_aload_n hx hb dX3_isWon_4 rfl (lv_at hl 0 rfl) ?_
  refine lv_iload_n hx hb dX3_isWon_5 rfl (lv_at hl 1 rfl) ?_
  refine lv_iconst (v := (0 : Int32)) hx hb dX3_isWon_6 (by decide) ?_
  refine C3_its cx hM hS hw ⟨Nat.le_of_ble_eq_true rfl, Nat.le_of_ble_eq_true rfl⟩ (Nat.le_of_ble_eq_true rfl) hl.1 ⟨Nat.zero_le _, Nat.zero_le _⟩ dX3_isWon_7 (fun r1 s1 H locs hw hM hS => ?_)
  refine lv_iload_n hx hb dX3_isWon_10 rfl (lv_at hl 2 rfl) ?_
  refine C3_isIn cx hM hS hw ⟨Nat.le_of_ble_eq_true rfl, Nat.le_of_ble_eq_true rfl⟩ (Nat.le_of_ble_eq_true rfl) hl.1 ⟨Nat.zero_le _, Nat.zero_le _⟩ dX3_isWon_11 (fun r2 s2 H locs hw hM hS => ?_)
  obtain ⟨hz, hw⟩ := hw
  exact mm_zret cx hM hS hz hw dX3_isWon_14
theorem C3_isWon {l : Launch} {p : Program} {e : Env} {R : Room} {s : State} {m : MethodId} {args : Array Value} {below : List Frame} {meth : Method} {c : Code} {H : Heap} {locs : List Loc} {cells slots : Nat} {Qz : State → Prop} {cc : ByteArray} {nL : Nat} {ret : Option FieldType} {G : mm_G} {pc : Nat} {ls : Array Slot} {rest : List Value} {x1 : Int32} {x2 : Int32} {σ : MS} (cx : mm_X cc nL ret G p s m args meth c) (hM : mm_R G σ H) (hS0 : va_S (mm_A G) s.heap H locs) {Qf : Int32 → MS → Prop} (hw : w3_isWon x1 x2 σ Qf) (hR : (({ frames := 1, cells := 0, slots := 0, locals := 40 } : Room)).frames + 1 ≤ R.frames ∧ 8 + (3 + 11) + (({ frames := 1, cells := 0, slots := 0, locals := 40 } : Room)).locals ≤ R.locals) (hroom : (rest.map fun v => v.category).sum ≤ 8) (hsize : ls.size = nL) (hf : cells ≤ R.cells ∧ slots ≤ R.slots) (hdg : decode cc pc = .ok (.invokevirtual 416, 3))
    (kk : ∀ (r : Int32) (σ1 : MS) (H1 : Heap) (locs1 : List Loc), Qf r σ1 → mm_R G σ1 H1 → va_S (mm_A G) s.heap H1 locs1 → W p l e R s m args below meth c H1 locs1 cells slots Qz (F0 m (pc + 3) ls (.int r :: rest))) : W p l e R s m args below meth c H locs cells slots Qz (F0 m pc ls (.int x2 :: .int x1 :: .ref (mm_o G) :: rest)) := by
  obtain ⟨hx, hb, hml, hown, hts, hr, hlk, hK, hZ⟩ := id cx
  exact mm_Vi cx hM hS0 (As := [.int x1, .int x2]) (M3_isWon l G x1 x2 σ Qf hw) (cwV 2 hts (lw_V q2909 q2911 qs139 q172 q2912) rfl rfl rfl (by decide +kernel) hR) rfl hsize rfl hroom hf hdg kk
