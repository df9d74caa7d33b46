/-! walks of the model's methods (printed by gen/mparts.py): someOf one expr readNever readCount readPlea has readSays readSame readLimit readLine isRead puts begins suit fault isFact its sayers fact isCount bits backBy laysBacks laysInjuries needs barOf bars many need holdsIn isSure -/
set_option maxRecDepth 100000
def w3_someOf_65 (F : MS → (MS → Prop) → Prop) (Q : MS → Prop) (K51 : Int32 → Int32 → Int32 → MS → Prop) (x1 : Int32) (x2 : Int32) (σ : MS) : Prop :=
  w3_either F σ (fun s1 => ∀ v2 : Int32, v2 = x2 + (1 : Int32) → w3_isSign (44 : Int32) s1 (fun r3 s3 => if r3 = 0 then (K51 x1 v2 r3 s3) else (w3_next s3 (fun s4 => K51 x1 v2 r3 s4))))
set_option maxHeartbeats 4000000 in
theorem B3_someOf_65 {l : Launch} {p : Program} {e : Env} {s : State} {m : MethodId} {args : Array Value} {below : List Frame} {meth : Method} {c : Code} {G : mm_G} {F : MS → (MS → Prop) → Prop} {Q : MS → Prop} {K51 : Int32 → Int32 → Int32 → MS → Prop} (d : Nat) (hF : ∀ (σ : MS) (Q : MS → Prop), F σ Q → mm_Mv l yX3_one (ws_ yX3_one cX3_one 1 none) ({ frames := 13 + 4 * d, cells := 0, slots := 0, locals := 40 * (13 + 4 * d) } : Room) G [.ref (mm_o G)] σ Q) (cx : mm_X cX3_someOf 4 none G p s m args meth c) (hK51 : ∀ (x1 : Int32) (x2 : Int32) (x3 : Int32) (σ : MS), K51 x1 x2 x3 σ → mm_T p l e ({ frames := 16 + 4 * d, cells := 0, slots := 0, locals := 40 * (16 + 4 * d) } : Room) s m args below meth c G (mm_Qv G Q) 4 51 σ [(0, .ref (mm_o G)), (1, .int x1), (2, .int x2), (3, .int x3)] []) : ∀ (x1 : Int32) (x2 : Int32) (σ : MS), w3_someOf_65 F Q K51 x1 x2 σ → mm_T p l e ({ frames := 16 + 4 * d, cells := 0, slots := 0, locals := 40 * (16 + 4 * d) } : Room) s m args below meth c G (mm_Qv G Q) 4 65 σ [(0, .ref (mm_o G)), (1, .int x1), (2, .int x2)] [] := by
  intro x1 x2 σ hw H locs ls hM hS hl
  unfold w3_someOf_65 at hw
  obtain ⟨hx, hb, hml, hown, hts, hr, hlk, hMK, hZ⟩ := id cx
  refine lv_aload_n hx hb dX3_someOf_65 rfl (lv_at hl 0 rfl) ?_
  refine C3_either d hF cx hM hS hw (by constructor <;> dsimp only <;> omega) (Nat.le_of_ble_eq_true rfl) hl.1 ⟨Nat.zero_le _, Nat.zero_le _⟩ dX3_someOf_66 (fun s1 H locs hw hM hS => ?_)
  obtain ⟨v2, hv2⟩ : ∃ v : Int32, v = x2 + (1 : Int32) := ⟨_, rfl⟩
  have hw := hw v2 hv2
  refine lv_iinc (v := v2) (lv' := [(2, .int v2), (0, .ref (mm_o G)), (1, .int x1)]) hx hb dX3_someOf_69 hl (k := 2) rfl (by rw [hv2]; rfl) (by decide) rfl (fun ls hl => ?_)
  refine lv_aload_n hx hb dX3_someOf_72 rfl (lv_at hl 1 rfl) ?_
  refine lv_bipush (v := (44 : Int32)) hx hb dX3_someOf_73 (by decide) ?_
  refine C3_isSign cx hM hS hw (by constructor <;> dsimp only <;> omega) (Nat.le_of_ble_eq_true rfl) hl.1 ⟨Nat.zero_le _, Nat.zero_le _⟩ dX3_someOf_75 (fun r3 s3 H locs hw hM hS => ?_)
  refine lv_istore_n (lv' := [(3, .int r3), (2, .int v2), (0, .ref (mm_o G)), (1, .int x1)]) hx hb dX3_someOf_78 rfl hl (by decide) rfl (fun ls hl => ?_)
  refine lv_iload_n hx hb dX3_someOf_79 rfl (lv_at hl 0 rfl) ?_
  refine lv_if_eq (tgt := 51) hx hb dX3_someOf_80 (by decide) (fun hc => ?_) (fun hc => ?_)
  · have hw := mm_ip hc hw
    exact hK51 _ _ _ _ hw _ _ _ hM hS (lv_sub hl [2, 3, 1, 0] rfl)
  · have hw := mm_in hc hw
    refine lv_aload_n hx hb dX3_someOf_83 rfl (lv_at hl 2 rfl) ?_
    refine C3_next cx hM hS hw (by constructor <;> dsimp only <;> omega) (Nat.le_of_ble_eq_true rfl) hl.1 ⟨Nat.zero_le _, Nat.zero_le _⟩ dX3_someOf_84 (fun s4 H locs hw hM hS => ?_)
    refine lv_goto (tgt := 51) hx hb dX3_someOf_87 (by decide) ?_
    exact hK51 _ _ _ _ hw _ _ _ hM hS (lv_sub hl [2, 3, 1, 0] rfl)
def w3_someOf_51 (F : MS → (MS → Prop) → Prop) (Q : MS → Prop) (K51 : Int32 → Int32 → Int32 → MS → Prop) (x1 : Int32) (x2 : Int32) (x3 : Int32) (σ : MS) : Prop :=
  if x3 = 0 then (w3_isSign (41 : Int32) σ (fun r5 s5 => w3_must r5 s5 (fun s6 => w3_step (4 : Int32) (((10 : Int32) * x1) + x2) (sI s6 16 ((gI s6 16) - (1 : Int32))) (fun s7 => Q s7)))) else (if x2 = (6 : Int32) then (w3_oneTooMany σ (fun s8 => w3_someOf_65 F Q K51 x1 x2 s8)) else (w3_someOf_65 F Q K51 x1 x2 σ))
set_option maxHeartbeats 4000000 in
theorem B3_someOf_51 {l : Launch} {p : Program} {e : Env} {s : State} {m : MethodId} {args : Array Value} {below : List Frame} {meth : Method} {c : Code} {G : mm_G} {F : MS → (MS → Prop) → Prop} {Q : MS → Prop} {K51 : Int32 → Int32 → Int32 → MS → Prop} (d : Nat) (hF : ∀ (σ : MS) (Q : MS → Prop), F σ Q → mm_Mv l yX3_one (ws_ yX3_one cX3_one 1 none) ({ frames := 13 + 4 * d, cells := 0, slots := 0, locals := 40 * (13 + 4 * d) } : Room) G [.ref (mm_o G)] σ Q) (cx : mm_X cX3_someOf 4 none G p s m args meth c) (hK51 : ∀ (x1 : Int32) (x2 : Int32) (x3 : Int32) (σ : MS), K51 x1 x2 x3 σ → mm_T p l e ({ frames := 16 + 4 * d, cells := 0, slots := 0, locals := 40 * (16 + 4 * d) } : Room) s m args below meth c G (mm_Qv G Q) 4 51 σ [(0, .ref (mm_o G)), (1, .int x1), (2, .int x2), (3, .int x3)] []) : ∀ (x1 : Int32) (x2 : Int32) (x3 : Int32) (σ : MS), w3_someOf_51 F Q K51 x1 x2 x3 σ → mm_T p l e ({ frames := 16 + 4 * d, cells := 0, slots := 0, locals := 40 * (16 + 4 * d) } : Room) s m args below meth c G (mm_Qv G Q) 4 51 σ [(0, .ref (mm_o G)), (1, .int x1), (2, .int x2), (3, .int x3)] [] := by
  intro x1 x2 x3 σ hw H locs ls hM hS hl
  unfold w3_someOf_51 at hw
  obtain ⟨hx, hb, hml, hown, hts, hr, hlk, hMK, hZ⟩ := id cx
  refine lv_iload_n hx hb dX3_someOf_51 rfl (lv_at hl 3 rfl) ?_
  refine lv_if_eq (tgt := 90) hx hb dX3_someOf_52 (by decide) (fun hc => ?_) (fun hc => ?_)
  · have hw := mm_ip hc hw
    refine lv_aload_n hx hb dX3_someOf_90 rfl (lv_at hl 0 rfl) ?_
    refine lv_aload_n hx hb dX3_someOf_91 rfl (lv_at hl 0 rfl) ?_
    refine lv_bipush (v := (41 : Int32)) hx hb dX3_someOf_92 (by decide) ?_
    refine C3_isSign cx hM hS hw (by constructor <;> dsimp only <;> omega) (Nat.le_of_ble_eq_true rfl) hl.1 ⟨Nat.zero_le _, Nat.zero_le _⟩ dX3_someOf_94 (fun r5 s5 H locs hw hM hS => ?_)
    refine C3_must cx hM hS hw (by constructor <;> dsimp only <;> omega) (Nat.le_of_ble_eq_true rfl) hl.1 ⟨Nat.zero_le _, Nat.zero_le _⟩ dX3_someOf_97 (fun s6 H locs hw hM hS => ?_)
    refine lv_aload_n hx hb dX3_someOf_100 rfl (lv_at hl 0 rfl) ?_
    refine lv_dup hx hb dX3_someOf_101 rfl ?_
    refine mg_16 cx hM dX3_someOf_102 ?_
    refine lv_iconst (v := (1 : Int32)) hx hb dX3_someOf_105 (by decide) ?_
    refine lv_isub hx hb dX3_someOf_106 ?_
    refine mp_16 cx hM hS dX3_someOf_107 (fun H locs hM hS => ?_)
    refine lv_aload_n hx hb dX3_someOf_110 rfl (lv_at hl 0 rfl) ?_
    refine lv_iconst (v := (4 : Int32)) hx hb dX3_someOf_111 (by decide) ?_
    refine lv_bipush (v := (10 : Int32)) hx hb dX3_someOf_112 (by decide) ?_
    refine lv_iload_n hx hb dX3_someOf_114 rfl (lv_at hl 1 rfl) ?_
    refine lv_imul hx hb dX3_someOf_115 ?_
    refine lv_iload_n hx hb dX3_someOf_116 rfl (lv_at hl 2 rfl) ?_
    refine lv_iadd hx hb dX3_someOf_117 ?_
    refine C3_step cx hM hS hw (by constructor <;> dsimp only <;> omega) (Nat.le_of_ble_eq_true rfl) hl.1 ⟨Nat.zero_le _, Nat.zero_le _⟩ dX3_someOf_118 (fun s7 H locs hw hM hS => ?_)
    exact mm_vret cx hM hS hw dX3_someOf_121
  · have hw := mm_in hc hw
    refine lv_iload_n hx hb dX3_someOf_55 rfl (lv_at hl 2 rfl) ?_
    refine lv_bipush (v := (6 : Int32)) hx hb dX3_someOf_56 (by decide) ?_
    refine lv_icmp_ne (tgt := 65) hx hb dX3_someOf_58 (by decide) (fun hc => ?_) (fun hc => ?_)
    · have hw := mm_in hc hw
      exact B3_someOf_65 d hF cx hK51 _ _ _ hw _ _ _ hM hS (lv_sub hl [0, 1, 2] rfl)
    · have hw := mm_ip hc hw
      refine lv_aload_n hx hb dX3_someOf_61 rfl (lv_at hl 0 rfl) ?_
      refine C3_oneTooMany cx hM hS hw (by constructor <;> dsimp only <;> omega) (Nat.le_of_ble_eq_true rfl) hl.1 ⟨Nat.zero_le _, Nat.zero_le _⟩ dX3_someOf_62 (fun s8 H locs hw hM hS => ?_)
      exact B3_someOf_65 d hF cx hK51 _ _ _ hw _ _ _ hM hS (lv_sub hl [0, 1, 2] rfl)
theorem L3_someOf_51 {l : Launch} {p : Program} {e : Env} {s : State} {m : MethodId} {args : Array Value} {below : List Frame} {meth : Method} {c : Code} {G : mm_G} {F : MS → (MS → Prop) → Prop} {Q : MS → Prop} (d : Nat) (hF : ∀ (σ : MS) (Q : MS → Prop), F σ Q → mm_Mv l yX3_one (ws_ yX3_one cX3_one 1 none) ({ frames := 13 + 4 * d, cells := 0, slots := 0, locals := 40 * (13 + 4 * d) } : Room) G [.ref (mm_o G)] σ Q) (cx : mm_X cX3_someOf 4 none G p s m args meth c) : ∀ (x1 : Int32) (x2 : Int32) (x3 : Int32) (σ : MS), lp4F (w3_someOf_51 F Q) x1 x2 x3 σ → mm_T p l e ({ frames := 16 + 4 * d, cells := 0, slots := 0, locals := 40 * (16 + 4 * d) } : Room) s m args below meth c G (mm_Qv G Q) 4 51 σ [(0, .ref (mm_o G)), (1, .int x1), (2, .int x2), (3, .int x3)] [] :=
  lp4F_of (fun K hK => B3_someOf_51 d hF cx hK)
def w3_someOf_50 (F : MS → (MS → Prop) → Prop) (Q : MS → Prop) (x1 : Int32) (x2 : Int32) (t0 : Int32) (σ : MS) : Prop :=
  lp4F (w3_someOf_51 F Q) x1 x2 t0 σ
set_option maxHeartbeats 4000000 in
theorem B3_someOf_50 {l : Launch} {p : Program} {e : Env} {s : State} {m : MethodId} {args : Array Value} {below : List Frame} {meth : Method} {c : Code} {G : mm_G} {F : MS → (MS → Prop) → Prop} {Q : MS → Prop} (d : Nat) (hF : ∀ (σ : MS) (Q : MS → Prop), F σ Q → mm_Mv l yX3_one (ws_ yX3_one cX3_one 1 none) ({ frames := 13 + 4 * d, cells := 0, slots := 0, locals := 40 * (13 + 4 * d) } : Room) G [.ref (mm_o G)] σ Q) (cx : mm_X cX3_someOf 4 none G p s m args meth c) : ∀ (x1 : Int32) (x2 : Int32) (t0 : Int32) (σ : MS), w3_someOf_50 F Q x1 x2 t0 σ → mm_T p l e ({ frames := 16 + 4 * d, cells := 0, slots := 0, locals := 40 * (16 + 4 * d) } : Room) s m args below meth c G (mm_Qv G Q) 4 50 σ [(0, .ref (mm_o G)), (1, .int x1), (2, .int x2)] [.int t0] := by
  intro x1 x2 t0 σ hw H locs ls hM hS hl
  unfold w3_someOf_50 at hw
  obtain ⟨hx, hb, hml, hown, hts, hr, hlk, hMK, hZ⟩ := id cx
  refine lv_istore_n (lv' := [(3, .int t0), (0, .ref (mm_o G)), (1, .int x1), (2, .int x2)]) hx hb dX3_someOf_50 rfl hl (by decide) rfl (fun ls hl => ?_)
  exact L3_someOf_51 d hF cx _ _ _ _ hw _ _ _ hM hS (lv_sub hl [1, 2, 3, 0] rfl)
def w3_someOf_32 (F : MS → (MS → Prop) → Prop) (Q : MS → Prop) (x1 : Int32) (σ : MS) : Prop :=
  w3_opens σ (fun s9 => if (gI s9 17) = 0 then (w3_someOf_50 F Q x1 (0 : Int32) (1 : Int32) s9) else (w3_someOf_50 F Q x1 (0 : Int32) (0 : Int32) s9))
set_option maxHeartbeats 4000000 in
theorem B3_someOf_32 {l : Launch} {p : Program} {e : Env} {s : State} {m : MethodId} {args : Array Value} {below : List Frame} {meth : Method} {c : Code} {G : mm_G} {F : MS → (MS → Prop) → Prop} {Q : MS → Prop} (d : Nat) (hF : ∀ (σ : MS) (Q : MS → Prop), F σ Q → mm_Mv l yX3_one (ws_ yX3_one cX3_one 1 none) ({ frames := 13 + 4 * d, cells := 0, slots := 0, locals := 40 * (13 + 4 * d) } : Room) G [.ref (mm_o G)] σ Q) (cx : mm_X cX3_someOf 4 none G p s m args meth c) : ∀ (x1 : Int32) (σ : MS), w3_someOf_32 F Q x1 σ → mm_T p l e ({ frames := 16 + 4 * d, cells := 0, slots := 0, locals := 40 * (16 + 4 * d) } : Room) s m args below meth c G (mm_Qv G Q) 4 32 σ [(0, .ref (mm_o G)), (1, .int x1)] [] := by
  intro x1 σ hw H locs ls hM hS hl
  unfold w3_someOf_32 at hw
  obtain ⟨hx, hb, hml, hown, hts, hr, hlk, hMK, hZ⟩ := id cx
  refine lv_aload_n hx hb dX3_someOf_32 rfl (lv_at hl 0 rfl) ?_
  refine C3_opens cx hM hS hw (by constructor <;> dsimp only <;> omega) (Nat.le_of_ble_eq_true rfl) hl.1 ⟨Nat.zero_le _, Nat.zero_le _⟩ dX3_someOf_33 (fun s9 H locs hw hM hS => ?_)
  refine lv_iconst (v := (0 : Int32)) hx hb dX3_someOf_36 (by decide) ?_
  refine lv_istore_n (lv' := [(2, .int (0 : Int32)), (0, .ref (mm_o G)), (1, .int x1)]) hx hb dX3_someOf_37 rfl hl (by decide) rfl (fun ls hl => ?_)
  refine lv_aload_n hx hb dX3_someOf_38 rfl (lv_at hl 1 rfl) ?_
  refine mg_17 cx hM dX3_someOf_39 ?_
  refine lv_if_ne (tgt := 49) hx hb dX3_someOf_42 (by decide) (fun hc => ?_) (fun hc => ?_)
  · have hw := mm_in hc hw
    refine lv_iconst (v := (0 : Int32)) hx hb dX3_someOf_49 (by decide) ?_
    exact B3_someOf_50 d hF cx _ _ _ _ hw _ _ _ hM hS (lv_sub hl [1, 2, 0] rfl)
  · have hw := mm_ip hc hw
    refine lv_iconst (v := (1 : Int32)) hx hb dX3_someOf_45 (by decide) ?_
    refine lv_goto (tgt := 50) hx hb dX3_someOf_46 (by decide) ?_
    exact B3_someOf_50 d hF cx _ _ _ _ hw _ _ _ hM hS (lv_sub hl [1, 2, 0] rfl)
def w3_someOf (F : MS → (MS → Prop) → Prop) (σ : MS) (Q : MS → Prop) : Prop :=
  w3_number (0 : Int32) (6 : Int32) σ (fun r10 s10 => w3_isWord 10 s10 (fun r11 s11 => w3_must r11 s11 (fun s12 => w3_isSign (40 : Int32) s12 (fun r13 s13 => if r13 = 0 then (w3_wrong (1 : Int32) s13 (fun s14 => w3_someOf_32 F Q r10 s14)) else (w3_someOf_32 F Q r10 s13)))))
set_option maxHeartbeats 4000000 in
theorem M3_someOf (l : Launch) (G : mm_G) {F : MS → (MS → Prop) → Prop} (d : Nat) (hF : ∀ (σ : MS) (Q : MS → Prop), F σ Q → mm_Mv l yX3_one (ws_ yX3_one cX3_one 1 none) ({ frames := 13 + 4 * d, cells := 0, slots := 0, locals := 40 * (13 + 4 * d) } : Room) G [.ref (mm_o G)] σ Q) (σ : MS) (Q : MS → Prop) (hw : w3_someOf F σ Q) : mm_Mv l yX3_someOf (ws_ yX3_someOf cX3_someOf 4 none) ({ frames := 16 + 4 * d, cells := 0, slots := 0, locals := 40 * (16 + 4 * d) } : Room) G [.ref (mm_o G)] σ Q := by
  refine mm_of (by decide) rfl ?_
  intro p e s m args below meth c cx hM ha
  refine mm_entry [.ref (mm_o G)] 4 [(0, .ref (mm_o G))] ha (Nat.le_of_ble_eq_true rfl) rfl (fun ls hl => ?_)
  have hS : va_S (mm_A G) s.heap s.heap [] := va_S.rf
  unfold w3_someOf at hw
  obtain ⟨hx, hb, hml, hown, hts, hr, hlk, hMK, hZ⟩ := id cx
  refine lv_aload_n hx hb dX3_someOf_0 rfl (lv_at hl 0 rfl) ?_
  refine lv_iconst (v := (0 : Int32)) hx hb dX3_someOf_1 (by decide) ?_
  refine lv_bipush (v := (6 : Int32)) hx hb dX3_someOf_2 (by decide) ?_
  refine C3_number cx hM hS hw (by constructor <;> dsimp only <;> omega) (Nat.le_of_ble_eq_true rfl) hl.1 ⟨Nat.zero_le _, Nat.zero_le _⟩ dX3_someOf_4 (fun r10 s10 H locs hw hM hS => ?_)
  refine lv_istore_n (lv' := [(1, .int r10), (0, .ref (mm_o G))]) hx hb dX3_someOf_7 rfl hl (by decide) rfl (fun ls hl => ?_)
  refine lv_aload_n hx hb dX3_someOf_8 rfl (lv_at hl 1 rfl) ?_
  refine lv_aload_n hx hb dX3_someOf_9 rfl (lv_at hl 1 rfl) ?_
  refine mm_ldc cx 10 (by decide) rfl dX3_someOf_10 ?_
  refine C3_isWord cx hM hS hw (by constructor <;> dsimp only <;> omega) (Nat.le_of_ble_eq_true rfl) hl.1 ⟨Nat.zero_le _, Nat.zero_le _⟩ dX3_someOf_12 (fun r11 s11 H locs hw hM hS => ?_)
  refine C3_must cx hM hS hw (by constructor <;> dsimp only <;> omega) (Nat.le_of_ble_eq_true rfl) hl.1 ⟨Nat.zero_le _, Nat.zero_le _⟩ dX3_someOf_15 (fun s12 H locs hw hM hS => ?_)
  refine lv_aload_n hx hb dX3_someOf_18 rfl (lv_at hl 1 rfl) ?_
  refine lv_bipush (v := (40 : Int32)) hx hb dX3_someOf_19 (by decide) ?_
  refine C3_isSign cx hM hS hw (by constructor <;> dsimp only <;> omega) (Nat.le_of_ble_eq_true rfl) hl.1 ⟨Nat.zero_le _, Nat.zero_le _⟩ dX3_someOf_21 (fun r13 s13 H locs hw hM hS => ?_)
  refine lv_if_ne (tgt := 32) hx hb dX3_someOf_24 (by decide) (fun hc => ?_) (fun hc => ?_)
  · have hw := mm_in hc hw
    exact B3_someOf_32 d hF cx _ _ hw _ _ _ hM hS (lv_sub hl [1, 0] rfl)
  · have hw := mm_ip hc hw
    refine lv_aload_n hx hb dX3_someOf_27 rfl (lv_at hl 1 rfl) ?_
    refine lv_iconst (v := (1 : Int32)) hx hb dX3_someOf_28 (by decide) ?_
    refine C3_wrong cx hM hS hw (by constructor <;> dsimp only <;> omega) (Nat.le_of_ble_eq_true rfl) hl.1 ⟨Nat.zero_le _, Nat.zero_le _⟩ dX3_someOf_29 (fun s14 H locs hw hM hS => ?_)
    exact B3_someOf_32 d hF cx _ _ hw _ _ _ hM hS (lv_sub hl [1, 0] rfl)
theorem C3_someOf {l : Launch} {p : Program} {e : Env} {R : Room} {s : State} {m : MethodId} {args : Array Value} {below : List Frame} {meth : Method} {c : Code} {H : Heap} {locs : List Loc} {cells slots : Nat} {Qz : State → Prop} {cc : ByteArray} {nL : Nat} {ret : Option FieldType} {G : mm_G} {pc : Nat} {ls : Array Slot} {rest : List Value} {F : MS → (MS → Prop) → Prop} (d : Nat) (hF : ∀ (σ : MS) (Q : MS → Prop), F σ Q → mm_Mv l yX3_one (ws_ yX3_one cX3_one 1 none) ({ frames := 13 + 4 * d, cells := 0, slots := 0, locals := 40 * (13 + 4 * d) } : Room) G [.ref (mm_o G)] σ Q) {σ : MS} (cx : mm_X cc nL ret G p s m args meth c) (hM : mm_R G σ H) (hS0 : va_S (mm_A G) s.heap H locs) {Qf : MS → Prop} (hw : w3_someOf F σ Qf) (hR : (({ frames := 16 + 4 * d, cells := 0, slots := 0, locals := 40 * (16 + 4 * d) } : Room)).frames + 1 ≤ R.frames ∧ 8 + (4 + 11) + (({ frames := 16 + 4 * d, cells := 0, slots := 0, locals := 40 * (16 + 4 * d) } : Room)).locals ≤ R.locals) (hroom : (rest.map fun v => v.category).sum ≤ 8) (hsize : ls.size = nL) (hf : cells ≤ R.cells ∧ slots ≤ R.slots) (hdg : decode cc pc = .ok (.invokevirtual 213, 3))
    (kk : ∀ (σ1 : MS) (H1 : Heap) (locs1 : List Loc), Qf σ1 → mm_R G σ1 H1 → va_S (mm_A G) s.heap H1 locs1 → W p l e R s m args below meth c H1 locs1 cells slots Qz (F0 m (pc + 3) ls rest)) : W p l e R s m args below meth c H locs cells slots Qz (F0 m pc ls (.ref (mm_o G) :: rest)) := by
  obtain ⟨hx, hb, hml, hown, hts, hr, hlk, hK, hZ⟩ := id cx
  exact mm_Vv cx hM hS0 (As := []) (M3_someOf l G d hF σ Qf hw) (cwV 0 hts (lw_V q2677 q2679 qs104 q172 q2680) rfl rfl rfl (by decide +kernel) hR) rfl hsize rfl hroom hf hdg kk
def w3_one_body (F : MS → (MS → Prop) → Prop) (σ : MS) (Q : MS → Prop) : Prop :=
  if (gI σ 17) = 0 then (w3_isSign (33 : Int32) σ (fun r1 s1 => if r1 = 0 then (w3_isSign (40 : Int32) s1 (fun r2 s2 => if r2 = 0 then (if (gI s2 14) = (3 : Int32) then (w3_someOf F s2 (fun s5 => Q s5)) else (w3_known (1 : Int32) s2 (fun r3 s3 => w3_step (0 : Int32) r3 s3 (fun s4 => Q s4)))) else (w3_opens s2 (fun s6 => w3_either F s6 (fun s7 => w3_isSign (41 : Int32) s7 (fun r8 s8 => w3_must r8 s8 (fun s9 => Q (sI s9 16 ((gI s9 16) - (1 : Int32)))))))))) else (w3_opens s1 (fun s10 => F s10 (fun s11 => w3_step (1 : Int32) (0 : Int32) (sI s11 16 ((gI s11 16) - (1 : Int32))) (fun s12 => Q s12)))))) else (Q σ)
set_option maxHeartbeats 4000000 in
theorem M3_one_body (l : Launch) (G : mm_G) {F : MS → (MS → Prop) → Prop} (d : Nat) (hF : ∀ (σ : MS) (Q : MS → Prop), F σ Q → mm_Mv l yX3_one (ws_ yX3_one cX3_one 1 none) ({ frames := 13 + 4 * d, cells := 0, slots := 0, locals := 40 * (13 + 4 * d) } : Room) G [.ref (mm_o G)] σ Q) (σ : MS) (Q : MS → Prop) (hw : w3_one_body F σ Q) : mm_Mv l yX3_one (ws_ yX3_one cX3_one 1 none) ({ frames := 13 + 4 * (d + 1), cells := 0, slots := 0, locals := 40 * (13 + 4 * (d + 1)) } : Room) G [.ref (mm_o G)] σ Q := by
  refine mm_of (by decide) rfl ?_
  intro p e s m args below meth c cx hM ha
  refine mm_entry [.ref (mm_o G)] 1 [(0, .ref (mm_o G))] ha (Nat.le_of_ble_eq_true rfl) rfl (fun ls hl => ?_)
  have hS : va_S (mm_A G) s.heap s.heap [] := va_S.rf
  unfold w3_one_body at hw
  obtain ⟨hx, hb, hml, hown, hts, hr, hlk, hMK, hZ⟩ := id cx
  refine lv_aload_n hx hb dX3_one_0 rfl (lv_at hl 0 rfl) ?_
  refine mg_17 cx hM dX3_one_1 ?_
  refine lv_if_eq (tgt := 8) hx hb dX3_one_4 (by decide) (fun hc => ?_) (fun hc => ?_)
  · have hw := mm_ip hc hw
    refine lv_aload_n hx hb dX3_one_8 rfl (lv_at hl 0 rfl) ?_
    refine lv_bipush (v := (33 : Int32)) hx hb dX3_one_9 (by decide) ?_
    refine C3_isSign cx hM hS hw (by constructor <;> dsimp only <;> omega) (Nat.le_of_ble_eq_true rfl) hl.1 ⟨Nat.zero_le _, Nat.zero_le _⟩ dX3_one_11 (fun r1 s1 H locs hw hM hS => ?_)
    refine lv_if_eq (tgt := 44) hx hb dX3_one_14 (by decide) (fun hc => ?_) (fun hc => ?_)
    · have hw := mm_ip hc hw
      refine lv_aload_n hx hb dX3_one_44 rfl (lv_at hl 0 rfl) ?_
      refine lv_bipush (v := (40 : Int32)) hx hb dX3_one_45 (by decide) ?_
      refine C3_isSign cx hM hS hw (by constructor <;> dsimp only <;> omega) (Nat.le_of_ble_eq_true rfl) hl.1 ⟨Nat.zero_le _, Nat.zero_le _⟩ dX3_one_47 (fun r2 s2 H locs hw hM hS => ?_)
      refine lv_if_eq (tgt := 84) hx hb dX3_one_50 (by decide) (fun hc => ?_) (fun hc => ?_)
      · have hw := mm_ip hc hw
        refine lv_aload_n hx hb dX3_one_84 rfl (lv_at hl 0 rfl) ?_
        refine mg_14 cx hM dX3_one_85 ?_
        refine lv_iconst (v := (3 : Int32)) hx hb dX3_one_88 (by decide) ?_
        refine lv_icmp_ne (tgt := 99) hx hb dX3_one_89 (by decide) (fun hc => ?_) (fun hc => ?_)
        · have hw := mm_in hc hw
          refine lv_aload_n hx hb dX3_one_99 rfl (lv_at hl 0 rfl) ?_
          refine lv_iconst (v := (0 : Int32)) hx hb dX3_one_100 (by decide) ?_
          refine lv_aload_n hx hb dX3_one_101 rfl (lv_at hl 0 rfl) ?_
          refine lv_iconst (v := (1 : Int32)) hx hb dX3_one_102 (by decide) ?_
          refine C3_known cx hM hS hw (by constructor <;> dsimp only <;> omega) (Nat.le_of_ble_eq_true rfl) hl.1 ⟨Nat.zero_le _, Nat.zero_le _⟩ dX3_one_103 (fun r3 s3 H locs hw hM hS => ?_)
          refine C3_step cx hM hS hw (by constructor <;> dsimp only <;> omega) (Nat.le_of_ble_eq_true rfl) hl.1 ⟨Nat.zero_le _, Nat.zero_le _⟩ dX3_one_106 (fun s4 H locs hw hM hS => ?_)
          exact mm_vret cx hM hS hw dX3_one_109
        · have hw := mm_ip hc hw
          refine lv_aload_n hx hb dX3_one_92 rfl (lv_at hl 0 rfl) ?_
          refine C3_someOf d hF cx hM hS hw (by constructor <;> dsimp only <;> omega) (Nat.le_of_ble_eq_true rfl) hl.1 ⟨Nat.zero_le _, Nat.zero_le _⟩ dX3_one_93 (fun s5 H locs hw hM hS => ?_)
          refine lv_goto (tgt := 109) hx hb dX3_one_96 (by decide) ?_
          exact mm_vret cx hM hS hw dX3_one_109
      · have hw := mm_in hc hw
        refine lv_aload_n hx hb dX3_one_53 rfl (lv_at hl 0 rfl) ?_
        refine C3_opens cx hM hS hw (by constructor <;> dsimp only <;> omega) (Nat.le_of_ble_eq_true rfl) hl.1 ⟨Nat.zero_le _, Nat.zero_le _⟩ dX3_one_54 (fun s6 H locs hw hM hS => ?_)
        refine lv_aload_n hx hb dX3_one_57 rfl (lv_at hl 0 rfl) ?_
        refine C3_either d hF cx hM hS hw (by constructor <;> dsimp only <;> omega) (Nat.le_of_ble_eq_true rfl) hl.1 ⟨Nat.zero_le _, Nat.zero_le _⟩ dX3_one_58 (fun s7 H locs hw hM hS => ?_)
        refine lv_aload_n hx hb dX3_one_61 rfl (lv_at hl 0 rfl) ?_
        refine lv_aload_n hx hb dX3_one_62 rfl (lv_at hl 0 rfl) ?_
        refine lv_bipush (v := (41 : Int32)) hx hb dX3_one_63 (by decide) ?_
        refine C3_isSign cx hM hS hw (by constructor <;> dsimp only <;> omega) (Nat.le_of_ble_eq_true rfl) hl.1 ⟨Nat.zero_le _, Nat.zero_le _⟩ dX3_one_65 (fun r8 s8 H locs hw hM hS => ?_)
        refine C3_must cx hM hS hw (by constructor <;> dsimp only <;> omega) (Nat.le_of_ble_eq_true rfl) hl.1 ⟨Nat.zero_le _, Nat.zero_le _⟩ dX3_one_68 (fun s9 H locs hw hM hS => ?_)
        refine lv_aload_n hx hb dX3_one_71 rfl (lv_at hl 0 rfl) ?_
        refine lv_dup hx hb dX3_one_72 rfl ?_
        refine mg_16 cx hM dX3_one_73 ?_
        refine lv_iconst (v := (1 : Int32)) hx hb dX3_one_76 (by decide) ?_
        refine lv_isub hx hb dX3_one_77 ?_
        refine mp_16 cx hM hS dX3_one_78 (fun H locs hM hS => ?_)
        refine lv_goto (tgt := 109) hx hb dX3_one_81 (by decide) ?_
        exact mm_vret cx hM hS hw dX3_one_109
    · have hw := mm_in hc hw
      refine lv_aload_n hx hb dX3_one_17 rfl (lv_at hl 0 rfl) ?_
      refine C3_opens cx hM hS hw (by constructor <;> dsimp only <;> omega) (Nat.le_of_ble_eq_true rfl) hl.1 ⟨Nat.zero_le _, Nat.zero_le _⟩ dX3_one_18 (fun s10 H locs hw hM hS => ?_)
      refine lv_aload_n hx hb dX3_one_21 rfl (lv_at hl 0 rfl) ?_
      refine C3_one d hF cx hM hS hw (by constructor <;> dsimp only <;> omega) (Nat.le_of_ble_eq_true rfl) hl.1 ⟨Nat.zero_le _, Nat.zero_le _⟩ dX3_one_22 (fun s11 H locs hw hM hS => ?_)
      refine lv_aload_n hx hb dX3_one_25 rfl (lv_at hl 0 rfl) ?_
      refine lv_dup hx hb dX3_one_26 rfl ?_
      refine mg_16 cx hM dX3_one_27 ?_
      refine lv_iconst (v := (1 : Int32)) hx hb dX3_one_30 (by decide) ?_
      refine lv_isub hx hb dX3_one_31 ?_
      refine mp_16 cx hM hS dX3_one_32 (fun H locs hM hS => ?_)
      refine lv_aload_n hx hb dX3_one_35 rfl (lv_at hl 0 rfl) ?_
      refine lv_iconst (v := (1 : Int32)) hx hb dX3_one_36 (by decide) ?_
      refine lv_iconst (v := (0 : Int32)) hx hb dX3_one_37 (by decide) ?_
      refine C3_step cx hM hS hw (by constructor <;> dsimp only <;> omega) (Nat.le_of_ble_eq_true rfl) hl.1 ⟨Nat.zero_le _, Nat.zero_le _⟩ dX3_one_38 (fun s12 H locs hw hM hS => ?_)
      refine lv_goto (tgt := 109) hx hb dX3_one_41 (by decide) ?_
      exact mm_vret cx hM hS hw dX3_one_109
  · have hw := mm_in hc hw
    exact mm_vret cx hM hS hw dX3_one_7
def w3_one (d : Nat) : MS → (MS → Prop) → Prop := Nat.rec (motive := fun _ => MS → (MS → Prop) → Prop) (fun _ _ => False) (fun _ ih => w3_one_body ih) d
theorem M3_one (l : Launch) (G : mm_G) : ∀ (d : Nat) (σ : MS) (Q : MS → Prop), w3_one d σ Q → mm_Mv l yX3_one (ws_ yX3_one cX3_one 1 none) ({ frames := 13 + 4 * d, cells := 0, slots := 0, locals := 40 * (13 + 4 * d) } : Room) G [.ref (mm_o G)] σ Q := by
  intro d
  induction d with
  | zero => exact fun σ Q h => h.elim
  | succ d ih => exact fun σ Q h => M3_one_body l G d ih σ Q h
def w3_expr_69 (d : Nat) (Q : Int32 → MS → Prop) (x1 : Int32) (t0 : Nat) (t1 : Int32) (t2 : Int32) (t3 : Int32) (σ : MS) : Prop :=
  mm_w t0 = true ∧ (vp_in t1 (mm_z t0) ∧ (Q x1 (sA σ t0 t1.toNatClampNeg (t2 + t3))))
set_option maxHeartbeats 4000000 in
theorem B3_expr_69 {l : Launch} {p : Program} {e : Env} {s : State} {m : MethodId} {args : Array Value} {below : List Frame} {meth : Method} {c : Code} {G : mm_G} {Q : Int32 → MS → Prop} (d : Nat) (cx : mm_X cX3_expr 2 (some .int) G p s m args meth c) : ∀ (x1 : Int32) (t0 : Nat) (t1 : Int32) (t2 : Int32) (t3 : Int32) (σ : MS), w3_expr_69 d Q x1 t0 t1 t2 t3 σ → mm_T p l e ({ frames := 16 + 4 * d, cells := 0, slots := 0, locals := 40 * (16 + 4 * d) } : Room) s m args below meth c G (mm_Qi G Q) 2 69 σ [(0, .ref (mm_o G)), (1, .int x1)] [.int t3, .int t2, .int t1, .ref (mm_a G t0)] := by
  intro x1 t0 t1 t2 t3 σ hw H locs ls hM hS hl
  unfold w3_expr_69 at hw
  obtain ⟨hx, hb, hml, hown, hts, hr, hlk, hMK, hZ⟩ := id cx
  refine lv_iadd hx hb dX3_expr_69 ?_
  obtain ⟨hk, hw⟩ := hw
  obtain ⟨hi, hw⟩ := hw
  refine mm_iast cx hM hS t0 hk rfl hi dX3_expr_70 (fun H locs hM hS => ?_)
  refine lv_iload_n hx hb dX3_expr_71 rfl (lv_at hl 1 rfl) ?_
  exact mm_iret cx hM hS hw dX3_expr_72
def w3_expr (d : Nat) (σ : MS) (Q : Int32 → MS → Prop) : Prop :=
  ∀ v1 : Int32, v1 = (gA σ 1 6) → vp_in ((84 : Int32) + v1) 640 ∧ (w3_either (w3_one d) (sI (sA σ 1 ((84 : Int32) + v1).toNatClampNeg (gA σ 1 7)) 16 (0 : Int32)) (fun s2 => vp_in ((117 : Int32) + v1) 640 ∧ (if (gI (sA s2 1 ((117 : Int32) + v1).toNatClampNeg (gA s2 1 7)) 17) = 0 then (w3_expr_69 d Q v1 1 (6 : Int32) (gA (sA s2 1 ((117 : Int32) + v1).toNatClampNeg (gA s2 1 7)) 1 6) (1 : Int32) (sA s2 1 ((117 : Int32) + v1).toNatClampNeg (gA s2 1 7))) else (w3_expr_69 d Q v1 1 (6 : Int32) (gA (sA s2 1 ((117 : Int32) + v1).toNatClampNeg (gA s2 1 7)) 1 6) (0 : Int32) (sA s2 1 ((117 : Int32) + v1).toNatClampNeg (gA s2 1 7))))))
set_option maxHeartbeats 4000000 in
theorem M3_expr (l : Launch) (G : mm_G) (d : Nat) (σ : MS) (Q : Int32 → MS → Prop) (hw : w3_expr d σ Q) : mm_Mi l yX3_expr (ws_ yX3_expr cX3_expr 2 (some .int)) ({ frames := 16 + 4 * d, cells := 0, slots := 0, locals := 40 * (16 + 4 * d) } : Room) G [.ref (mm_o G)] σ Q := by
  refine mm_of (by decide) rfl ?_
  intro p e s m args below meth c cx hM ha
  refine mm_entry [.ref (mm_o G)] 2 [(0, .ref (mm_o G))] ha (Nat.le_of_ble_eq_true rfl) rfl (fun ls hl => ?_)
  have hS : va_S (mm_A G) s.heap s.heap [] := va_S.rf
  unfold w3_expr at hw
  obtain ⟨hx, hb, hml, hown, hts, hr, hlk, hMK, hZ⟩ := id cx
  refine lv_aload_n hx hb dX3_expr_0 rfl (lv_at hl 0 rfl) ?_
  refine mg_1 cx hM dX3_expr_1 ?_
  refine lv_bipush (v := (6 : Int32)) hx hb dX3_expr_4 (by decide) ?_
  refine mm_iald cx hM 1 rfl (j := 6) (by decide) (vp_lit (by decide)) dX3_expr_6 ?_
  refine lv_topi (fun v1 hv1 => ?_)
  have hw := hw v1 hv1
  refine lv_istore_n (lv' := [(1, .int v1), (0, .ref (mm_o G))]) hx hb dX3_expr_7 rfl hl (by decide) rfl (fun ls hl => ?_)
  refine lv_aload_n hx hb dX3_expr_8 rfl (lv_at hl 1 rfl) ?_
  refine mg_1 cx hM dX3_expr_9 ?_
  refine lv_bipush (v := (84 : Int32)) hx hb dX3_expr_12 (by decide) ?_
  refine lv_iload_n hx hb dX3_expr_14 rfl (lv_at hl 0 rfl) ?_
  refine lv_iadd hx hb dX3_expr_15 ?_
  refine lv_aload_n hx hb dX3_expr_16 rfl (lv_at hl 1 rfl) ?_
  refine mg_1 cx hM dX3_expr_17 ?_
  refine lv_bipush (v := (7 : Int32)) hx hb dX3_expr_20 (by decide) ?_
  refine mm_iald cx hM 1 rfl (j := 7) (by decide) (vp_lit (by decide)) dX3_expr_22 ?_
  obtain ⟨hi, hw⟩ := hw
  refine mm_iast cx hM hS 1 rfl rfl hi dX3_expr_23 (fun H locs hM hS => ?_)
  refine lv_aload_n hx hb dX3_expr_24 rfl (lv_at hl 1 rfl) ?_
  refine lv_iconst (v := (0 : Int32)) hx hb dX3_expr_25 (by decide) ?_
  refine mp_16 cx hM hS dX3_expr_26 (fun H locs hM hS => ?_)
  refine lv_aload_n hx hb dX3_expr_29 rfl (lv_at hl 1 rfl) ?_
  refine C3_either d (M3_one l G d) cx hM hS hw (by constructor <;> dsimp only <;> omega) (Nat.le_of_ble_eq_true rfl) hl.1 ⟨Nat.zero_le _, Nat.zero_le _⟩ dX3_expr_30 (fun s2 H locs hw hM hS => ?_)
  refine lv_aload_n hx hb dX3_expr_33 rfl (lv_at hl 1 rfl) ?_
  refine mg_1 cx hM dX3_expr_34 ?_
  refine lv_bipush (v := (117 : Int32)) hx hb dX3_expr_37 (by decide) ?_
  refine lv_iload_n hx hb dX3_expr_39 rfl (lv_at hl 0 rfl) ?_
  refine lv_iadd hx hb dX3_expr_40 ?_
  refine lv_aload_n hx hb dX3_expr_41 rfl (lv_at hl 1 rfl) ?_
  refine mg_1 cx hM dX3_expr_42 ?_
  refine lv_bipush (v := (7 : Int32)) hx hb dX3_expr_45 (by decide) ?_
  refine mm_iald cx hM 1 rfl (j := 7) (by decide) (vp_lit (by decide)) dX3_expr_47 ?_
  obtain ⟨hi, hw⟩ := hw
  refine mm_iast cx hM hS 1 rfl rfl hi dX3_expr_48 (fun H locs hM hS => ?_)
  refine lv_aload_n hx hb dX3_expr_49 rfl (lv_at hl 1 rfl) ?_
  refine mg_1 cx hM dX3_expr_50 ?_
  refine lv_bipush (v := (6 : Int32)) hx hb dX3_expr_53 (by decide) ?_
  refine lv_dup2_11 hx hb dX3_expr_55 rfl rfl ?_
  refine mm_iald cx hM 1 rfl (j := 6) (by decide) (vp_lit (by decide)) dX3_expr_56 ?_
  refine lv_aload_n hx hb dX3_expr_57 rfl (lv_at hl 1 rfl) ?_
  refine mg_17 cx hM dX3_expr_58 ?_
  refine lv_if_ne (tgt := 68) hx hb dX3_expr_61 (by decide) (fun hc => ?_) (fun hc => ?_)
  · have hw := mm_in hc hw
    refine lv_iconst (v := (0 : Int32)) hx hb dX3_expr_68 (by decide) ?_
    exact B3_expr_69 d cx _ _ _ _ _ _ hw _ _ _ hM hS (lv_sub hl [1, 0] rfl)
  · have hw := mm_ip hc hw
    refine lv_iconst (v := (1 : Int32)) hx hb dX3_expr_64 (by decide) ?_
    refine lv_goto (tgt := 69) hx hb dX3_expr_65 (by decide) ?_
    exact B3_expr_69 d cx _ _ _ _ _ _ hw _ _ _ hM hS (lv_sub hl [1, 0] rfl)
theorem C3_expr {l : Launch} {p : Program} {e : Env} {R : Room} {s : State} {m : MethodId} {args : Array Value} {below : List Frame} {meth : Method} {c : Code} {H : Heap} {locs : List Loc} {cells slots : Nat} {Qz : State → Prop} {cc : ByteArray} {nL : Nat} {ret : Option FieldType} {G : mm_G} {pc : Nat} {ls : Array Slot} {rest : List Value} (d : Nat) {σ : MS} (cx : mm_X cc nL ret G p s m args meth c) (hM : mm_R G σ H) (hS0 : va_S (mm_A G) s.heap H locs) {Qf : Int32 → MS → Prop} (hw : w3_expr d σ Qf) (hR : (({ frames := 16 + 4 * d, cells := 0, slots := 0, locals := 40 * (16 + 4 * d) } : Room)).frames + 1 ≤ R.frames ∧ 8 + (2 + 11) + (({ frames := 16 + 4 * d, cells := 0, slots := 0, locals := 40 * (16 + 4 * d) } : Room)).locals ≤ R.locals) (hroom : (rest.map fun v => v.category).sum ≤ 8) (hsize : ls.size = nL) (hf : cells ≤ R.cells ∧ slots ≤ R.slots) (hdg : decode cc pc = .ok (.invokevirtual 232, 3))
    (kk : ∀ (r : Int32) (σ1 : MS) (H1 : Heap) (locs1 : List Loc), Qf r σ1 → mm_R G σ1 H1 → va_S (mm_A G) s.heap H1 locs1 → W p l e R s m args below meth c H1 locs1 cells slots Qz (F0 m (pc + 3) ls (.int r :: rest))) : W p l e R s m args below meth c H locs cells slots Qz (F0 m pc ls (.ref (mm_o G) :: rest)) := by
  obtain ⟨hx, hb, hml, hown, hts, hr, hlk, hK, hZ⟩ := id cx
  exact mm_Vi cx hM hS0 (As := []) (M3_expr l G d σ Qf hw) (cwV 0 hts (lw_V q2653 q2655 qs98 q172 q2656) rfl rfl rfl (by decide +kernel) hR) rfl hsize rfl hroom hf hdg kk
def w3_readNever_122 (d : Nat) (Q : MS → Prop) (σ : MS) : Prop :=
  w3_passes σ (fun s1 => Q s1)
set_option maxHeartbeats 4000000 in
theorem B3_readNever_122 {l : Launch} {p : Program} {e : Env} {s : State} {m : MethodId} {args : Array Value} {below : List Frame} {meth : Method} {c : Code} {G : mm_G} {Q : MS → Prop} (d : Nat) (cx : mm_X cX3_readNever 5 none G p s m args meth c) : ∀ (σ : MS), w3_readNever_122 d Q σ → mm_T p l e ({ frames := 17 + 4 * d, cells := 0, slots := 0, locals := 40 * (17 + 4 * d) } : Room) s m args below meth c G (mm_Qv G Q) 5 122 σ [(0, .ref (mm_o G))] [] := by
  intro σ hw H locs ls hM hS hl
  unfold w3_readNever_122 at hw
  obtain ⟨hx, hb, hml, hown, hts, hr, hlk, hMK, hZ⟩ := id cx
  refine lv_aload_n hx hb dX3_readNever_122 rfl (lv_at hl 0 rfl) ?_
  refine C3_passes cx hM hS hw (by constructor <;> dsimp only <;> omega) (Nat.le_of_ble_eq_true rfl) hl.1 ⟨Nat.zero_le _, Nat.zero_le _⟩ dX3_readNever_123 (fun s1 H locs hw hM hS => ?_)
  exact mm_vret cx hM hS hw dX3_readNever_126
def w3_readNever_108 (d : Nat) (Q : MS → Prop) (x1 : Int32) (x3 : Int32) (σ : MS) : Prop :=
  if x3 = 0 then (w3_readNever_122 d Q (sI (sI σ 17 (5 : Int32)) 18 x1)) else (w3_readNever_122 d Q σ)
set_option maxHeartbeats 4000000 in
theorem B3_readNever_108 {l : Launch} {p : Program} {e : Env} {s : State} {m : MethodId} {args : Array Value} {below : List Frame} {meth : Method} {c : Code} {G : mm_G} {Q : MS → Prop} (d : Nat) (cx : mm_X cX3_readNever 5 none G p s m args meth c) : ∀ (x1 : Int32) (x3 : Int32) (σ : MS), w3_readNever_108 d Q x1 x3 σ → mm_T p l e ({ frames := 17 + 4 * d, cells := 0, slots := 0, locals := 40 * (17 + 4 * d) } : Room) s m args below meth c G (mm_Qv G Q) 5 108 σ [(0, .ref (mm_o G)), (1, .int x1), (3, .int x3)] [] := by
  intro x1 x3 σ hw H locs ls hM hS hl
  unfold w3_readNever_108 at hw
  obtain ⟨hx, hb, hml, hown, hts, hr, hlk, hMK, hZ⟩ := id cx
  refine lv_iload_n hx hb dX3_readNever_108 rfl (lv_at hl 2 rfl) ?_
  refine lv_if_ne (tgt := 122) hx hb dX3_readNever_109 (by decide) (fun hc => ?_) (fun hc => ?_)
  · have hw := mm_in hc hw
    exact B3_readNever_122 d cx _ hw _ _ _ hM hS (lv_sub hl [0] rfl)
  · have hw := mm_ip hc hw
    refine lv_aload_n hx hb dX3_readNever_112 rfl (lv_at hl 0 rfl) ?_
    refine lv_iconst (v := (5 : Int32)) hx hb dX3_readNever_113 (by decide) ?_
    refine mp_17 cx hM hS dX3_readNever_114 (fun H locs hM hS => ?_)
    refine lv_aload_n hx hb dX3_readNever_117 rfl (lv_at hl 0 rfl) ?_
    refine lv_iload_n hx hb dX3_readNever_118 rfl (lv_at hl 1 rfl) ?_
    refine mp_18 cx hM hS dX3_readNever_119 (fun H locs hM hS => ?_)
    exact B3_readNever_122 d cx _ hw _ _ _ hM hS (lv_sub hl [0] rfl)
def w3_readNever_74 (d : Nat) (Q : MS → Prop) (K74 : Int32 → Int32 → Int32 → MS → Prop) (x1 : Int32) (x3 : Int32) (x4 : Int32) (σ : MS) : Prop :=
  if ((1 : Int32) <<< ((gA σ 1 1) &&& 31)) ≤ x4 then (w3_readNever_108 d Q x1 x3 σ) else (if x3 = 0 then (w3_mayBe 1 x4 σ (fun r2 s2 => ∀ v3 : Int32, v3 = x4 + (1 : Int32) → K74 x1 r2 v3 s2)) else (w3_readNever_108 d Q x1 x3 σ))
set_option maxHeartbeats 4000000 in
theorem B3_readNever_74 {l : Launch} {p : Program} {e : Env} {s : State} {m : MethodId} {args : Array Value} {below : List Frame} {meth : Method} {c : Code} {G : mm_G} {Q : MS → Prop} {K74 : Int32 → Int32 → Int32 → MS → Prop} (d : Nat) (cx : mm_X cX3_readNever 5 none G p s m args meth c) (hK74 : ∀ (x1 : Int32) (x3 : Int32) (x4 : Int32) (σ : MS), K74 x1 x3 x4 σ → mm_T p l e ({ frames := 17 + 4 * d, cells := 0, slots := 0, locals := 40 * (17 + 4 * d) } : Room) s m args below meth c G (mm_Qv G Q) 5 74 σ [(0, .ref (mm_o G)), (1, .int x1), (3, .int x3), (4, .int x4)] []) : ∀ (x1 : Int32) (x3 : Int32) (x4 : Int32) (σ : MS), w3_readNever_74 d Q K74 x1 x3 x4 σ → mm_T p l e ({ frames := 17 + 4 * d, cells := 0, slots := 0, locals := 40 * (17 + 4 * d) } : Room) s m args below meth c G (mm_Qv G Q) 5 74 σ [(0, .ref (mm_o G)), (1, .int x1), (3, .int x3), (4, .int x4)] [] := by
  intro x1 x3 x4 σ hw H locs ls hM hS hl
  unfold w3_readNever_74 at hw
  obtain ⟨hx, hb, hml, hown, hts, hr, hlk, hMK, hZ⟩ := id cx
  refine lv_iload hx hb dX3_readNever_74 (lv_at hl 3 rfl) ?_
  refine lv_iconst (v := (1 : Int32)) hx hb dX3_readNever_76 (by decide) ?_
  refine lv_aload_n hx hb dX3_readNever_77 rfl (lv_at hl 0 rfl) ?_
  refine mg_1 cx hM dX3_readNever_78 ?_
  refine lv_iconst (v := (1 : Int32)) hx hb dX3_readNever_81 (by decide) ?_
  refine mm_iald cx hM 1 rfl (j := 1) (by decide) (vp_lit (by decide)) dX3_readNever_82 ?_
  refine lv_ishl hx hb dX3_readNever_83 ?_
  refine lv_icmp_ge (tgt := 108) hx hb dX3_readNever_84 (by decide) (fun hc => ?_) (fun hc => ?_)
  · have hw := mm_ip hc hw
    exact B3_readNever_108 d cx _ _ _ hw _ _ _ hM hS (lv_sub hl [0, 1, 2] rfl)
  · have hw := mm_in hc hw
    refine lv_iload_n hx hb dX3_readNever_87 rfl (lv_at hl 2 rfl) ?_
    refine lv_if_ne (tgt := 108) hx hb dX3_readNever_88 (by decide) (fun hc => ?_) (fun hc => ?_)
    · have hw := mm_in hc hw
      exact B3_readNever_108 d cx _ _ _ hw _ _ _ hM hS (lv_sub hl [0, 1, 2] rfl)
    · have hw := mm_ip hc hw
      refine lv_aload_n hx hb dX3_readNever_91 rfl (lv_at hl 0 rfl) ?_
      refine lv_aload_n hx hb dX3_readNever_92 rfl (lv_at hl 0 rfl) ?_
      refine mg_1 cx hM dX3_readNever_93 ?_
      refine lv_iload hx hb dX3_readNever_96 (lv_at hl 3 rfl) ?_
      refine C3_mayBe cx hM hS hw (by constructor <;> dsimp only <;> omega) (Nat.le_of_ble_eq_true rfl) hl.1 ⟨Nat.zero_le _, Nat.zero_le _⟩ dX3_readNever_98 (fun r2 s2 H locs hw hM hS => ?_)
      refine lv_istore_n (lv' := [(3, .int r2), (0, .ref (mm_o G)), (1, .int x1), (4, .int x4)]) hx hb dX3_readNever_101 rfl hl (by decide) rfl (fun ls hl => ?_)
      obtain ⟨v3, hv3⟩ : ∃ v : Int32, v = x4 + (1 : Int32) := ⟨_, rfl⟩
      have hw := hw v3 hv3
      refine lv_iinc (v := v3) (lv' := [(4, .int v3), (3, .int r2), (0, .ref (mm_o G)), (1, .int x1)]) hx hb dX3_readNever_102 hl (k := 3) rfl (by rw [hv3]; rfl) (by decide) rfl (fun ls hl => ?_)
      refine lv_goto (tgt := 74) hx hb dX3_readNever_105 (by decide) ?_
      exact hK74 _ _ _ _ hw _ _ _ hM hS (lv_sub hl [2, 3, 1, 0] rfl)
theorem L3_readNever_74 {l : Launch} {p : Program} {e : Env} {s : State} {m : MethodId} {args : Array Value} {below : List Frame} {meth : Method} {c : Code} {G : mm_G} {Q : MS → Prop} (d : Nat) (cx : mm_X cX3_readNever 5 none G p s m args meth c) : ∀ (x1 : Int32) (x3 : Int32) (x4 : Int32) (σ : MS), lp4F (w3_readNever_74 d Q) x1 x3 x4 σ → mm_T p l e ({ frames := 17 + 4 * d, cells := 0, slots := 0, locals := 40 * (17 + 4 * d) } : Room) s m args below meth c G (mm_Qv G Q) 5 74 σ [(0, .ref (mm_o G)), (1, .int x1), (3, .int x3), (4, .int x4)] [] :=
  lp4F_of (fun K hK => B3_readNever_74 d cx hK)
def w3_readNever_36 (d : Nat) (Q : MS → Prop) (x1 : Int32) (x2 : Int32) (σ : MS) : Prop :=
  if (gI σ 17) = 0 then (vp_in ((78 : Int32) + (gA σ 1 3)) 640 ∧ (lp4F (w3_readNever_74 d Q) x1 (0 : Int32) (0 : Int32) (sA (sA σ 1 ((78 : Int32) + (gA σ 1 3)).toNatClampNeg x2) 1 3 ((gA (sA σ 1 ((78 : Int32) + (gA σ 1 3)).toNatClampNeg x2) 1 3) + (1 : Int32))))) else (Q σ)
set_option maxHeartbeats 4000000 in
theorem B3_readNever_36 {l : Launch} {p : Program} {e : Env} {s : State} {m : MethodId} {args : Array Value} {below : List Frame} {meth : Method} {c : Code} {G : mm_G} {Q : MS → Prop} (d : Nat) (cx : mm_X cX3_readNever 5 none G p s m args meth c) : ∀ (x1 : Int32) (x2 : Int32) (σ : MS), w3_readNever_36 d Q x1 x2 σ → mm_T p l e ({ frames := 17 + 4 * d, cells := 0, slots := 0, locals := 40 * (17 + 4 * d) } : Room) s m args below meth c G (mm_Qv G Q) 5 36 σ [(0, .ref (mm_o G)), (1, .int x1), (2, .int x2)] [] := by
  intro x1 x2 σ hw H locs ls hM hS hl
  unfold w3_readNever_36 at hw
  obtain ⟨hx, hb, hml, hown, hts, hr, hlk, hMK, hZ⟩ := id cx
  refine lv_aload_n hx hb dX3_readNever_36 rfl (lv_at hl 0 rfl) ?_
  refine mg_17 cx hM dX3_readNever_37 ?_
  refine lv_if_eq (tgt := 44) hx hb dX3_readNever_40 (by decide) (fun hc => ?_) (fun hc => ?_)
  · have hw := mm_ip hc hw
    refine lv_aload_n hx hb dX3_readNever_44 rfl (lv_at hl 0 rfl) ?_
    refine mg_1 cx hM dX3_readNever_45 ?_
    refine lv_bipush (v := (78 : Int32)) hx hb dX3_readNever_48 (by decide) ?_
    refine lv_aload_n hx hb dX3_readNever_50 rfl (lv_at hl 0 rfl) ?_
    refine mg_1 cx hM dX3_readNever_51 ?_
    refine lv_iconst (v := (3 : Int32)) hx hb dX3_readNever_54 (by decide) ?_
    refine mm_iald cx hM 1 rfl (j := 3) (by decide) (vp_lit (by decide)) dX3_readNever_55 ?_
    refine lv_iadd hx hb dX3_readNever_56 ?_
    refine lv_iload_n hx hb dX3_readNever_57 rfl (lv_at hl 2 rfl) ?_
    obtain ⟨hi, hw⟩ := hw
    refine mm_iast cx hM hS 1 rfl rfl hi dX3_readNever_58 (fun H locs hM hS => ?_)
    refine lv_aload_n hx hb dX3_readNever_59 rfl (lv_at hl 0 rfl) ?_
    refine mg_1 cx hM dX3_readNever_60 ?_
    refine lv_iconst (v := (3 : Int32)) hx hb dX3_readNever_63 (by decide) ?_
    refine lv_dup2_11 hx hb dX3_readNever_64 rfl rfl ?_
    refine mm_iald cx hM 1 rfl (j := 3) (by decide) (vp_lit (by decide)) dX3_readNever_65 ?_
    refine lv_iconst (v := (1 : Int32)) hx hb dX3_readNever_66 (by decide) ?_
    refine lv_iadd hx hb dX3_readNever_67 ?_
    refine mm_iast cx hM hS 1 rfl (j0 := 3) (by decide) (vp_lit (by decide)) dX3_readNever_68 (fun H locs hM hS => ?_)
    refine lv_iconst (v := (0 : Int32)) hx hb dX3_readNever_69 (by decide) ?_
    refine lv_istore_n (lv' := [(3, .int (0 : Int32)), (0, .ref (mm_o G)), (1, .int x1), (2, .int x2)]) hx hb dX3_readNever_70 rfl hl (by decide) rfl (fun ls hl => ?_)
    refine lv_iconst (v := (0 : Int32)) hx hb dX3_readNever_71 (by decide) ?_
    refine lv_istore (lv' := [(4, .int (0 : Int32)), (3, .int (0 : Int32)), (0, .ref (mm_o G)), (1, .int x1), (2, .int x2)]) hx hb dX3_readNever_72 hl (by decide) rfl (fun ls hl => ?_)
    exact L3_readNever_74 d cx _ _ _ _ hw _ _ _ hM hS (lv_sub hl [2, 3, 1, 0] rfl)
  · have hw := mm_in hc hw
    exact mm_vret cx hM hS hw dX3_readNever_43
def w3_readNever (d : Nat) (σ : MS) (Q : MS → Prop) : Prop :=
  ∀ v4 : Int32, v4 = (gI σ 13) → w3_room (gA σ 1 3) (6 : Int32) σ (fun s5 => w3_expr d s5 (fun r6 s6 => w3_isSign (59 : Int32) s6 (fun r7 s7 => if r7 = 0 then (w3_wrong (1 : Int32) s7 (fun s8 => w3_readNever_36 d Q v4 r6 s8)) else (w3_readNever_36 d Q v4 r6 s7))))
set_option maxHeartbeats 4000000 in
theorem M3_readNever (l : Launch) (G : mm_G) (d : Nat) (σ : MS) (Q : MS → Prop) (hw : w3_readNever d σ Q) : mm_Mv l yX3_readNever (ws_ yX3_readNever cX3_readNever 5 none) ({ frames := 17 + 4 * d, cells := 0, slots := 0, locals := 40 * (17 + 4 * d) } : Room) G [.ref (mm_o G)] σ Q := by
  refine mm_of (by decide) rfl ?_
  intro p e s m args below meth c cx hM ha
  refine mm_entry [.ref (mm_o G)] 5 [(0, .ref (mm_o G))] ha (Nat.le_of_ble_eq_true rfl) rfl (fun ls hl => ?_)
  have hS : va_S (mm_A G) s.heap s.heap [] := va_S.rf
  unfold w3_readNever at hw
  obtain ⟨hx, hb, hml, hown, hts, hr, hlk, hMK, hZ⟩ := id cx
  refine lv_aload_n hx hb dX3_readNever_0 rfl (lv_at hl 0 rfl) ?_
  refine mg_13 cx hM dX3_readNever_1 ?_
  refine lv_topi (fun v4 hv4 => ?_)
  have hw := hw v4 hv4
  refine lv_istore_n (lv' := [(1, .int v4), (0, .ref (mm_o G))]) hx hb dX3_readNever_4 rfl hl (by decide) rfl (fun ls hl => ?_)
  refine lv_aload_n hx hb dX3_readNever_5 rfl (lv_at hl 1 rfl) ?_
  refine lv_aload_n hx hb dX3_readNever_6 rfl (lv_at hl 1 rfl) ?_
  refine mg_1 cx hM dX3_readNever_7 ?_
  refine lv_iconst (v := (3 : Int32)) hx hb dX3_readNever_10 (by decide) ?_
  refine mm_iald cx hM 1 rfl (j := 3) (by decide) (vp_lit (by decide)) dX3_readNever_11 ?_
  refine lv_bipush (v := (6 : Int32)) hx hb dX3_readNever_12 (by decide) ?_
  refine C3_room cx hM hS hw (by constructor <;> dsimp only <;> omega) (Nat.le_of_ble_eq_true rfl) hl.1 ⟨Nat.zero_le _, Nat.zero_le _⟩ dX3_readNever_14 (fun s5 H locs hw hM hS => ?_)
  refine lv_aload_n hx hb dX3_readNever_17 rfl (lv_at hl 1 rfl) ?_
  refine C3_expr d cx hM hS hw (by constructor <;> dsimp only <;> omega) (Nat.le_of_ble_eq_true rfl) hl.1 ⟨Nat.zero_le _, Nat.zero_le _⟩ dX3_readNever_18 (fun r6 s6 H locs hw hM hS => ?_)
  refine lv_istore_n (lv' := [(2, .int r6), (1, .int v4), (0, .ref (mm_o G))]) hx hb dX3_readNever_21 rfl hl (by decide) rfl (fun ls hl => ?_)
  refine lv_aload_n hx hb dX3_readNever_22 rfl (lv_at hl 2 rfl) ?_
  refine lv_bipush (v := (59 : Int32)) hx hb dX3_readNever_23 (by decide) ?_
  refine C3_isSign cx hM hS hw (by constructor <;> dsimp only <;> omega) (Nat.le_of_ble_eq_true rfl) hl.1 ⟨Nat.zero_le _, Nat.zero_le _⟩ dX3_readNever_25 (fun r7 s7 H locs hw hM hS => ?_)
  refine lv_if_ne (tgt := 36) hx hb dX3_readNever_28 (by decide) (fun hc => ?_) (fun hc => ?_)
  · have hw := mm_in hc hw
    exact B3_readNever_36 d cx _ _ _ hw _ _ _ hM hS (lv_sub hl [2, 1, 0] rfl)
  · have hw := mm_ip hc hw
    refine lv_aload_n hx hb dX3_readNever_31 rfl (lv_at hl 2 rfl) ?_
    refine lv_iconst (v := (1 : Int32)) hx hb dX3_readNever_32 (by decide) ?_
    refine C3_wrong cx hM hS hw (by constructor <;> dsimp only <;> omega) (Nat.le_of_ble_eq_true rfl) hl.1 ⟨Nat.zero_le _, Nat.zero_le _⟩ dX3_readNever_33 (fun s8 H locs hw hM hS => ?_)
    exact B3_readNever_36 d cx _ _ _ hw _ _ _ hM hS (lv_sub hl [2, 1, 0] rfl)
theorem C3_readNever {l : Launch} {p : Program} {e : Env} {R : Room} {s : State} {m : MethodId} {args : Array Value} {below : List Frame} {meth : Method} {c : Code} {H : Heap} {locs : List Loc} {cells slots : Nat} {Qz : State → Prop} {cc : ByteArray} {nL : Nat} {ret : Option FieldType} {G : mm_G} {pc : Nat} {ls : Array Slot} {rest : List Value} (d : Nat) {σ : MS} (cx : mm_X cc nL ret G p s m args meth c) (hM : mm_R G σ H) (hS0 : va_S (mm_A G) s.heap H locs) {Qf : MS → Prop} (hw : w3_readNever d σ Qf) (hR : (({ frames := 17 + 4 * d, cells := 0, slots := 0, locals := 40 * (17 + 4 * d) } : Room)).frames + 1 ≤ R.frames ∧ 8 + (5 + 11) + (({ frames := 17 + 4 * d, cells := 0, slots := 0, locals := 40 * (17 + 4 * d) } : Room)).locals ≤ R.locals) (hroom : (rest.map fun v => v.category).sum ≤ 8) (hsize : ls.size = nL) (hf : cells ≤ R.cells ∧ slots ≤ R.slots) (hdg : decode cc pc = .ok (.invokevirtual 250, 3))
    (kk : ∀ (σ1 : MS) (H1 : Heap) (locs1 : List Loc), Qf σ1 → mm_R G σ1 H1 → va_S (mm_A G) s.heap H1 locs1 → W p l e R s m args below meth c H1 locs1 cells slots Qz (F0 m (pc + 3) ls rest)) : W p l e R s m args below meth c H locs cells slots Qz (F0 m pc ls (.ref (mm_o G) :: rest)) := by
  obtain ⟨hx, hb, hml, hown, hts, hr, hlk, hK, hZ⟩ := id cx
  exact mm_Vv cx hM hS0 (As := []) (M3_readNever l G d σ Qf hw) (cwV 0 hts (lw_V q2649 q2651 qs97 q172 q2652) rfl rfl rfl (by decide +kernel) hR) rfl hsize rfl hroom hf hdg kk
def w3_readCount_124 (d : Nat) (Q : MS → Prop) (K76 : Int32 → Int32 → Int32 → Int32 → MS → Prop) (x1 : Int32) (x2 : Int32) (x3 : Int32) (x4 : Int32) (σ : MS) : Prop :=
  K76 x1 x2 x3 x4 σ
set_option maxHeartbeats 4000000 in
theorem B3_readCount_124 {l : Launch} {p : Program} {e : Env} {s : State} {m : MethodId} {args : Array Value} {below : List Frame} {meth : Method} {c : Code} {G : mm_G} {Q : MS → Prop} {K76 : Int32 → Int32 → Int32 → Int32 → MS → Prop} (d : Nat) (cx : mm_X cX3_readCount 6 none G p s m args meth c) (hK76 : ∀ (x1 : Int32) (x2 : Int32) (x3 : Int32) (x4 : Int32) (σ : MS), K76 x1 x2 x3 x4 σ → mm_T p l e ({ frames := 17 + 4 * d, cells := 0, slots := 0, locals := 40 * (17 + 4 * d) } : Room) s m args below meth c G (mm_Qv G Q) 6 76 σ [(0, .ref (mm_o G)), (1, .int x1), (2, .int x2), (3, .int x3), (4, .int x4)] []) : ∀ (x1 : Int32) (x2 : Int32) (x3 : Int32) (x4 : Int32) (σ : MS), w3_readCount_124 d Q K76 x1 x2 x3 x4 σ → mm_T p l e ({ frames := 17 + 4 * d, cells := 0, slots := 0, locals := 40 * (17 + 4 * d) } : Room) s m args below meth c G (mm_Qv G Q) 6 124 σ [(0, .ref (mm_o G)), (1, .int x1), (2, .int x2), (3, .int x3), (4, .int x4)] [] := by
  intro x1 x2 x3 x4 σ hw H locs ls hM hS hl
  unfold w3_readCount_124 at hw
  obtain ⟨hx, hb, hml, hown, hts, hr, hlk, hMK, hZ⟩ := id cx
  refine lv_goto (tgt := 76) hx hb dX3_readCount_124 (by decide) ?_
  exact hK76 _ _ _ _ _ hw _ _ _ hM hS (lv_sub hl [0, 1, 2, 3, 4] rfl)
def w3_readCount_76 (d : Nat) (Q : MS → Prop) (K76 : Int32 → Int32 → Int32 → Int32 → MS → Prop) (x1 : Int32) (x2 : Int32) (x3 : Int32) (x4 : Int32) (σ : MS) : Prop :=
  w3_isWord 5 σ (fun r1 s1 => if r1 = 0 then (w3_isSign (59 : Int32) s1 (fun r2 s2 => w3_must r2 s2 (fun s3 => if (gI s3 17) = 0 then (vp_in ((16 : Int32) + x1) 640 ∧ (vp_in ((21 : Int32) + x1) 640 ∧ (vp_in ((26 : Int32) + x1) 640 ∧ (Q (sA (sA (sA (sA s3 1 ((16 : Int32) + x1).toNatClampNeg x2) 1 ((21 : Int32) + x1).toNatClampNeg x3) 1 ((26 : Int32) + x1).toNatClampNeg x4) 1 2 ((gA (sA (sA (sA s3 1 ((16 : Int32) + x1).toNatClampNeg x2) 1 ((21 : Int32) + x1).toNatClampNeg x3) 1 ((26 : Int32) + x1).toNatClampNeg x4) 1 2) + (1 : Int32))))))) else (Q s3)))) else (w3_room x4 (4 : Int32) s1 (fun s4 => w3_expr d s4 (fun r5 s5 => if (gI s5 17) = 0 then (vp_in (((31 : Int32) + ((4 : Int32) * x1)) + x4) 640 ∧ (∀ v6 : Int32, v6 = x4 + (1 : Int32) → w3_readCount_124 d Q K76 x1 x2 x3 v6 (sA s5 1 (((31 : Int32) + ((4 : Int32) * x1)) + x4).toNatClampNeg r5))) else (w3_readCount_124 d Q K76 x1 x2 x3 x4 s5)))))
set_option maxHeartbeats 4000000 in
theorem B3_readCount_76 {l : Launch} {p : Program} {e : Env} {s : State} {m : MethodId} {args : Array Value} {below : List Frame} {meth : Method} {c : Code} {G : mm_G} {Q : MS → Prop} {K76 : Int32 → Int32 → Int32 → Int32 → MS → Prop} (d : Nat) (cx : mm_X cX3_readCount 6 none G p s m args meth c) (hK76 : ∀ (x1 : Int32) (x2 : Int32) (x3 : Int32) (x4 : Int32) (σ : MS), K76 x1 x2 x3 x4 σ → mm_T p l e ({ frames := 17 + 4 * d, cells := 0, slots := 0, locals := 40 * (17 + 4 * d) } : Room) s m args below meth c G (mm_Qv G Q) 6 76 σ [(0, .ref (mm_o G)), (1, .int x1), (2, .int x2), (3, .int x3), (4, .int x4)] []) : ∀ (x1 : Int32) (x2 : Int32) (x3 : Int32) (x4 : Int32) (σ : MS), w3_readCount_76 d Q K76 x1 x2 x3 x4 σ → mm_T p l e ({ frames := 17 + 4 * d, cells := 0, slots := 0, locals := 40 * (17 + 4 * d) } : Room) s m args below meth c G (mm_Qv G Q) 6 76 σ [(0, .ref (mm_o G)), (1, .int x1), (2, .int x2), (3, .int x3), (4, .int x4)] [] := by
  intro x1 x2 x3 x4 σ hw H locs ls hM hS hl
  unfold w3_readCount_76 at hw
  obtain ⟨hx, hb, hml, hown, hts, hr, hlk, hMK, hZ⟩ := id cx
  refine lv_aload_n hx hb dX3_readCount_76 rfl (lv_at hl 0 rfl) ?_
  refine mm_ldc cx 5 (by decide) rfl dX3_readCount_77 ?_
  refine C3_isWord cx hM hS hw (by constructor <;> dsimp only <;> omega) (Nat.le_of_ble_eq_true rfl) hl.1 ⟨Nat.zero_le _, Nat.zero_le _⟩ dX3_readCount_79 (fun r1 s1 H locs hw hM hS => ?_)
  refine lv_if_eq (tgt := 127) hx hb dX3_readCount_82 (by decide) (fun hc => ?_) (fun hc => ?_)
  · have hw := mm_ip hc hw
    refine lv_aload_n hx hb dX3_readCount_127 rfl (lv_at hl 0 rfl) ?_
    refine lv_aload_n hx hb dX3_readCount_128 rfl (lv_at hl 0 rfl) ?_
    refine lv_bipush (v := (59 : Int32)) hx hb dX3_readCount_129 (by decide) ?_
    refine C3_isSign cx hM hS hw (by constructor <;> dsimp only <;> omega) (Nat.le_of_ble_eq_true rfl) hl.1 ⟨Nat.zero_le _, Nat.zero_le _⟩ dX3_readCount_131 (fun r2 s2 H locs hw hM hS => ?_)
    refine C3_must cx hM hS hw (by constructor <;> dsimp only <;> omega) (Nat.le_of_ble_eq_true rfl) hl.1 ⟨Nat.zero_le _, Nat.zero_le _⟩ dX3_readCount_134 (fun s3 H locs hw hM hS => ?_)
    refine lv_aload_n hx hb dX3_readCount_137 rfl (lv_at hl 0 rfl) ?_
    refine mg_17 cx hM dX3_readCount_138 ?_
    refine lv_if_eq (tgt := 145) hx hb dX3_readCount_141 (by decide) (fun hc => ?_) (fun hc => ?_)
    · have hw := mm_ip hc hw
      refine lv_aload_n hx hb dX3_readCount_145 rfl (lv_at hl 0 rfl) ?_
      refine mg_1 cx hM dX3_readCount_146 ?_
      refine lv_bipush (v := (16 : Int32)) hx hb dX3_readCount_149 (by decide) ?_
      refine lv_iload_n hx hb dX3_readCount_151 rfl (lv_at hl 1 rfl) ?_
      refine lv_iadd hx hb dX3_readCount_152 ?_
      refine lv_iload_n hx hb dX3_readCount_153 rfl (lv_at hl 2 rfl) ?_
      obtain ⟨hi, hw⟩ := hw
      refine mm_iast cx hM hS 1 rfl rfl hi dX3_readCount_154 (fun H locs hM hS => ?_)
      refine lv_aload_n hx hb dX3_readCount_155 rfl (lv_at hl 0 rfl) ?_
      refine mg_1 cx hM dX3_readCount_156 ?_
      refine lv_bipush (v := (21 : Int32)) hx hb dX3_readCount_159 (by decide) ?_
      refine lv_iload_n hx hb dX3_readCount_161 rfl (lv_at hl 1 rfl) ?_
      refine lv_iadd hx hb dX3_readCount_162 ?_
      refine lv_iload_n hx hb dX3_readCount_163 rfl (lv_at hl 3 rfl) ?_
      obtain ⟨hi, hw⟩ := hw
      refine mm_iast cx hM hS 1 rfl rfl hi dX3_readCount_164 (fun H locs hM hS => ?_)
      refine lv_aload_n hx hb dX3_readCount_165 rfl (lv_at hl 0 rfl) ?_
      refine mg_1 cx hM dX3_readCount_166 ?_
      refine lv_bipush (v := (26 : Int32)) hx hb dX3_readCount_169 (by decide) ?_
      refine lv_iload_n hx hb dX3_readCount_171 rfl (lv_at hl 1 rfl) ?_
      refine lv_iadd hx hb dX3_readCount_172 ?_
      refine lv_iload hx hb dX3_readCount_173 (lv_at hl 4 rfl) ?_
      obtain ⟨hi, hw⟩ := hw
      refine mm_iast cx hM hS 1 rfl rfl hi dX3_readCount_175 (fun H locs hM hS => ?_)
      refine lv_aload_n hx hb dX3_readCount_176 rfl (lv_at hl 0 rfl) ?_
      refine mg_1 cx hM dX3_readCount_177 ?_
      refine lv_iconst (v := (2 : Int32)) hx hb dX3_readCount_180 (by decide) ?_
      refine lv_dup2_11 hx hb dX3_readCount_181 rfl rfl ?_
      refine mm_iald cx hM 1 rfl (j := 2) (by decide) (vp_lit (by decide)) dX3_readCount_182 ?_
      refine lv_iconst (v := (1 : Int32)) hx hb dX3_readCount_183 (by decide) ?_
      refine lv_iadd hx hb dX3_readCount_184 ?_
      refine mm_iast cx hM hS 1 rfl (j0 := 2) (by decide) (vp_lit (by decide)) dX3_readCount_185 (fun H locs hM hS => ?_)
      exact mm_vret cx hM hS hw dX3_readCount_186
    · have hw := mm_in hc hw
      exact mm_vret cx hM hS hw dX3_readCount_144
  · have hw := mm_in hc hw
    refine lv_aload_n hx hb dX3_readCount_85 rfl (lv_at hl 0 rfl) ?_
    refine lv_iload hx hb dX3_readCount_86 (lv_at hl 4 rfl) ?_
    refine lv_iconst (v := (4 : Int32)) hx hb dX3_readCount_88 (by decide) ?_
    refine C3_room cx hM hS hw (by constructor <;> dsimp only <;> omega) (Nat.le_of_ble_eq_true rfl) hl.1 ⟨Nat.zero_le _, Nat.zero_le _⟩ dX3_readCount_89 (fun s4 H locs hw hM hS => ?_)
    refine lv_aload_n hx hb dX3_readCount_92 rfl (lv_at hl 0 rfl) ?_
    refine C3_expr d cx hM hS hw (by constructor <;> dsimp only <;> omega) (Nat.le_of_ble_eq_true rfl) hl.1 ⟨Nat.zero_le _, Nat.zero_le _⟩ dX3_readCount_93 (fun r5 s5 H locs hw hM hS => ?_)
    refine lv_istore (lv' := [(5, .int r5), (0, .ref (mm_o G)), (1, .int x1), (2, .int x2), (3, .int x3), (4, .int x4)]) hx hb dX3_readCount_96 hl (by decide) rfl (fun ls hl => ?_)
    refine lv_aload_n hx hb dX3_readCount_98 rfl (lv_at hl 1 rfl) ?_
    refine mg_17 cx hM dX3_readCount_99 ?_
    refine lv_if_ne (tgt := 124) hx hb dX3_readCount_102 (by decide) (fun hc => ?_) (fun hc => ?_)
    · have hw := mm_in hc hw
      exact B3_readCount_124 d cx hK76 _ _ _ _ _ hw _ _ _ hM hS (lv_sub hl [1, 2, 3, 4, 5] rfl)
    · have hw := mm_ip hc hw
      refine lv_aload_n hx hb dX3_readCount_105 rfl (lv_at hl 1 rfl) ?_
      refine mg_1 cx hM dX3_readCount_106 ?_
      refine lv_bipush (v := (31 : Int32)) hx hb dX3_readCount_109 (by decide) ?_
      refine lv_iconst (v := (4 : Int32)) hx hb dX3_readCount_111 (by decide) ?_
      refine lv_iload_n hx hb dX3_readCount_112 rfl (lv_at hl 2 rfl) ?_
      refine lv_imul hx hb dX3_readCount_113 ?_
      refine lv_iadd hx hb dX3_readCount_114 ?_
      refine lv_iload hx hb dX3_readCount_115 (lv_at hl 5 rfl) ?_
      refine lv_iadd hx hb dX3_readCount_117 ?_
      refine lv_iload hx hb dX3_readCount_118 (lv_at hl 0 rfl) ?_
      obtain ⟨hi, hw⟩ := hw
      refine mm_iast cx hM hS 1 rfl rfl hi dX3_readCount_120 (fun H locs hM hS => ?_)
      obtain ⟨v6, hv6⟩ : ∃ v : Int32, v = x4 + (1 : Int32) := ⟨_, rfl⟩
      have hw := hw v6 hv6
      refine lv_iinc (v := v6) (lv' := [(4, .int v6), (5, .int r5), (0, .ref (mm_o G)), (1, .int x1), (2, .int x2), (3, .int x3)]) hx hb dX3_readCount_121 hl (k := 5) rfl (by rw [hv6]; rfl) (by decide) rfl (fun ls hl => ?_)
      exact B3_readCount_124 d cx hK76 _ _ _ _ _ hw _ _ _ hM hS (lv_sub hl [2, 3, 4, 5, 0] rfl)
theorem L3_readCount_76 {l : Launch} {p : Program} {e : Env} {s : State} {m : MethodId} {args : Array Value} {below : List Frame} {meth : Method} {c : Code} {G : mm_G} {Q : MS → Prop} (d : Nat) (cx : mm_X cX3_readCount 6 none G p s m args meth c) : ∀ (x1 : Int32) (x2 : Int32) (x3 : Int32) (x4 : Int32) (σ : MS), lp5F (w3_readCount_76 d Q) x1 x2 x3 x4 σ → mm_T p l e ({ frames := 17 + 4 * d, cells := 0, slots := 0, locals := 40 * (17 + 4 * d) } : Room) s m args below meth c G (mm_Qv G Q) 6 76 σ [(0, .ref (mm_o G)), (1, .int x1), (2, .int x2), (3, .int x3), (4, .int x4)] [] :=
  lp5F_of (fun K hK => B3_readCount_76 d cx hK)
def w3_readCount_73 (d : Nat) (Q : MS → Prop) (x1 : Int32) (x2 : Int32) (x3 : Int32) (σ : MS) : Prop :=
  lp5F (w3_readCount_76 d Q) x1 x2 x3 (0 : Int32) σ
set_option maxHeartbeats 4000000 in
theorem B3_readCount_73 {l : Launch} {p : Program} {e : Env} {s : State} {m : MethodId} {args : Array Value} {below : List Frame} {meth : Method} {c : Code} {G : mm_G} {Q : MS → Prop} (d : Nat) (cx : mm_X cX3_readCount 6 none G p s m args meth c) : ∀ (x1 : Int32) (x2 : Int32) (x3 : Int32) (σ : MS), w3_readCount_73 d Q x1 x2 x3 σ → mm_T p l e ({ frames := 17 + 4 * d, cells := 0, slots := 0, locals := 40 * (17 + 4 * d) } : Room) s m args below meth c G (mm_Qv G Q) 6 73 σ [(0, .ref (mm_o G)), (1, .int x1), (2, .int x2), (3, .int x3)] [] := by
  intro x1 x2 x3 σ hw H locs ls hM hS hl
  unfold w3_readCount_73 at hw
  obtain ⟨hx, hb, hml, hown, hts, hr, hlk, hMK, hZ⟩ := id cx
  refine lv_iconst (v := (0 : Int32)) hx hb dX3_readCount_73 (by decide) ?_
  refine lv_istore (lv' := [(4, .int (0 : Int32)), (0, .ref (mm_o G)), (1, .int x1), (2, .int x2), (3, .int x3)]) hx hb dX3_readCount_74 hl (by decide) rfl (fun ls hl => ?_)
  exact L3_readCount_76 d cx _ _ _ _ _ hw _ _ _ hM hS (lv_sub hl [1, 2, 3, 4, 0] rfl)
def w3_readCount (d : Nat) (σ : MS) (Q : MS → Prop) : Prop :=
  ∀ v7 : Int32, v7 = (gA σ 1 2) → w3_room v7 (5 : Int32) σ (fun s8 => w3_newName ((8 : Int32) + v7) s8 (fun s9 => w3_isWord 3 s9 (fun r10 s10 => w3_must r10 s10 (fun s11 => w3_number (0 : Int32) (999 : Int32) s11 (fun r12 s12 => w3_isWord 4 s12 (fun r13 s13 => w3_must r13 s13 (fun s14 => w3_number (0 : Int32) (999 : Int32) s14 (fun r15 s15 => w3_isWord 5 s15 (fun r16 s16 => if r16 = 0 then (w3_wrong (1 : Int32) s16 (fun s17 => w3_readCount_73 d Q v7 r12 r15 s17)) else (w3_readCount_73 d Q v7 r12 r15 s16))))))))))
set_option maxHeartbeats 4000000 in
theorem M3_readCount (l : Launch) (G : mm_G) (d : Nat) (σ : MS) (Q : MS → Prop) (hw : w3_readCount d σ Q) : mm_Mv l yX3_readCount (ws_ yX3_readCount cX3_readCount 6 none) ({ frames := 17 + 4 * d, cells := 0, slots := 0, locals := 40 * (17 + 4 * d) } : Room) G [.ref (mm_o G)] σ Q := by
  refine mm_of (by decide) rfl ?_
  intro p e s m args below meth c cx hM ha
  refine mm_entry [.ref (mm_o G)] 6 [(0, .ref (mm_o G))] ha (Nat.le_of_ble_eq_true rfl) rfl (fun ls hl => ?_)
  have hS : va_S (mm_A G) s.heap s.heap [] := va_S.rf
  unfold w3_readCount at hw
  obtain ⟨hx, hb, hml, hown, hts, hr, hlk, hMK, hZ⟩ := id cx
  refine lv_aload_n hx hb dX3_readCount_0 rfl (lv_at hl 0 rfl) ?_
  refine mg_1 cx hM dX3_readCount_1 ?_
  refine lv_iconst (v := (2 : Int32)) hx hb dX3_readCount_4 (by decide) ?_
  refine mm_iald cx hM 1 rfl (j := 2) (by decide) (vp_lit (by decide)) dX3_readCount_5 ?_
  refine lv_topi (fun v7 hv7 => ?_)
  have hw := hw v7 hv7
  refine lv_istore_n (lv' := [(1, .int v7), (0, .ref (mm_o G))]) hx hb dX3_readCount_6 rfl hl (by decide) rfl (fun ls hl => ?_)
  refine lv_aload_n hx hb dX3_readCount_7 rfl (lv_at hl 1 rfl) ?_
  refine lv_iload_n hx hb dX3_readCount_8 rfl (lv_at hl 0 rfl) ?_
  refine lv_iconst (v := (5 : Int32)) hx hb dX3_readCount_9 (by decide) ?_
  refine C3_room cx hM hS hw (by constructor <;> dsimp only <;> omega) (Nat.le_of_ble_eq_true rfl) hl.1 ⟨Nat.zero_le _, Nat.zero_le _⟩ dX3_readCount_10 (fun s8 H locs hw hM hS => ?_)
  refine lv_aload_n hx hb dX3_readCount_13 rfl (lv_at hl 1 rfl) ?_
  refine lv_bipush (v := (8 : Int32)) hx hb dX3_readCount_14 (by decide) ?_
  refine lv_iload_n hx hb dX3_readCount_16 rfl (lv_at hl 0 rfl) ?_
  refine lv_iadd hx hb dX3_readCount_17 ?_
  refine C3_newName cx hM hS hw (by constructor <;> dsimp only <;> omega) (Nat.le_of_ble_eq_true rfl) hl.1 ⟨Nat.zero_le _, Nat.zero_le _⟩ dX3_readCount_18 (fun s9 H locs hw hM hS => ?_)
  refine lv_aload_n hx hb dX3_readCount_21 rfl (lv_at hl 1 rfl) ?_
  refine lv_aload_n hx hb dX3_readCount_22 rfl (lv_at hl 1 rfl) ?_
  refine mm_ldc cx 3 (by decide) rfl dX3_readCount_23 ?_
  refine C3_isWord cx hM hS hw (by constructor <;> dsimp only <;> omega) (Nat.le_of_ble_eq_true rfl) hl.1 ⟨Nat.zero_le _, Nat.zero_le _⟩ dX3_readCount_25 (fun r10 s10 H locs hw hM hS => ?_)
  refine C3_must cx hM hS hw (by constructor <;> dsimp only <;> omega) (Nat.le_of_ble_eq_true rfl) hl.1 ⟨Nat.zero_le _, Nat.zero_le _⟩ dX3_readCount_28 (fun s11 H locs hw hM hS => ?_)
  refine lv_aload_n hx hb dX3_readCount_31 rfl (lv_at hl 1 rfl) ?_
  refine lv_iconst (v := (0 : Int32)) hx hb dX3_readCount_32 (by decide) ?_
  refine lv_sipush (v := (999 : Int32)) hx hb dX3_readCount_33 (by decide) ?_
  refine C3_number cx hM hS hw (by constructor <;> dsimp only <;> omega) (Nat.le_of_ble_eq_true rfl) hl.1 ⟨Nat.zero_le _, Nat.zero_le _⟩ dX3_readCount_36 (fun r12 s12 H locs hw hM hS => ?_)
  refine lv_istore_n (lv' := [(2, .int r12), (1, .int v7), (0, .ref (mm_o G))]) hx hb dX3_readCount_39 rfl hl (by decide) rfl (fun ls hl => ?_)
  refine lv_aload_n hx hb dX3_readCount_40 rfl (lv_at hl 2 rfl) ?_
  refine lv_aload_n hx hb dX3_readCount_41 rfl (lv_at hl 2 rfl) ?_
  refine mm_ldc cx 4 (by decide) rfl dX3_readCount_42 ?_
  refine C3_isWord cx hM hS hw (by constructor <;> dsimp only <;> omega) (Nat.le_of_ble_eq_true rfl) hl.1 ⟨Nat.zero_le _, Nat.zero_le _⟩ dX3_readCount_44 (fun r13 s13 H locs hw hM hS => ?_)
  refine C3_must cx hM hS hw (by constructor <;> dsimp only <;> omega) (Nat.le_of_ble_eq_true rfl) hl.1 ⟨Nat.zero_le _, Nat.zero_le _⟩ dX3_readCount_47 (fun s14 H locs hw hM hS => ?_)
  refine lv_aload_n hx hb dX3_readCount_50 rfl (lv_at hl 2 rfl) ?_
  refine lv_iconst (v := (0 : Int32)) hx hb dX3_readCount_51 (by decide) ?_
  refine lv_sipush (v := (999 : Int32)) hx hb dX3_readCount_52 (by decide) ?_
  refine C3_number cx hM hS hw (by constructor <;> dsimp only <;> omega) (Nat.le_of_ble_eq_true rfl) hl.1 ⟨Nat.zero_le _, Nat.zero_le _⟩ dX3_readCount_55 (fun r15 s15 H locs hw hM hS => ?_)
  refine lv_istore_n (lv' := [(3, .int r15), (2, .int r12), (1, .int v7), (0, .ref (mm_o G))]) hx hb dX3_readCount_58 rfl hl (by decide) rfl (fun ls hl => ?_)
  refine lv_aload_n hx hb dX3_readCount_59 rfl (lv_at hl 3 rfl) ?_
  refine mm_ldc cx 5 (by decide) rfl dX3_readCount_60 ?_
  refine C3_isWord cx hM hS hw (by constructor <;> dsimp only <;> omega) (Nat.le_of_ble_eq_true rfl) hl.1 ⟨Nat.zero_le _, Nat.zero_le _⟩ dX3_readCount_62 (fun r16 s16 H locs hw hM hS => ?_)
  refine lv_if_ne (tgt := 73) hx hb dX3_readCount_65 (by decide) (fun hc => ?_) (fun hc => ?_)
  · have hw := mm_in hc hw
    exact B3_readCount_73 d cx _ _ _ _ hw _ _ _ hM hS (lv_sub hl [3, 2, 1, 0] rfl)
  · have hw := mm_ip hc hw
    refine lv_aload_n hx hb dX3_readCount_68 rfl (lv_at hl 3 rfl) ?_
    refine lv_iconst (v := (1 : Int32)) hx hb dX3_readCount_69 (by decide) ?_
    refine C3_wrong cx hM hS hw (by constructor <;> dsimp only <;> omega) (Nat.le_of_ble_eq_true rfl) hl.1 ⟨Nat.zero_le _, Nat.zero_le _⟩ dX3_readCount_70 (fun s17 H locs hw hM hS => ?_)
    exact B3_readCount_73 d cx _ _ _ _ hw _ _ _ hM hS (lv_sub hl [3, 2, 1, 0] rfl)
theorem C3_readCount {l : Launch} {p : Program} {e : Env} {R : Room} {s : State} {m : MethodId} {args : Array Value} {below : List Frame} {meth : Method} {c : Code} {H : Heap} {locs : List Loc} {cells slots : Nat} {Qz : State → Prop} {cc : ByteArray} {nL : Nat} {ret : Option FieldType} {G : mm_G} {pc : Nat} {ls : Array Slot} {rest : List Value} (d : Nat) {σ : MS} (cx : mm_X cc nL ret G p s m args meth c) (hM : mm_R G σ H) (hS0 : va_S (mm_A G) s.heap H locs) {Qf : MS → Prop} (hw : w3_readCount d σ Qf) (hR : (({ frames := 17 + 4 * d, cells := 0, slots := 0, locals := 40 * (17 + 4 * d) } : Room)).frames + 1 ≤ R.frames ∧ 8 + (6 + 11) + (({ frames := 17 + 4 * d, cells := 0, slots := 0, locals := 40 * (17 + 4 * d) } : Room)).locals ≤ R.locals) (hroom : (rest.map fun v => v.category).sum ≤ 8) (hsize : ls.size = nL) (hf : cells ≤ R.cells ∧ slots ≤ R.slots) (hdg : decode cc pc = .ok (.invokevirtual 253, 3))
    (kk : ∀ (σ1 : MS) (H1 : Heap) (locs1 : List Loc), Qf σ1 → mm_R G σ1 H1 → va_S (mm_A G) s.heap H1 locs1 → W p l e R s m args below meth c H1 locs1 cells slots Qz (F0 m (pc + 3) ls rest)) : W p l e R s m args below meth c H locs cells slots Qz (F0 m pc ls (.ref (mm_o G) :: rest)) := by
  obtain ⟨hx, hb, hml, hown, hts, hr, hlk, hK, hZ⟩ := id cx
  exact mm_Vv cx hM hS0 (As := []) (M3_readCount l G d σ Qf hw) (cwV 0 hts (lw_V q2693 q2695 qs108 q172 q2696) rfl rfl rfl (by decide +kernel) hR) rfl hsize rfl hroom hf hdg kk
def w3_readPlea (d : Nat) (σ : MS) (Q : MS → Prop) : Prop :=
  w3_room (gA σ 1 4) (6 : Int32) σ (fun s1 => w3_known (0 : Int32) s1 (fun r2 s2 => w3_expr d s2 (fun r3 s3 => w3_isSign (59 : Int32) s3 (fun r4 s4 => w3_must r4 s4 (fun s5 => if (gI s5 17) = 0 then (vp_in ((66 : Int32) + (gA s5 1 4)) 640 ∧ (vp_in ((72 : Int32) + (gA (sA s5 1 ((66 : Int32) + (gA s5 1 4)).toNatClampNeg r2) 1 4)) 640 ∧ (Q (sA (sA (sA s5 1 ((66 : Int32) + (gA s5 1 4)).toNatClampNeg r2) 1 ((72 : Int32) + (gA (sA s5 1 ((66 : Int32) + (gA s5 1 4)).toNatClampNeg r2) 1 4)).toNatClampNeg r3) 1 4 ((gA (sA (sA s5 1 ((66 : Int32) + (gA s5 1 4)).toNatClampNeg r2) 1 ((72 : Int32) + (gA (sA s5 1 ((66 : Int32) + (gA s5 1 4)).toNatClampNeg r2) 1 4)).toNatClampNeg r3) 1 4) + (1 : Int32)))))) else (Q s5))))))
set_option maxHeartbeats 4000000 in
theorem M3_readPlea (l : Launch) (G : mm_G) (d : Nat) (σ : MS) (Q : MS → Prop) (hw : w3_readPlea d σ Q) : mm_Mv l yX3_readPlea (ws_ yX3_readPlea cX3_readPlea 3 none) ({ frames := 17 + 4 * d, cells := 0, slots := 0, locals := 40 * (17 + 4 * d) } : Room) G [.ref (mm_o G)] σ Q := by
  refine mm_of (by decide) rfl ?_
  intro p e s m args below meth c cx hM ha
  refine mm_entry [.ref (mm_o G)] 3 [(0, .ref (mm_o G))] ha (Nat.le_of_ble_eq_true rfl) rfl (fun ls hl => ?_)
  have hS : va_S (mm_A G) s.heap s.heap [] := va_S.rf
  unfold w3_readPlea at hw
  obtain ⟨hx, hb, hml, hown, hts, hr, hlk, hMK, hZ⟩ := id cx
  refine lv_aload_n hx hb dX3_readPlea_0 rfl (lv_at hl 0 rfl) ?_
  refine lv_aload_n hx hb dX3_readPlea_1 rfl (lv_at hl 0 rfl) ?_
  refine mg_1 cx hM dX3_readPlea_2 ?_
  refine lv_iconst (v := (4 : Int32)) hx hb dX3_readPlea_5 (by decide) ?_
  refine mm_iald cx hM 1 rfl (j := 4) (by decide) (vp_lit (by decide)) dX3_readPlea_6 ?_
  refine lv_bipush (v := (6 : Int32)) hx hb dX3_readPlea_7 (by decide) ?_
  refine C3_room cx hM hS hw (by constructor <;> dsimp only <;> omega) (Nat.le_of_ble_eq_true rfl) hl.1 ⟨Nat.zero_le _, Nat.zero_le _⟩ dX3_readPlea_9 (fun s1 H locs hw hM hS => ?_)
  refine lv_aload_n hx hb dX3_readPlea_12 rfl (lv_at hl 0 rfl) ?_
  refine lv_iconst (v := (0 : Int32)) hx hb dX3_readPlea_13 (by decide) ?_
  refine C3_known cx hM hS hw (by constructor <;> dsimp only <;> omega) (Nat.le_of_ble_eq_true rfl) hl.1 ⟨Nat.zero_le _, Nat.zero_le _⟩ dX3_readPlea_14 (fun r2 s2 H locs hw hM hS => ?_)
  refine lv_istore_n (lv' := [(1, .int r2), (0, .ref (mm_o G))]) hx hb dX3_readPlea_17 rfl hl (by decide) rfl (fun ls hl => ?_)
  refine lv_aload_n hx hb dX3_readPlea_18 rfl (lv_at hl 1 rfl) ?_
  refine C3_expr d cx hM hS hw (by constructor <;> dsimp only <;> omega) (Nat.le_of_ble_eq_true rfl) hl.1 ⟨Nat.zero_le _, Nat.zero_le _⟩ dX3_readPlea_19 (fun r3 s3 H locs hw hM hS => ?_)
  refine lv_istore_n (lv' := [(2, .int r3), (1, .int r2), (0, .ref (mm_o G))]) hx hb dX3_readPlea_22 rfl hl (by decide) rfl (fun ls hl => ?_)
  refine lv_aload_n hx hb dX3_readPlea_23 rfl (lv_at hl 2 rfl) ?_
  refine lv_aload_n hx hb dX3_readPlea_24 rfl (lv_at hl 2 rfl) ?_
  refine lv_bipush (v := (59 : Int32)) hx hb dX3_readPlea_25 (by decide) ?_
  refine C3_isSign cx hM hS hw (by constructor <;> dsimp only <;> omega) (Nat.le_of_ble_eq_true rfl) hl.1 ⟨Nat.zero_le _, Nat.zero_le _⟩ dX3_readPlea_27 (fun r4 s4 H locs hw hM hS => ?_)
  refine C3_must cx hM hS hw (by constructor <;> dsimp only <;> omega) (Nat.le_of_ble_eq_true rfl) hl.1 ⟨Nat.zero_le _, Nat.zero_le _⟩ dX3_readPlea_30 (fun s5 H locs hw hM hS => ?_)
  refine lv_aload_n hx hb dX3_readPlea_33 rfl (lv_at hl 2 rfl) ?_
  refine mg_17 cx hM dX3_readPlea_34 ?_
  refine lv_if_ne (tgt := 80) hx hb dX3_readPlea_37 (by decide) (fun hc => ?_) (fun hc => ?_)
  · have hw := mm_in hc hw
    exact mm_vret cx hM hS hw dX3_readPlea_80
  · have hw := mm_ip hc hw
    refine lv_aload_n hx hb dX3_readPlea_40 rfl (lv_at hl 2 rfl) ?_
    refine mg_1 cx hM dX3_readPlea_41 ?_
    refine lv_bipush (v := (66 : Int32)) hx hb dX3_readPlea_44 (by decide) ?_
    refine lv_aload_n hx hb dX3_readPlea_46 rfl (lv_at hl 2 rfl) ?_
    refine mg_1 cx hM dX3_readPlea_47 ?_
    refine lv_iconst (v := (4 : Int32)) hx hb dX3_readPlea_50 (by decide) ?_
    refine mm_iald cx hM 1 rfl (j := 4) (by decide) (vp_lit (by decide)) dX3_readPlea_51 ?_
    refine lv_iadd hx hb dX3_readPlea_52 ?_
    refine lv_iload_n hx hb dX3_readPlea_53 rfl (lv_at hl 1 rfl) ?_
    obtain ⟨hi, hw⟩ := hw
    refine mm_iast cx hM hS 1 rfl rfl hi dX3_readPlea_54 (fun H locs hM hS => ?_)
    refine lv_aload_n hx hb dX3_readPlea_55 rfl (lv_at hl 2 rfl) ?_
    refine mg_1 cx hM dX3_readPlea_56 ?_
    refine lv_bipush (v := (72 : Int32)) hx hb dX3_readPlea_59 (by decide) ?_
    refine lv_aload_n hx hb dX3_readPlea_61 rfl (lv_at hl 2 rfl) ?_
    refine mg_1 cx hM dX3_readPlea_62 ?_
    refine lv_iconst (v := (4 : Int32)) hx hb dX3_readPlea_65 (by decide) ?_
    refine mm_iald cx hM 1 rfl (j := 4) (by decide) (vp_lit (by decide)) dX3_readPlea_66 ?_
    refine lv_iadd hx hb dX3_readPlea_67 ?_
    refine lv_iload_n hx hb dX3_readPlea_68 rfl (lv_at hl 0 rfl) ?_
    obtain ⟨hi, hw⟩ := hw
    refine mm_iast cx hM hS 1 rfl rfl hi dX3_readPlea_69 (fun H locs hM hS => ?_)
    refine lv_aload_n hx hb dX3_readPlea_70 rfl (lv_at hl 2 rfl) ?_
    refine mg_1 cx hM dX3_readPlea_71 ?_
    refine lv_iconst (v := (4 : Int32)) hx hb dX3_readPlea_74 (by decide) ?_
    refine lv_dup2_11 hx hb dX3_readPlea_75 rfl rfl ?_
    refine mm_iald cx hM 1 rfl (j := 4) (by decide) (vp_lit (by decide)) dX3_readPlea_76 ?_
    refine lv_iconst (v := (1 : Int32)) hx hb dX3_readPlea_77 (by decide) ?_
    refine lv_iadd hx hb dX3_readPlea_78 ?_
    refine mm_iast cx hM hS 1 rfl (j0 := 4) (by decide) (vp_lit (by decide)) dX3_readPlea_79 (fun H locs hM hS => ?_)
    exact mm_vret cx hM hS hw dX3_readPlea_80
theorem C3_readPlea {l : Launch} {p : Program} {e : Env} {R : Room} {s : State} {m : MethodId} {args : Array Value} {below : List Frame} {meth : Method} {c : Code} {H : Heap} {locs : List Loc} {cells slots : Nat} {Qz : State → Prop} {cc : ByteArray} {nL : Nat} {ret : Option FieldType} {G : mm_G} {pc : Nat} {ls : Array Slot} {rest : List Value} (d : Nat) {σ : MS} (cx : mm_X cc nL ret G p s m args meth c) (hM : mm_R G σ H) (hS0 : va_S (mm_A G) s.heap H locs) {Qf : MS → Prop} (hw : w3_readPlea d σ Qf) (hR : (({ frames := 17 + 4 * d, cells := 0, slots := 0, locals := 40 * (17 + 4 * d) } : Room)).frames + 1 ≤ R.frames ∧ 8 + (3 + 11) + (({ frames := 17 + 4 * d, cells := 0, slots := 0, locals := 40 * (17 + 4 * d) } : Room)).locals ≤ R.locals) (hroom : (rest.map fun v => v.category).sum ≤ 8) (hsize : ls.size = nL) (hf : cells ≤ R.cells ∧ slots ≤ R.slots) (hdg : decode cc pc = .ok (.invokevirtual 256, 3))
    (kk : ∀ (σ1 : MS) (H1 : Heap) (locs1 : List Loc), Qf σ1 → mm_R G σ1 H1 → va_S (mm_A G) s.heap H1 locs1 → W p l e R s m args below meth c H1 locs1 cells slots Qz (F0 m (pc + 3) ls rest)) : W p l e R s m args below meth c H locs cells slots Qz (F0 m pc ls (.ref (mm_o G) :: rest)) := by
  obtain ⟨hx, hb, hml, hown, hts, hr, hlk, hK, hZ⟩ := id cx
  exact mm_Vv cx hM hS0 (As := []) (M3_readPlea l G d σ Qf hw) (cwV 0 hts (lw_V q2697 q2699 qs109 q172 q2700) rfl rfl rfl (by decide +kernel) hR) rfl hsize rfl hroom hf hdg kk
def w3_has (x0 : Int32) (x1 : Int32) (σ : MS) (Q : Int32 → MS → Prop) : Prop :=
  if ((x0 >>> (x1 &&& 31)) &&& (1 : Int32)) = (1 : Int32) then (Q (1 : Int32) σ) else (Q (0 : Int32) σ)
set_option maxHeartbeats 4000000 in
theorem M3_has (l : Launch) (G : mm_G) (x0 : Int32) (x1 : Int32) (σ : MS) (Q : Int32 → MS → Prop) (hw : w3_has x0 x1 σ Q) : mm_Mi l yX3_has (ws_ yX3_has cX3_has 2 (some .boolean)) ({ frames := 0, cells := 0, slots := 0, locals := 0 } : Room) G [.int x0, .int x1] σ Q := by
  refine mm_of (by decide) rfl ?_
  intro p e s m args below meth c cx hM ha
  refine mm_entry [.int x0, .int x1] 2 [(0, .int x0), (1, .int x1)] ha (Nat.le_of_ble_eq_true rfl) rfl (fun ls hl => ?_)
  have hS : va_S (mm_A G) s.heap s.heap [] := va_S.rf
  unfold w3_has at hw
  obtain ⟨hx, hb, hml, hown, hts, hr, hlk, hMK, hZ⟩ := id cx
  refine lv_iload_n hx hb dX3_has_0 rfl (lv_at hl 0 rfl) ?_
  refine lv_iload_n hx hb dX3_has_1 rfl (lv_at hl 1 rfl) ?_
  refine lv_ishr hx hb dX3_has_2 ?_
  refine lv_iconst (v := (1 : Int32)) hx hb dX3_has_3 (by decide) ?_
  refine lv_iand hx hb dX3_has_4 ?_
  refine lv_iconst (v := (1 : Int32)) hx hb dX3_has_5 (by decide) ?_
  refine lv_icmp_ne (tgt := 13) hx hb dX3_has_6 (by decide) (fun hc => ?_) (fun hc => ?_)
  · have hw := mm_in hc hw
    refine lv_iconst (v := (0 : Int32)) hx hb dX3_has_13 (by decide) ?_
    exact mm_zret cx hM hS (Or.inl rfl) hw dX3_has_14
  · have hw := mm_ip hc hw
    refine lv_iconst (v := (1 : Int32)) hx hb dX3_has_9 (by decide) ?_
    refine lv_goto (tgt := 14) hx hb dX3_has_10 (by decide) ?_
    exact mm_zret cx hM hS (Or.inr rfl) hw dX3_has_14
theorem C3_has {l : Launch} {p : Program} {e : Env} {R : Room} {s : State} {m : MethodId} {args : Array Value} {below : List Frame} {meth : Method} {c : Code} {H : Heap} {locs : List Loc} {cells slots : Nat} {Qz : State → Prop} {cc : ByteArray} {nL : Nat} {ret : Option FieldType} {G : mm_G} {pc : Nat} {ls : Array Slot} {rest : List Value} {x0 : Int32} {x1 : Int32} {σ : MS} (cx : mm_X cc nL ret G p s m args meth c) (hM : mm_R G σ H) (hS0 : va_S (mm_A G) s.heap H locs) {Qf : Int32 → MS → Prop} (hw : w3_has x0 x1 σ Qf) (hR : (({ frames := 0, cells := 0, slots := 0, locals := 0 } : Room)).frames + 1 ≤ R.frames ∧ 8 + (2 + 11) + (({ frames := 0, cells := 0, slots := 0, locals := 0 } : Room)).locals ≤ R.locals) (hroom : (rest.map fun v => v.category).sum ≤ 8) (hsize : ls.size = nL) (hf : cells ≤ R.cells ∧ slots ≤ R.slots) (hdg : decode cc pc = .ok (.invokestatic 239, 3))
    (kk : ∀ (r : Int32) (σ1 : MS) (H1 : Heap) (locs1 : List Loc), Qf r σ1 → mm_R G σ1 H1 → va_S (mm_A G) s.heap H1 locs1 → W p l e R s m args below meth c H1 locs1 cells slots Qz (F0 m (pc + 3) ls (.int r :: rest))) : W p l e R s m args below meth c H locs cells slots Qz (F0 m pc ls (.int x1 :: .int x0 :: rest)) := by
  obtain ⟨hx, hb, hml, hown, hts, hr, hlk, hK, hZ⟩ := id cx
  exact mm_Si cx hM hS0 (As := [.int x0, .int x1]) (M3_has l G x0 x1 σ Qf hw) (va_cwS 2 hts (lw_S q2705 q2706 q172 q2707) rfl rfl rfl (by decide +kernel) hR) rfl hsize rfl hroom hf hdg kk
def w3_readSays_117 (Q : MS → Prop) (t0 : Nat) (t1 : Int32) (t2 : Int32) (t3 : Int32) (σ : MS) : Prop :=
  mm_w t0 = true ∧ (vp_in t1 (mm_z t0) ∧ (Q (sA σ t0 t1.toNatClampNeg (t2 ||| t3))))
set_option maxHeartbeats 4000000 in
theorem B3_readSays_117 {l : Launch} {p : Program} {e : Env} {s : State} {m : MethodId} {args : Array Value} {below : List Frame} {meth : Method} {c : Code} {G : mm_G} {Q : MS → Prop} (cx : mm_X cX3_readSays 4 none G p s m args meth c) : ∀ (t0 : Nat) (t1 : Int32) (t2 : Int32) (t3 : Int32) (σ : MS), w3_readSays_117 Q t0 t1 t2 t3 σ → mm_T p l e ({ frames := 12, cells := 0, slots := 0, locals := 480 } : Room) s m args below meth c G (mm_Qv G Q) 4 117 σ [(0, .ref (mm_o G))] [.int t3, .int t2, .int t1, .ref (mm_a G t0)] := by
  intro t0 t1 t2 t3 σ hw H locs ls hM hS hl
  unfold w3_readSays_117 at hw
  obtain ⟨hx, hb, hml, hown, hts, hr, hlk, hMK, hZ⟩ := id cx
  refine lv_ior hx hb dX3_readSays_117 ?_
  obtain ⟨hk, hw⟩ := hw
  obtain ⟨hi, hw⟩ := hw
  refine mm_iast cx hM hS t0 hk rfl hi dX3_readSays_118 (fun H locs hM hS => ?_)
  exact mm_vret cx hM hS hw dX3_readSays_119
def w3_readSays_60 (Q : MS → Prop) (x1 : Int32) (x2 : Int32) (x3 : Int32) (σ : MS) : Prop :=
  w3_passes σ (fun s1 => w3_isSign (59 : Int32) s1 (fun r2 s2 => w3_must r2 s2 (fun s3 => if (gI s3 17) = 0 then (vp_in ((51 : Int32) + x1) 640 ∧ (vp_in ((51 : Int32) + x1) 640 ∧ (vp_in ((56 : Int32) + x1) 640 ∧ (if x2 = 0 then (w3_readSays_117 Q 1 ((56 : Int32) + x1) (gA (sA s3 1 ((51 : Int32) + x1).toNatClampNeg ((gA s3 1 ((51 : Int32) + x1).toNatClampNeg) ||| ((1 : Int32) <<< (x3 &&& 31)))) 1 ((56 : Int32) + x1).toNatClampNeg) (0 : Int32) (sA s3 1 ((51 : Int32) + x1).toNatClampNeg ((gA s3 1 ((51 : Int32) + x1).toNatClampNeg) ||| ((1 : Int32) <<< (x3 &&& 31))))) else (w3_readSays_117 Q 1 ((56 : Int32) + x1) (gA (sA s3 1 ((51 : Int32) + x1).toNatClampNeg ((gA s3 1 ((51 : Int32) + x1).toNatClampNeg) ||| ((1 : Int32) <<< (x3 &&& 31)))) 1 ((56 : Int32) + x1).toNatClampNeg) ((1 : Int32) <<< (x3 &&& 31)) (sA s3 1 ((51 : Int32) + x1).toNatClampNeg ((gA s3 1 ((51 : Int32) + x1).toNatClampNeg) ||| ((1 : Int32) <<< (x3 &&& 31))))))))) else (Q s3))))
set_option maxHeartbeats 4000000 in
theorem B3_readSays_60 {l : Launch} {p : Program} {e : Env} {s : State} {m : MethodId} {args : Array Value} {below : List Frame} {meth : Method} {c : Code} {G : mm_G} {Q : MS → Prop} (cx : mm_X cX3_readSays 4 none G p s m args meth c) : ∀ (x1 : Int32) (x2 : Int32) (x3 : Int32) (σ : MS), w3_readSays_60 Q x1 x2 x3 σ → mm_T p l e ({ frames := 12, cells := 0, slots := 0, locals := 480 } : Room) s m args below meth c G (mm_Qv G Q) 4 60 σ [(0, .ref (mm_o G)), (1, .int x1), (2, .int x2), (3, .int x3)] [] := by
  intro x1 x2 x3 σ hw H locs ls hM hS hl
  unfold w3_readSays_60 at hw
  obtain ⟨hx, hb, hml, hown, hts, hr, hlk, hMK, hZ⟩ := id cx
  refine lv_aload_n hx hb dX3_readSays_60 rfl (lv_at hl 0 rfl) ?_
  refine C3_passes cx hM hS hw ⟨Nat.le_of_ble_eq_true rfl, Nat.le_of_ble_eq_true rfl⟩ (Nat.le_of_ble_eq_true rfl) hl.1 ⟨Nat.zero_le _, Nat.zero_le _⟩ dX3_readSays_61 (fun s1 H locs hw hM hS => ?_)
  refine lv_aload_n hx hb dX3_readSays_64 rfl (lv_at hl 0 rfl) ?_
  refine lv_aload_n hx hb dX3_readSays_65 rfl (lv_at hl 0 rfl) ?_
  refine lv_bipush (v := (59 : Int32)) hx hb dX3_readSays_66 (by decide) ?_
  refine C3_isSign cx hM hS hw ⟨Nat.le_of_ble_eq_true rfl, Nat.le_of_ble_eq_true rfl⟩ (Nat.le_of_ble_eq_true rfl) hl.1 ⟨Nat.zero_le _, Nat.zero_le _⟩ dX3_readSays_68 (fun r2 s2 H locs hw hM hS => ?_)
  refine C3_must cx hM hS hw ⟨Nat.le_of_ble_eq_true rfl, Nat.le_of_ble_eq_true rfl⟩ (Nat.le_of_ble_eq_true rfl) hl.1 ⟨Nat.zero_le _, Nat.zero_le _⟩ dX3_readSays_71 (fun s3 H locs hw hM hS => ?_)
  refine lv_aload_n hx hb dX3_readSays_74 rfl (lv_at hl 0 rfl) ?_
  refine mg_17 cx hM dX3_readSays_75 ?_
  refine lv_if_ne (tgt := 119) hx hb dX3_readSays_78 (by decide) (fun hc => ?_) (fun hc => ?_)
  · have hw := mm_in hc hw
    exact mm_vret cx hM hS hw dX3_readSays_119
  · have hw := mm_ip hc hw
    refine lv_aload_n hx hb dX3_readSays_81 rfl (lv_at hl 0 rfl) ?_
    refine mg_1 cx hM dX3_readSays_82 ?_
    refine lv_bipush (v := (51 : Int32)) hx hb dX3_readSays_85 (by decide) ?_
    refine lv_iload_n hx hb dX3_readSays_87 rfl (lv_at hl 1 rfl) ?_
    refine lv_iadd hx hb dX3_readSays_88 ?_
    refine lv_dup2_11 hx hb dX3_readSays_89 rfl rfl ?_
    obtain ⟨hi, hw⟩ := hw
    refine mm_iald cx hM 1 rfl rfl hi dX3_readSays_90 ?_
    refine lv_iconst (v := (1 : Int32)) hx hb dX3_readSays_91 (by decide) ?_
    refine lv_iload_n hx hb dX3_readSays_92 rfl (lv_at hl 3 rfl) ?_
    refine lv_ishl hx hb dX3_readSays_93 ?_
    refine lv_ior hx hb dX3_readSays_94 ?_
    obtain ⟨hi, hw⟩ := hw
    refine mm_iast cx hM hS 1 rfl rfl hi dX3_readSays_95 (fun H locs hM hS => ?_)
    refine lv_aload_n hx hb dX3_readSays_96 rfl (lv_at hl 0 rfl) ?_
    refine mg_1 cx hM dX3_readSays_97 ?_
    refine lv_bipush (v := (56 : Int32)) hx hb dX3_readSays_100 (by decide) ?_
    refine lv_iload_n hx hb dX3_readSays_102 rfl (lv_at hl 1 rfl) ?_
    refine lv_iadd hx hb dX3_readSays_103 ?_
    refine lv_dup2_11 hx hb dX3_readSays_104 rfl rfl ?_
    obtain ⟨hi, hw⟩ := hw
    refine mm_iald cx hM 1 rfl rfl hi dX3_readSays_105 ?_
    refine lv_iload_n hx hb dX3_readSays_106 rfl (lv_at hl 2 rfl) ?_
    refine lv_if_eq (tgt := 116) hx hb dX3_readSays_107 (by decide) (fun hc => ?_) (fun hc => ?_)
    · have hw := mm_ip hc hw
      refine lv_iconst (v := (0 : Int32)) hx hb dX3_readSays_116 (by decide) ?_
      exact B3_readSays_117 cx _ _ _ _ _ hw _ _ _ hM hS (lv_sub hl [0] rfl)
    · have hw := mm_in hc hw
      refine lv_iconst (v := (1 : Int32)) hx hb dX3_readSays_110 (by decide) ?_
      refine lv_iload_n hx hb dX3_readSays_111 rfl (lv_at hl 3 rfl) ?_
      refine lv_ishl hx hb dX3_readSays_112 ?_
      refine lv_goto (tgt := 117) hx hb dX3_readSays_113 (by decide) ?_
      exact B3_readSays_117 cx _ _ _ _ _ hw _ _ _ hM hS (lv_sub hl [0] rfl)
def w3_readSays_33 (Q : MS → Prop) (x1 : Int32) (x2 : Int32) (σ : MS) : Prop :=
  w3_here (1 : Int32) σ (fun r4 s4 => vp_in ((51 : Int32) + x1) 640 ∧ (w3_has (gA s4 1 ((51 : Int32) + x1).toNatClampNeg) r4 s4 (fun r5 s5 => if r5 = 0 then (w3_readSays_60 Q x1 x2 r4 s5) else (w3_wrong (3 : Int32) s5 (fun s6 => w3_readSays_60 Q x1 x2 r4 s6)))))
set_option maxHeartbeats 4000000 in
theorem B3_readSays_33 {l : Launch} {p : Program} {e : Env} {s : State} {m : MethodId} {args : Array Value} {below : List Frame} {meth : Method} {c : Code} {G : mm_G} {Q : MS → Prop} (cx : mm_X cX3_readSays 4 none G p s m args meth c) : ∀ (x1 : Int32) (x2 : Int32) (σ : MS), w3_readSays_33 Q x1 x2 σ → mm_T p l e ({ frames := 12, cells := 0, slots := 0, locals := 480 } : Room) s m args below meth c G (mm_Qv G Q) 4 33 σ [(0, .ref (mm_o G)), (1, .int x1), (2, .int x2)] [] := by
  intro x1 x2 σ hw H locs ls hM hS hl
  unfold w3_readSays_33 at hw
  obtain ⟨hx, hb, hml, hown, hts, hr, hlk, hMK, hZ⟩ := id cx
  refine lv_aload_n hx hb dX3_readSays_33 rfl (lv_at hl 0 rfl) ?_
  refine lv_iconst (v := (1 : Int32)) hx hb dX3_readSays_34 (by decide) ?_
  refine C3_here cx hM hS hw ⟨Nat.le_of_ble_eq_true rfl, Nat.le_of_ble_eq_true rfl⟩ (Nat.le_of_ble_eq_true rfl) hl.1 ⟨Nat.zero_le _, Nat.zero_le _⟩ dX3_readSays_35 (fun r4 s4 H locs hw hM hS => ?_)
  refine lv_istore_n (lv' := [(3, .int r4), (0, .ref (mm_o G)), (1, .int x1), (2, .int x2)]) hx hb dX3_readSays_38 rfl hl (by decide) rfl (fun ls hl => ?_)
  refine lv_aload_n hx hb dX3_readSays_39 rfl (lv_at hl 1 rfl) ?_
  refine mg_1 cx hM dX3_readSays_40 ?_
  refine lv_bipush (v := (51 : Int32)) hx hb dX3_readSays_43 (by decide) ?_
  refine lv_iload_n hx hb dX3_readSays_45 rfl (lv_at hl 2 rfl) ?_
  refine lv_iadd hx hb dX3_readSays_46 ?_
  obtain ⟨hi, hw⟩ := hw
  refine mm_iald cx hM 1 rfl rfl hi dX3_readSays_47 ?_
  refine lv_iload_n hx hb dX3_readSays_48 rfl (lv_at hl 0 rfl) ?_
  refine C3_has cx hM hS hw ⟨Nat.le_of_ble_eq_true rfl, Nat.le_of_ble_eq_true rfl⟩ (Nat.le_of_ble_eq_true rfl) hl.1 ⟨Nat.zero_le _, Nat.zero_le _⟩ dX3_readSays_49 (fun r5 s5 H locs hw hM hS => ?_)
  refine lv_if_eq (tgt := 60) hx hb dX3_readSays_52 (by decide) (fun hc => ?_) (fun hc => ?_)
  · have hw := mm_ip hc hw
    exact B3_readSays_60 cx _ _ _ _ hw _ _ _ hM hS (lv_sub hl [1, 2, 3, 0] rfl)
  · have hw := mm_in hc hw
    refine lv_aload_n hx hb dX3_readSays_55 rfl (lv_at hl 1 rfl) ?_
    refine lv_iconst (v := (3 : Int32)) hx hb dX3_readSays_56 (by decide) ?_
    refine C3_wrong cx hM hS hw ⟨Nat.le_of_ble_eq_true rfl, Nat.le_of_ble_eq_true rfl⟩ (Nat.le_of_ble_eq_true rfl) hl.1 ⟨Nat.zero_le _, Nat.zero_le _⟩ dX3_readSays_57 (fun s6 H locs hw hM hS => ?_)
    exact B3_readSays_60 cx _ _ _ _ hw _ _ _ hM hS (lv_sub hl [1, 2, 3, 0] rfl)
def w3_readSays_24 (Q : MS → Prop) (x1 : Int32) (t0 : Int32) (σ : MS) : Prop :=
  if t0 = 0 then (w3_next σ (fun s7 => w3_readSays_33 Q x1 t0 s7)) else (w3_readSays_33 Q x1 t0 σ)
set_option maxHeartbeats 4000000 in
theorem B3_readSays_24 {l : Launch} {p : Program} {e : Env} {s : State} {m : MethodId} {args : Array Value} {below : List Frame} {meth : Method} {c : Code} {G : mm_G} {Q : MS → Prop} (cx : mm_X cX3_readSays 4 none G p s m args meth c) : ∀ (x1 : Int32) (t0 : Int32) (σ : MS), w3_readSays_24 Q x1 t0 σ → mm_T p l e ({ frames := 12, cells := 0, slots := 0, locals := 480 } : Room) s m args below meth c G (mm_Qv G Q) 4 24 σ [(0, .ref (mm_o G)), (1, .int x1)] [.int t0] := by
  intro x1 t0 σ hw H locs ls hM hS hl
  unfold w3_readSays_24 at hw
  obtain ⟨hx, hb, hml, hown, hts, hr, hlk, hMK, hZ⟩ := id cx
  refine lv_istore_n (lv' := [(2, .int t0), (0, .ref (mm_o G)), (1, .int x1)]) hx hb dX3_readSays_24 rfl hl (by decide) rfl (fun ls hl => ?_)
  refine lv_iload_n hx hb dX3_readSays_25 rfl (lv_at hl 0 rfl) ?_
  refine lv_if_ne (tgt := 33) hx hb dX3_readSays_26 (by decide) (fun hc => ?_) (fun hc => ?_)
  · have hw := mm_in hc hw
    exact B3_readSays_33 cx _ _ _ hw _ _ _ hM hS (lv_sub hl [1, 2, 0] rfl)
  · have hw := mm_ip hc hw
    refine lv_aload_n hx hb dX3_readSays_29 rfl (lv_at hl 1 rfl) ?_
    refine C3_next cx hM hS hw ⟨Nat.le_of_ble_eq_true rfl, Nat.le_of_ble_eq_true rfl⟩ (Nat.le_of_ble_eq_true rfl) hl.1 ⟨Nat.zero_le _, Nat.zero_le _⟩ dX3_readSays_30 (fun s7 H locs hw hM hS => ?_)
    exact B3_readSays_33 cx _ _ _ hw _ _ _ hM hS (lv_sub hl [1, 2, 0] rfl)
def w3_readSays (σ : MS) (Q : MS → Prop) : Prop :=
  w3_next σ (fun s8 => w3_known (0 : Int32) s8 (fun r9 s9 => w3_isSign (33 : Int32) s9 (fun r10 s10 => if r10 = 0 then (w3_readSays_24 Q r9 (1 : Int32) s10) else (w3_readSays_24 Q r9 (0 : Int32) s10))))
set_option maxHeartbeats 4000000 in
theorem M3_readSays (l : Launch) (G : mm_G) (σ : MS) (Q : MS → Prop) (hw : w3_readSays σ Q) : mm_Mv l yX3_readSays (ws_ yX3_readSays cX3_readSays 4 none) ({ frames := 12, cells := 0, slots := 0, locals := 480 } : Room) G [.ref (mm_o G)] σ Q := by
  refine mm_of (by decide) rfl ?_
  intro p e s m args below meth c cx hM ha
  refine mm_entry [.ref (mm_o G)] 4 [(0, .ref (mm_o G))] ha (Nat.le_of_ble_eq_true rfl) rfl (fun ls hl => ?_)
  have hS : va_S (mm_A G) s.heap s.heap [] := va_S.rf
  unfold w3_readSays at hw
  obtain ⟨hx, hb, hml, hown, hts, hr, hlk, hMK, hZ⟩ := id cx
  refine lv_aload_n hx hb dX3_readSays_0 rfl (lv_at hl 0 rfl) ?_
  refine C3_next cx hM hS hw ⟨Nat.le_of_ble_eq_true rfl, Nat.le_of_ble_eq_true rfl⟩ (Nat.le_of_ble_eq_true rfl) hl.1 ⟨Nat.zero_le _, Nat.zero_le _⟩ dX3_readSays_1 (fun s8 H locs hw hM hS => ?_)
  refine lv_aload_n hx hb dX3_readSays_4 rfl (lv_at hl 0 rfl) ?_
  refine lv_iconst (v := (0 : Int32)) hx hb dX3_readSays_5 (by decide) ?_
  refine C3_known cx hM hS hw ⟨Nat.le_of_ble_eq_true rfl, Nat.le_of_ble_eq_true rfl⟩ (Nat.le_of_ble_eq_true rfl) hl.1 ⟨Nat.zero_le _, Nat.zero_le _⟩ dX3_readSays_6 (fun r9 s9 H locs hw hM hS => ?_)
  refine lv_istore_n (lv' := [(1, .int r9), (0, .ref (mm_o G))]) hx hb dX3_readSays_9 rfl hl (by decide) rfl (fun ls hl => ?_)
  refine lv_aload_n hx hb dX3_readSays_10 rfl (lv_at hl 1 rfl) ?_
  refine lv_bipush (v := (33 : Int32)) hx hb dX3_readSays_11 (by decide) ?_
  refine C3_isSign cx hM hS hw ⟨Nat.le_of_ble_eq_true rfl, Nat.le_of_ble_eq_true rfl⟩ (Nat.le_of_ble_eq_true rfl) hl.1 ⟨Nat.zero_le _, Nat.zero_le _⟩ dX3_readSays_13 (fun r10 s10 H locs hw hM hS => ?_)
  refine lv_if_ne (tgt := 23) hx hb dX3_readSays_16 (by decide) (fun hc => ?_) (fun hc => ?_)
  · have hw := mm_in hc hw
    refine lv_iconst (v := (0 : Int32)) hx hb dX3_readSays_23 (by decide) ?_
    exact B3_readSays_24 cx _ _ _ hw _ _ _ hM hS (lv_sub hl [1, 0] rfl)
  · have hw := mm_ip hc hw
    refine lv_iconst (v := (1 : Int32)) hx hb dX3_readSays_19 (by decide) ?_
    refine lv_goto (tgt := 24) hx hb dX3_readSays_20 (by decide) ?_
    exact B3_readSays_24 cx _ _ _ hw _ _ _ hM hS (lv_sub hl [1, 0] rfl)
theorem C3_readSays {l : Launch} {p : Program} {e : Env} {R : Room} {s : State} {m : MethodId} {args : Array Value} {below : List Frame} {meth : Method} {c : Code} {H : Heap} {locs : List Loc} {cells slots : Nat} {Qz : State → Prop} {cc : ByteArray} {nL : Nat} {ret : Option FieldType} {G : mm_G} {pc : Nat} {ls : Array Slot} {rest : List Value} {σ : MS} (cx : mm_X cc nL ret G p s m args meth c) (hM : mm_R G σ H) (hS0 : va_S (mm_A G) s.heap H locs) {Qf : MS → Prop} (hw : w3_readSays σ Qf) (hR : (({ frames := 12, cells := 0, slots := 0, locals := 480 } : Room)).frames + 1 ≤ R.frames ∧ 8 + (4 + 11) + (({ frames := 12, cells := 0, slots := 0, locals := 480 } : Room)).locals ≤ R.locals) (hroom : (rest.map fun v => v.category).sum ≤ 8) (hsize : ls.size = nL) (hf : cells ≤ R.cells ∧ slots ≤ R.slots) (hdg : decode cc pc = .ok (.invokevirtual 259, 3))
    (kk : ∀ (σ1 : MS) (H1 : Heap) (locs1 : List Loc), Qf σ1 → mm_R G σ1 H1 → va_S (mm_A G) s.heap H1 locs1 → W p l e R s m args below meth c H1 locs1 cells slots Qz (F0 m (pc + 3) ls rest)) : W p l e R s m args below meth c H locs cells slots Qz (F0 m pc ls (.ref (mm_o G) :: rest)) := by
  obtain ⟨hx, hb, hml, hown, hts, hr, hlk, hK, hZ⟩ := id cx
  exact mm_Vv cx hM hS0 (As := []) (M3_readSays l G σ Qf hw) (cwV 0 hts (lw_V q2701 q2703 qs110 q172 q2704) rfl rfl rfl (by decide +kernel) hR) rfl hsize rfl hroom hf hdg kk
def w3_readSame_42 (Q : MS → Prop) (x1 : Int32) (x2 : Int32) (σ : MS) : Prop :=
  w3_passes σ (fun s1 => w3_isSign (59 : Int32) s1 (fun r2 s2 => w3_must r2 s2 (fun s3 => if (gI s3 17) = 0 then (vp_in ((61 : Int32) + x1) 640 ∧ (vp_in ((61 : Int32) + x1) 640 ∧ (vp_in ((61 : Int32) + x2) 640 ∧ (vp_in ((61 : Int32) + x2) 640 ∧ (Q (sA (sA s3 1 ((61 : Int32) + x1).toNatClampNeg ((gA s3 1 ((61 : Int32) + x1).toNatClampNeg) ||| ((1 : Int32) <<< (x2 &&& 31)))) 1 ((61 : Int32) + x2).toNatClampNeg ((gA (sA s3 1 ((61 : Int32) + x1).toNatClampNeg ((gA s3 1 ((61 : Int32) + x1).toNatClampNeg) ||| ((1 : Int32) <<< (x2 &&& 31)))) 1 ((61 : Int32) + x2).toNatClampNeg) ||| ((1 : Int32) <<< (x1 &&& 31))))))))) else (Q s3))))
set_option maxHeartbeats 4000000 in
theorem B3_readSame_42 {l : Launch} {p : Program} {e : Env} {s : State} {m : MethodId} {args : Array Value} {below : List Frame} {meth : Method} {c : Code} {G : mm_G} {Q : MS → Prop} (cx : mm_X cX3_readSame 3 none G p s m args meth c) : ∀ (x1 : Int32) (x2 : Int32) (σ : MS), w3_readSame_42 Q x1 x2 σ → mm_T p l e ({ frames := 12, cells := 0, slots := 0, locals := 480 } : Room) s m args below meth c G (mm_Qv G Q) 3 42 σ [(0, .ref (mm_o G)), (1, .int x1), (2, .int x2)] [] := by
  intro x1 x2 σ hw H locs ls hM hS hl
  unfold w3_readSame_42 at hw
  obtain ⟨hx, hb, hml, hown, hts, hr, hlk, hMK, hZ⟩ := id cx
  refine lv_aload_n hx hb dX3_readSame_42 rfl (lv_at hl 0 rfl) ?_
  refine C3_passes cx hM hS hw ⟨Nat.le_of_ble_eq_true rfl, Nat.le_of_ble_eq_true rfl⟩ (Nat.le_of_ble_eq_true rfl) hl.1 ⟨Nat.zero_le _, Nat.zero_le _⟩ dX3_readSame_43 (fun s1 H locs hw hM hS => ?_)
  refine lv_aload_n hx hb dX3_readSame_46 rfl (lv_at hl 0 rfl) ?_
  refine lv_aload_n hx hb dX3_readSame_47 rfl (lv_at hl 0 rfl) ?_
  refine lv_bipush (v := (59 : Int32)) hx hb dX3_readSame_48 (by decide) ?_
  refine C3_isSign cx hM hS hw ⟨Nat.le_of_ble_eq_true rfl, Nat.le_of_ble_eq_true rfl⟩ (Nat.le_of_ble_eq_true rfl) hl.1 ⟨Nat.zero_le _, Nat.zero_le _⟩ dX3_readSame_50 (fun r2 s2 H locs hw hM hS => ?_)
  refine C3_must cx hM hS hw ⟨Nat.le_of_ble_eq_true rfl, Nat.le_of_ble_eq_true rfl⟩ (Nat.le_of_ble_eq_true rfl) hl.1 ⟨Nat.zero_le _, Nat.zero_le _⟩ dX3_readSame_53 (fun s3 H locs hw hM hS => ?_)
  refine lv_aload_n hx hb dX3_readSame_56 rfl (lv_at hl 0 rfl) ?_
  refine mg_17 cx hM dX3_readSame_57 ?_
  refine lv_if_ne (tgt := 93) hx hb dX3_readSame_60 (by decide) (fun hc => ?_) (fun hc => ?_)
  · have hw := mm_in hc hw
    exact mm_vret cx hM hS hw dX3_readSame_93
  · have hw := mm_ip hc hw
    refine lv_aload_n hx hb dX3_readSame_63 rfl (lv_at hl 0 rfl) ?_
    refine mg_1 cx hM dX3_readSame_64 ?_
    refine lv_bipush (v := (61 : Int32)) hx hb dX3_readSame_67 (by decide) ?_
    refine lv_iload_n hx hb dX3_readSame_69 rfl (lv_at hl 1 rfl) ?_
    refine lv_iadd hx hb dX3_readSame_70 ?_
    refine lv_dup2_11 hx hb dX3_readSame_71 rfl rfl ?_
    obtain ⟨hi, hw⟩ := hw
    refine mm_iald cx hM 1 rfl rfl hi dX3_readSame_72 ?_
    refine lv_iconst (v := (1 : Int32)) hx hb dX3_readSame_73 (by decide) ?_
    refine lv_iload_n hx hb dX3_readSame_74 rfl (lv_at hl 2 rfl) ?_
    refine lv_ishl hx hb dX3_readSame_75 ?_
    refine lv_ior hx hb dX3_readSame_76 ?_
    obtain ⟨hi, hw⟩ := hw
    refine mm_iast cx hM hS 1 rfl rfl hi dX3_readSame_77 (fun H locs hM hS => ?_)
    refine lv_aload_n hx hb dX3_readSame_78 rfl (lv_at hl 0 rfl) ?_
    refine mg_1 cx hM dX3_readSame_79 ?_
    refine lv_bipush (v := (61 : Int32)) hx hb dX3_readSame_82 (by decide) ?_
    refine lv_iload_n hx hb dX3_readSame_84 rfl (lv_at hl 2 rfl) ?_
    refine lv_iadd hx hb dX3_readSame_85 ?_
    refine lv_dup2_11 hx hb dX3_readSame_86 rfl rfl ?_
    obtain ⟨hi, hw⟩ := hw
    refine mm_iald cx hM 1 rfl rfl hi dX3_readSame_87 ?_
    refine lv_iconst (v := (1 : Int32)) hx hb dX3_readSame_88 (by decide) ?_
    refine lv_iload_n hx hb dX3_readSame_89 rfl (lv_at hl 1 rfl) ?_
    refine lv_ishl hx hb dX3_readSame_90 ?_
    refine lv_ior hx hb dX3_readSame_91 ?_
    obtain ⟨hi, hw⟩ := hw
    refine mm_iast cx hM hS 1 rfl rfl hi dX3_readSame_92 (fun H locs hM hS => ?_)
    exact mm_vret cx hM hS hw dX3_readSame_93
def w3_readSame_37 (Q : MS → Prop) (x1 : Int32) (x2 : Int32) (σ : MS) : Prop :=
  w3_wrong (3 : Int32) σ (fun s4 => w3_readSame_42 Q x1 x2 s4)
set_option maxHeartbeats 4000000 in
theorem B3_readSame_37 {l : Launch} {p : Program} {e : Env} {s : State} {m : MethodId} {args : Array Value} {below : List Frame} {meth : Method} {c : Code} {G : mm_G} {Q : MS → Prop} (cx : mm_X cX3_readSame 3 none G p s m args meth c) : ∀ (x1 : Int32) (x2 : Int32) (σ : MS), w3_readSame_37 Q x1 x2 σ → mm_T p l e ({ frames := 12, cells := 0, slots := 0, locals := 480 } : Room) s m args below meth c G (mm_Qv G Q) 3 37 σ [(0, .ref (mm_o G)), (1, .int x1), (2, .int x2)] [] := by
  intro x1 x2 σ hw H locs ls hM hS hl
  unfold w3_readSame_37 at hw
  obtain ⟨hx, hb, hml, hown, hts, hr, hlk, hMK, hZ⟩ := id cx
  refine lv_aload_n hx hb dX3_readSame_37 rfl (lv_at hl 0 rfl) ?_
  refine lv_iconst (v := (3 : Int32)) hx hb dX3_readSame_38 (by decide) ?_
  refine C3_wrong cx hM hS hw ⟨Nat.le_of_ble_eq_true rfl, Nat.le_of_ble_eq_true rfl⟩ (Nat.le_of_ble_eq_true rfl) hl.1 ⟨Nat.zero_le _, Nat.zero_le _⟩ dX3_readSame_39 (fun s4 H locs hw hM hS => ?_)
  exact B3_readSame_42 cx _ _ _ hw _ _ _ hM hS (lv_sub hl [0, 1, 2] rfl)
def w3_readSame (σ : MS) (Q : MS → Prop) : Prop :=
  w3_next σ (fun s5 => w3_known (0 : Int32) s5 (fun r6 s6 => w3_here (0 : Int32) s6 (fun r7 s7 => if r6 = r7 then (w3_readSame_37 Q r6 r7 s7) else (vp_in ((61 : Int32) + r6) 640 ∧ (w3_has (gA s7 1 ((61 : Int32) + r6).toNatClampNeg) r7 s7 (fun r8 s8 => if r8 = 0 then (w3_readSame_42 Q r6 r7 s8) else (w3_readSame_37 Q r6 r7 s8)))))))
set_option maxHeartbeats 4000000 in
theorem M3_readSame (l : Launch) (G : mm_G) (σ : MS) (Q : MS → Prop) (hw : w3_readSame σ Q) : mm_Mv l yX3_readSame (ws_ yX3_readSame cX3_readSame 3 none) ({ frames := 12, cells := 0, slots := 0, locals := 480 } : Room) G [.ref (mm_o G)] σ Q := by
  refine mm_of (by decide) rfl ?_
  intro p e s m args below meth c cx hM ha
  refine mm_entry [.ref (mm_o G)] 3 [(0, .ref (mm_o G))] ha (Nat.le_of_ble_eq_true rfl) rfl (fun ls hl => ?_)
  have hS : va_S (mm_A G) s.heap s.heap [] := va_S.rf
  unfold w3_readSame at hw
  obtain ⟨hx, hb, hml, hown, hts, hr, hlk, hMK, hZ⟩ := id cx
  refine lv_aload_n hx hb dX3_readSame_0 rfl (lv_at hl 0 rfl) ?_
  refine C3_next cx hM hS hw ⟨Nat.le_of_ble_eq_true rfl, Nat.le_of_ble_eq_true rfl⟩ (Nat.le_of_ble_eq_true rfl) hl.1 ⟨Nat.zero_le _, Nat.zero_le _⟩ dX3_readSame_1 (fun s5 H locs hw hM hS => ?_)
  refine lv_aload_n hx hb dX3_readSame_4 rfl (lv_at hl 0 rfl) ?_
  refine lv_iconst (v := (0 : Int32)) hx hb dX3_readSame_5 (by decide) ?_
  refine C3_known cx hM hS hw ⟨Nat.le_of_ble_eq_true rfl, Nat.le_of_ble_eq_true rfl⟩ (Nat.le_of_ble_eq_true rfl) hl.1 ⟨Nat.zero_le _, Nat.zero_le _⟩ dX3_readSame_6 (fun r6 s6 H locs hw hM hS => ?_)
  refine lv_istore_n (lv' := [(1, .int r6), (0, .ref (mm_o G))]) hx hb dX3_readSame_9 rfl hl (by decide) rfl (fun ls hl => ?_)
  refine lv_aload_n hx hb dX3_readSame_10 rfl (lv_at hl 1 rfl) ?_
  refine lv_iconst (v := (0 : Int32)) hx hb dX3_readSame_11 (by decide) ?_
  refine C3_here cx hM hS hw ⟨Nat.le_of_ble_eq_true rfl, Nat.le_of_ble_eq_true rfl⟩ (Nat.le_of_ble_eq_true rfl) hl.1 ⟨Nat.zero_le _, Nat.zero_le _⟩ dX3_readSame_12 (fun r7 s7 H locs hw hM hS => ?_)
  refine lv_istore_n (lv' := [(2, .int r7), (1, .int r6), (0, .ref (mm_o G))]) hx hb dX3_readSame_15 rfl hl (by decide) rfl (fun ls hl => ?_)
  refine lv_iload_n hx hb dX3_readSame_16 rfl (lv_at hl 1 rfl) ?_
  refine lv_iload_n hx hb dX3_readSame_17 rfl (lv_at hl 0 rfl) ?_
  refine lv_icmp_eq (tgt := 37) hx hb dX3_readSame_18 (by decide) (fun hc => ?_) (fun hc => ?_)
  · have hw := mm_ip hc hw
    exact B3_readSame_37 cx _ _ _ hw _ _ _ hM hS (lv_sub hl [2, 1, 0] rfl)
  · have hw := mm_in hc hw
    refine lv_aload_n hx hb dX3_readSame_21 rfl (lv_at hl 2 rfl) ?_
    refine mg_1 cx hM dX3_readSame_22 ?_
    refine lv_bipush (v := (61 : Int32)) hx hb dX3_readSame_25 (by decide) ?_
    refine lv_iload_n hx hb dX3_readSame_27 rfl (lv_at hl 1 rfl) ?_
    refine lv_iadd hx hb dX3_readSame_28 ?_
    obtain ⟨hi, hw⟩ := hw
    refine mm_iald cx hM 1 rfl rfl hi dX3_readSame_29 ?_
    refine lv_iload_n hx hb dX3_readSame_30 rfl (lv_at hl 0 rfl) ?_
    refine C3_has cx hM hS hw ⟨Nat.le_of_ble_eq_true rfl, Nat.le_of_ble_eq_true rfl⟩ (Nat.le_of_ble_eq_true rfl) hl.1 ⟨Nat.zero_le _, Nat.zero_le _⟩ dX3_readSame_31 (fun r8 s8 H locs hw hM hS => ?_)
    refine lv_if_eq (tgt := 42) hx hb dX3_readSame_34 (by decide) (fun hc => ?_) (fun hc => ?_)
    · have hw := mm_ip hc hw
      exact B3_readSame_42 cx _ _ _ hw _ _ _ hM hS (lv_sub hl [2, 1, 0] rfl)
    · have hw := mm_in hc hw
      exact B3_readSame_37 cx _ _ _ hw _ _ _ hM hS (lv_sub hl [2, 1, 0] rfl)
theorem C3_readSame {l : Launch} {p : Program} {e : Env} {R : Room} {s : State} {m : MethodId} {args : Array Value} {below : List Frame} {meth : Method} {c : Code} {H : Heap} {locs : List Loc} {cells slots : Nat} {Qz : State → Prop} {cc : ByteArray} {nL : Nat} {ret : Option FieldType} {G : mm_G} {pc : Nat} {ls : Array Slot} {rest : List Value} {σ : MS} (cx : mm_X cc nL ret G p s m args meth c) (hM : mm_R G σ H) (hS0 : va_S (mm_A G) s.heap H locs) {Qf : MS → Prop} (hw : w3_readSame σ Qf) (hR : (({ frames := 12, cells := 0, slots := 0, locals := 480 } : Room)).frames + 1 ≤ R.frames ∧ 8 + (3 + 11) + (({ frames := 12, cells := 0, slots := 0, locals := 480 } : Room)).locals ≤ R.locals) (hroom : (rest.map fun v => v.category).sum ≤ 8) (hsize : ls.size = nL) (hf : cells ≤ R.cells ∧ slots ≤ R.slots) (hdg : decode cc pc = .ok (.invokevirtual 262, 3))
    (kk : ∀ (σ1 : MS) (H1 : Heap) (locs1 : List Loc), Qf σ1 → mm_R G σ1 H1 → va_S (mm_A G) s.heap H1 locs1 → W p l e R s m args below meth c H1 locs1 cells slots Qz (F0 m (pc + 3) ls rest)) : W p l e R s m args below meth c H locs cells slots Qz (F0 m pc ls (.ref (mm_o G) :: rest)) := by
  obtain ⟨hx, hb, hml, hown, hts, hr, hlk, hK, hZ⟩ := id cx
  exact mm_Vv cx hM hS0 (As := []) (M3_readSame l G σ Qf hw) (cwV 0 hts (lw_V q2708 q2710 qs111 q172 q2711) rfl rfl rfl (by decide +kernel) hR) rfl hsize rfl hroom hf hdg kk
def w3_readLimit_12 (Q : MS → Prop) (σ : MS) : Prop :=
  w3_passes σ (fun s1 => w3_number (1 : Int32) (999 : Int32) s1 (fun r2 s2 => w3_isSign (59 : Int32) s2 (fun r3 s3 => w3_must r3 s3 (fun s4 => if (gI s4 17) = 0 then (Q (sA (sI s4 22 (1 : Int32)) 1 5 r2)) else (Q s4)))))
set_option maxHeartbeats 4000000 in
theorem B3_readLimit_12 {l : Launch} {p : Program} {e : Env} {s : State} {m : MethodId} {args : Array Value} {below : List Frame} {meth : Method} {c : Code} {G : mm_G} {Q : MS → Prop} (cx : mm_X cX3_readLimit 2 none G p s m args meth c) : ∀ (σ : MS), w3_readLimit_12 Q σ → mm_T p l e ({ frames := 4, cells := 0, slots := 0, locals := 160 } : Room) s m args below meth c G (mm_Qv G Q) 2 12 σ [(0, .ref (mm_o G))] [] := by
  intro σ hw H locs ls hM hS hl
  unfold w3_readLimit_12 at hw
  obtain ⟨hx, hb, hml, hown, hts, hr, hlk, hMK, hZ⟩ := id cx
  refine lv_aload_n hx hb dX3_readLimit_12 rfl (lv_at hl 0 rfl) ?_
  refine C3_passes cx hM hS hw ⟨Nat.le_of_ble_eq_true rfl, Nat.le_of_ble_eq_true rfl⟩ (Nat.le_of_ble_eq_true rfl) hl.1 ⟨Nat.zero_le _, Nat.zero_le _⟩ dX3_readLimit_13 (fun s1 H locs hw hM hS => ?_)
  refine lv_aload_n hx hb dX3_readLimit_16 rfl (lv_at hl 0 rfl) ?_
  refine lv_iconst (v := (1 : Int32)) hx hb dX3_readLimit_17 (by decide) ?_
  refine lv_sipush (v := (999 : Int32)) hx hb dX3_readLimit_18 (by decide) ?_
  refine C3_number cx hM hS hw ⟨Nat.le_of_ble_eq_true rfl, Nat.le_of_ble_eq_true rfl⟩ (Nat.le_of_ble_eq_true rfl) hl.1 ⟨Nat.zero_le _, Nat.zero_le _⟩ dX3_readLimit_21 (fun r2 s2 H locs hw hM hS => ?_)
  refine lv_istore_n (lv' := [(1, .int r2), (0, .ref (mm_o G))]) hx hb dX3_readLimit_24 rfl hl (by decide) rfl (fun ls hl => ?_)
  refine lv_aload_n hx hb dX3_readLimit_25 rfl (lv_at hl 1 rfl) ?_
  refine lv_aload_n hx hb dX3_readLimit_26 rfl (lv_at hl 1 rfl) ?_
  refine lv_bipush (v := (59 : Int32)) hx hb dX3_readLimit_27 (by decide) ?_
  refine C3_isSign cx hM hS hw ⟨Nat.le_of_ble_eq_true rfl, Nat.le_of_ble_eq_true rfl⟩ (Nat.le_of_ble_eq_true rfl) hl.1 ⟨Nat.zero_le _, Nat.zero_le _⟩ dX3_readLimit_29 (fun r3 s3 H locs hw hM hS => ?_)
  refine C3_must cx hM hS hw ⟨Nat.le_of_ble_eq_true rfl, Nat.le_of_ble_eq_true rfl⟩ (Nat.le_of_ble_eq_true rfl) hl.1 ⟨Nat.zero_le _, Nat.zero_le _⟩ dX3_readLimit_32 (fun s4 H locs hw hM hS => ?_)
  refine lv_aload_n hx hb dX3_readLimit_35 rfl (lv_at hl 1 rfl) ?_
  refine mg_17 cx hM dX3_readLimit_36 ?_
  refine lv_if_ne (tgt := 54) hx hb dX3_readLimit_39 (by decide) (fun hc => ?_) (fun hc => ?_)
  · have hw := mm_in hc hw
    exact mm_vret cx hM hS hw dX3_readLimit_54
  · have hw := mm_ip hc hw
    refine lv_aload_n hx hb dX3_readLimit_42 rfl (lv_at hl 1 rfl) ?_
    refine lv_iconst (v := (1 : Int32)) hx hb dX3_readLimit_43 (by decide) ?_
    refine mp_22 cx hM hS (Or.inr rfl) dX3_readLimit_44 (fun H locs hM hS => ?_)
    refine lv_aload_n hx hb dX3_readLimit_47 rfl (lv_at hl 1 rfl) ?_
    refine mg_1 cx hM dX3_readLimit_48 ?_
    refine lv_iconst (v := (5 : Int32)) hx hb dX3_readLimit_51 (by decide) ?_
    refine lv_iload_n hx hb dX3_readLimit_52 rfl (lv_at hl 0 rfl) ?_
    refine mm_iast cx hM hS 1 rfl (j0 := 5) (by decide) (vp_lit (by decide)) dX3_readLimit_53 (fun H locs hM hS => ?_)
    exact mm_vret cx hM hS hw dX3_readLimit_54
def w3_readLimit (σ : MS) (Q : MS → Prop) : Prop :=
  if (gI σ 22) = 0 then (w3_readLimit_12 Q σ) else (w3_wrong (3 : Int32) σ (fun s5 => w3_readLimit_12 Q s5))
set_option maxHeartbeats 4000000 in
theorem M3_readLimit (l : Launch) (G : mm_G) (σ : MS) (Q : MS → Prop) (hw : w3_readLimit σ Q) : mm_Mv l yX3_readLimit (ws_ yX3_readLimit cX3_readLimit 2 none) ({ frames := 4, cells := 0, slots := 0, locals := 160 } : Room) G [.ref (mm_o G)] σ Q := by
  refine mm_of (by decide) rfl ?_
  intro p e s m args below meth c cx hM ha
  refine mm_entry [.ref (mm_o G)] 2 [(0, .ref (mm_o G))] ha (Nat.le_of_ble_eq_true rfl) rfl (fun ls hl => ?_)
  have hS : va_S (mm_A G) s.heap s.heap [] := va_S.rf
  unfold w3_readLimit at hw
  obtain ⟨hx, hb, hml, hown, hts, hr, hlk, hMK, hZ⟩ := id cx
  refine lv_aload_n hx hb dX3_readLimit_0 rfl (lv_at hl 0 rfl) ?_
  refine mg_22 cx hM dX3_readLimit_1 ?_
  refine lv_if_eq (tgt := 12) hx hb dX3_readLimit_4 (by decide) (fun hc => ?_) (fun hc => ?_)
  · have hw := mm_ip hc hw
    exact B3_readLimit_12 cx _ hw _ _ _ hM hS (lv_sub hl [0] rfl)
  · have hw := mm_in hc hw
    refine lv_aload_n hx hb dX3_readLimit_7 rfl (lv_at hl 0 rfl) ?_
    refine lv_iconst (v := (3 : Int32)) hx hb dX3_readLimit_8 (by decide) ?_
    refine C3_wrong cx hM hS hw ⟨Nat.le_of_ble_eq_true rfl, Nat.le_of_ble_eq_true rfl⟩ (Nat.le_of_ble_eq_true rfl) hl.1 ⟨Nat.zero_le _, Nat.zero_le _⟩ dX3_readLimit_9 (fun s5 H locs hw hM hS => ?_)
    exact B3_readLimit_12 cx _ hw _ _ _ hM hS (lv_sub hl [0] rfl)
theorem C3_readLimit {l : Launch} {p : Program} {e : Env} {R : Room} {s : State} {m : MethodId} {args : Array Value} {below : List Frame} {meth : Method} {c : Code} {H : Heap} {locs : List Loc} {cells slots : Nat} {Qz : State → Prop} {cc : ByteArray} {nL : Nat} {ret : Option FieldType} {G : mm_G} {pc : Nat} {ls : Array Slot} {rest : List Value} {σ : MS} (cx : mm_X cc nL ret G p s m args meth c) (hM : mm_R G σ H) (hS0 : va_S (mm_A G) s.heap H locs) {Qf : MS → Prop} (hw : w3_readLimit σ Qf) (hR : (({ frames := 4, cells := 0, slots := 0, locals := 160 } : Room)).frames + 1 ≤ R.frames ∧ 8 + (2 + 11) + (({ frames := 4, cells := 0, slots := 0, locals := 160 } : Room)).locals ≤ R.locals) (hroom : (rest.map fun v => v.category).sum ≤ 8) (hsize : ls.size = nL) (hf : cells ≤ R.cells ∧ slots ≤ R.slots) (hdg : decode cc pc = .ok (.invokevirtual 265, 3))
    (kk : ∀ (σ1 : MS) (H1 : Heap) (locs1 : List Loc), Qf σ1 → mm_R G σ1 H1 → va_S (mm_A G) s.heap H1 locs1 → W p l e R s m args below meth c H1 locs1 cells slots Qz (F0 m (pc + 3) ls rest)) : W p l e R s m args below meth c H locs cells slots Qz (F0 m pc ls (.ref (mm_o G) :: rest)) := by
  obtain ⟨hx, hb, hml, hown, hts, hr, hlk, hK, hZ⟩ := id cx
  exact mm_Vv cx hM hS0 (As := []) (M3_readLimit l G σ Qf hw) (cwV 0 hts (lw_V q2712 q2714 qs112 q172 q2715) rfl rfl rfl (by decide +kernel) hR) rfl hsize rfl hroom hf hdg kk
def w3_readLine_117 (d : Nat) (Q : MS → Prop) (σ : MS) : Prop :=
  Q (sA σ 1 0 ((gA σ 1 0) + (1 : Int32)))
set_option maxHeartbeats 4000000 in
theorem B3_readLine_117 {l : Launch} {p : Program} {e : Env} {s : State} {m : MethodId} {args : Array Value} {below : List Frame} {meth : Method} {c : Code} {G : mm_G} {Q : MS → Prop} (d : Nat) (cx : mm_X cX3_readLine 1 none G p s m args meth c) : ∀ (σ : MS), w3_readLine_117 d Q σ → mm_T p l e ({ frames := 18 + 4 * d, cells := 0, slots := 0, locals := 40 * (18 + 4 * d) } : Room) s m args below meth c G (mm_Qv G Q) 1 117 σ [(0, .ref (mm_o G))] [] := by
  intro σ hw H locs ls hM hS hl
  unfold w3_readLine_117 at hw
  obtain ⟨hx, hb, hml, hown, hts, hr, hlk, hMK, hZ⟩ := id cx
  refine lv_aload_n hx hb dX3_readLine_117 rfl (lv_at hl 0 rfl) ?_
  refine mg_1 cx hM dX3_readLine_118 ?_
  refine lv_iconst (v := (0 : Int32)) hx hb dX3_readLine_121 (by decide) ?_
  refine lv_dup2_11 hx hb dX3_readLine_122 rfl rfl ?_
  refine mm_iald cx hM 1 rfl (j := 0) (by decide) (vp_lit (by decide)) dX3_readLine_123 ?_
  refine lv_iconst (v := (1 : Int32)) hx hb dX3_readLine_124 (by decide) ?_
  refine lv_iadd hx hb dX3_readLine_125 ?_
  refine mm_iast cx hM hS 1 rfl (j0 := 0) (by decide) (vp_lit (by decide)) dX3_readLine_126 (fun H locs hM hS => ?_)
  exact mm_vret cx hM hS hw dX3_readLine_127
def w3_readLine (d : Nat) (σ : MS) (Q : MS → Prop) : Prop :=
  w3_isWord 0 σ (fun r1 s1 => if r1 = 0 then (w3_isWord 1 s1 (fun r2 s2 => if r2 = 0 then (w3_isWord 2 s2 (fun r3 s3 => if r3 = 0 then (w3_isWord 6 s3 (fun r4 s4 => if r4 = 0 then (w3_isWord 7 s4 (fun r5 s5 => if r5 = 0 then (w3_isWord 8 s5 (fun r6 s6 => if r6 = 0 then (w3_isWord 9 s6 (fun r7 s7 => if r7 = 0 then (w3_wrong (1 : Int32) s7 (fun s8 => w3_readLine_117 d Q s8)) else (w3_readLimit s7 (fun s9 => w3_readLine_117 d Q s9)))) else (w3_readSame s6 (fun s10 => w3_readLine_117 d Q s10)))) else (w3_readSays s5 (fun s11 => w3_readLine_117 d Q s11)))) else (w3_readPlea d s4 (fun s12 => w3_readLine_117 d Q s12)))) else (w3_readCount d s3 (fun s13 => w3_readLine_117 d Q s13)))) else (w3_readNever d s2 (fun s14 => w3_readLine_117 d Q s14)))) else (w3_readFact s1 (fun s15 => w3_readLine_117 d Q s15)))
set_option maxHeartbeats 4000000 in
theorem M3_readLine (l : Launch) (G : mm_G) (d : Nat) (σ : MS) (Q : MS → Prop) (hw : w3_readLine d σ Q) : mm_Mv l yX3_readLine (ws_ yX3_readLine cX3_readLine 1 none) ({ frames := 18 + 4 * d, cells := 0, slots := 0, locals := 40 * (18 + 4 * d) } : Room) G [.ref (mm_o G)] σ Q := by
  refine mm_of (by decide) rfl ?_
  intro p e s m args below meth c cx hM ha
  refine mm_entry [.ref (mm_o G)] 1 [(0, .ref (mm_o G))] ha (Nat.le_of_ble_eq_true rfl) rfl (fun ls hl => ?_)
  have hS : va_S (mm_A G) s.heap s.heap [] := va_S.rf
  unfold w3_readLine at hw
  obtain ⟨hx, hb, hml, hown, hts, hr, hlk, hMK, hZ⟩ := id cx
  refine lv_aload_n hx hb dX3_readLine_0 rfl (lv_at hl 0 rfl) ?_
  refine mm_ldc cx 0 (by decide) rfl dX3_readLine_1 ?_
  refine C3_isWord cx hM hS hw (by constructor <;> dsimp only <;> omega) (Nat.le_of_ble_eq_true rfl) hl.1 ⟨Nat.zero_le _, Nat.zero_le _⟩ dX3_readLine_3 (fun r1 s1 H locs hw hM hS => ?_)
  refine lv_if_eq (tgt := 16) hx hb dX3_readLine_6 (by decide) (fun hc => ?_) (fun hc => ?_)
  · have hw := mm_ip hc hw
    refine lv_aload_n hx hb dX3_readLine_16 rfl (lv_at hl 0 rfl) ?_
    refine mm_ldc cx 1 (by decide) rfl dX3_readLine_17 ?_
    refine C3_isWord cx hM hS hw (by constructor <;> dsimp only <;> omega) (Nat.le_of_ble_eq_true rfl) hl.1 ⟨Nat.zero_le _, Nat.zero_le _⟩ dX3_readLine_19 (fun r2 s2 H locs hw hM hS => ?_)
    refine lv_if_eq (tgt := 32) hx hb dX3_readLine_22 (by decide) (fun hc => ?_) (fun hc => ?_)
    · have hw := mm_ip hc hw
      refine lv_aload_n hx hb dX3_readLine_32 rfl (lv_at hl 0 rfl) ?_
      refine mm_ldc cx 2 (by decide) rfl dX3_readLine_33 ?_
      refine C3_isWord cx hM hS hw (by constructor <;> dsimp only <;> omega) (Nat.le_of_ble_eq_true rfl) hl.1 ⟨Nat.zero_le _, Nat.zero_le _⟩ dX3_readLine_35 (fun r3 s3 H locs hw hM hS => ?_)
      refine lv_if_eq (tgt := 48) hx hb dX3_readLine_38 (by decide) (fun hc => ?_) (fun hc => ?_)
      · have hw := mm_ip hc hw
        refine lv_aload_n hx hb dX3_readLine_48 rfl (lv_at hl 0 rfl) ?_
        refine mm_ldc cx 6 (by decide) rfl dX3_readLine_49 ?_
        refine C3_isWord cx hM hS hw (by constructor <;> dsimp only <;> omega) (Nat.le_of_ble_eq_true rfl) hl.1 ⟨Nat.zero_le _, Nat.zero_le _⟩ dX3_readLine_51 (fun r4 s4 H locs hw hM hS => ?_)
        refine lv_if_eq (tgt := 64) hx hb dX3_readLine_54 (by decide) (fun hc => ?_) (fun hc => ?_)
        · have hw := mm_ip hc hw
          refine lv_aload_n hx hb dX3_readLine_64 rfl (lv_at hl 0 rfl) ?_
          refine mm_ldc cx 7 (by decide) rfl dX3_readLine_65 ?_
          refine C3_isWord cx hM hS hw (by constructor <;> dsimp only <;> omega) (Nat.le_of_ble_eq_true rfl) hl.1 ⟨Nat.zero_le _, Nat.zero_le _⟩ dX3_readLine_67 (fun r5 s5 H locs hw hM hS => ?_)
          refine lv_if_eq (tgt := 80) hx hb dX3_readLine_70 (by decide) (fun hc => ?_) (fun hc => ?_)
          · have hw := mm_ip hc hw
            refine lv_aload_n hx hb dX3_readLine_80 rfl (lv_at hl 0 rfl) ?_
            refine mm_ldc cx 8 (by decide) rfl dX3_readLine_81 ?_
            refine C3_isWord cx hM hS hw (by constructor <;> dsimp only <;> omega) (Nat.le_of_ble_eq_true rfl) hl.1 ⟨Nat.zero_le _, Nat.zero_le _⟩ dX3_readLine_83 (fun r6 s6 H locs hw hM hS => ?_)
            refine lv_if_eq (tgt := 96) hx hb dX3_readLine_86 (by decide) (fun hc => ?_) (fun hc => ?_)
            · have hw := mm_ip hc hw
              refine lv_aload_n hx hb dX3_readLine_96 rfl (lv_at hl 0 rfl) ?_
              refine mm_ldc cx 9 (by decide) rfl dX3_readLine_97 ?_
              refine C3_isWord cx hM hS hw (by constructor <;> dsimp only <;> omega) (Nat.le_of_ble_eq_true rfl) hl.1 ⟨Nat.zero_le _, Nat.zero_le _⟩ dX3_readLine_99 (fun r7 s7 H locs hw hM hS => ?_)
              refine lv_if_eq (tgt := 112) hx hb dX3_readLine_102 (by decide) (fun hc => ?_) (fun hc => ?_)
              · have hw := mm_ip hc hw
                refine lv_aload_n hx hb dX3_readLine_112 rfl (lv_at hl 0 rfl) ?_
                refine lv_iconst (v := (1 : Int32)) hx hb dX3_readLine_113 (by decide) ?_
                refine C3_wrong cx hM hS hw (by constructor <;> dsimp only <;> omega) (Nat.le_of_ble_eq_true rfl) hl.1 ⟨Nat.zero_le _, Nat.zero_le _⟩ dX3_readLine_114 (fun s8 H locs hw hM hS => ?_)
                exact B3_readLine_117 d cx _ hw _ _ _ hM hS (lv_sub hl [0] rfl)
              · have hw := mm_in hc hw
                refine lv_aload_n hx hb dX3_readLine_105 rfl (lv_at hl 0 rfl) ?_
                refine C3_readLimit cx hM hS hw (by constructor <;> dsimp only <;> omega) (Nat.le_of_ble_eq_true rfl) hl.1 ⟨Nat.zero_le _, Nat.zero_le _⟩ dX3_readLine_106 (fun s9 H locs hw hM hS => ?_)
                refine lv_goto (tgt := 117) hx hb dX3_readLine_109 (by decide) ?_
                exact B3_readLine_117 d cx _ hw _ _ _ hM hS (lv_sub hl [0] rfl)
            · have hw := mm_in hc hw
              refine lv_aload_n hx hb dX3_readLine_89 rfl (lv_at hl 0 rfl) ?_
              refine C3_readSame cx hM hS hw (by constructor <;> dsimp only <;> omega) (Nat.le_of_ble_eq_true rfl) hl.1 ⟨Nat.zero_le _, Nat.zero_le _⟩ dX3_readLine_90 (fun s10 H locs hw hM hS => ?_)
              refine lv_goto (tgt := 117) hx hb dX3_readLine_93 (by decide) ?_
              exact B3_readLine_117 d cx _ hw _ _ _ hM hS (lv_sub hl [0] rfl)
          · have hw := mm_in hc hw
            refine lv_aload_n hx hb dX3_readLine_73 rfl (lv_at hl 0 rfl) ?_
            refine C3_readSays cx hM hS hw (by constructor <;> dsimp only <;> omega) (Nat.le_of_ble_eq_true rfl) hl.1 ⟨Nat.zero_le _, Nat.zero_le _⟩ dX3_readLine_74 (fun s11 H locs hw hM hS => ?_)
            refine lv_goto (tgt := 117) hx hb dX3_readLine_77 (by decide) ?_
            exact B3_readLine_117 d cx _ hw _ _ _ hM hS (lv_sub hl [0] rfl)
        · have hw := mm_in hc hw
          refine lv_aload_n hx hb dX3_readLine_57 rfl (lv_at hl 0 rfl) ?_
          refine C3_readPlea d cx hM hS hw (by constructor <;> dsimp only <;> omega) (Nat.le_of_ble_eq_true rfl) hl.1 ⟨Nat.zero_le _, Nat.zero_le _⟩ dX3_readLine_58 (fun s12 H locs hw hM hS => ?_)
          refine lv_goto (tgt := 117) hx hb dX3_readLine_61 (by decide) ?_
          exact B3_readLine_117 d cx _ hw _ _ _ hM hS (lv_sub hl [0] rfl)
      · have hw := mm_in hc hw
        refine lv_aload_n hx hb dX3_readLine_41 rfl (lv_at hl 0 rfl) ?_
        refine C3_readCount d cx hM hS hw (by constructor <;> dsimp only <;> omega) (Nat.le_of_ble_eq_true rfl) hl.1 ⟨Nat.zero_le _, Nat.zero_le _⟩ dX3_readLine_42 (fun s13 H locs hw hM hS => ?_)
        refine lv_goto (tgt := 117) hx hb dX3_readLine_45 (by decide) ?_
        exact B3_readLine_117 d cx _ hw _ _ _ hM hS (lv_sub hl [0] rfl)
    · have hw := mm_in hc hw
      refine lv_aload_n hx hb dX3_readLine_25 rfl (lv_at hl 0 rfl) ?_
      refine C3_readNever d cx hM hS hw (by constructor <;> dsimp only <;> omega) (Nat.le_of_ble_eq_true rfl) hl.1 ⟨Nat.zero_le _, Nat.zero_le _⟩ dX3_readLine_26 (fun s14 H locs hw hM hS => ?_)
      refine lv_goto (tgt := 117) hx hb dX3_readLine_29 (by decide) ?_
      exact B3_readLine_117 d cx _ hw _ _ _ hM hS (lv_sub hl [0] rfl)
  · have hw := mm_in hc hw
    refine lv_aload_n hx hb dX3_readLine_9 rfl (lv_at hl 0 rfl) ?_
    refine C3_readFact cx hM hS hw (by constructor <;> dsimp only <;> omega) (Nat.le_of_ble_eq_true rfl) hl.1 ⟨Nat.zero_le _, Nat.zero_le _⟩ dX3_readLine_10 (fun s15 H locs hw hM hS => ?_)
    refine lv_goto (tgt := 117) hx hb dX3_readLine_13 (by decide) ?_
    exact B3_readLine_117 d cx _ hw _ _ _ hM hS (lv_sub hl [0] rfl)
theorem C3_readLine {l : Launch} {p : Program} {e : Env} {R : Room} {s : State} {m : MethodId} {args : Array Value} {below : List Frame} {meth : Method} {c : Code} {H : Heap} {locs : List Loc} {cells slots : Nat} {Qz : State → Prop} {cc : ByteArray} {nL : Nat} {ret : Option FieldType} {G : mm_G} {pc : Nat} {ls : Array Slot} {rest : List Value} (d : Nat) {σ : MS} (cx : mm_X cc nL ret G p s m args meth c) (hM : mm_R G σ H) (hS0 : va_S (mm_A G) s.heap H locs) {Qf : MS → Prop} (hw : w3_readLine d σ Qf) (hR : (({ frames := 18 + 4 * d, cells := 0, slots := 0, locals := 40 * (18 + 4 * d) } : Room)).frames + 1 ≤ R.frames ∧ 8 + (1 + 11) + (({ frames := 18 + 4 * d, cells := 0, slots := 0, locals := 40 * (18 + 4 * d) } : Room)).locals ≤ R.locals) (hroom : (rest.map fun v => v.category).sum ≤ 8) (hsize : ls.size = nL) (hf : cells ≤ R.cells ∧ slots ≤ R.slots) (hdg : decode cc pc = .ok (.invokevirtual 274, 3))
    (kk : ∀ (σ1 : MS) (H1 : Heap) (locs1 : List Loc), Qf σ1 → mm_R G σ1 H1 → va_S (mm_A G) s.heap H1 locs1 → W p l e R s m args below meth c H1 locs1 cells slots Qz (F0 m (pc + 3) ls rest)) : W p l e R s m args below meth c H locs cells slots Qz (F0 m pc ls (.ref (mm_o G) :: rest)) := by
  obtain ⟨hx, hb, hml, hown, hts, hr, hlk, hK, hZ⟩ := id cx
  exact mm_Vv cx hM hS0 (As := []) (M3_readLine l G d σ Qf hw) (cwV 0 hts (lw_V q2571 q2573 qs84 q172 q2574) rfl rfl rfl (by decide +kernel) hR) rfl hsize rfl hroom hf hdg kk
def w3_isRead_24 (Q : Int32 → MS → Prop) (t1 : Int32) (σ : MS) : Prop :=
  if (gI (sI σ 20 t1) 17) = 0 then (Q (1 : Int32) (sI σ 20 t1)) else (Q (0 : Int32) (sI σ 20 t1))
set_option maxHeartbeats 4000000 in
theorem B3_isRead_24 {l : Launch} {p : Program} {e : Env} {s : State} {m : MethodId} {args : Array Value} {below : List Frame} {meth : Method} {c : Code} {G : mm_G} {Q : Int32 → MS → Prop} (cx : mm_X cX3_isRead 1 (some .boolean) G p s m args meth c) : ∀ (t1 : Int32) (σ : MS), w3_isRead_24 Q t1 σ → mm_T p l e ({ frames := 0, cells := 0, slots := 0, locals := 0 } : Room) s m args below meth c G (mm_Qi G Q) 1 24 σ [(0, .ref (mm_o G))] [.int t1, .ref (mm_o G)] := by
  intro t1 σ hw H locs ls hM hS hl
  unfold w3_isRead_24 at hw
  obtain ⟨hx, hb, hml, hown, hts, hr, hlk, hMK, hZ⟩ := id cx
  refine mp_20 cx hM hS dX3_isRead_24 (fun H locs hM hS => ?_)
  refine lv_aload_n hx hb dX3_isRead_27 rfl (lv_at hl 0 rfl) ?_
  refine mg_17 cx hM dX3_isRead_28 ?_
  refine lv_if_ne (tgt := 38) hx hb dX3_isRead_31 (by decide) (fun hc => ?_) (fun hc => ?_)
  · have hw := mm_in hc hw
    refine lv_iconst (v := (0 : Int32)) hx hb dX3_isRead_38 (by decide) ?_
    exact mm_zret cx hM hS (Or.inl rfl) hw dX3_isRead_39
  · have hw := mm_ip hc hw
    refine lv_iconst (v := (1 : Int32)) hx hb dX3_isRead_34 (by decide) ?_
    refine lv_goto (tgt := 39) hx hb dX3_isRead_35 (by decide) ?_
    exact mm_zret cx hM hS (Or.inr rfl) hw dX3_isRead_39
def w3_isRead (σ : MS) (Q : Int32 → MS → Prop) : Prop :=
  if (gI (sI σ 19 (gI σ 17)) 17) = 0 then (w3_isRead_24 Q (-1 : Int32) (sI σ 19 (gI σ 17))) else (w3_isRead_24 Q (gI (sI σ 19 (gI σ 17)) 18) (sI σ 19 (gI σ 17)))
set_option maxHeartbeats 4000000 in
theorem M3_isRead (l : Launch) (G : mm_G) (σ : MS) (Q : Int32 → MS → Prop) (hw : w3_isRead σ Q) : mm_Mi l yX3_isRead (ws_ yX3_isRead cX3_isRead 1 (some .boolean)) ({ frames := 0, cells := 0, slots := 0, locals := 0 } : Room) G [.ref (mm_o G)] σ Q := by
  refine mm_of (by decide) rfl ?_
  intro p e s m args below meth c cx hM ha
  refine mm_entry [.ref (mm_o G)] 1 [(0, .ref (mm_o G))] ha (Nat.le_of_ble_eq_true rfl) rfl (fun ls hl => ?_)
  have hS : va_S (mm_A G) s.heap s.heap [] := va_S.rf
  unfold w3_isRead at hw
  obtain ⟨hx, hb, hml, hown, hts, hr, hlk, hMK, hZ⟩ := id cx
  refine lv_aload_n hx hb dX3_isRead_0 rfl (lv_at hl 0 rfl) ?_
  refine lv_aload_n hx hb dX3_isRead_1 rfl (lv_at hl 0 rfl) ?_
  refine mg_17 cx hM dX3_isRead_2 ?_
  refine mp_19 cx hM hS dX3_isRead_5 (fun H locs hM hS => ?_)
  refine lv_aload_n hx hb dX3_isRead_8 rfl (lv_at hl 0 rfl) ?_
  refine lv_aload_n hx hb dX3_isRead_9 rfl (lv_at hl 0 rfl) ?_
  refine mg_17 cx hM dX3_isRead_10 ?_
  refine lv_if_ne (tgt := 20) hx hb dX3_isRead_13 (by decide) (fun hc => ?_) (fun hc => ?_)
  · have hw := mm_in hc hw
    refine lv_aload_n hx hb dX3_isRead_20 rfl (lv_at hl 0 rfl) ?_
    refine mg_18 cx hM dX3_isRead_21 ?_
    exact B3_isRead_24 cx _ _ hw _ _ _ hM hS (lv_sub hl [0] rfl)
  · have hw := mm_ip hc hw
    refine lv_iconst (v := (-1 : Int32)) hx hb dX3_isRead_16 (by decide) ?_
    refine lv_goto (tgt := 24) hx hb dX3_isRead_17 (by decide) ?_
    exact B3_isRead_24 cx _ _ hw _ _ _ hM hS (lv_sub hl [0] rfl)
theorem C3_isRead {l : Launch} {p : Program} {e : Env} {R : Room} {s : State} {m : MethodId} {args : Array Value} {below : List Frame} {meth : Method} {c : Code} {H : Heap} {locs : List Loc} {cells slots : Nat} {Qz : State → Prop} {cc : ByteArray} {nL : Nat} {ret : Option FieldType} {G : mm_G} {pc : Nat} {ls : Array Slot} {rest : List Value} {σ : MS} (cx : mm_X cc nL ret G p s m args meth c) (hM : mm_R G σ H) (hS0 : va_S (mm_A G) s.heap H locs) {Qf : Int32 → MS → Prop} (hw : w3_isRead σ Qf) (hR : (({ frames := 0, cells := 0, slots := 0, locals := 0 } : Room)).frames + 1 ≤ R.frames ∧ 8 + (1 + 11) + (({ frames := 0, cells := 0, slots := 0, locals := 0 } : Room)).locals ≤ R.locals) (hroom : (rest.map fun v => v.category).sum ≤ 8) (hsize : ls.size = nL) (hf : cells ≤ R.cells ∧ slots ≤ R.slots) (hdg : decode cc pc = .ok (.invokevirtual 277, 3))
    (kk : ∀ (r : Int32) (σ1 : MS) (H1 : Heap) (locs1 : List Loc), Qf r σ1 → mm_R G σ1 H1 → va_S (mm_A G) s.heap H1 locs1 → W p l e R s m args below meth c H1 locs1 cells slots Qz (F0 m (pc + 3) ls (.int r :: rest))) : W p l e R s m args below meth c H locs cells slots Qz (F0 m pc ls (.ref (mm_o G) :: rest)) := by
  obtain ⟨hx, hb, hml, hown, hts, hr, hlk, hK, hZ⟩ := id cx
  exact mm_Vi cx hM hS0 (As := []) (M3_isRead l G σ Qf hw) (cwV 0 hts (lw_V q2716 q2718 qs113 q172 q2719) rfl rfl rfl (by decide +kernel) hR) rfl hsize rfl hroom hf hdg kk
def w3_puts (x1 : Int32) (x2 : Int32) (x3 : Int32) (σ : MS) (Q : MS → Prop) : Prop :=
  vp_in (((19 : Int32) + ((8 : Int32) * x1)) + x2) 83 ∧ (Q (sA σ 4 (((19 : Int32) + ((8 : Int32) * x1)) + x2).toNatClampNeg x3))
set_option maxHeartbeats 4000000 in
theorem M3_puts (l : Launch) (G : mm_G) (x1 : Int32) (x2 : Int32) (x3 : Int32) (σ : MS) (Q : MS → Prop) (hw : w3_puts x1 x2 x3 σ Q) : mm_Mv l yX3_puts (ws_ yX3_puts cX3_puts 4 none) ({ frames := 0, cells := 0, slots := 0, locals := 0 } : Room) G [.ref (mm_o G), .int x1, .int x2, .int x3] σ Q := by
  refine mm_of (by decide) rfl ?_
  intro p e s m args below meth c cx hM ha
  refine mm_entry [.ref (mm_o G), .int x1, .int x2, .int x3] 4 [(0, .ref (mm_o G)), (1, .int x1), (2, .int x2), (3, .int x3)] ha (Nat.le_of_ble_eq_true rfl) rfl (fun ls hl => ?_)
  have hS : va_S (mm_A G) s.heap s.heap [] := va_S.rf
  unfold w3_puts at hw
  obtain ⟨hx, hb, hml, hown, hts, hr, hlk, hMK, hZ⟩ := id cx
  refine lv_aload_n hx hb dX3_puts_0 rfl (lv_at hl 0 rfl) ?_
  refine mg_4 cx hM dX3_puts_1 ?_
  refine lv_bipush (v := (19 : Int32)) hx hb dX3_puts_4 (by decide) ?_
  refine lv_bipush (v := (8 : Int32)) hx hb dX3_puts_6 (by decide) ?_
  refine lv_iload_n hx hb dX3_puts_8 rfl (lv_at hl 1 rfl) ?_
  refine lv_imul hx hb dX3_puts_9 ?_
  refine lv_iadd hx hb dX3_puts_10 ?_
  refine lv_iload_n hx hb dX3_puts_11 rfl (lv_at hl 2 rfl) ?_
  refine lv_iadd hx hb dX3_puts_12 ?_
  refine lv_iload_n hx hb dX3_puts_13 rfl (lv_at hl 3 rfl) ?_
  obtain ⟨hi, hw⟩ := hw
  refine mm_iast cx hM hS 4 rfl rfl hi dX3_puts_14 (fun H locs hM hS => ?_)
  exact mm_vret cx hM hS hw dX3_puts_15
theorem C3_puts {l : Launch} {p : Program} {e : Env} {R : Room} {s : State} {m : MethodId} {args : Array Value} {below : List Frame} {meth : Method} {c : Code} {H : Heap} {locs : List Loc} {cells slots : Nat} {Qz : State → Prop} {cc : ByteArray} {nL : Nat} {ret : Option FieldType} {G : mm_G} {pc : Nat} {ls : Array Slot} {rest : List Value} {x1 : Int32} {x2 : Int32} {x3 : Int32} {σ : MS} (cx : mm_X cc nL ret G p s m args meth c) (hM : mm_R G σ H) (hS0 : va_S (mm_A G) s.heap H locs) {Qf : MS → Prop} (hw : w3_puts x1 x2 x3 σ Qf) (hR : (({ frames := 0, cells := 0, slots := 0, locals := 0 } : Room)).frames + 1 ≤ R.frames ∧ 8 + (4 + 11) + (({ frames := 0, cells := 0, slots := 0, locals := 0 } : Room)).locals ≤ R.locals) (hroom : (rest.map fun v => v.category).sum ≤ 8) (hsize : ls.size = nL) (hf : cells ≤ R.cells ∧ slots ≤ R.slots) (hdg : decode cc pc = .ok (.invokevirtual 283, 3))
    (kk : ∀ (σ1 : MS) (H1 : Heap) (locs1 : List Loc), Qf σ1 → mm_R G σ1 H1 → va_S (mm_A G) s.heap H1 locs1 → W p l e R s m args below meth c H1 locs1 cells slots Qz (F0 m (pc + 3) ls rest)) : W p l e R s m args below meth c H locs cells slots Qz (F0 m pc ls (.int x3 :: .int x2 :: .int x1 :: .ref (mm_o G) :: rest)) := by
  obtain ⟨hx, hb, hml, hown, hts, hr, hlk, hK, hZ⟩ := id cx
  exact mm_Vv cx hM hS0 (As := [.int x1, .int x2, .int x3]) (M3_puts l G x1 x2 x3 σ Qf hw) (cwV 3 hts (lw_V q2724 q2726 qs115 q172 q2727) rfl rfl rfl (by decide +kernel) hR) rfl hsize rfl hroom hf hdg kk
def w3_begins_36 (Q : MS → Prop) (K36 : Int32 → MS → Prop) (x1 : Int32) (σ : MS) : Prop :=
  if (gA σ 0 2) ≤ x1 then (vp_in (0 : Int32) 2 ∧ (vp_in (1 : Int32) 2 ∧ (w3_laysTables (sI (sA (sA (sI σ 8 (0 : Int32)) 7 (0 : Int32).toNatClampNeg (0 : Int32)) 7 (1 : Int32).toNatClampNeg (0 : Int32)) 39 (0 : Int32)) (fun s1 => Q s1)))) else (w3_puts x1 (0 : Int32) x1 σ (fun s2 => vp_in ((16 : Int32) + x1) 640 ∧ (w3_puts x1 (2 : Int32) (gA s2 0 ((16 : Int32) + x1).toNatClampNeg) s2 (fun s3 => vp_in ((21 : Int32) + x1) 640 ∧ (w3_puts x1 (3 : Int32) (gA s3 0 ((21 : Int32) + x1).toNatClampNeg) s3 (fun s4 => vp_in ((51 : Int32) + x1) 640 ∧ (w3_puts x1 (4 : Int32) (gA s4 0 ((51 : Int32) + x1).toNatClampNeg) s4 (fun s5 => vp_in ((56 : Int32) + x1) 640 ∧ (w3_puts x1 (5 : Int32) (gA s5 0 ((56 : Int32) + x1).toNatClampNeg) s5 (fun s6 => w3_puts x1 (7 : Int32) x1 s6 (fun s7 => ∀ v8 : Int32, v8 = x1 + (1 : Int32) → K36 v8 s7)))))))))))
set_option maxHeartbeats 4000000 in
theorem B3_begins_36 {l : Launch} {p : Program} {e : Env} {s : State} {m : MethodId} {args : Array Value} {below : List Frame} {meth : Method} {c : Code} {G : mm_G} {Q : MS → Prop} {K36 : Int32 → MS → Prop} (cx : mm_X cX3_begins 2 none G p s m args meth c) (hK36 : ∀ (x1 : Int32) (σ : MS), K36 x1 σ → mm_T p l e ({ frames := 4, cells := 0, slots := 0, locals := 160 } : Room) s m args below meth c G (mm_Qv G Q) 2 36 σ [(0, .ref (mm_o G)), (1, .int x1)] []) : ∀ (x1 : Int32) (σ : MS), w3_begins_36 Q K36 x1 σ → mm_T p l e ({ frames := 4, cells := 0, slots := 0, locals := 160 } : Room) s m args below meth c G (mm_Qv G Q) 2 36 σ [(0, .ref (mm_o G)), (1, .int x1)] [] := by
  intro x1 σ hw H locs ls hM hS hl
  unfold w3_begins_36 at hw
  obtain ⟨hx, hb, hml, hown, hts, hr, hlk, hMK, hZ⟩ := id cx
  refine lv_iload_n hx hb dX3_begins_36 rfl (lv_at hl 1 rfl) ?_
  refine lv_aload_n hx hb dX3_begins_37 rfl (lv_at hl 0 rfl) ?_
  refine mg_0 cx hM dX3_begins_38 ?_
  refine lv_iconst (v := (2 : Int32)) hx hb dX3_begins_41 (by decide) ?_
  refine mm_iald cx hM 0 rfl (j := 2) (by decide) (vp_lit (by decide)) dX3_begins_42 ?_
  refine lv_icmp_ge (tgt := 127) hx hb dX3_begins_43 (by decide) (fun hc => ?_) (fun hc => ?_)
  · have hw := mm_ip hc hw
    refine lv_aload_n hx hb dX3_begins_127 rfl (lv_at hl 0 rfl) ?_
    refine lv_iconst (v := (0 : Int32)) hx hb dX3_begins_128 (by decide) ?_
    refine mp_8 cx hM hS dX3_begins_129 (fun H locs hM hS => ?_)
    refine lv_aload_n hx hb dX3_begins_132 rfl (lv_at hl 0 rfl) ?_
    refine mg_7 cx hM dX3_begins_133 ?_
    refine lv_iconst (v := (0 : Int32)) hx hb dX3_begins_136 (by decide) ?_
    refine lv_iconst (v := (0 : Int32)) hx hb dX3_begins_137 (by decide) ?_
    obtain ⟨hi, hw⟩ := hw
    refine mm_zast cx hM hS hi (Or.inl rfl) dX3_begins_138 (fun H locs hM hS => ?_)
    refine lv_aload_n hx hb dX3_begins_139 rfl (lv_at hl 0 rfl) ?_
    refine mg_7 cx hM dX3_begins_140 ?_
    refine lv_iconst (v := (1 : Int32)) hx hb dX3_begins_143 (by decide) ?_
    refine lv_iconst (v := (0 : Int32)) hx hb dX3_begins_144 (by decide) ?_
    obtain ⟨hi, hw⟩ := hw
    refine mm_zast cx hM hS hi (Or.inl rfl) dX3_begins_145 (fun H locs hM hS => ?_)
    refine lv_aload_n hx hb dX3_begins_146 rfl (lv_at hl 0 rfl) ?_
    refine lv_iconst (v := (0 : Int32)) hx hb dX3_begins_147 (by decide) ?_
    refine mp_39 cx hM hS (Or.inl rfl) dX3_begins_148 (fun H locs hM hS => ?_)
    refine lv_aload_n hx hb dX3_begins_151 rfl (lv_at hl 0 rfl) ?_
    refine C3_laysTables cx hM hS hw ⟨Nat.le_of_ble_eq_true rfl, Nat.le_of_ble_eq_true rfl⟩ (Nat.le_of_ble_eq_true rfl) hl.1 ⟨Nat.zero_le _, Nat.zero_le _⟩ dX3_begins_152 (fun s1 H locs hw hM hS => ?_)
    exact mm_vret cx hM hS hw dX3_begins_155
  · have hw := mm_in hc hw
    refine lv_aload_n hx hb dX3_begins_46 rfl (lv_at hl 0 rfl) ?_
    refine lv_iload_n hx hb dX3_begins_47 rfl (lv_at hl 1 rfl) ?_
    refine lv_iconst (v := (0 : Int32)) hx hb dX3_begins_48 (by decide) ?_
    refine lv_iload_n hx hb dX3_begins_49 rfl (lv_at hl 1 rfl) ?_
    refine C3_puts cx hM hS hw ⟨Nat.le_of_ble_eq_true rfl, Nat.le_of_ble_eq_true rfl⟩ (Nat.le_of_ble_eq_true rfl) hl.1 ⟨Nat.zero_le _, Nat.zero_le _⟩ dX3_begins_50 (fun s2 H locs hw hM hS => ?_)
    refine lv_aload_n hx hb dX3_begins_53 rfl (lv_at hl 0 rfl) ?_
    refine lv_iload_n hx hb dX3_begins_54 rfl (lv_at hl 1 rfl) ?_
    refine lv_iconst (v := (2 : Int32)) hx hb dX3_begins_55 (by decide) ?_
    refine lv_aload_n hx hb dX3_begins_56 rfl (lv_at hl 0 rfl) ?_
    refine mg_0 cx hM dX3_begins_57 ?_
    refine lv_bipush (v := (16 : Int32)) hx hb dX3_begins_60 (by decide) ?_
    refine lv_iload_n hx hb dX3_begins_62 rfl (lv_at hl 1 rfl) ?_
    refine lv_iadd hx hb dX3_begins_63 ?_
    obtain ⟨hi, hw⟩ := hw
    refine mm_iald cx hM 0 rfl rfl hi dX3_begins_64 ?_
    refine C3_puts cx hM hS hw ⟨Nat.le_of_ble_eq_true rfl, Nat.le_of_ble_eq_true rfl⟩ (Nat.le_of_ble_eq_true rfl) hl.1 ⟨Nat.zero_le _, Nat.zero_le _⟩ dX3_begins_65 (fun s3 H locs hw hM hS => ?_)
    refine lv_aload_n hx hb dX3_begins_68 rfl (lv_at hl 0 rfl) ?_
    refine lv_iload_n hx hb dX3_begins_69 rfl (lv_at hl 1 rfl) ?_
    refine lv_iconst (v := (3 : Int32)) hx hb dX3_begins_70 (by decide) ?_
    refine lv_aload_n hx hb dX3_begins_71 rfl (lv_at hl 0 rfl) ?_
    refine mg_0 cx hM dX3_begins_72 ?_
    refine lv_bipush (v := (21 : Int32)) hx hb dX3_begins_75 (by decide) ?_
    refine lv_iload_n hx hb dX3_begins_77 rfl (lv_at hl 1 rfl) ?_
    refine lv_iadd hx hb dX3_begins_78 ?_
    obtain ⟨hi, hw⟩ := hw
    refine mm_iald cx hM 0 rfl rfl hi dX3_begins_79 ?_
    refine C3_puts cx hM hS hw ⟨Nat.le_of_ble_eq_true rfl, Nat.le_of_ble_eq_true rfl⟩ (Nat.le_of_ble_eq_true rfl) hl.1 ⟨Nat.zero_le _, Nat.zero_le _⟩ dX3_begins_80 (fun s4 H locs hw hM hS => ?_)
    refine lv_aload_n hx hb dX3_begins_83 rfl (lv_at hl 0 rfl) ?_
    refine lv_iload_n hx hb dX3_begins_84 rfl (lv_at hl 1 rfl) ?_
    refine lv_iconst (v := (4 : Int32)) hx hb dX3_begins_85 (by decide) ?_
    refine lv_aload_n hx hb dX3_begins_86 rfl (lv_at hl 0 rfl) ?_
    refine mg_0 cx hM dX3_begins_87 ?_
    refine lv_bipush (v := (51 : Int32)) hx hb dX3_begins_90 (by decide) ?_
    refine lv_iload_n hx hb dX3_begins_92 rfl (lv_at hl 1 rfl) ?_
    refine lv_iadd hx hb dX3_begins_93 ?_
    obtain ⟨hi, hw⟩ := hw
    refine mm_iald cx hM 0 rfl rfl hi dX3_begins_94 ?_
    refine C3_puts cx hM hS hw ⟨Nat.le_of_ble_eq_true rfl, Nat.le_of_ble_eq_true rfl⟩ (Nat.le_of_ble_eq_true rfl) hl.1 ⟨Nat.zero_le _, Nat.zero_le _⟩ dX3_begins_95 (fun s5 H locs hw hM hS => ?_)
    refine lv_aload_n hx hb dX3_begins_98 rfl (lv_at hl 0 rfl) ?_
    refine lv_iload_n hx hb dX3_begins_99 rfl (lv_at hl 1 rfl) ?_
    refine lv_iconst (v := (5 : Int32)) hx hb dX3_begins_100 (by decide) ?_
    refine lv_aload_n hx hb dX3_begins_101 rfl (lv_at hl 0 rfl) ?_
    refine mg_0 cx hM dX3_begins_102 ?_
    refine lv_bipush (v := (56 : Int32)) hx hb dX3_begins_105 (by decide) ?_
    refine lv_iload_n hx hb dX3_begins_107 rfl (lv_at hl 1 rfl) ?_
    refine lv_iadd hx hb dX3_begins_108 ?_
    obtain ⟨hi, hw⟩ := hw
    refine mm_iald cx hM 0 rfl rfl hi dX3_begins_109 ?_
    refine C3_puts cx hM hS hw ⟨Nat.le_of_ble_eq_true rfl, Nat.le_of_ble_eq_true rfl⟩ (Nat.le_of_ble_eq_true rfl) hl.1 ⟨Nat.zero_le _, Nat.zero_le _⟩ dX3_begins_110 (fun s6 H locs hw hM hS => ?_)
    refine lv_aload_n hx hb dX3_begins_113 rfl (lv_at hl 0 rfl) ?_
    refine lv_iload_n hx hb dX3_begins_114 rfl (lv_at hl 1 rfl) ?_
    refine lv_bipush (v := (7 : Int32)) hx hb dX3_begins_115 (by decide) ?_
    refine lv_iload_n hx hb dX3_begins_117 rfl (lv_at hl 1 rfl) ?_
    refine C3_puts cx hM hS hw ⟨Nat.le_of_ble_eq_true rfl, Nat.le_of_ble_eq_true rfl⟩ (Nat.le_of_ble_eq_true rfl) hl.1 ⟨Nat.zero_le _, Nat.zero_le _⟩ dX3_begins_118 (fun s7 H locs hw hM hS => ?_)
    obtain ⟨v8, hv8⟩ : ∃ v : Int32, v = x1 + (1 : Int32) := ⟨_, rfl⟩
    have hw := hw v8 hv8
    refine lv_iinc (v := v8) (lv' := [(1, .int v8), (0, .ref (mm_o G))]) hx hb dX3_begins_121 hl (k := 1) rfl (by rw [hv8]; rfl) (by decide) rfl (fun ls hl => ?_)
    refine lv_goto (tgt := 36) hx hb dX3_begins_124 (by decide) ?_
    exact hK36 _ _ hw _ _ _ hM hS (lv_sub hl [1, 0] rfl)
theorem L3_begins_36 {l : Launch} {p : Program} {e : Env} {s : State} {m : MethodId} {args : Array Value} {below : List Frame} {meth : Method} {c : Code} {G : mm_G} {Q : MS → Prop} (cx : mm_X cX3_begins 2 none G p s m args meth c) : ∀ (x1 : Int32) (σ : MS), lp2F (w3_begins_36 Q) x1 σ → mm_T p l e ({ frames := 4, cells := 0, slots := 0, locals := 160 } : Room) s m args below meth c G (mm_Qv G Q) 2 36 σ [(0, .ref (mm_o G)), (1, .int x1)] [] :=
  lp2F_of (fun K hK => B3_begins_36 cx hK)
def w3_begins_2 (Q : MS → Prop) (K2 : Int32 → MS → Prop) (x1 : Int32) (σ : MS) : Prop :=
  if (83 : Int32) ≤ x1 then (lp2F (w3_begins_36 Q) (0 : Int32) (sA σ 4 18 (gA σ 0 2))) else (vp_in x1 83 ∧ (∀ v9 : Int32, v9 = x1 + (1 : Int32) → K2 v9 (sA σ 4 x1.toNatClampNeg (0 : Int32))))
set_option maxHeartbeats 4000000 in
theorem B3_begins_2 {l : Launch} {p : Program} {e : Env} {s : State} {m : MethodId} {args : Array Value} {below : List Frame} {meth : Method} {c : Code} {G : mm_G} {Q : MS → Prop} {K2 : Int32 → MS → Prop} (cx : mm_X cX3_begins 2 none G p s m args meth c) (hK2 : ∀ (x1 : Int32) (σ : MS), K2 x1 σ → mm_T p l e ({ frames := 4, cells := 0, slots := 0, locals := 160 } : Room) s m args below meth c G (mm_Qv G Q) 2 2 σ [(0, .ref (mm_o G)), (1, .int x1)] []) : ∀ (x1 : Int32) (σ : MS), w3_begins_2 Q K2 x1 σ → mm_T p l e ({ frames := 4, cells := 0, slots := 0, locals := 160 } : Room) s m args below meth c G (mm_Qv G Q) 2 2 σ [(0, .ref (mm_o G)), (1, .int x1)] [] := by
  intro x1 σ hw H locs ls hM hS hl
  unfold w3_begins_2 at hw
  obtain ⟨hx, hb, hml, hown, hts, hr, hlk, hMK, hZ⟩ := id cx
  refine lv_iload_n hx hb dX3_begins_2 rfl (lv_at hl 1 rfl) ?_
  refine lv_bipush (v := (83 : Int32)) hx hb dX3_begins_3 (by decide) ?_
  refine lv_icmp_ge (tgt := 21) hx hb dX3_begins_5 (by decide) (fun hc => ?_) (fun hc => ?_)
  · have hw := mm_ip hc hw
    refine lv_aload_n hx hb dX3_begins_21 rfl (lv_at hl 0 rfl) ?_
    refine mg_4 cx hM dX3_begins_22 ?_
    refine lv_bipush (v := (18 : Int32)) hx hb dX3_begins_25 (by decide) ?_
    refine lv_aload_n hx hb dX3_begins_27 rfl (lv_at hl 0 rfl) ?_
    refine mg_0 cx hM dX3_begins_28 ?_
    refine lv_iconst (v := (2 : Int32)) hx hb dX3_begins_31 (by decide) ?_
    refine mm_iald cx hM 0 rfl (j := 2) (by decide) (vp_lit (by decide)) dX3_begins_32 ?_
    refine mm_iast cx hM hS 4 rfl (j0 := 18) (by decide) (vp_lit (by decide)) dX3_begins_33 (fun H locs hM hS => ?_)
    refine lv_iconst (v := (0 : Int32)) hx hb dX3_begins_34 (by decide) ?_
    refine lv_istore_n (lv' := [(1, .int (0 : Int32)), (0, .ref (mm_o G))]) hx hb dX3_begins_35 rfl hl (by decide) rfl (fun ls hl => ?_)
    exact L3_begins_36 cx _ _ hw _ _ _ hM hS (lv_sub hl [1, 0] rfl)
  · have hw := mm_in hc hw
    refine lv_aload_n hx hb dX3_begins_8 rfl (lv_at hl 0 rfl) ?_
    refine mg_4 cx hM dX3_begins_9 ?_
    refine lv_iload_n hx hb dX3_begins_12 rfl (lv_at hl 1 rfl) ?_
    refine lv_iconst (v := (0 : Int32)) hx hb dX3_begins_13 (by decide) ?_
    obtain ⟨hi, hw⟩ := hw
    refine mm_iast cx hM hS 4 rfl rfl hi dX3_begins_14 (fun H locs hM hS => ?_)
    obtain ⟨v9, hv9⟩ : ∃ v : Int32, v = x1 + (1 : Int32) := ⟨_, rfl⟩
    have hw := hw v9 hv9
    refine lv_iinc (v := v9) (lv' := [(1, .int v9), (0, .ref (mm_o G))]) hx hb dX3_begins_15 hl (k := 1) rfl (by rw [hv9]; rfl) (by decide) rfl (fun ls hl => ?_)
    refine lv_goto (tgt := 2) hx hb dX3_begins_18 (by decide) ?_
    exact hK2 _ _ hw _ _ _ hM hS (lv_sub hl [1, 0] rfl)
theorem L3_begins_2 {l : Launch} {p : Program} {e : Env} {s : State} {m : MethodId} {args : Array Value} {below : List Frame} {meth : Method} {c : Code} {G : mm_G} {Q : MS → Prop} (cx : mm_X cX3_begins 2 none G p s m args meth c) : ∀ (x1 : Int32) (σ : MS), lp2F (w3_begins_2 Q) x1 σ → mm_T p l e ({ frames := 4, cells := 0, slots := 0, locals := 160 } : Room) s m args below meth c G (mm_Qv G Q) 2 2 σ [(0, .ref (mm_o G)), (1, .int x1)] [] :=
  lp2F_of (fun K hK => B3_begins_2 cx hK)
def w3_begins (σ : MS) (Q : MS → Prop) : Prop :=
  lp2F (w3_begins_2 Q) (0 : Int32) σ
set_option maxHeartbeats 4000000 in
theorem M3_begins (l : Launch) (G : mm_G) (σ : MS) (Q : MS → Prop) (hw : w3_begins σ Q) : mm_Mv l yX3_begins (ws_ yX3_begins cX3_begins 2 none) ({ frames := 4, cells := 0, slots := 0, locals := 160 } : Room) G [.ref (mm_o G)] σ Q := by
  refine mm_of (by decide) rfl ?_
  intro p e s m args below meth c cx hM ha
  refine mm_entry [.ref (mm_o G)] 2 [(0, .ref (mm_o G))] ha (Nat.le_of_ble_eq_true rfl) rfl (fun ls hl => ?_)
  have hS : va_S (mm_A G) s.heap s.heap [] := va_S.rf
  unfold w3_begins at hw
  obtain ⟨hx, hb, hml, hown, hts, hr, hlk, hMK, hZ⟩ := id cx
  refine lv_iconst (v := (0 : Int32)) hx hb dX3_begins_0 (by decide) ?_
  refine lv_istore_n (lv' := [(1, .int (0 : Int32)), (0, .ref (mm_o G))]) hx hb dX3_begins_1 rfl hl (by decide) rfl (fun ls hl => ?_)
  exact L3_begins_2 cx _ _ hw _ _ _ hM hS (lv_sub hl [1, 0] rfl)
theorem C3_begins {l : Launch} {p : Program} {e : Env} {R : Room} {s : State} {m : MethodId} {args : Array Value} {below : List Frame} {meth : Method} {c : Code} {H : Heap} {locs : List Loc} {cells slots : Nat} {Qz : State → Prop} {cc : ByteArray} {nL : Nat} {ret : Option FieldType} {G : mm_G} {pc : Nat} {ls : Array Slot} {rest : List Value} {σ : MS} (cx : mm_X cc nL ret G p s m args meth c) (hM : mm_R G σ H) (hS0 : va_S (mm_A G) s.heap H locs) {Qf : MS → Prop} (hw : w3_begins σ Qf) (hR : (({ frames := 4, cells := 0, slots := 0, locals := 160 } : Room)).frames + 1 ≤ R.frames ∧ 8 + (2 + 11) + (({ frames := 4, cells := 0, slots := 0, locals := 160 } : Room)).locals ≤ R.locals) (hroom : (rest.map fun v => v.category).sum ≤ 8) (hsize : ls.size = nL) (hf : cells ≤ R.cells ∧ slots ≤ R.slots) (hdg : decode cc pc = .ok (.invokevirtual 280, 3))
    (kk : ∀ (σ1 : MS) (H1 : Heap) (locs1 : List Loc), Qf σ1 → mm_R G σ1 H1 → va_S (mm_A G) s.heap H1 locs1 → W p l e R s m args below meth c H1 locs1 cells slots Qz (F0 m (pc + 3) ls rest)) : W p l e R s m args below meth c H locs cells slots Qz (F0 m pc ls (.ref (mm_o G) :: rest)) := by
  obtain ⟨hx, hb, hml, hown, hts, hr, hlk, hK, hZ⟩ := id cx
  exact mm_Vv cx hM hS0 (As := []) (M3_begins l G σ Qf hw) (cwV 0 hts (lw_V q2720 q2722 qs114 q172 q2723) rfl rfl rfl (by decide +kernel) hR) rfl hsize rfl hroom hf hdg kk
def w3_suit_99 (d : Nat) (Q : Int32 → MS → Prop) (K99 : Int32 → MS → Prop) (x1 : Int32) (σ : MS) : Prop :=
  if (13 : Int32) ≤ x1 then (w3_begins σ (fun s1 => Q (gA s1 0 0) s1)) else (vp_in x1 13 ∧ (vp_in x1 13 ∧ (∀ v2 : Int32, v2 = x1 + (1 : Int32) → K99 v2 (sB σ 2 x1.toNatClampNeg (gB σ 3 x1.toNatClampNeg)))))
set_option maxHeartbeats 4000000 in
theorem B3_suit_99 {l : Launch} {p : Program} {e : Env} {s : State} {m : MethodId} {args : Array Value} {below : List Frame} {meth : Method} {c : Code} {G : mm_G} {Q : Int32 → MS → Prop} {K99 : Int32 → MS → Prop} (d : Nat) (cx : mm_X cX3_suit 2 (some .int) G p s m args meth c) (hK99 : ∀ (x1 : Int32) (σ : MS), K99 x1 σ → mm_T p l e ({ frames := 19 + 4 * d, cells := 0, slots := 0, locals := 40 * (19 + 4 * d) } : Room) s m args below meth c G (mm_Qi G Q) 2 99 σ [(0, .ref (mm_o G)), (1, .int x1)] []) : ∀ (x1 : Int32) (σ : MS), w3_suit_99 d Q K99 x1 σ → mm_T p l e ({ frames := 19 + 4 * d, cells := 0, slots := 0, locals := 40 * (19 + 4 * d) } : Room) s m args below meth c G (mm_Qi G Q) 2 99 σ [(0, .ref (mm_o G)), (1, .int x1)] [] := by
  intro x1 σ hw H locs ls hM hS hl
  unfold w3_suit_99 at hw
  obtain ⟨hx, hb, hml, hown, hts, hr, hlk, hMK, hZ⟩ := id cx
  refine lv_iload_n hx hb dX3_suit_99 rfl (lv_at hl 1 rfl) ?_
  refine lv_bipush (v := (13 : Int32)) hx hb dX3_suit_100 (by decide) ?_
  refine lv_icmp_ge (tgt := 123) hx hb dX3_suit_102 (by decide) (fun hc => ?_) (fun hc => ?_)
  · have hw := mm_ip hc hw
    refine lv_aload_n hx hb dX3_suit_123 rfl (lv_at hl 0 rfl) ?_
    refine C3_begins cx hM hS hw (by constructor <;> dsimp only <;> omega) (Nat.le_of_ble_eq_true rfl) hl.1 ⟨Nat.zero_le _, Nat.zero_le _⟩ dX3_suit_124 (fun s1 H locs hw hM hS => ?_)
    refine lv_aload_n hx hb dX3_suit_127 rfl (lv_at hl 0 rfl) ?_
    refine mg_0 cx hM dX3_suit_128 ?_
    refine lv_iconst (v := (0 : Int32)) hx hb dX3_suit_131 (by decide) ?_
    refine mm_iald cx hM 0 rfl (j := 0) (by decide) (vp_lit (by decide)) dX3_suit_132 ?_
    exact mm_iret cx hM hS hw dX3_suit_133
  · have hw := mm_in hc hw
    refine lv_aload_n hx hb dX3_suit_105 rfl (lv_at hl 0 rfl) ?_
    refine mg_2 cx hM dX3_suit_106 ?_
    refine lv_iload_n hx hb dX3_suit_109 rfl (lv_at hl 1 rfl) ?_
    refine lv_aload_n hx hb dX3_suit_110 rfl (lv_at hl 0 rfl) ?_
    refine mg_3 cx hM dX3_suit_111 ?_
    refine lv_iload_n hx hb dX3_suit_114 rfl (lv_at hl 1 rfl) ?_
    obtain ⟨hi, hw⟩ := hw
    refine mm_lald cx hM 3 (Or.inr rfl) hi dX3_suit_115 ?_
    obtain ⟨hi, hw⟩ := hw
    refine mm_last cx hM hS 2 (Or.inl rfl) hi dX3_suit_116 (fun H locs hM hS => ?_)
    obtain ⟨v2, hv2⟩ : ∃ v : Int32, v = x1 + (1 : Int32) := ⟨_, rfl⟩
    have hw := hw v2 hv2
    refine lv_iinc (v := v2) (lv' := [(1, .int v2), (0, .ref (mm_o G))]) hx hb dX3_suit_117 hl (k := 1) rfl (by rw [hv2]; rfl) (by decide) rfl (fun ls hl => ?_)
    refine lv_goto (tgt := 99) hx hb dX3_suit_120 (by decide) ?_
    exact hK99 _ _ hw _ _ _ hM hS (lv_sub hl [1, 0] rfl)
theorem L3_suit_99 {l : Launch} {p : Program} {e : Env} {s : State} {m : MethodId} {args : Array Value} {below : List Frame} {meth : Method} {c : Code} {G : mm_G} {Q : Int32 → MS → Prop} (d : Nat) (cx : mm_X cX3_suit 2 (some .int) G p s m args meth c) : ∀ (x1 : Int32) (σ : MS), lp2F (w3_suit_99 d Q) x1 σ → mm_T p l e ({ frames := 19 + 4 * d, cells := 0, slots := 0, locals := 40 * (19 + 4 * d) } : Room) s m args below meth c G (mm_Qi G Q) 2 99 σ [(0, .ref (mm_o G)), (1, .int x1)] [] :=
  lp2F_of (fun K hK => B3_suit_99 d cx hK)
def w3_suit_72 (d : Nat) (Q : Int32 → MS → Prop) (K72 : Int32 → MS → Prop) (x1 : Int32) (σ : MS) : Prop :=
  if (640 : Int32) ≤ x1 then (lp2F (w3_suit_99 d Q) (0 : Int32) σ) else (vp_in x1 640 ∧ (vp_in x1 640 ∧ (∀ v3 : Int32, v3 = x1 + (1 : Int32) → K72 v3 (sA σ 0 x1.toNatClampNeg (gA σ 1 x1.toNatClampNeg)))))
set_option maxHeartbeats 4000000 in
theorem B3_suit_72 {l : Launch} {p : Program} {e : Env} {s : State} {m : MethodId} {args : Array Value} {below : List Frame} {meth : Method} {c : Code} {G : mm_G} {Q : Int32 → MS → Prop} {K72 : Int32 → MS → Prop} (d : Nat) (cx : mm_X cX3_suit 2 (some .int) G p s m args meth c) (hK72 : ∀ (x1 : Int32) (σ : MS), K72 x1 σ → mm_T p l e ({ frames := 19 + 4 * d, cells := 0, slots := 0, locals := 40 * (19 + 4 * d) } : Room) s m args below meth c G (mm_Qi G Q) 2 72 σ [(0, .ref (mm_o G)), (1, .int x1)] []) : ∀ (x1 : Int32) (σ : MS), w3_suit_72 d Q K72 x1 σ → mm_T p l e ({ frames := 19 + 4 * d, cells := 0, slots := 0, locals := 40 * (19 + 4 * d) } : Room) s m args below meth c G (mm_Qi G Q) 2 72 σ [(0, .ref (mm_o G)), (1, .int x1)] [] := by
  intro x1 σ hw H locs ls hM hS hl
  unfold w3_suit_72 at hw
  obtain ⟨hx, hb, hml, hown, hts, hr, hlk, hMK, hZ⟩ := id cx
  refine lv_iload_n hx hb dX3_suit_72 rfl (lv_at hl 1 rfl) ?_
  refine lv_sipush (v := (640 : Int32)) hx hb dX3_suit_73 (by decide) ?_
  refine lv_icmp_ge (tgt := 97) hx hb dX3_suit_76 (by decide) (fun hc => ?_) (fun hc => ?_)
  · have hw := mm_ip hc hw
    refine lv_iconst (v := (0 : Int32)) hx hb dX3_suit_97 (by decide) ?_
    refine lv_istore_n (lv' := [(1, .int (0 : Int32)), (0, .ref (mm_o G))]) hx hb dX3_suit_98 rfl hl (by decide) rfl (fun ls hl => ?_)
    exact L3_suit_99 d cx _ _ hw _ _ _ hM hS (lv_sub hl [1, 0] rfl)
  · have hw := mm_in hc hw
    refine lv_aload_n hx hb dX3_suit_79 rfl (lv_at hl 0 rfl) ?_
    refine mg_0 cx hM dX3_suit_80 ?_
    refine lv_iload_n hx hb dX3_suit_83 rfl (lv_at hl 1 rfl) ?_
    refine lv_aload_n hx hb dX3_suit_84 rfl (lv_at hl 0 rfl) ?_
    refine mg_1 cx hM dX3_suit_85 ?_
    refine lv_iload_n hx hb dX3_suit_88 rfl (lv_at hl 1 rfl) ?_
    obtain ⟨hi, hw⟩ := hw
    refine mm_iald cx hM 1 rfl rfl hi dX3_suit_89 ?_
    obtain ⟨hi, hw⟩ := hw
    refine mm_iast cx hM hS 0 rfl rfl hi dX3_suit_90 (fun H locs hM hS => ?_)
    obtain ⟨v3, hv3⟩ : ∃ v : Int32, v = x1 + (1 : Int32) := ⟨_, rfl⟩
    have hw := hw v3 hv3
    refine lv_iinc (v := v3) (lv' := [(1, .int v3), (0, .ref (mm_o G))]) hx hb dX3_suit_91 hl (k := 1) rfl (by rw [hv3]; rfl) (by decide) rfl (fun ls hl => ?_)
    refine lv_goto (tgt := 72) hx hb dX3_suit_94 (by decide) ?_
    exact hK72 _ _ hw _ _ _ hM hS (lv_sub hl [1, 0] rfl)
theorem L3_suit_72 {l : Launch} {p : Program} {e : Env} {s : State} {m : MethodId} {args : Array Value} {below : List Frame} {meth : Method} {c : Code} {G : mm_G} {Q : Int32 → MS → Prop} (d : Nat) (cx : mm_X cX3_suit 2 (some .int) G p s m args meth c) : ∀ (x1 : Int32) (σ : MS), lp2F (w3_suit_72 d Q) x1 σ → mm_T p l e ({ frames := 19 + 4 * d, cells := 0, slots := 0, locals := 40 * (19 + 4 * d) } : Room) s m args below meth c G (mm_Qi G Q) 2 72 σ [(0, .ref (mm_o G)), (1, .int x1)] [] :=
  lp2F_of (fun K hK => B3_suit_72 d cx hK)
def w3_suit_61 (d : Nat) (Q : Int32 → MS → Prop) (σ : MS) : Prop :=
  w3_isRead σ (fun r4 s4 => if r4 = 0 then (Q (-1 : Int32) s4) else (lp2F (w3_suit_72 d Q) (0 : Int32) s4))
set_option maxHeartbeats 4000000 in
theorem B3_suit_61 {l : Launch} {p : Program} {e : Env} {s : State} {m : MethodId} {args : Array Value} {below : List Frame} {meth : Method} {c : Code} {G : mm_G} {Q : Int32 → MS → Prop} (d : Nat) (cx : mm_X cX3_suit 2 (some .int) G p s m args meth c) : ∀ (σ : MS), w3_suit_61 d Q σ → mm_T p l e ({ frames := 19 + 4 * d, cells := 0, slots := 0, locals := 40 * (19 + 4 * d) } : Room) s m args below meth c G (mm_Qi G Q) 2 61 σ [(0, .ref (mm_o G))] [] := by
  intro σ hw H locs ls hM hS hl
  unfold w3_suit_61 at hw
  obtain ⟨hx, hb, hml, hown, hts, hr, hlk, hMK, hZ⟩ := id cx
  refine lv_aload_n hx hb dX3_suit_61 rfl (lv_at hl 0 rfl) ?_
  refine C3_isRead cx hM hS hw (by constructor <;> dsimp only <;> omega) (Nat.le_of_ble_eq_true rfl) hl.1 ⟨Nat.zero_le _, Nat.zero_le _⟩ dX3_suit_62 (fun r4 s4 H locs hw hM hS => ?_)
  refine lv_if_ne (tgt := 70) hx hb dX3_suit_65 (by decide) (fun hc => ?_) (fun hc => ?_)
  · have hw := mm_in hc hw
    refine lv_iconst (v := (0 : Int32)) hx hb dX3_suit_70 (by decide) ?_
    refine lv_istore_n (lv' := [(1, .int (0 : Int32)), (0, .ref (mm_o G))]) hx hb dX3_suit_71 rfl hl (by decide) rfl (fun ls hl => ?_)
    exact L3_suit_72 d cx _ _ hw _ _ _ hM hS (lv_sub hl [1, 0] rfl)
  · have hw := mm_ip hc hw
    refine lv_iconst (v := (-1 : Int32)) hx hb dX3_suit_68 (by decide) ?_
    exact mm_iret cx hM hS hw dX3_suit_69
def w3_suit_40 (d : Nat) (Q : Int32 → MS → Prop) (K40 : MS → Prop) (σ : MS) : Prop :=
  if (gI σ 17) = 0 then (if (gI σ 14) = 0 then (w3_suit_61 d Q σ) else (w3_readLine d σ (fun s5 => K40 s5))) else (w3_suit_61 d Q σ)
set_option maxHeartbeats 4000000 in
theorem B3_suit_40 {l : Launch} {p : Program} {e : Env} {s : State} {m : MethodId} {args : Array Value} {below : List Frame} {meth : Method} {c : Code} {G : mm_G} {Q : Int32 → MS → Prop} {K40 : MS → Prop} (d : Nat) (cx : mm_X cX3_suit 2 (some .int) G p s m args meth c) (hK40 : ∀ (σ : MS), K40 σ → mm_T p l e ({ frames := 19 + 4 * d, cells := 0, slots := 0, locals := 40 * (19 + 4 * d) } : Room) s m args below meth c G (mm_Qi G Q) 2 40 σ [(0, .ref (mm_o G))] []) : ∀ (σ : MS), w3_suit_40 d Q K40 σ → mm_T p l e ({ frames := 19 + 4 * d, cells := 0, slots := 0, locals := 40 * (19 + 4 * d) } : Room) s m args below meth c G (mm_Qi G Q) 2 40 σ [(0, .ref (mm_o G))] [] := by
  intro σ hw H locs ls hM hS hl
  unfold w3_suit_40 at hw
  obtain ⟨hx, hb, hml, hown, hts, hr, hlk, hMK, hZ⟩ := id cx
  refine lv_aload_n hx hb dX3_suit_40 rfl (lv_at hl 0 rfl) ?_
  refine mg_17 cx hM dX3_suit_41 ?_
  refine lv_if_ne (tgt := 61) hx hb dX3_suit_44 (by decide) (fun hc => ?_) (fun hc => ?_)
  · have hw := mm_in hc hw
    exact B3_suit_61 d cx _ hw _ _ _ hM hS (lv_sub hl [0] rfl)
  · have hw := mm_ip hc hw
    refine lv_aload_n hx hb dX3_suit_47 rfl (lv_at hl 0 rfl) ?_
    refine mg_14 cx hM dX3_suit_48 ?_
    refine lv_if_eq (tgt := 61) hx hb dX3_suit_51 (by decide) (fun hc => ?_) (fun hc => ?_)
    · have hw := mm_ip hc hw
      exact B3_suit_61 d cx _ hw _ _ _ hM hS (lv_sub hl [0] rfl)
    · have hw := mm_in hc hw
      refine lv_aload_n hx hb dX3_suit_54 rfl (lv_at hl 0 rfl) ?_
      refine C3_readLine d cx hM hS hw (by constructor <;> dsimp only <;> omega) (Nat.le_of_ble_eq_true rfl) hl.1 ⟨Nat.zero_le _, Nat.zero_le _⟩ dX3_suit_55 (fun s5 H locs hw hM hS => ?_)
      refine lv_goto (tgt := 40) hx hb dX3_suit_58 (by decide) ?_
      exact hK40 _ hw _ _ _ hM hS (lv_sub hl [0] rfl)
theorem L3_suit_40 {l : Launch} {p : Program} {e : Env} {s : State} {m : MethodId} {args : Array Value} {below : List Frame} {meth : Method} {c : Code} {G : mm_G} {Q : Int32 → MS → Prop} (d : Nat) (cx : mm_X cX3_suit 2 (some .int) G p s m args meth c) : ∀ (σ : MS), lp1F (w3_suit_40 d Q) σ → mm_T p l e ({ frames := 19 + 4 * d, cells := 0, slots := 0, locals := 40 * (19 + 4 * d) } : Room) s m args below meth c G (mm_Qi G Q) 2 40 σ [(0, .ref (mm_o G))] [] :=
  lp1F_of (fun K hK => B3_suit_40 d cx hK)
def w3_suit_6 (d : Nat) (Q : Int32 → MS → Prop) (K6 : Int32 → MS → Prop) (x1 : Int32) (σ : MS) : Prop :=
  if (640 : Int32) ≤ x1 then (lp1F (w3_suit_40 d Q) (sI (sA σ 1 5 (300 : Int32)) 22 (0 : Int32))) else (vp_in x1 640 ∧ (∀ v6 : Int32, v6 = x1 + (1 : Int32) → K6 v6 (sA σ 1 x1.toNatClampNeg (0 : Int32))))
set_option maxHeartbeats 4000000 in
theorem B3_suit_6 {l : Launch} {p : Program} {e : Env} {s : State} {m : MethodId} {args : Array Value} {below : List Frame} {meth : Method} {c : Code} {G : mm_G} {Q : Int32 → MS → Prop} {K6 : Int32 → MS → Prop} (d : Nat) (cx : mm_X cX3_suit 2 (some .int) G p s m args meth c) (hK6 : ∀ (x1 : Int32) (σ : MS), K6 x1 σ → mm_T p l e ({ frames := 19 + 4 * d, cells := 0, slots := 0, locals := 40 * (19 + 4 * d) } : Room) s m args below meth c G (mm_Qi G Q) 2 6 σ [(0, .ref (mm_o G)), (1, .int x1)] []) : ∀ (x1 : Int32) (σ : MS), w3_suit_6 d Q K6 x1 σ → mm_T p l e ({ frames := 19 + 4 * d, cells := 0, slots := 0, locals := 40 * (19 + 4 * d) } : Room) s m args below meth c G (mm_Qi G Q) 2 6 σ [(0, .ref (mm_o G)), (1, .int x1)] [] := by
  intro x1 σ hw H locs ls hM hS hl
  unfold w3_suit_6 at hw
  obtain ⟨hx, hb, hml, hown, hts, hr, hlk, hMK, hZ⟩ := id cx
  refine lv_iload_n hx hb dX3_suit_6 rfl (lv_at hl 1 rfl) ?_
  refine lv_sipush (v := (640 : Int32)) hx hb dX3_suit_7 (by decide) ?_
  refine lv_icmp_ge (tgt := 26) hx hb dX3_suit_10 (by decide) (fun hc => ?_) (fun hc => ?_)
  · have hw := mm_ip hc hw
    refine lv_aload_n hx hb dX3_suit_26 rfl (lv_at hl 0 rfl) ?_
    refine mg_1 cx hM dX3_suit_27 ?_
    refine lv_iconst (v := (5 : Int32)) hx hb dX3_suit_30 (by decide) ?_
    refine lv_sipush (v := (300 : Int32)) hx hb dX3_suit_31 (by decide) ?_
    refine mm_iast cx hM hS 1 rfl (j0 := 5) (by decide) (vp_lit (by decide)) dX3_suit_34 (fun H locs hM hS => ?_)
    refine lv_aload_n hx hb dX3_suit_35 rfl (lv_at hl 0 rfl) ?_
    refine lv_iconst (v := (0 : Int32)) hx hb dX3_suit_36 (by decide) ?_
    refine mp_22 cx hM hS (Or.inl rfl) dX3_suit_37 (fun H locs hM hS => ?_)
    exact L3_suit_40 d cx _ hw _ _ _ hM hS (lv_sub hl [0] rfl)
  · have hw := mm_in hc hw
    refine lv_aload_n hx hb dX3_suit_13 rfl (lv_at hl 0 rfl) ?_
    refine mg_1 cx hM dX3_suit_14 ?_
    refine lv_iload_n hx hb dX3_suit_17 rfl (lv_at hl 1 rfl) ?_
    refine lv_iconst (v := (0 : Int32)) hx hb dX3_suit_18 (by decide) ?_
    obtain ⟨hi, hw⟩ := hw
    refine mm_iast cx hM hS 1 rfl rfl hi dX3_suit_19 (fun H locs hM hS => ?_)
    obtain ⟨v6, hv6⟩ : ∃ v : Int32, v = x1 + (1 : Int32) := ⟨_, rfl⟩
    have hw := hw v6 hv6
    refine lv_iinc (v := v6) (lv' := [(1, .int v6), (0, .ref (mm_o G))]) hx hb dX3_suit_20 hl (k := 1) rfl (by rw [hv6]; rfl) (by decide) rfl (fun ls hl => ?_)
    refine lv_goto (tgt := 6) hx hb dX3_suit_23 (by decide) ?_
    exact hK6 _ _ hw _ _ _ hM hS (lv_sub hl [1, 0] rfl)
theorem L3_suit_6 {l : Launch} {p : Program} {e : Env} {s : State} {m : MethodId} {args : Array Value} {below : List Frame} {meth : Method} {c : Code} {G : mm_G} {Q : Int32 → MS → Prop} (d : Nat) (cx : mm_X cX3_suit 2 (some .int) G p s m args meth c) : ∀ (x1 : Int32) (σ : MS), lp2F (w3_suit_6 d Q) x1 σ → mm_T p l e ({ frames := 19 + 4 * d, cells := 0, slots := 0, locals := 40 * (19 + 4 * d) } : Room) s m args below meth c G (mm_Qi G Q) 2 6 σ [(0, .ref (mm_o G)), (1, .int x1)] [] :=
  lp2F_of (fun K hK => B3_suit_6 d cx hK)
def w3_suit (d : Nat) (σ : MS) (Q : Int32 → MS → Prop) : Prop :=
  w3_takes σ (fun s7 => lp2F (w3_suit_6 d Q) (0 : Int32) s7)
set_option maxHeartbeats 4000000 in
theorem M3_suit (l : Launch) (G : mm_G) (d : Nat) (σ : MS) (Q : Int32 → MS → Prop) (hw : w3_suit d σ Q) : mm_Mi l yX3_suit (ws_ yX3_suit cX3_suit 2 (some .int)) ({ frames := 19 + 4 * d, cells := 0, slots := 0, locals := 40 * (19 + 4 * d) } : Room) G [.ref (mm_o G)] σ Q := by
  refine mm_of (by decide) rfl ?_
  intro p e s m args below meth c cx hM ha
  refine mm_entry [.ref (mm_o G)] 2 [(0, .ref (mm_o G))] ha (Nat.le_of_ble_eq_true rfl) rfl (fun ls hl => ?_)
  have hS : va_S (mm_A G) s.heap s.heap [] := va_S.rf
  unfold w3_suit at hw
  obtain ⟨hx, hb, hml, hown, hts, hr, hlk, hMK, hZ⟩ := id cx
  refine lv_aload_n hx hb dX3_suit_0 rfl (lv_at hl 0 rfl) ?_
  refine C3_takes cx hM hS hw (by constructor <;> dsimp only <;> omega) (Nat.le_of_ble_eq_true rfl) hl.1 ⟨Nat.zero_le _, Nat.zero_le _⟩ dX3_suit_1 (fun s7 H locs hw hM hS => ?_)
  refine lv_iconst (v := (0 : Int32)) hx hb dX3_suit_4 (by decide) ?_
  refine lv_istore_n (lv' := [(1, .int (0 : Int32)), (0, .ref (mm_o G))]) hx hb dX3_suit_5 rfl hl (by decide) rfl (fun ls hl => ?_)
  exact L3_suit_6 d cx _ _ hw _ _ _ hM hS (lv_sub hl [1, 0] rfl)
-- no call of suit
def w3_fault (x1 : Int32) (σ : MS) (Q : Int32 → MS → Prop) : Prop :=
  if x1 = 0 then (Q (gI σ 19) σ) else (if x1 = (1 : Int32) then (Q (gI σ 20) σ) else (Q (-1 : Int32) σ))
set_option maxHeartbeats 4000000 in
theorem M3_fault (l : Launch) (G : mm_G) (x1 : Int32) (σ : MS) (Q : Int32 → MS → Prop) (hw : w3_fault x1 σ Q) : mm_Mi l yX3_fault (ws_ yX3_fault cX3_fault 2 (some .int)) ({ frames := 0, cells := 0, slots := 0, locals := 0 } : Room) G [.ref (mm_o G), .int x1] σ Q := by
  refine mm_of (by decide) rfl ?_
  intro p e s m args below meth c cx hM ha
  refine mm_entry [.ref (mm_o G), .int x1] 2 [(0, .ref (mm_o G)), (1, .int x1)] ha (Nat.le_of_ble_eq_true rfl) rfl (fun ls hl => ?_)
  have hS : va_S (mm_A G) s.heap s.heap [] := va_S.rf
  unfold w3_fault at hw
  obtain ⟨hx, hb, hml, hown, hts, hr, hlk, hMK, hZ⟩ := id cx
  refine lv_iload_n hx hb dX3_fault_0 rfl (lv_at hl 1 rfl) ?_
  refine lv_if_ne (tgt := 11) hx hb dX3_fault_1 (by decide) (fun hc => ?_) (fun hc => ?_)
  · have hw := mm_in hc hw
    refine lv_iload_n hx hb dX3_fault_11 rfl (lv_at hl 1 rfl) ?_
    refine lv_iconst (v := (1 : Int32)) hx hb dX3_fault_12 (by decide) ?_
    refine lv_icmp_ne (tgt := 23) hx hb dX3_fault_13 (by decide) (fun hc => ?_) (fun hc => ?_)
    · have hw := mm_in hc hw
      refine lv_iconst (v := (-1 : Int32)) hx hb dX3_fault_23 (by decide) ?_
      exact mm_iret cx hM hS hw dX3_fault_24
    · have hw := mm_ip hc hw
      refine lv_aload_n hx hb dX3_fault_16 rfl (lv_at hl 0 rfl) ?_
      refine mg_20 cx hM dX3_fault_17 ?_
      refine lv_goto (tgt := 24) hx hb dX3_fault_20 (by decide) ?_
      exact mm_iret cx hM hS hw dX3_fault_24
  · have hw := mm_ip hc hw
    refine lv_aload_n hx hb dX3_fault_4 rfl (lv_at hl 0 rfl) ?_
    refine mg_19 cx hM dX3_fault_5 ?_
    refine lv_goto (tgt := 24) hx hb dX3_fault_8 (by decide) ?_
    exact mm_iret cx hM hS hw dX3_fault_24
-- no call of fault
def w3_isFact (x1 : Int32) (σ : MS) (Q : Int32 → MS → Prop) : Prop :=
  w3_in x1 (0 : Int32) ((gA σ 0 1) - (1 : Int32)) σ (fun r1 s1 => zb r1 ∧ Q r1 s1)
set_option maxHeartbeats 4000000 in
theorem M3_isFact (l : Launch) (G : mm_G) (x1 : Int32) (σ : MS) (Q : Int32 → MS → Prop) (hw : w3_isFact x1 σ Q) : mm_Mi l yX3_isFact (ws_ yX3_isFact cX3_isFact 2 (some .boolean)) ({ frames := 1, cells := 0, slots := 0, locals := 40 } : Room) G [.ref (mm_o G), .int x1] σ Q := by
  refine mm_of (by decide) rfl ?_
  intro p e s m args below meth c cx hM ha
  refine mm_entry [.ref (mm_o G), .int x1] 2 [(0, .ref (mm_o G)), (1, .int x1)] ha (Nat.le_of_ble_eq_true rfl) rfl (fun ls hl => ?_)
  have hS : va_S (mm_A G) s.heap s.heap [] := va_S.rf
  unfold w3_isFact at hw
  obtain ⟨hx, hb, hml, hown, hts, hr, hlk, hMK, hZ⟩ := id cx
  refine lv_iload_n hx hb dX3_isFact_0 rfl (lv_at hl 1 rfl) ?_
  refine lv_iconst (v := (0 : Int32)) hx hb dX3_isFact_1 (by decide) ?_
  refine lv_aload_n hx hb dX3_isFact_2 rfl (lv_at hl 0 rfl) ?_
  refine mg_0 cx hM dX3_isFact_3 ?_
  refine lv_iconst (v := (1 : Int32)) hx hb dX3_isFact_6 (by decide) ?_
  refine mm_iald cx hM 0 rfl (j := 1) (by decide) (vp_lit (by decide)) dX3_isFact_7 ?_
  refine lv_iconst (v := (1 : Int32)) hx hb dX3_isFact_8 (by decide) ?_
  refine lv_isub hx hb dX3_isFact_9 ?_
  refine C3_in cx hM hS hw ⟨Nat.le_of_ble_eq_true rfl, Nat.le_of_ble_eq_true rfl⟩ (Nat.le_of_ble_eq_true rfl) hl.1 ⟨Nat.zero_le _, Nat.zero_le _⟩ dX3_isFact_10 (fun r1 s1 H locs hw hM hS => ?_)
  obtain ⟨hz, hw⟩ := hw
  exact mm_zret cx hM hS hz hw dX3_isFact_13
theorem C3_isFact {l : Launch} {p : Program} {e : Env} {R : Room} {s : State} {m : MethodId} {args : Array Value} {below : List Frame} {meth : Method} {c : Code} {H : Heap} {locs : List Loc} {cells slots : Nat} {Qz : State → Prop} {cc : ByteArray} {nL : Nat} {ret : Option FieldType} {G : mm_G} {pc : Nat} {ls : Array Slot} {rest : List Value} {x1 : Int32} {σ : MS} (cx : mm_X cc nL ret G p s m args meth c) (hM : mm_R G σ H) (hS0 : va_S (mm_A G) s.heap H locs) {Qf : Int32 → MS → Prop} (hw : w3_isFact x1 σ Qf) (hR : (({ frames := 1, cells := 0, slots := 0, locals := 40 } : Room)).frames + 1 ≤ R.frames ∧ 8 + (2 + 11) + (({ frames := 1, cells := 0, slots := 0, locals := 40 } : Room)).locals ≤ R.locals) (hroom : (rest.map fun v => v.category).sum ≤ 8) (hsize : ls.size = nL) (hf : cells ≤ R.cells ∧ slots ≤ R.slots) (hdg : decode cc pc = .ok (.invokevirtual 374, 3))
    (kk : ∀ (r : Int32) (σ1 : MS) (H1 : Heap) (locs1 : List Loc), Qf r σ1 → mm_R G σ1 H1 → va_S (mm_A G) s.heap H1 locs1 → W p l e R s m args below meth c H1 locs1 cells slots Qz (F0 m (pc + 3) ls (.int r :: rest))) : W p l e R s m args below meth c H locs cells slots Qz (F0 m pc ls (.int x1 :: .ref (mm_o G) :: rest)) := by
  obtain ⟨hx, hb, hml, hown, hts, hr, hlk, hK, hZ⟩ := id cx
  exact mm_Vi cx hM hS0 (As := [.int x1]) (M3_isFact l G x1 σ Qf hw) (cwV 1 hts (lw_V q2736 q2738 qs116 q172 q2739) rfl rfl rfl (by decide +kernel) hR) rfl hsize rfl hroom hf hdg kk
def w3_its (x1 : Int32) (x2 : Int32) (σ : MS) (Q : Int32 → MS → Prop) : Prop :=
  vp_in (((19 : Int32) + ((8 : Int32) * x1)) + x2) 83 ∧ (Q (gA σ 4 (((19 : Int32) + ((8 : Int32) * x1)) + x2).toNatClampNeg) σ)
set_option maxHeartbeats 4000000 in
theorem M3_its (l : Launch) (G : mm_G) (x1 : Int32) (x2 : Int32) (σ : MS) (Q : Int32 → MS → Prop) (hw : w3_its x1 x2 σ Q) : mm_Mi l yX3_its (ws_ yX3_its cX3_its 3 (some .int)) ({ frames := 0, cells := 0, slots := 0, locals := 0 } : Room) G [.ref (mm_o G), .int x1, .int x2] σ Q := by
  refine mm_of (by decide) rfl ?_
  intro p e s m args below meth c cx hM ha
  refine mm_entry [.ref (mm_o G), .int x1, .int x2] 3 [(0, .ref (mm_o G)), (1, .int x1), (2, .int x2)] ha (Nat.le_of_ble_eq_true rfl) rfl (fun ls hl => ?_)
  have hS : va_S (mm_A G) s.heap s.heap [] := va_S.rf
  unfold w3_its at hw
  obtain ⟨hx, hb, hml, hown, hts, hr, hlk, hMK, hZ⟩ := id cx
  refine lv_aload_n hx hb dX3_its_0 rfl (lv_at hl 0 rfl) ?_
  refine mg_4 cx hM dX3_its_1 ?_
  refine lv_bipush (v := (19 : Int32)) hx hb dX3_its_4 (by decide) ?_
  refine lv_bipush (v := (8 : Int32)) hx hb dX3_its_6 (by decide) ?_
  refine lv_iload_n hx hb dX3_its_8 rfl (lv_at hl 1 rfl) ?_
  refine lv_imul hx hb dX3_its_9 ?_
  refine lv_iadd hx hb dX3_its_10 ?_
  refine lv_iload_n hx hb dX3_its_11 rfl (lv_at hl 2 rfl) ?_
  refine lv_iadd hx hb dX3_its_12 ?_
  obtain ⟨hi, hw⟩ := hw
  refine mm_iald cx hM 4 rfl rfl hi dX3_its_13 ?_
  exact mm_iret cx hM hS hw dX3_its_14
theorem C3_its {l : Launch} {p : Program} {e : Env} {R : Room} {s : State} {m : MethodId} {args : Array Value} {below : List Frame} {meth : Method} {c : Code} {H : Heap} {locs : List Loc} {cells slots : Nat} {Qz : State → Prop} {cc : ByteArray} {nL : Nat} {ret : Option FieldType} {G : mm_G} {pc : Nat} {ls : Array Slot} {rest : List Value} {x1 : Int32} {x2 : Int32} {σ : MS} (cx : mm_X cc nL ret G p s m args meth c) (hM : mm_R G σ H) (hS0 : va_S (mm_A G) s.heap H locs) {Qf : Int32 → MS → Prop} (hw : w3_its x1 x2 σ Qf) (hR : (({ frames := 0, cells := 0, slots := 0, locals := 0 } : Room)).frames + 1 ≤ R.frames ∧ 8 + (3 + 11) + (({ frames := 0, cells := 0, slots := 0, locals := 0 } : Room)).locals ≤ R.locals) (hroom : (rest.map fun v => v.category).sum ≤ 8) (hsize : ls.size = nL) (hf : cells ≤ R.cells ∧ slots ≤ R.slots) (hdg : decode cc pc = .ok (.invokevirtual 339, 3))
    (kk : ∀ (r : Int32) (σ1 : MS) (H1 : Heap) (locs1 : List Loc), Qf r σ1 → mm_R G σ1 H1 → va_S (mm_A G) s.heap H1 locs1 → W p l e R s m args below meth c H1 locs1 cells slots Qz (F0 m (pc + 3) ls (.int r :: rest))) : W p l e R s m args below meth c H locs cells slots Qz (F0 m pc ls (.int x2 :: .int x1 :: .ref (mm_o G) :: rest)) := by
  obtain ⟨hx, hb, hml, hown, hts, hr, hlk, hK, hZ⟩ := id cx
  exact mm_Vi cx hM hS0 (As := [.int x1, .int x2]) (M3_its l G x1 x2 σ Qf hw) (cwV 2 hts (lw_V q2744 q2746 qs118 q172 q2747) rfl rfl rfl (by decide +kernel) hR) rfl hsize rfl hroom hf hdg kk
def w3_sayers_36 (Q : Int32 → MS → Prop) (K4 : Int32 → Int32 → Int32 → MS → Prop) (x1 : Int32) (x3 : Int32) (t0 : Int32) (t1 : Int32) (σ : MS) : Prop :=
  ∀ v1 : Int32, v1 = (t0 ||| t1) → ∀ v2 : Int32, v2 = x3 + (1 : Int32) → K4 x1 v1 v2 σ
set_option maxHeartbeats 4000000 in
theorem B3_sayers_36 {l : Launch} {p : Program} {e : Env} {s : State} {m : MethodId} {args : Array Value} {below : List Frame} {meth : Method} {c : Code} {G : mm_G} {Q : Int32 → MS → Prop} {K4 : Int32 → Int32 → Int32 → MS → Prop} (cx : mm_X cX3_sayers 4 (some .int) G p s m args meth c) (hK4 : ∀ (x1 : Int32) (x2 : Int32) (x3 : Int32) (σ : MS), K4 x1 x2 x3 σ → mm_T p l e ({ frames := 1, cells := 0, slots := 0, locals := 40 } : Room) s m args below meth c G (mm_Qi G Q) 4 4 σ [(0, .ref (mm_o G)), (1, .int x1), (2, .int x2), (3, .int x3)] []) : ∀ (x1 : Int32) (x3 : Int32) (t0 : Int32) (t1 : Int32) (σ : MS), w3_sayers_36 Q K4 x1 x3 t0 t1 σ → mm_T p l e ({ frames := 1, cells := 0, slots := 0, locals := 40 } : Room) s m args below meth c G (mm_Qi G Q) 4 36 σ [(0, .ref (mm_o G)), (1, .int x1), (3, .int x3)] [.int t1, .int t0] := by
  intro x1 x3 t0 t1 σ hw H locs ls hM hS hl
  unfold w3_sayers_36 at hw
  obtain ⟨hx, hb, hml, hown, hts, hr, hlk, hMK, hZ⟩ := id cx
  refine lv_ior hx hb dX3_sayers_36 ?_
  refine lv_topi (fun v1 hv1 => ?_)
  have hw := hw v1 hv1
  refine lv_istore_n (lv' := [(2, .int v1), (0, .ref (mm_o G)), (1, .int x1), (3, .int x3)]) hx hb dX3_sayers_37 rfl hl (by decide) rfl (fun ls hl => ?_)
  obtain ⟨v2, hv2⟩ : ∃ v : Int32, v = x3 + (1 : Int32) := ⟨_, rfl⟩
  have hw := hw v2 hv2
  refine lv_iinc (v := v2) (lv' := [(3, .int v2), (2, .int v1), (0, .ref (mm_o G)), (1, .int x1)]) hx hb dX3_sayers_38 hl (k := 3) rfl (by rw [hv2]; rfl) (by decide) rfl (fun ls hl => ?_)
  refine lv_goto (tgt := 4) hx hb dX3_sayers_41 (by decide) ?_
  exact hK4 _ _ _ _ hw _ _ _ hM hS (lv_sub hl [2, 3, 1, 0] rfl)
def w3_sayers_4 (Q : Int32 → MS → Prop) (K4 : Int32 → Int32 → Int32 → MS → Prop) (x1 : Int32) (x2 : Int32) (x3 : Int32) (σ : MS) : Prop :=
  if (gA σ 4 18) ≤ x3 then (Q x2 σ) else (w3_its x3 (4 : Int32) σ (fun r3 s3 => w3_has r3 x1 s3 (fun r4 s4 => if r4 = 0 then (w3_sayers_36 Q K4 x1 x3 x2 (0 : Int32) s4) else (w3_sayers_36 Q K4 x1 x3 x2 ((1 : Int32) <<< (x3 &&& 31)) s4))))
set_option maxHeartbeats 4000000 in
theorem B3_sayers_4 {l : Launch} {p : Program} {e : Env} {s : State} {m : MethodId} {args : Array Value} {below : List Frame} {meth : Method} {c : Code} {G : mm_G} {Q : Int32 → MS → Prop} {K4 : Int32 → Int32 → Int32 → MS → Prop} (cx : mm_X cX3_sayers 4 (some .int) G p s m args meth c) (hK4 : ∀ (x1 : Int32) (x2 : Int32) (x3 : Int32) (σ : MS), K4 x1 x2 x3 σ → mm_T p l e ({ frames := 1, cells := 0, slots := 0, locals := 40 } : Room) s m args below meth c G (mm_Qi G Q) 4 4 σ [(0, .ref (mm_o G)), (1, .int x1), (2, .int x2), (3, .int x3)] []) : ∀ (x1 : Int32) (x2 : Int32) (x3 : Int32) (σ : MS), w3_sayers_4 Q K4 x1 x2 x3 σ → mm_T p l e ({ frames := 1, cells := 0, slots := 0, locals := 40 } : Room) s m args below meth c G (mm_Qi G Q) 4 4 σ [(0, .ref (mm_o G)), (1, .int x1), (2, .int x2), (3, .int x3)] [] := by
  intro x1 x2 x3 σ hw H locs ls hM hS hl
  unfold w3_sayers_4 at hw
  obtain ⟨hx, hb, hml, hown, hts, hr, hlk, hMK, hZ⟩ := id cx
  refine lv_iload_n hx hb dX3_sayers_4 rfl (lv_at hl 3 rfl) ?_
  refine lv_aload_n hx hb dX3_sayers_5 rfl (lv_at hl 0 rfl) ?_
  refine mg_4 cx hM dX3_sayers_6 ?_
  refine lv_bipush (v := (18 : Int32)) hx hb dX3_sayers_9 (by decide) ?_
  refine mm_iald cx hM 4 rfl (j := 18) (by decide) (vp_lit (by decide)) dX3_sayers_11 ?_
  refine lv_icmp_ge (tgt := 44) hx hb dX3_sayers_12 (by decide) (fun hc => ?_) (fun hc => ?_)
  · have hw := mm_ip hc hw
    refine lv_iload_n hx hb dX3_sayers_44 rfl (lv_at hl 2 rfl) ?_
    exact mm_iret cx hM hS hw dX3_sayers_45
  · have hw := mm_in hc hw
    refine lv_iload_n hx hb dX3_sayers_15 rfl (lv_at hl 2 rfl) ?_
    refine lv_aload_n hx hb dX3_sayers_16 rfl (lv_at hl 0 rfl) ?_
    refine lv_iload_n hx hb dX3_sayers_17 rfl (lv_at hl 3 rfl) ?_
    refine lv_iconst (v := (4 : Int32)) hx hb dX3_sayers_18 (by decide) ?_
    refine C3_its cx hM hS hw ⟨Nat.le_of_ble_eq_true rfl, Nat.le_of_ble_eq_true rfl⟩ (Nat.le_of_ble_eq_true rfl) hl.1 ⟨Nat.zero_le _, Nat.zero_le _⟩ dX3_sayers_19 (fun r3 s3 H locs hw hM hS => ?_)
    refine lv_iload_n hx hb dX3_sayers_22 rfl (lv_at hl 1 rfl) ?_
    refine C3_has cx hM hS hw ⟨Nat.le_of_ble_eq_true rfl, Nat.le_of_ble_eq_true rfl⟩ (Nat.le_of_ble_eq_true rfl) hl.1 ⟨Nat.zero_le _, Nat.zero_le _⟩ dX3_sayers_23 (fun r4 s4 H locs hw hM hS => ?_)
    refine lv_if_eq (tgt := 35) hx hb dX3_sayers_26 (by decide) (fun hc => ?_) (fun hc => ?_)
    · have hw := mm_ip hc hw
      refine lv_iconst (v := (0 : Int32)) hx hb dX3_sayers_35 (by decide) ?_
      exact B3_sayers_36 cx hK4 _ _ _ _ _ hw _ _ _ hM hS (lv_sub hl [0, 1, 3] rfl)
    · have hw := mm_in hc hw
      refine lv_iconst (v := (1 : Int32)) hx hb dX3_sayers_29 (by decide) ?_
      refine lv_iload_n hx hb dX3_sayers_30 rfl (lv_at hl 3 rfl) ?_
      refine lv_ishl hx hb dX3_sayers_31 ?_
      refine lv_goto (tgt := 36) hx hb dX3_sayers_32 (by decide) ?_
      exact B3_sayers_36 cx hK4 _ _ _ _ _ hw _ _ _ hM hS (lv_sub hl [0, 1, 3] rfl)
theorem L3_sayers_4 {l : Launch} {p : Program} {e : Env} {s : State} {m : MethodId} {args : Array Value} {below : List Frame} {meth : Method} {c : Code} {G : mm_G} {Q : Int32 → MS → Prop} (cx : mm_X cX3_sayers 4 (some .int) G p s m args meth c) : ∀ (x1 : Int32) (x2 : Int32) (x3 : Int32) (σ : MS), lp4F (w3_sayers_4 Q) x1 x2 x3 σ → mm_T p l e ({ frames := 1, cells := 0, slots := 0, locals := 40 } : Room) s m args below meth c G (mm_Qi G Q) 4 4 σ [(0, .ref (mm_o G)), (1, .int x1), (2, .int x2), (3, .int x3)] [] :=
  lp4F_of (fun K hK => B3_sayers_4 cx hK)
def w3_sayers (x1 : Int32) (σ : MS) (Q : Int32 → MS → Prop) : Prop :=
  lp4F (w3_sayers_4 Q) x1 (0 : Int32) (0 : Int32) σ
set_option maxHeartbeats 4000000 in
theorem M3_sayers (l : Launch) (G : mm_G) (x1 : Int32) (σ : MS) (Q : Int32 → MS → Prop) (hw : w3_sayers x1 σ Q) : mm_Mi l yX3_sayers (ws_ yX3_sayers cX3_sayers 4 (some .int)) ({ frames := 1, cells := 0, slots := 0, locals := 40 } : Room) G [.ref (mm_o G), .int x1] σ Q := by
  refine mm_of (by decide) rfl ?_
  intro p e s m args below meth c cx hM ha
  refine mm_entry [.ref (mm_o G), .int x1] 4 [(0, .ref (mm_o G)), (1, .int x1)] ha (Nat.le_of_ble_eq_true rfl) rfl (fun ls hl => ?_)
  have hS : va_S (mm_A G) s.heap s.heap [] := va_S.rf
  unfold w3_sayers at hw
  obtain ⟨hx, hb, hml, hown, hts, hr, hlk, hMK, hZ⟩ := id cx
  refine lv_iconst (v := (0 : Int32)) hx hb dX3_sayers_0 (by decide) ?_
  refine lv_istore_n (lv' := [(2, .int (0 : Int32)), (0, .ref (mm_o G)), (1, .int x1)]) hx hb dX3_sayers_1 rfl hl (by decide) rfl (fun ls hl => ?_)
  refine lv_iconst (v := (0 : Int32)) hx hb dX3_sayers_2 (by decide) ?_
  refine lv_istore_n (lv' := [(3, .int (0 : Int32)), (2, .int (0 : Int32)), (0, .ref (mm_o G)), (1, .int x1)]) hx hb dX3_sayers_3 rfl hl (by decide) rfl (fun ls hl => ?_)
  exact L3_sayers_4 cx _ _ _ _ hw _ _ _ hM hS (lv_sub hl [2, 3, 1, 0] rfl)
theorem C3_sayers {l : Launch} {p : Program} {e : Env} {R : Room} {s : State} {m : MethodId} {args : Array Value} {below : List Frame} {meth : Method} {c : Code} {H : Heap} {locs : List Loc} {cells slots : Nat} {Qz : State → Prop} {cc : ByteArray} {nL : Nat} {ret : Option FieldType} {G : mm_G} {pc : Nat} {ls : Array Slot} {rest : List Value} {x1 : Int32} {σ : MS} (cx : mm_X cc nL ret G p s m args meth c) (hM : mm_R G σ H) (hS0 : va_S (mm_A G) s.heap H locs) {Qf : Int32 → MS → Prop} (hw : w3_sayers x1 σ Qf) (hR : (({ frames := 1, cells := 0, slots := 0, locals := 40 } : Room)).frames + 1 ≤ R.frames ∧ 8 + (4 + 11) + (({ frames := 1, cells := 0, slots := 0, locals := 40 } : Room)).locals ≤ R.locals) (hroom : (rest.map fun v => v.category).sum ≤ 8) (hsize : ls.size = nL) (hf : cells ≤ R.cells ∧ slots ≤ R.slots) (hdg : decode cc pc = .ok (.invokevirtual 377, 3))
    (kk : ∀ (r : Int32) (σ1 : MS) (H1 : Heap) (locs1 : List Loc), Qf r σ1 → mm_R G σ1 H1 → va_S (mm_A G) s.heap H1 locs1 → W p l e R s m args below meth c H1 locs1 cells slots Qz (F0 m (pc + 3) ls (.int r :: rest))) : W p l e R s m args below meth c H locs cells slots Qz (F0 m pc ls (.int x1 :: .ref (mm_o G) :: rest)) := by
  obtain ⟨hx, hb, hml, hown, hts, hr, hlk, hK, hZ⟩ := id cx
  exact mm_Vi cx hM hS0 (As := [.int x1]) (M3_sayers l G x1 σ Qf hw) (cwV 1 hts (lw_V q2740 q2742 qs117 q172 q2743) rfl rfl rfl (by decide +kernel) hR) rfl hsize rfl hroom hf hdg kk
def w3_fact (x1 : Int32) (x2 : Int32) (σ : MS) (Q : Int32 → MS → Prop) : Prop :=
  w3_isFact x1 σ (fun r1 s1 => if r1 = 0 then (Q (-1 : Int32) s1) else (if x2 = 0 then (vp_in ((8 : Int32) + x1) 640 ∧ (Q (gA s1 0 ((8 : Int32) + x1).toNatClampNeg) s1)) else (if x2 = 1 then (vp_in ((0 : Int32) + x1) 83 ∧ (Q (gA s1 4 ((0 : Int32) + x1).toNatClampNeg) s1)) else (if x2 = 2 then (w3_isKnown x1 s1 (fun r2 s2 => if r2 = 0 then (Q (2 : Int32) s2) else (vp_in ((8 : Int32) + x1) 83 ∧ (Q (gA s2 4 ((8 : Int32) + x1).toNatClampNeg) s2)))) else (if x2 = 3 then (w3_sayers x1 s1 (fun r3 s3 => Q r3 s3)) else (Q (-1 : Int32) s1))))))
set_option maxHeartbeats 4000000 in
theorem M3_fact (l : Launch) (G : mm_G) (x1 : Int32) (x2 : Int32) (σ : MS) (Q : Int32 → MS → Prop) (hw : w3_fact x1 x2 σ Q) : mm_Mi l yX3_fact (ws_ yX3_fact cX3_fact 3 (some .int)) ({ frames := 2, cells := 0, slots := 0, locals := 80 } : Room) G [.ref (mm_o G), .int x1, .int x2] σ Q := by
  refine mm_of (by decide) rfl ?_
  intro p e s m args below meth c cx hM ha
  refine mm_entry [.ref (mm_o G), .int x1, .int x2] 3 [(0, .ref (mm_o G)), (1, .int x1), (2, .int x2)] ha (Nat.le_of_ble_eq_true rfl) rfl (fun ls hl => ?_)
  have hS : va_S (mm_A G) s.heap s.heap [] := va_S.rf
  unfold w3_fact at hw
  obtain ⟨hx, hb, hml, hown, hts, hr, hlk, hMK, hZ⟩ := id cx
  refine lv_aload_n hx hb dX3_fact_0 rfl (lv_at hl 0 rfl) ?_
  refine lv_iload_n hx hb dX3_fact_1 rfl (lv_at hl 1 rfl) ?_
  refine C3_isFact cx hM hS hw ⟨Nat.le_of_ble_eq_true rfl, Nat.le_of_ble_eq_true rfl⟩ (Nat.le_of_ble_eq_true rfl) hl.1 ⟨Nat.zero_le _, Nat.zero_le _⟩ dX3_fact_2 (fun r1 s1 H locs hw hM hS => ?_)
  refine lv_if_ne (tgt := 10) hx hb dX3_fact_5 (by decide) (fun hc => ?_) (fun hc => ?_)
  · have hw := mm_in hc hw
    refine lv_iload_n hx hb dX3_fact_10 rfl (lv_at hl 2 rfl) ?_
    by_cases hc0 : x2 = 0
    · have hw := mm_ip hc0 hw
      refine lv_tableIn (off := 29) (tgt := 40) hx hb dX3_fact_11 (by rw [hc0]; decide) (by rw [hc0]; decide) (by rw [hc0]; decide) (by decide) ?_
      refine lv_aload_n hx hb dX3_fact_40 rfl (lv_at hl 0 rfl) ?_
      refine mg_0 cx hM dX3_fact_41 ?_
      refine lv_bipush (v := (8 : Int32)) hx hb dX3_fact_44 (by decide) ?_
      refine lv_iload_n hx hb dX3_fact_46 rfl (lv_at hl 1 rfl) ?_
      refine lv_iadd hx hb dX3_fact_47 ?_
      obtain ⟨hi, hw⟩ := hw
      refine mm_iald cx hM 0 rfl rfl hi dX3_fact_48 ?_
      exact mm_iret cx hM hS hw dX3_fact_49
    have hw := mm_in hc0 hw
    by_cases hc1 : x2 = 1
    · have hw := mm_ip hc1 hw
      refine lv_tableIn (off := 39) (tgt := 50) hx hb dX3_fact_11 (by rw [hc1]; decide) (by rw [hc1]; decide) (by rw [hc1]; decide) (by decide) ?_
      refine lv_aload_n hx hb dX3_fact_50 rfl (lv_at hl 0 rfl) ?_
      refine mg_4 cx hM dX3_fact_51 ?_
      refine lv_iconst (v := (0 : Int32)) hx hb dX3_fact_54 (by decide) ?_
      refine lv_iload_n hx hb dX3_fact_55 rfl (lv_at hl 1 rfl) ?_
      refine lv_iadd hx hb dX3_fact_56 ?_
      obtain ⟨hi, hw⟩ := hw
      refine mm_iald cx hM 4 rfl rfl hi dX3_fact_57 ?_
      exact mm_iret cx hM hS hw dX3_fact_58
    have hw := mm_in hc1 hw
    by_cases hc2 : x2 = 2
    · have hw := mm_ip hc2 hw
      refine lv_tableIn (off := 48) (tgt := 59) hx hb dX3_fact_11 (by rw [hc2]; decide) (by rw [hc2]; decide) (by rw [hc2]; decide) (by decide) ?_
      refine lv_aload_n hx hb dX3_fact_59 rfl (lv_at hl 0 rfl) ?_
      refine lv_iload_n hx hb dX3_fact_60 rfl (lv_at hl 1 rfl) ?_
      refine C3_isKnown cx hM hS hw ⟨Nat.le_of_ble_eq_true rfl, Nat.le_of_ble_eq_true rfl⟩ (Nat.le_of_ble_eq_true rfl) hl.1 ⟨Nat.zero_le _, Nat.zero_le _⟩ dX3_fact_61 (fun r2 s2 H locs hw hM hS => ?_)
      refine lv_if_eq (tgt := 79) hx hb dX3_fact_64 (by decide) (fun hc => ?_) (fun hc => ?_)
      · have hw := mm_ip hc hw
        refine lv_iconst (v := (2 : Int32)) hx hb dX3_fact_79 (by decide) ?_
        exact mm_iret cx hM hS hw dX3_fact_80
      · have hw := mm_in hc hw
        refine lv_aload_n hx hb dX3_fact_67 rfl (lv_at hl 0 rfl) ?_
        refine mg_4 cx hM dX3_fact_68 ?_
        refine lv_bipush (v := (8 : Int32)) hx hb dX3_fact_71 (by decide) ?_
        refine lv_iload_n hx hb dX3_fact_73 rfl (lv_at hl 1 rfl) ?_
        refine lv_iadd hx hb dX3_fact_74 ?_
        obtain ⟨hi, hw⟩ := hw
        refine mm_iald cx hM 4 rfl rfl hi dX3_fact_75 ?_
        refine lv_goto (tgt := 80) hx hb dX3_fact_76 (by decide) ?_
        exact mm_iret cx hM hS hw dX3_fact_80
    have hw := mm_in hc2 hw
    by_cases hc3 : x2 = 3
    · have hw := mm_ip hc3 hw
      refine lv_tableIn (off := 70) (tgt := 81) hx hb dX3_fact_11 (by rw [hc3]; decide) (by rw [hc3]; decide) (by rw [hc3]; decide) (by decide) ?_
      refine lv_aload_n hx hb dX3_fact_81 rfl (lv_at hl 0 rfl) ?_
      refine lv_iload_n hx hb dX3_fact_82 rfl (lv_at hl 1 rfl) ?_
      refine C3_sayers cx hM hS hw ⟨Nat.le_of_ble_eq_true rfl, Nat.le_of_ble_eq_true rfl⟩ (Nat.le_of_ble_eq_true rfl) hl.1 ⟨Nat.zero_le _, Nat.zero_le _⟩ dX3_fact_83 (fun r3 s3 H locs hw hM hS => ?_)
      exact mm_iret cx hM hS hw dX3_fact_86
    have hw := mm_in hc3 hw
    refine lv_tableOut (tgt := 87) hx hb dX3_fact_11 (sw_out 0 3 [(0 : Int32), (1 : Int32), (2 : Int32), (3 : Int32)] (by simp only [List.all_cons, List.all_nil, Bool.and_true, Bool.and_eq_true, decide_eq_true_eq]; exact ⟨hc0, hc1, hc2, hc3⟩) (by intro z h1 h2; exact sw_in4 z h1 h2)) (by decide) ?_
    refine lv_iconst (v := (-1 : Int32)) hx hb dX3_fact_87 (by decide) ?_
    exact mm_iret cx hM hS hw dX3_fact_88
  · have hw := mm_ip hc hw
    refine lv_iconst (v := (-1 : Int32)) hx hb dX3_fact_8 (by decide) ?_
    exact mm_iret cx hM hS hw dX3_fact_9
-- no call of fact
def w3_isCount (x1 : Int32) (σ : MS) (Q : Int32 → MS → Prop) : Prop :=
  w3_in x1 (0 : Int32) ((gA σ 4 18) - (1 : Int32)) σ (fun r1 s1 => zb r1 ∧ Q r1 s1)
set_option maxHeartbeats 4000000 in
theorem M3_isCount (l : Launch) (G : mm_G) (x1 : Int32) (σ : MS) (Q : Int32 → MS → Prop) (hw : w3_isCount x1 σ Q) : mm_Mi l yX3_isCount (ws_ yX3_isCount cX3_isCount 2 (some .boolean)) ({ frames := 1, cells := 0, slots := 0, locals := 40 } : Room) G [.ref (mm_o G), .int x1] σ Q := by
  refine mm_of (by decide) rfl ?_
  intro p e s m args below meth c cx hM ha
  refine mm_entry [.ref (mm_o G), .int x1] 2 [(0, .ref (mm_o G)), (1, .int x1)] ha (Nat.le_of_ble_eq_true rfl) rfl (fun ls hl => ?_)
  have hS : va_S (mm_A G) s.heap s.heap [] := va_S.rf
  unfold w3_isCount at hw
  obtain ⟨hx, hb, hml, hown, hts, hr, hlk, hMK, hZ⟩ := id cx
  refine lv_iload_n hx hb dX3_isCount_0 rfl (lv_at hl 1 rfl) ?_
  refine lv_iconst (v := (0 : Int32)) hx hb dX3_isCount_1 (by decide) ?_
  refine lv_aload_n hx hb dX3_isCount_2 rfl (lv_at hl 0 rfl) ?_
  refine mg_4 cx hM dX3_isCount_3 ?_
  refine lv_bipush (v := (18 : Int32)) hx hb dX3_isCount_6 (by decide) ?_
  refine mm_iald cx hM 4 rfl (j := 18) (by decide) (vp_lit (by decide)) dX3_isCount_8 ?_
  refine lv_iconst (v := (1 : Int32)) hx hb dX3_isCount_9 (by decide) ?_
  refine lv_isub hx hb dX3_isCount_10 ?_
  refine C3_in cx hM hS hw ⟨Nat.le_of_ble_eq_true rfl, Nat.le_of_ble_eq_true rfl⟩ (Nat.le_of_ble_eq_true rfl) hl.1 ⟨Nat.zero_le _, Nat.zero_le _⟩ dX3_isCount_11 (fun r1 s1 H locs hw hM hS => ?_)
  obtain ⟨hz, hw⟩ := hw
  exact mm_zret cx hM hS hz hw dX3_isCount_14
theorem C3_isCount {l : Launch} {p : Program} {e : Env} {R : Room} {s : State} {m : MethodId} {args : Array Value} {below : List Frame} {meth : Method} {c : Code} {H : Heap} {locs : List Loc} {cells slots : Nat} {Qz : State → Prop} {cc : ByteArray} {nL : Nat} {ret : Option FieldType} {G : mm_G} {pc : Nat} {ls : Array Slot} {rest : List Value} {x1 : Int32} {σ : MS} (cx : mm_X cc nL ret G p s m args meth c) (hM : mm_R G σ H) (hS0 : va_S (mm_A G) s.heap H locs) {Qf : Int32 → MS → Prop} (hw : w3_isCount x1 σ Qf) (hR : (({ frames := 1, cells := 0, slots := 0, locals := 40 } : Room)).frames + 1 ≤ R.frames ∧ 8 + (2 + 11) + (({ frames := 1, cells := 0, slots := 0, locals := 40 } : Room)).locals ≤ R.locals) (hroom : (rest.map fun v => v.category).sum ≤ 8) (hsize : ls.size = nL) (hf : cells ≤ R.cells ∧ slots ≤ R.slots) (hdg : decode cc pc = .ok (.invokevirtual 380, 3))
    (kk : ∀ (r : Int32) (σ1 : MS) (H1 : Heap) (locs1 : List Loc), Qf r σ1 → mm_R G σ1 H1 → va_S (mm_A G) s.heap H1 locs1 → W p l e R s m args below meth c H1 locs1 cells slots Qz (F0 m (pc + 3) ls (.int r :: rest))) : W p l e R s m args below meth c H locs cells slots Qz (F0 m pc ls (.int x1 :: .ref (mm_o G) :: rest)) := by
  obtain ⟨hx, hb, hml, hown, hts, hr, hlk, hK, hZ⟩ := id cx
  exact mm_Vi cx hM hS0 (As := [.int x1]) (M3_isCount l G x1 σ Qf hw) (cwV 1 hts (lw_V q2752 q2754 qs119 q172 q2755) rfl rfl rfl (by decide +kernel) hR) rfl hsize rfl hroom hf hdg kk
def w3_bits_4 (Q : Int32 → MS → Prop) (K4 : Int32 → Int32 → MS → Prop) (x1 : Int32) (x2 : Int32) (σ : MS) : Prop :=
  if x2 = 0 then (Q x1 σ) else (∀ v1 : Int32, v1 = x1 + (1 : Int32) → ∀ v2 : Int32, v2 = (x2 &&& (x2 - (1 : Int32))) → K4 v1 v2 σ)
set_option maxHeartbeats 4000000 in
theorem B3_bits_4 {l : Launch} {p : Program} {e : Env} {s : State} {m : MethodId} {args : Array Value} {below : List Frame} {meth : Method} {c : Code} {G : mm_G} {Q : Int32 → MS → Prop} {K4 : Int32 → Int32 → MS → Prop} (cx : mm_X cX3_bits 3 (some .int) G p s m args meth c) (hK4 : ∀ (x1 : Int32) (x2 : Int32) (σ : MS), K4 x1 x2 σ → mm_T p l e ({ frames := 0, cells := 0, slots := 0, locals := 0 } : Room) s m args below meth c G (mm_Qi G Q) 3 4 σ [(1, .int x1), (2, .int x2)] []) : ∀ (x1 : Int32) (x2 : Int32) (σ : MS), w3_bits_4 Q K4 x1 x2 σ → mm_T p l e ({ frames := 0, cells := 0, slots := 0, locals := 0 } : Room) s m args below meth c G (mm_Qi G Q) 3 4 σ [(1, .int x1), (2, .int x2)] [] := by
  intro x1 x2 σ hw H locs ls hM hS hl
  unfold w3_bits_4 at hw
  obtain ⟨hx, hb, hml, hown, hts, hr, hlk, hMK, hZ⟩ := id cx
  refine lv_iload_n hx hb dX3_bits_4 rfl (lv_at hl 1 rfl) ?_
  refine lv_if_eq (tgt := 20) hx hb dX3_bits_5 (by decide) (fun hc => ?_) (fun hc => ?_)
  · have hw := mm_ip hc hw
    refine lv_iload_n hx hb dX3_bits_20 rfl (lv_at hl 0 rfl) ?_
    exact mm_iret cx hM hS hw dX3_bits_21
  · have hw := mm_in hc hw
    obtain ⟨v1, hv1⟩ : ∃ v : Int32, v = x1 + (1 : Int32) := ⟨_, rfl⟩
    have hw := hw v1 hv1
    refine lv_iinc (v := v1) (lv' := [(1, .int v1), (2, .int x2)]) hx hb dX3_bits_8 hl (k := 0) rfl (by rw [hv1]; rfl) (by decide) rfl (fun ls hl => ?_)
    refine lv_iload_n hx hb dX3_bits_11 rfl (lv_at hl 1 rfl) ?_
    refine lv_iload_n hx hb dX3_bits_12 rfl (lv_at hl 1 rfl) ?_
    refine lv_iconst (v := (1 : Int32)) hx hb dX3_bits_13 (by decide) ?_
    refine lv_isub hx hb dX3_bits_14 ?_
    refine lv_iand hx hb dX3_bits_15 ?_
    refine lv_topi (fun v2 hv2 => ?_)
    have hw := hw v2 hv2
    refine lv_istore_n (lv' := [(2, .int v2), (1, .int v1)]) hx hb dX3_bits_16 rfl hl (by decide) rfl (fun ls hl => ?_)
    refine lv_goto (tgt := 4) hx hb dX3_bits_17 (by decide) ?_
    exact hK4 _ _ _ hw _ _ _ hM hS (lv_sub hl [1, 0] rfl)
theorem L3_bits_4 {l : Launch} {p : Program} {e : Env} {s : State} {m : MethodId} {args : Array Value} {below : List Frame} {meth : Method} {c : Code} {G : mm_G} {Q : Int32 → MS → Prop} (cx : mm_X cX3_bits 3 (some .int) G p s m args meth c) : ∀ (x1 : Int32) (x2 : Int32) (σ : MS), lp3F (w3_bits_4 Q) x1 x2 σ → mm_T p l e ({ frames := 0, cells := 0, slots := 0, locals := 0 } : Room) s m args below meth c G (mm_Qi G Q) 3 4 σ [(1, .int x1), (2, .int x2)] [] :=
  lp3F_of (fun K hK => B3_bits_4 cx hK)
def w3_bits (x0 : Int32) (σ : MS) (Q : Int32 → MS → Prop) : Prop :=
  lp3F (w3_bits_4 Q) (0 : Int32) x0 σ
set_option maxHeartbeats 4000000 in
theorem M3_bits (l : Launch) (G : mm_G) (x0 : Int32) (σ : MS) (Q : Int32 → MS → Prop) (hw : w3_bits x0 σ Q) : mm_Mi l yX3_bits (ws_ yX3_bits cX3_bits 3 (some .int)) ({ frames := 0, cells := 0, slots := 0, locals := 0 } : Room) G [.int x0] σ Q := by
  refine mm_of (by decide) rfl ?_
  intro p e s m args below meth c cx hM ha
  refine mm_entry [.int x0] 3 [(0, .int x0)] ha (Nat.le_of_ble_eq_true rfl) rfl (fun ls hl => ?_)
  have hS : va_S (mm_A G) s.heap s.heap [] := va_S.rf
  unfold w3_bits at hw
  obtain ⟨hx, hb, hml, hown, hts, hr, hlk, hMK, hZ⟩ := id cx
  refine lv_iconst (v := (0 : Int32)) hx hb dX3_bits_0 (by decide) ?_
  refine lv_istore_n (lv' := [(1, .int (0 : Int32)), (0, .int x0)]) hx hb dX3_bits_1 rfl hl (by decide) rfl (fun ls hl => ?_)
  refine lv_iload_n hx hb dX3_bits_2 rfl (lv_at hl 1 rfl) ?_
  refine lv_istore_n (lv' := [(2, .int x0), (1, .int (0 : Int32)), (0, .int x0)]) hx hb dX3_bits_3 rfl hl (by decide) rfl (fun ls hl => ?_)
  exact L3_bits_4 cx _ _ _ hw _ _ _ hM hS (lv_sub hl [1, 0] rfl)
theorem C3_bits {l : Launch} {p : Program} {e : Env} {R : Room} {s : State} {m : MethodId} {args : Array Value} {below : List Frame} {meth : Method} {c : Code} {H : Heap} {locs : List Loc} {cells slots : Nat} {Qz : State → Prop} {cc : ByteArray} {nL : Nat} {ret : Option FieldType} {G : mm_G} {pc : Nat} {ls : Array Slot} {rest : List Value} {x0 : Int32} {σ : MS} (cx : mm_X cc nL ret G p s m args meth c) (hM : mm_R G σ H) (hS0 : va_S (mm_A G) s.heap H locs) {Qf : Int32 → MS → Prop} (hw : w3_bits x0 σ Qf) (hR : (({ frames := 0, cells := 0, slots := 0, locals := 0 } : Room)).frames + 1 ≤ R.frames ∧ 8 + (3 + 11) + (({ frames := 0, cells := 0, slots := 0, locals := 0 } : Room)).locals ≤ R.locals) (hroom : (rest.map fun v => v.category).sum ≤ 8) (hsize : ls.size = nL) (hf : cells ≤ R.cells ∧ slots ≤ R.slots) (hdg : decode cc pc = .ok (.invokestatic 315, 3))
    (kk : ∀ (r : Int32) (σ1 : MS) (H1 : Heap) (locs1 : List Loc), Qf r σ1 → mm_R G σ1 H1 → va_S (mm_A G) s.heap H1 locs1 → W p l e R s m args below meth c H1 locs1 cells slots Qz (F0 m (pc + 3) ls (.int r :: rest))) : W p l e R s m args below meth c H locs cells slots Qz (F0 m pc ls (.int x0 :: rest)) := by
  obtain ⟨hx, hb, hml, hown, hts, hr, hlk, hK, hZ⟩ := id cx
  exact mm_Si cx hM hS0 (As := [.int x0]) (M3_bits l G x0 σ Qf hw) (va_cwS 1 hts (lw_S q2764 q2765 q172 q2766) rfl rfl rfl (by decide +kernel) hR) rfl hsize rfl hroom hf hdg kk
def w3_backBy_79 (Q : Int32 → MS → Prop) (K10 : Int32 → Int32 → Int32 → Int32 → MS → Prop) (x1 : Int32) (x2 : Int32) (x3 : Int32) (x4 : Int32) (σ : MS) : Prop :=
  ∀ v1 : Int32, v1 = x4 + (1 : Int32) → K10 x1 x2 x3 v1 σ
set_option maxHeartbeats 4000000 in
theorem B3_backBy_79 {l : Launch} {p : Program} {e : Env} {s : State} {m : MethodId} {args : Array Value} {below : List Frame} {meth : Method} {c : Code} {G : mm_G} {Q : Int32 → MS → Prop} {K10 : Int32 → Int32 → Int32 → Int32 → MS → Prop} (cx : mm_X cX3_backBy 6 (some .int) G p s m args meth c) (hK10 : ∀ (x1 : Int32) (x2 : Int32) (x3 : Int32) (x4 : Int32) (σ : MS), K10 x1 x2 x3 x4 σ → mm_T p l e ({ frames := 1, cells := 0, slots := 0, locals := 40 } : Room) s m args below meth c G (mm_Qi G Q) 6 10 σ [(0, .ref (mm_o G)), (1, .int x1), (2, .int x2), (3, .int x3), (4, .int x4)] []) : ∀ (x1 : Int32) (x2 : Int32) (x3 : Int32) (x4 : Int32) (σ : MS), w3_backBy_79 Q K10 x1 x2 x3 x4 σ → mm_T p l e ({ frames := 1, cells := 0, slots := 0, locals := 40 } : Room) s m args below meth c G (mm_Qi G Q) 6 79 σ [(0, .ref (mm_o G)), (1, .int x1), (2, .int x2), (3, .int x3), (4, .int x4)] [] := by
  intro x1 x2 x3 x4 σ hw H locs ls hM hS hl
  unfold w3_backBy_79 at hw
  obtain ⟨hx, hb, hml, hown, hts, hr, hlk, hMK, hZ⟩ := id cx
  obtain ⟨v1, hv1⟩ : ∃ v : Int32, v = x4 + (1 : Int32) := ⟨_, rfl⟩
  have hw := hw v1 hv1
  refine lv_iinc (v := v1) (lv' := [(4, .int v1), (0, .ref (mm_o G)), (1, .int x1), (2, .int x2), (3, .int x3)]) hx hb dX3_backBy_79 hl (k := 4) rfl (by rw [hv1]; rfl) (by decide) rfl (fun ls hl => ?_)
  refine lv_goto (tgt := 10) hx hb dX3_backBy_82 (by decide) ?_
  exact hK10 _ _ _ _ _ hw _ _ _ hM hS (lv_sub hl [1, 2, 3, 4, 0] rfl)
def w3_backBy_10 (Q : Int32 → MS → Prop) (K10 : Int32 → Int32 → Int32 → Int32 → MS → Prop) (x1 : Int32) (x2 : Int32) (x3 : Int32) (x4 : Int32) (σ : MS) : Prop :=
  if (gA σ 4 18) ≤ x4 then (Q x3 σ) else (if x2 = 0 then (Q x3 σ) else (w3_its x4 (4 : Int32) σ (fun r2 s2 => ∀ v3 : Int32, v3 = (r2 &&& x2) → w3_its x4 (1 : Int32) s2 (fun r4 s4 => w3_its x1 (1 : Int32) s4 (fun r5 s5 => if r5 ≤ r4 then (w3_backBy_79 Q K10 x1 x2 x3 x4 s5) else (w3_bits v3 s5 (fun r6 s6 => w3_bits x2 s6 (fun r7 s7 => if ((2 : Int32) * r6) < r7 then (w3_backBy_79 Q K10 x1 x2 x3 x4 s7) else (vp_in x4 8 ∧ (∀ v8 : Int32, v8 = (imin x3 (gA s7 29 x4.toNatClampNeg)) → w3_backBy_79 Q K10 x1 x2 v8 x4 s7))))))))))
set_option maxHeartbeats 4000000 in
theorem B3_backBy_10 {l : Launch} {p : Program} {e : Env} {s : State} {m : MethodId} {args : Array Value} {below : List Frame} {meth : Method} {c : Code} {G : mm_G} {Q : Int32 → MS → Prop} {K10 : Int32 → Int32 → Int32 → Int32 → MS → Prop} (cx : mm_X cX3_backBy 6 (some .int) G p s m args meth c) (hK10 : ∀ (x1 : Int32) (x2 : Int32) (x3 : Int32) (x4 : Int32) (σ : MS), K10 x1 x2 x3 x4 σ → mm_T p l e ({ frames := 1, cells := 0, slots := 0, locals := 40 } : Room) s m args below meth c G (mm_Qi G Q) 6 10 σ [(0, .ref (mm_o G)), (1, .int x1), (2, .int x2), (3, .int x3), (4, .int x4)] []) : ∀ (x1 : Int32) (x2 : Int32) (x3 : Int32) (x4 : Int32) (σ : MS), w3_backBy_10 Q K10 x1 x2 x3 x4 σ → mm_T p l e ({ frames := 1, cells := 0, slots := 0, locals := 40 } : Room) s m args below meth c G (mm_Qi G Q) 6 10 σ [(0, .ref (mm_o G)), (1, .int x1), (2, .int x2), (3, .int x3), (4, .int x4)] [] := by
  intro x1 x2 x3 x4 σ hw H locs ls hM hS hl
  unfold w3_backBy_10 at hw
  obtain ⟨hx, hb, hml, hown, hts, hr, hlk, hMK, hZ⟩ := id cx
  refine lv_iload hx hb dX3_backBy_10 (lv_at hl 4 rfl) ?_
  refine lv_aload_n hx hb dX3_backBy_12 rfl (lv_at hl 0 rfl) ?_
  refine mg_4 cx hM dX3_backBy_13 ?_
  refine lv_bipush (v := (18 : Int32)) hx hb dX3_backBy_16 (by decide) ?_
  refine mm_iald cx hM 4 rfl (j := 18) (by decide) (vp_lit (by decide)) dX3_backBy_18 ?_
  refine lv_icmp_ge (tgt := 85) hx hb dX3_backBy_19 (by decide) (fun hc => ?_) (fun hc => ?_)
  · have hw := mm_ip hc hw
    refine lv_iload_n hx hb dX3_backBy_85 rfl (lv_at hl 3 rfl) ?_
    exact mm_iret cx hM hS hw dX3_backBy_86
  · have hw := mm_in hc hw
    refine lv_iload_n hx hb dX3_backBy_22 rfl (lv_at hl 2 rfl) ?_
    refine lv_if_eq (tgt := 85) hx hb dX3_backBy_23 (by decide) (fun hc => ?_) (fun hc => ?_)
    · have hw := mm_ip hc hw
      refine lv_iload_n hx hb dX3_backBy_85 rfl (lv_at hl 3 rfl) ?_
      exact mm_iret cx hM hS hw dX3_backBy_86
    · have hw := mm_in hc hw
      refine lv_aload_n hx hb dX3_backBy_26 rfl (lv_at hl 0 rfl) ?_
      refine lv_iload hx hb dX3_backBy_27 (lv_at hl 4 rfl) ?_
      refine lv_iconst (v := (4 : Int32)) hx hb dX3_backBy_29 (by decide) ?_
      refine C3_its cx hM hS hw ⟨Nat.le_of_ble_eq_true rfl, Nat.le_of_ble_eq_true rfl⟩ (Nat.le_of_ble_eq_true rfl) hl.1 ⟨Nat.zero_le _, Nat.zero_le _⟩ dX3_backBy_30 (fun r2 s2 H locs hw hM hS => ?_)
      refine lv_iload_n hx hb dX3_backBy_33 rfl (lv_at hl 2 rfl) ?_
      refine lv_iand hx hb dX3_backBy_34 ?_
      refine lv_topi (fun v3 hv3 => ?_)
      have hw := hw v3 hv3
      refine lv_istore (lv' := [(5, .int v3), (0, .ref (mm_o G)), (1, .int x1), (2, .int x2), (3, .int x3), (4, .int x4)]) hx hb dX3_backBy_35 hl (by decide) rfl (fun ls hl => ?_)
      refine lv_aload_n hx hb dX3_backBy_37 rfl (lv_at hl 1 rfl) ?_
      refine lv_iload hx hb dX3_backBy_38 (lv_at hl 5 rfl) ?_
      refine lv_iconst (v := (1 : Int32)) hx hb dX3_backBy_40 (by decide) ?_
      refine C3_its cx hM hS hw ⟨Nat.le_of_ble_eq_true rfl, Nat.le_of_ble_eq_true rfl⟩ (Nat.le_of_ble_eq_true rfl) hl.1 ⟨Nat.zero_le _, Nat.zero_le _⟩ dX3_backBy_41 (fun r4 s4 H locs hw hM hS => ?_)
      refine lv_aload_n hx hb dX3_backBy_44 rfl (lv_at hl 1 rfl) ?_
      refine lv_iload_n hx hb dX3_backBy_45 rfl (lv_at hl 2 rfl) ?_
      refine lv_iconst (v := (1 : Int32)) hx hb dX3_backBy_46 (by decide) ?_
      refine C3_its cx hM hS hw ⟨Nat.le_of_ble_eq_true rfl, Nat.le_of_ble_eq_true rfl⟩ (Nat.le_of_ble_eq_true rfl) hl.1 ⟨Nat.zero_le _, Nat.zero_le _⟩ dX3_backBy_47 (fun r5 s5 H locs hw hM hS => ?_)
      refine lv_icmp_ge (tgt := 79) hx hb dX3_backBy_50 (by decide) (fun hc => ?_) (fun hc => ?_)
      · have hw := mm_ip hc hw
        exact B3_backBy_79 cx hK10 _ _ _ _ _ hw _ _ _ hM hS (lv_sub hl [1, 2, 3, 4, 5] rfl)
      · have hw := mm_in hc hw
        refine lv_iconst (v := (2 : Int32)) hx hb dX3_backBy_53 (by decide) ?_
        refine lv_iload hx hb dX3_backBy_54 (lv_at hl 0 rfl) ?_
        refine C3_bits cx hM hS hw ⟨Nat.le_of_ble_eq_true rfl, Nat.le_of_ble_eq_true rfl⟩ (Nat.le_of_ble_eq_true rfl) hl.1 ⟨Nat.zero_le _, Nat.zero_le _⟩ dX3_backBy_56 (fun r6 s6 H locs hw hM hS => ?_)
        refine lv_imul hx hb dX3_backBy_59 ?_
        refine lv_iload_n hx hb dX3_backBy_60 rfl (lv_at hl 3 rfl) ?_
        refine C3_bits cx hM hS hw ⟨Nat.le_of_ble_eq_true rfl, Nat.le_of_ble_eq_true rfl⟩ (Nat.le_of_ble_eq_true rfl) hl.1 ⟨Nat.zero_le _, Nat.zero_le _⟩ dX3_backBy_61 (fun r7 s7 H locs hw hM hS => ?_)
        refine lv_icmp_lt (tgt := 79) hx hb dX3_backBy_64 (by decide) (fun hc => ?_) (fun hc => ?_)
        · have hw := mm_ip hc hw
          exact B3_backBy_79 cx hK10 _ _ _ _ _ hw _ _ _ hM hS (lv_sub hl [1, 2, 3, 4, 5] rfl)
        · have hw := mm_in hc hw
          refine lv_iload_n hx hb dX3_backBy_67 rfl (lv_at hl 4 rfl) ?_
          refine lv_aload_n hx hb dX3_backBy_68 rfl (lv_at hl 1 rfl) ?_
          refine mg_29 cx hM dX3_backBy_69 ?_
          refine lv_iload hx hb dX3_backBy_72 (lv_at hl 5 rfl) ?_
          obtain ⟨hi, hw⟩ := hw
          refine mm_iald cx hM 29 rfl rfl hi dX3_backBy_74 ?_
          refine mm_min cx hl.1 (Nat.le_of_ble_eq_true rfl) (Nat.le_of_ble_eq_true rfl) dX3_backBy_75 ?_
          refine lv_topi (fun v8 hv8 => ?_)
          have hw := hw v8 hv8
          refine lv_istore_n (lv' := [(3, .int v8), (5, .int v3), (0, .ref (mm_o G)), (1, .int x1), (2, .int x2), (4, .int x4)]) hx hb dX3_backBy_78 rfl hl (by decide) rfl (fun ls hl => ?_)
          exact B3_backBy_79 cx hK10 _ _ _ _ _ hw _ _ _ hM hS (lv_sub hl [2, 3, 4, 0, 5] rfl)
theorem L3_backBy_10 {l : Launch} {p : Program} {e : Env} {s : State} {m : MethodId} {args : Array Value} {below : List Frame} {meth : Method} {c : Code} {G : mm_G} {Q : Int32 → MS → Prop} (cx : mm_X cX3_backBy 6 (some .int) G p s m args meth c) : ∀ (x1 : Int32) (x2 : Int32) (x3 : Int32) (x4 : Int32) (σ : MS), lp5F (w3_backBy_10 Q) x1 x2 x3 x4 σ → mm_T p l e ({ frames := 1, cells := 0, slots := 0, locals := 40 } : Room) s m args below meth c G (mm_Qi G Q) 6 10 σ [(0, .ref (mm_o G)), (1, .int x1), (2, .int x2), (3, .int x3), (4, .int x4)] [] :=
  lp5F_of (fun K hK => B3_backBy_10 cx hK)
def w3_backBy (x1 : Int32) (x2 : Int32) (σ : MS) (Q : Int32 → MS → Prop) : Prop :=
  w3_its x1 (1 : Int32) σ (fun r9 s9 => lp5F (w3_backBy_10 Q) x1 x2 r9 (0 : Int32) s9)
set_option maxHeartbeats 4000000 in
theorem M3_backBy (l : Launch) (G : mm_G) (x1 : Int32) (x2 : Int32) (σ : MS) (Q : Int32 → MS → Prop) (hw : w3_backBy x1 x2 σ Q) : mm_Mi l yX3_backBy (ws_ yX3_backBy cX3_backBy 6 (some .int)) ({ frames := 1, cells := 0, slots := 0, locals := 40 } : Room) G [.ref (mm_o G), .int x1, .int x2] σ Q := by
  refine mm_of (by decide) rfl ?_
  intro p e s m args below meth c cx hM ha
  refine mm_entry [.ref (mm_o G), .int x1, .int x2] 6 [(0, .ref (mm_o G)), (1, .int x1), (2, .int x2)] ha (Nat.le_of_ble_eq_true rfl) rfl (fun ls hl => ?_)
  have hS : va_S (mm_A G) s.heap s.heap [] := va_S.rf
  unfold w3_backBy at hw
  obtain ⟨hx, hb, hml, hown, hts, hr, hlk, hMK, hZ⟩ := id cx
  refine lv_aload_n hx hb dX3_backBy_0 rfl (lv_at hl 0 rfl) ?_
  refine lv_iload_n hx hb dX3_backBy_1 rfl (lv_at hl 1 rfl) ?_
  refine lv_iconst (v := (1 : Int32)) hx hb dX3_backBy_2 (by decide) ?_
  refine C3_its cx hM hS hw ⟨Nat.le_of_ble_eq_true rfl, Nat.le_of_ble_eq_true rfl⟩ (Nat.le_of_ble_eq_true rfl) hl.1 ⟨Nat.zero_le _, Nat.zero_le _⟩ dX3_backBy_3 (fun r9 s9 H locs hw hM hS => ?_)
  refine lv_istore_n (lv' := [(3, .int r9), (0, .ref (mm_o G)), (1, .int x1), (2, .int x2)]) hx hb dX3_backBy_6 rfl hl (by decide) rfl (fun ls hl => ?_)
  refine lv_iconst (v := (0 : Int32)) hx hb dX3_backBy_7 (by decide) ?_
  refine lv_istore (lv' := [(4, .int (0 : Int32)), (3, .int r9), (0, .ref (mm_o G)), (1, .int x1), (2, .int x2)]) hx hb dX3_backBy_8 hl (by decide) rfl (fun ls hl => ?_)
  exact L3_backBy_10 cx _ _ _ _ _ hw _ _ _ hM hS (lv_sub hl [2, 3, 4, 1, 0] rfl)
theorem C3_backBy {l : Launch} {p : Program} {e : Env} {R : Room} {s : State} {m : MethodId} {args : Array Value} {below : List Frame} {meth : Method} {c : Code} {H : Heap} {locs : List Loc} {cells slots : Nat} {Qz : State → Prop} {cc : ByteArray} {nL : Nat} {ret : Option FieldType} {G : mm_G} {pc : Nat} {ls : Array Slot} {rest : List Value} {x1 : Int32} {x2 : Int32} {σ : MS} (cx : mm_X cc nL ret G p s m args meth c) (hM : mm_R G σ H) (hS0 : va_S (mm_A G) s.heap H locs) {Qf : Int32 → MS → Prop} (hw : w3_backBy x1 x2 σ Qf) (hR : (({ frames := 1, cells := 0, slots := 0, locals := 40 } : Room)).frames + 1 ≤ R.frames ∧ 8 + (6 + 11) + (({ frames := 1, cells := 0, slots := 0, locals := 40 } : Room)).locals ≤ R.locals) (hroom : (rest.map fun v => v.category).sum ≤ 8) (hsize : ls.size = nL) (hf : cells ≤ R.cells ∧ slots ≤ R.slots) (hdg : decode cc pc = .ok (.invokevirtual 350, 3))
    (kk : ∀ (r : Int32) (σ1 : MS) (H1 : Heap) (locs1 : List Loc), Qf r σ1 → mm_R G σ1 H1 → va_S (mm_A G) s.heap H1 locs1 → W p l e R s m args below meth c H1 locs1 cells slots Qz (F0 m (pc + 3) ls (.int r :: rest))) : W p l e R s m args below meth c H locs cells slots Qz (F0 m pc ls (.int x2 :: .int x1 :: .ref (mm_o G) :: rest)) := by
  obtain ⟨hx, hb, hml, hown, hts, hr, hlk, hK, hZ⟩ := id cx
  exact mm_Vi cx hM hS0 (As := [.int x1, .int x2]) (M3_backBy l G x1 x2 σ Qf hw) (cwV 2 hts (lw_V q2760 q2762 qs121 q172 q2763) rfl rfl rfl (by decide +kernel) hR) rfl hsize rfl hroom hf hdg kk
def w3_laysBacks_46 (Q : MS → Prop) (K33 : Int32 → MS → Prop) (K46 : Int32 → Int32 → MS → Prop) (x1 : Int32) (x2 : Int32) (σ : MS) : Prop :=
  if (gA σ 4 18) ≤ x2 then (∀ v1 : Int32, v1 = x1 + (1 : Int32) → K33 v1 σ) else (w3_its x2 (4 : Int32) σ (fun r2 s2 => w3_backBy x2 r2 s2 (fun r3 s3 => vp_in x2 8 ∧ (∀ v4 : Int32, v4 = x2 + (1 : Int32) → K46 x1 v4 (sA s3 29 x2.toNatClampNeg r3)))))
set_option maxHeartbeats 4000000 in
theorem B3_laysBacks_46 {l : Launch} {p : Program} {e : Env} {s : State} {m : MethodId} {args : Array Value} {below : List Frame} {meth : Method} {c : Code} {G : mm_G} {Q : MS → Prop} {K33 : Int32 → MS → Prop} {K46 : Int32 → Int32 → MS → Prop} (cx : mm_X cX3_laysBacks 3 none G p s m args meth c) (hK33 : ∀ (x1 : Int32) (σ : MS), K33 x1 σ → mm_T p l e ({ frames := 2, cells := 0, slots := 0, locals := 80 } : Room) s m args below meth c G (mm_Qv G Q) 3 33 σ [(0, .ref (mm_o G)), (1, .int x1)] []) (hK46 : ∀ (x1 : Int32) (x2 : Int32) (σ : MS), K46 x1 x2 σ → mm_T p l e ({ frames := 2, cells := 0, slots := 0, locals := 80 } : Room) s m args below meth c G (mm_Qv G Q) 3 46 σ [(0, .ref (mm_o G)), (1, .int x1), (2, .int x2)] []) : ∀ (x1 : Int32) (x2 : Int32) (σ : MS), w3_laysBacks_46 Q K33 K46 x1 x2 σ → mm_T p l e ({ frames := 2, cells := 0, slots := 0, locals := 80 } : Room) s m args below meth c G (mm_Qv G Q) 3 46 σ [(0, .ref (mm_o G)), (1, .int x1), (2, .int x2)] [] := by
  intro x1 x2 σ hw H locs ls hM hS hl
  unfold w3_laysBacks_46 at hw
  obtain ⟨hx, hb, hml, hown, hts, hr, hlk, hMK, hZ⟩ := id cx
  refine lv_iload_n hx hb dX3_laysBacks_46 rfl (lv_at hl 2 rfl) ?_
  refine lv_aload_n hx hb dX3_laysBacks_47 rfl (lv_at hl 0 rfl) ?_
  refine mg_4 cx hM dX3_laysBacks_48 ?_
  refine lv_bipush (v := (18 : Int32)) hx hb dX3_laysBacks_51 (by decide) ?_
  refine mm_iald cx hM 4 rfl (j := 18) (by decide) (vp_lit (by decide)) dX3_laysBacks_53 ?_
  refine lv_icmp_ge (tgt := 80) hx hb dX3_laysBacks_54 (by decide) (fun hc => ?_) (fun hc => ?_)
  · have hw := mm_ip hc hw
    obtain ⟨v1, hv1⟩ : ∃ v : Int32, v = x1 + (1 : Int32) := ⟨_, rfl⟩
    have hw := hw v1 hv1
    refine lv_iinc (v := v1) (lv' := [(1, .int v1), (0, .ref (mm_o G)), (2, .int x2)]) hx hb dX3_laysBacks_80 hl (k := 1) rfl (by rw [hv1]; rfl) (by decide) rfl (fun ls hl => ?_)
    refine lv_goto (tgt := 33) hx hb dX3_laysBacks_83 (by decide) ?_
    exact hK33 _ _ hw _ _ _ hM hS (lv_sub hl [1, 0] rfl)
  · have hw := mm_in hc hw
    refine lv_aload_n hx hb dX3_laysBacks_57 rfl (lv_at hl 0 rfl) ?_
    refine mg_29 cx hM dX3_laysBacks_58 ?_
    refine lv_iload_n hx hb dX3_laysBacks_61 rfl (lv_at hl 2 rfl) ?_
    refine lv_aload_n hx hb dX3_laysBacks_62 rfl (lv_at hl 0 rfl) ?_
    refine lv_iload_n hx hb dX3_laysBacks_63 rfl (lv_at hl 2 rfl) ?_
    refine lv_aload_n hx hb dX3_laysBacks_64 rfl (lv_at hl 0 rfl) ?_
    refine lv_iload_n hx hb dX3_laysBacks_65 rfl (lv_at hl 2 rfl) ?_
    refine lv_iconst (v := (4 : Int32)) hx hb dX3_laysBacks_66 (by decide) ?_
    refine C3_its cx hM hS hw ⟨Nat.le_of_ble_eq_true rfl, Nat.le_of_ble_eq_true rfl⟩ (Nat.le_of_ble_eq_true rfl) hl.1 ⟨Nat.zero_le _, Nat.zero_le _⟩ dX3_laysBacks_67 (fun r2 s2 H locs hw hM hS => ?_)
    refine C3_backBy cx hM hS hw ⟨Nat.le_of_ble_eq_true rfl, Nat.le_of_ble_eq_true rfl⟩ (Nat.le_of_ble_eq_true rfl) hl.1 ⟨Nat.zero_le _, Nat.zero_le _⟩ dX3_laysBacks_70 (fun r3 s3 H locs hw hM hS => ?_)
    obtain ⟨hi, hw⟩ := hw
    refine mm_iast cx hM hS 29 rfl rfl hi dX3_laysBacks_73 (fun H locs hM hS => ?_)
    obtain ⟨v4, hv4⟩ : ∃ v : Int32, v = x2 + (1 : Int32) := ⟨_, rfl⟩
    have hw := hw v4 hv4
    refine lv_iinc (v := v4) (lv' := [(2, .int v4), (0, .ref (mm_o G)), (1, .int x1)]) hx hb dX3_laysBacks_74 hl (k := 2) rfl (by rw [hv4]; rfl) (by decide) rfl (fun ls hl => ?_)
    refine lv_goto (tgt := 46) hx hb dX3_laysBacks_77 (by decide) ?_
    exact hK46 _ _ _ hw _ _ _ hM hS (lv_sub hl [1, 2, 0] rfl)
theorem L3_laysBacks_46 {l : Launch} {p : Program} {e : Env} {s : State} {m : MethodId} {args : Array Value} {below : List Frame} {meth : Method} {c : Code} {G : mm_G} {Q : MS → Prop} {K33 : Int32 → MS → Prop} (cx : mm_X cX3_laysBacks 3 none G p s m args meth c) (hK33 : ∀ (x1 : Int32) (σ : MS), K33 x1 σ → mm_T p l e ({ frames := 2, cells := 0, slots := 0, locals := 80 } : Room) s m args below meth c G (mm_Qv G Q) 3 33 σ [(0, .ref (mm_o G)), (1, .int x1)] []) : ∀ (x1 : Int32) (x2 : Int32) (σ : MS), lp3F (w3_laysBacks_46 Q K33) x1 x2 σ → mm_T p l e ({ frames := 2, cells := 0, slots := 0, locals := 80 } : Room) s m args below meth c G (mm_Qv G Q) 3 46 σ [(0, .ref (mm_o G)), (1, .int x1), (2, .int x2)] [] :=
  lp3F_of (fun K hK => B3_laysBacks_46 cx hK33 hK)
def w3_laysBacks_33 (Q : MS → Prop) (K33 : Int32 → MS → Prop) (x1 : Int32) (σ : MS) : Prop :=
  if (gA σ 4 18) ≤ x1 then (Q σ) else (lp3F (w3_laysBacks_46 Q K33) x1 (0 : Int32) σ)
set_option maxHeartbeats 4000000 in
theorem B3_laysBacks_33 {l : Launch} {p : Program} {e : Env} {s : State} {m : MethodId} {args : Array Value} {below : List Frame} {meth : Method} {c : Code} {G : mm_G} {Q : MS → Prop} {K33 : Int32 → MS → Prop} (cx : mm_X cX3_laysBacks 3 none G p s m args meth c) (hK33 : ∀ (x1 : Int32) (σ : MS), K33 x1 σ → mm_T p l e ({ frames := 2, cells := 0, slots := 0, locals := 80 } : Room) s m args below meth c G (mm_Qv G Q) 3 33 σ [(0, .ref (mm_o G)), (1, .int x1)] []) : ∀ (x1 : Int32) (σ : MS), w3_laysBacks_33 Q K33 x1 σ → mm_T p l e ({ frames := 2, cells := 0, slots := 0, locals := 80 } : Room) s m args below meth c G (mm_Qv G Q) 3 33 σ [(0, .ref (mm_o G)), (1, .int x1)] [] := by
  intro x1 σ hw H locs ls hM hS hl
  unfold w3_laysBacks_33 at hw
  obtain ⟨hx, hb, hml, hown, hts, hr, hlk, hMK, hZ⟩ := id cx
  refine lv_iload_n hx hb dX3_laysBacks_33 rfl (lv_at hl 1 rfl) ?_
  refine lv_aload_n hx hb dX3_laysBacks_34 rfl (lv_at hl 0 rfl) ?_
  refine mg_4 cx hM dX3_laysBacks_35 ?_
  refine lv_bipush (v := (18 : Int32)) hx hb dX3_laysBacks_38 (by decide) ?_
  refine mm_iald cx hM 4 rfl (j := 18) (by decide) (vp_lit (by decide)) dX3_laysBacks_40 ?_
  refine lv_icmp_ge (tgt := 86) hx hb dX3_laysBacks_41 (by decide) (fun hc => ?_) (fun hc => ?_)
  · have hw := mm_ip hc hw
    exact mm_vret cx hM hS hw dX3_laysBacks_86
  · have hw := mm_in hc hw
    refine lv_iconst (v := (0 : Int32)) hx hb dX3_laysBacks_44 (by decide) ?_
    refine lv_istore_n (lv' := [(2, .int (0 : Int32)), (0, .ref (mm_o G)), (1, .int x1)]) hx hb dX3_laysBacks_45 rfl hl (by decide) rfl (fun ls hl => ?_)
    exact L3_laysBacks_46 cx hK33 _ _ _ hw _ _ _ hM hS (lv_sub hl [1, 2, 0] rfl)
theorem L3_laysBacks_33 {l : Launch} {p : Program} {e : Env} {s : State} {m : MethodId} {args : Array Value} {below : List Frame} {meth : Method} {c : Code} {G : mm_G} {Q : MS → Prop} (cx : mm_X cX3_laysBacks 3 none G p s m args meth c) : ∀ (x1 : Int32) (σ : MS), lp2F (w3_laysBacks_33 Q) x1 σ → mm_T p l e ({ frames := 2, cells := 0, slots := 0, locals := 80 } : Room) s m args below meth c G (mm_Qv G Q) 3 33 σ [(0, .ref (mm_o G)), (1, .int x1)] [] :=
  lp2F_of (fun K hK => B3_laysBacks_33 cx hK)
def w3_laysBacks_2 (Q : MS → Prop) (K2 : Int32 → MS → Prop) (x1 : Int32) (σ : MS) : Prop :=
  if (gA σ 4 18) ≤ x1 then (lp2F (w3_laysBacks_33 Q) (1 : Int32) σ) else (w3_its x1 (1 : Int32) σ (fun r5 s5 => vp_in x1 8 ∧ (∀ v6 : Int32, v6 = x1 + (1 : Int32) → K2 v6 (sA s5 29 x1.toNatClampNeg r5))))
set_option maxHeartbeats 4000000 in
theorem B3_laysBacks_2 {l : Launch} {p : Program} {e : Env} {s : State} {m : MethodId} {args : Array Value} {below : List Frame} {meth : Method} {c : Code} {G : mm_G} {Q : MS → Prop} {K2 : Int32 → MS → Prop} (cx : mm_X cX3_laysBacks 3 none G p s m args meth c) (hK2 : ∀ (x1 : Int32) (σ : MS), K2 x1 σ → mm_T p l e ({ frames := 2, cells := 0, slots := 0, locals := 80 } : Room) s m args below meth c G (mm_Qv G Q) 3 2 σ [(0, .ref (mm_o G)), (1, .int x1)] []) : ∀ (x1 : Int32) (σ : MS), w3_laysBacks_2 Q K2 x1 σ → mm_T p l e ({ frames := 2, cells := 0, slots := 0, locals := 80 } : Room) s m args below meth c G (mm_Qv G Q) 3 2 σ [(0, .ref (mm_o G)), (1, .int x1)] [] := by
  intro x1 σ hw H locs ls hM hS hl
  unfold w3_laysBacks_2 at hw
  obtain ⟨hx, hb, hml, hown, hts, hr, hlk, hMK, hZ⟩ := id cx
  refine lv_iload_n hx hb dX3_laysBacks_2 rfl (lv_at hl 1 rfl) ?_
  refine lv_aload_n hx hb dX3_laysBacks_3 rfl (lv_at hl 0 rfl) ?_
  refine mg_4 cx hM dX3_laysBacks_4 ?_
  refine lv_bipush (v := (18 : Int32)) hx hb dX3_laysBacks_7 (by decide) ?_
  refine mm_iald cx hM 4 rfl (j := 18) (by decide) (vp_lit (by decide)) dX3_laysBacks_9 ?_
  refine lv_icmp_ge (tgt := 31) hx hb dX3_laysBacks_10 (by decide) (fun hc => ?_) (fun hc => ?_)
  · have hw := mm_ip hc hw
    refine lv_iconst (v := (1 : Int32)) hx hb dX3_laysBacks_31 (by decide) ?_
    refine lv_istore_n (lv' := [(1, .int (1 : Int32)), (0, .ref (mm_o G))]) hx hb dX3_laysBacks_32 rfl hl (by decide) rfl (fun ls hl => ?_)
    exact L3_laysBacks_33 cx _ _ hw _ _ _ hM hS (lv_sub hl [1, 0] rfl)
  · have hw := mm_in hc hw
    refine lv_aload_n hx hb dX3_laysBacks_13 rfl (lv_at hl 0 rfl) ?_
    refine mg_29 cx hM dX3_laysBacks_14 ?_
    refine lv_iload_n hx hb dX3_laysBacks_17 rfl (lv_at hl 1 rfl) ?_
    refine lv_aload_n hx hb dX3_laysBacks_18 rfl (lv_at hl 0 rfl) ?_
    refine lv_iload_n hx hb dX3_laysBacks_19 rfl (lv_at hl 1 rfl) ?_
    refine lv_iconst (v := (1 : Int32)) hx hb dX3_laysBacks_20 (by decide) ?_
    refine C3_its cx hM hS hw ⟨Nat.le_of_ble_eq_true rfl, Nat.le_of_ble_eq_true rfl⟩ (Nat.le_of_ble_eq_true rfl) hl.1 ⟨Nat.zero_le _, Nat.zero_le _⟩ dX3_laysBacks_21 (fun r5 s5 H locs hw hM hS => ?_)
    obtain ⟨hi, hw⟩ := hw
    refine mm_iast cx hM hS 29 rfl rfl hi dX3_laysBacks_24 (fun H locs hM hS => ?_)
    obtain ⟨v6, hv6⟩ : ∃ v : Int32, v = x1 + (1 : Int32) := ⟨_, rfl⟩
    have hw := hw v6 hv6
    refine lv_iinc (v := v6) (lv' := [(1, .int v6), (0, .ref (mm_o G))]) hx hb dX3_laysBacks_25 hl (k := 1) rfl (by rw [hv6]; rfl) (by decide) rfl (fun ls hl => ?_)
    refine lv_goto (tgt := 2) hx hb dX3_laysBacks_28 (by decide) ?_
    exact hK2 _ _ hw _ _ _ hM hS (lv_sub hl [1, 0] rfl)
theorem L3_laysBacks_2 {l : Launch} {p : Program} {e : Env} {s : State} {m : MethodId} {args : Array Value} {below : List Frame} {meth : Method} {c : Code} {G : mm_G} {Q : MS → Prop} (cx : mm_X cX3_laysBacks 3 none G p s m args meth c) : ∀ (x1 : Int32) (σ : MS), lp2F (w3_laysBacks_2 Q) x1 σ → mm_T p l e ({ frames := 2, cells := 0, slots := 0, locals := 80 } : Room) s m args below meth c G (mm_Qv G Q) 3 2 σ [(0, .ref (mm_o G)), (1, .int x1)] [] :=
  lp2F_of (fun K hK => B3_laysBacks_2 cx hK)
def w3_laysBacks (σ : MS) (Q : MS → Prop) : Prop :=
  lp2F (w3_laysBacks_2 Q) (0 : Int32) σ
set_option maxHeartbeats 4000000 in
theorem M3_laysBacks (l : Launch) (G : mm_G) (σ : MS) (Q : MS → Prop) (hw : w3_laysBacks σ Q) : mm_Mv l yX3_laysBacks (ws_ yX3_laysBacks cX3_laysBacks 3 none) ({ frames := 2, cells := 0, slots := 0, locals := 80 } : Room) G [.ref (mm_o G)] σ Q := by
  refine mm_of (by decide) rfl ?_
  intro p e s m args below meth c cx hM ha
  refine mm_entry [.ref (mm_o G)] 3 [(0, .ref (mm_o G))] ha (Nat.le_of_ble_eq_true rfl) rfl (fun ls hl => ?_)
  have hS : va_S (mm_A G) s.heap s.heap [] := va_S.rf
  unfold w3_laysBacks at hw
  obtain ⟨hx, hb, hml, hown, hts, hr, hlk, hMK, hZ⟩ := id cx
  refine lv_iconst (v := (0 : Int32)) hx hb dX3_laysBacks_0 (by decide) ?_
  refine lv_istore_n (lv' := [(1, .int (0 : Int32)), (0, .ref (mm_o G))]) hx hb dX3_laysBacks_1 rfl hl (by decide) rfl (fun ls hl => ?_)
  exact L3_laysBacks_2 cx _ _ hw _ _ _ hM hS (lv_sub hl [1, 0] rfl)
theorem C3_laysBacks {l : Launch} {p : Program} {e : Env} {R : Room} {s : State} {m : MethodId} {args : Array Value} {below : List Frame} {meth : Method} {c : Code} {H : Heap} {locs : List Loc} {cells slots : Nat} {Qz : State → Prop} {cc : ByteArray} {nL : Nat} {ret : Option FieldType} {G : mm_G} {pc : Nat} {ls : Array Slot} {rest : List Value} {σ : MS} (cx : mm_X cc nL ret G p s m args meth c) (hM : mm_R G σ H) (hS0 : va_S (mm_A G) s.heap H locs) {Qf : MS → Prop} (hw : w3_laysBacks σ Qf) (hR : (({ frames := 2, cells := 0, slots := 0, locals := 80 } : Room)).frames + 1 ≤ R.frames ∧ 8 + (3 + 11) + (({ frames := 2, cells := 0, slots := 0, locals := 80 } : Room)).locals ≤ R.locals) (hroom : (rest.map fun v => v.category).sum ≤ 8) (hsize : ls.size = nL) (hf : cells ≤ R.cells ∧ slots ≤ R.slots) (hdg : decode cc pc = .ok (.invokevirtual 364, 3))
    (kk : ∀ (σ1 : MS) (H1 : Heap) (locs1 : List Loc), Qf σ1 → mm_R G σ1 H1 → va_S (mm_A G) s.heap H1 locs1 → W p l e R s m args below meth c H1 locs1 cells slots Qz (F0 m (pc + 3) ls rest)) : W p l e R s m args below meth c H locs cells slots Qz (F0 m pc ls (.ref (mm_o G) :: rest)) := by
  obtain ⟨hx, hb, hml, hown, hts, hr, hlk, hK, hZ⟩ := id cx
  exact mm_Vv cx hM hS0 (As := []) (M3_laysBacks l G σ Qf hw) (cwV 0 hts (lw_V q2756 q2758 qs120 q172 q2759) rfl rfl rfl (by decide +kernel) hR) rfl hsize rfl hroom hf hdg kk
def w3_laysInjuries_147 (Q : MS → Prop) (K23 : Int32 → MS → Prop) (K31 : Int32 → Int32 → MS → Prop) (K44 : Int32 → Int32 → Int32 → MS → Prop) (x1 : Int32) (x2 : Int32) (x3 : Int32) (σ : MS) : Prop :=
  ∀ v1 : Int32, v1 = x3 + (1 : Int32) → K44 x1 x2 v1 σ
set_option maxHeartbeats 4000000 in
theorem B3_laysInjuries_147 {l : Launch} {p : Program} {e : Env} {s : State} {m : MethodId} {args : Array Value} {below : List Frame} {meth : Method} {c : Code} {G : mm_G} {Q : MS → Prop} {K23 : Int32 → MS → Prop} {K31 : Int32 → Int32 → MS → Prop} {K44 : Int32 → Int32 → Int32 → MS → Prop} (cx : mm_X cX3_laysInjuries 5 none G p s m args meth c) (hK23 : ∀ (x1 : Int32) (σ : MS), K23 x1 σ → mm_T p l e ({ frames := 1, cells := 0, slots := 0, locals := 40 } : Room) s m args below meth c G (mm_Qv G Q) 5 23 σ [(0, .ref (mm_o G)), (1, .int x1)] []) (hK31 : ∀ (x1 : Int32) (x2 : Int32) (σ : MS), K31 x1 x2 σ → mm_T p l e ({ frames := 1, cells := 0, slots := 0, locals := 40 } : Room) s m args below meth c G (mm_Qv G Q) 5 31 σ [(0, .ref (mm_o G)), (1, .int x1), (2, .int x2)] []) (hK44 : ∀ (x1 : Int32) (x2 : Int32) (x3 : Int32) (σ : MS), K44 x1 x2 x3 σ → mm_T p l e ({ frames := 1, cells := 0, slots := 0, locals := 40 } : Room) s m args below meth c G (mm_Qv G Q) 5 44 σ [(0, .ref (mm_o G)), (1, .int x1), (2, .int x2), (3, .int x3)] []) : ∀ (x1 : Int32) (x2 : Int32) (x3 : Int32) (σ : MS), w3_laysInjuries_147 Q K23 K31 K44 x1 x2 x3 σ → mm_T p l e ({ frames := 1, cells := 0, slots := 0, locals := 40 } : Room) s m args below meth c G (mm_Qv G Q) 5 147 σ [(0, .ref (mm_o G)), (1, .int x1), (2, .int x2), (3, .int x3)] [] := by
  intro x1 x2 x3 σ hw H locs ls hM hS hl
  unfold w3_laysInjuries_147 at hw
  obtain ⟨hx, hb, hml, hown, hts, hr, hlk, hMK, hZ⟩ := id cx
  obtain ⟨v1, hv1⟩ : ∃ v : Int32, v = x3 + (1 : Int32) := ⟨_, rfl⟩
  have hw := hw v1 hv1
  refine lv_iinc (v := v1) (lv' := [(3, .int v1), (0, .ref (mm_o G)), (1, .int x1), (2, .int x2)]) hx hb dX3_laysInjuries_147 hl (k := 3) rfl (by rw [hv1]; rfl) (by decide) rfl (fun ls hl => ?_)
  refine lv_goto (tgt := 44) hx hb dX3_laysInjuries_150 (by decide) ?_
  exact hK44 _ _ _ _ hw _ _ _ hM hS (lv_sub hl [1, 2, 3, 0] rfl)
def w3_laysInjuries_107 (Q : MS → Prop) (K23 : Int32 → MS → Prop) (K31 : Int32 → Int32 → MS → Prop) (K44 : Int32 → Int32 → Int32 → MS → Prop) (x1 : Int32) (x2 : Int32) (x3 : Int32) (t0 : Int32) (σ : MS) : Prop :=
  if t0 = 0 then (w3_laysInjuries_147 Q K23 K31 K44 x1 x2 x3 σ) else (vp_in x2 8 ∧ (vp_in x3 8 ∧ (vp_in x2 8 ∧ (vp_in x2 8 ∧ (vp_in x3 8 ∧ (w3_laysInjuries_147 Q K23 K31 K44 x1 x2 x3 (sA (sA σ 30 x2.toNatClampNeg (imin (gA σ 30 x2.toNatClampNeg) (gA σ 30 x3.toNatClampNeg))) 30 x3.toNatClampNeg (gA (sA σ 30 x2.toNatClampNeg (imin (gA σ 30 x2.toNatClampNeg) (gA σ 30 x3.toNatClampNeg))) 30 x2.toNatClampNeg))))))))
set_option maxHeartbeats 4000000 in
theorem B3_laysInjuries_107 {l : Launch} {p : Program} {e : Env} {s : State} {m : MethodId} {args : Array Value} {below : List Frame} {meth : Method} {c : Code} {G : mm_G} {Q : MS → Prop} {K23 : Int32 → MS → Prop} {K31 : Int32 → Int32 → MS → Prop} {K44 : Int32 → Int32 → Int32 → MS → Prop} (cx : mm_X cX3_laysInjuries 5 none G p s m args meth c) (hK23 : ∀ (x1 : Int32) (σ : MS), K23 x1 σ → mm_T p l e ({ frames := 1, cells := 0, slots := 0, locals := 40 } : Room) s m args below meth c G (mm_Qv G Q) 5 23 σ [(0, .ref (mm_o G)), (1, .int x1)] []) (hK31 : ∀ (x1 : Int32) (x2 : Int32) (σ : MS), K31 x1 x2 σ → mm_T p l e ({ frames := 1, cells := 0, slots := 0, locals := 40 } : Room) s m args below meth c G (mm_Qv G Q) 5 31 σ [(0, .ref (mm_o G)), (1, .int x1), (2, .int x2)] []) (hK44 : ∀ (x1 : Int32) (x2 : Int32) (x3 : Int32) (σ : MS), K44 x1 x2 x3 σ → mm_T p l e ({ frames := 1, cells := 0, slots := 0, locals := 40 } : Room) s m args below meth c G (mm_Qv G Q) 5 44 σ [(0, .ref (mm_o G)), (1, .int x1), (2, .int x2), (3, .int x3)] []) : ∀ (x1 : Int32) (x2 : Int32) (x3 : Int32) (t0 : Int32) (σ : MS), w3_laysInjuries_107 Q K23 K31 K44 x1 x2 x3 t0 σ → mm_T p l e ({ frames := 1, cells := 0, slots := 0, locals := 40 } : Room) s m args below meth c G (mm_Qv G Q) 5 107 σ [(0, .ref (mm_o G)), (1, .int x1), (2, .int x2), (3, .int x3)] [.int t0] := by
  intro x1 x2 x3 t0 σ hw H locs ls hM hS hl
  unfold w3_laysInjuries_107 at hw
  obtain ⟨hx, hb, hml, hown, hts, hr, hlk, hMK, hZ⟩ := id cx
  refine lv_istore (lv' := [(4, .int t0), (0, .ref (mm_o G)), (1, .int x1), (2, .int x2), (3, .int x3)]) hx hb dX3_laysInjuries_107 hl (by decide) rfl (fun ls hl => ?_)
  refine lv_iload hx hb dX3_laysInjuries_109 (lv_at hl 0 rfl) ?_
  refine lv_if_eq (tgt := 147) hx hb dX3_laysInjuries_111 (by decide) (fun hc => ?_) (fun hc => ?_)
  · have hw := mm_ip hc hw
    exact B3_laysInjuries_147 cx hK23 hK31 hK44 _ _ _ _ hw _ _ _ hM hS (lv_sub hl [1, 2, 3, 4] rfl)
  · have hw := mm_in hc hw
    refine lv_aload_n hx hb dX3_laysInjuries_114 rfl (lv_at hl 1 rfl) ?_
    refine mg_30 cx hM dX3_laysInjuries_115 ?_
    refine lv_iload_n hx hb dX3_laysInjuries_118 rfl (lv_at hl 3 rfl) ?_
    refine lv_aload_n hx hb dX3_laysInjuries_119 rfl (lv_at hl 1 rfl) ?_
    refine mg_30 cx hM dX3_laysInjuries_120 ?_
    refine lv_iload_n hx hb dX3_laysInjuries_123 rfl (lv_at hl 3 rfl) ?_
    obtain ⟨hi, hw⟩ := hw
    refine mm_iald cx hM 30 rfl rfl hi dX3_laysInjuries_124 ?_
    refine lv_aload_n hx hb dX3_laysInjuries_125 rfl (lv_at hl 1 rfl) ?_
    refine mg_30 cx hM dX3_laysInjuries_126 ?_
    refine lv_iload_n hx hb dX3_laysInjuries_129 rfl (lv_at hl 4 rfl) ?_
    obtain ⟨hi, hw⟩ := hw
    refine mm_iald cx hM 30 rfl rfl hi dX3_laysInjuries_130 ?_
    refine mm_min cx hl.1 (Nat.le_of_ble_eq_true rfl) (Nat.le_of_ble_eq_true rfl) dX3_laysInjuries_131 ?_
    obtain ⟨hi, hw⟩ := hw
    refine mm_iast cx hM hS 30 rfl rfl hi dX3_laysInjuries_134 (fun H locs hM hS => ?_)
    refine lv_aload_n hx hb dX3_laysInjuries_135 rfl (lv_at hl 1 rfl) ?_
    refine mg_30 cx hM dX3_laysInjuries_136 ?_
    refine lv_iload_n hx hb dX3_laysInjuries_139 rfl (lv_at hl 4 rfl) ?_
    refine lv_aload_n hx hb dX3_laysInjuries_140 rfl (lv_at hl 1 rfl) ?_
    refine mg_30 cx hM dX3_laysInjuries_141 ?_
    refine lv_iload_n hx hb dX3_laysInjuries_144 rfl (lv_at hl 3 rfl) ?_
    obtain ⟨hi, hw⟩ := hw
    refine mm_iald cx hM 30 rfl rfl hi dX3_laysInjuries_145 ?_
    obtain ⟨hi, hw⟩ := hw
    refine mm_iast cx hM hS 30 rfl rfl hi dX3_laysInjuries_146 (fun H locs hM hS => ?_)
    exact B3_laysInjuries_147 cx hK23 hK31 hK44 _ _ _ _ hw _ _ _ hM hS (lv_sub hl [1, 2, 3, 4] rfl)
def w3_laysInjuries_106 (Q : MS → Prop) (K23 : Int32 → MS → Prop) (K31 : Int32 → Int32 → MS → Prop) (K44 : Int32 → Int32 → Int32 → MS → Prop) (x1 : Int32) (x2 : Int32) (x3 : Int32) (σ : MS) : Prop :=
  w3_laysInjuries_107 Q K23 K31 K44 x1 x2 x3 (0 : Int32) σ
set_option maxHeartbeats 4000000 in
theorem B3_laysInjuries_106 {l : Launch} {p : Program} {e : Env} {s : State} {m : MethodId} {args : Array Value} {below : List Frame} {meth : Method} {c : Code} {G : mm_G} {Q : MS → Prop} {K23 : Int32 → MS → Prop} {K31 : Int32 → Int32 → MS → Prop} {K44 : Int32 → Int32 → Int32 → MS → Prop} (cx : mm_X cX3_laysInjuries 5 none G p s m args meth c) (hK23 : ∀ (x1 : Int32) (σ : MS), K23 x1 σ → mm_T p l e ({ frames := 1, cells := 0, slots := 0, locals := 40 } : Room) s m args below meth c G (mm_Qv G Q) 5 23 σ [(0, .ref (mm_o G)), (1, .int x1)] []) (hK31 : ∀ (x1 : Int32) (x2 : Int32) (σ : MS), K31 x1 x2 σ → mm_T p l e ({ frames := 1, cells := 0, slots := 0, locals := 40 } : Room) s m args below meth c G (mm_Qv G Q) 5 31 σ [(0, .ref (mm_o G)), (1, .int x1), (2, .int x2)] []) (hK44 : ∀ (x1 : Int32) (x2 : Int32) (x3 : Int32) (σ : MS), K44 x1 x2 x3 σ → mm_T p l e ({ frames := 1, cells := 0, slots := 0, locals := 40 } : Room) s m args below meth c G (mm_Qv G Q) 5 44 σ [(0, .ref (mm_o G)), (1, .int x1), (2, .int x2), (3, .int x3)] []) : ∀ (x1 : Int32) (x2 : Int32) (x3 : Int32) (σ : MS), w3_laysInjuries_106 Q K23 K31 K44 x1 x2 x3 σ → mm_T p l e ({ frames := 1, cells := 0, slots := 0, locals := 40 } : Room) s m args below meth c G (mm_Qv G Q) 5 106 σ [(0, .ref (mm_o G)), (1, .int x1), (2, .int x2), (3, .int x3)] [] := by
  intro x1 x2 x3 σ hw H locs ls hM hS hl
  unfold w3_laysInjuries_106 at hw
  obtain ⟨hx, hb, hml, hown, hts, hr, hlk, hMK, hZ⟩ := id cx
  refine lv_iconst (v := (0 : Int32)) hx hb dX3_laysInjuries_106 (by decide) ?_
  exact B3_laysInjuries_107 cx hK23 hK31 hK44 _ _ _ _ _ hw _ _ _ hM hS (lv_sub hl [0, 1, 2, 3] rfl)
def w3_laysInjuries_102 (Q : MS → Prop) (K23 : Int32 → MS → Prop) (K31 : Int32 → Int32 → MS → Prop) (K44 : Int32 → Int32 → Int32 → MS → Prop) (x1 : Int32) (x2 : Int32) (x3 : Int32) (σ : MS) : Prop :=
  w3_laysInjuries_107 Q K23 K31 K44 x1 x2 x3 (1 : Int32) σ
set_option maxHeartbeats 4000000 in
theorem B3_laysInjuries_102 {l : Launch} {p : Program} {e : Env} {s : State} {m : MethodId} {args : Array Value} {below : List Frame} {meth : Method} {c : Code} {G : mm_G} {Q : MS → Prop} {K23 : Int32 → MS → Prop} {K31 : Int32 → Int32 → MS → Prop} {K44 : Int32 → Int32 → Int32 → MS → Prop} (cx : mm_X cX3_laysInjuries 5 none G p s m args meth c) (hK23 : ∀ (x1 : Int32) (σ : MS), K23 x1 σ → mm_T p l e ({ frames := 1, cells := 0, slots := 0, locals := 40 } : Room) s m args below meth c G (mm_Qv G Q) 5 23 σ [(0, .ref (mm_o G)), (1, .int x1)] []) (hK31 : ∀ (x1 : Int32) (x2 : Int32) (σ : MS), K31 x1 x2 σ → mm_T p l e ({ frames := 1, cells := 0, slots := 0, locals := 40 } : Room) s m args below meth c G (mm_Qv G Q) 5 31 σ [(0, .ref (mm_o G)), (1, .int x1), (2, .int x2)] []) (hK44 : ∀ (x1 : Int32) (x2 : Int32) (x3 : Int32) (σ : MS), K44 x1 x2 x3 σ → mm_T p l e ({ frames := 1, cells := 0, slots := 0, locals := 40 } : Room) s m args below meth c G (mm_Qv G Q) 5 44 σ [(0, .ref (mm_o G)), (1, .int x1), (2, .int x2), (3, .int x3)] []) : ∀ (x1 : Int32) (x2 : Int32) (x3 : Int32) (σ : MS), w3_laysInjuries_102 Q K23 K31 K44 x1 x2 x3 σ → mm_T p l e ({ frames := 1, cells := 0, slots := 0, locals := 40 } : Room) s m args below meth c G (mm_Qv G Q) 5 102 σ [(0, .ref (mm_o G)), (1, .int x1), (2, .int x2), (3, .int x3)] [] := by
  intro x1 x2 x3 σ hw H locs ls hM hS hl
  unfold w3_laysInjuries_102 at hw
  obtain ⟨hx, hb, hml, hown, hts, hr, hlk, hMK, hZ⟩ := id cx
  refine lv_iconst (v := (1 : Int32)) hx hb dX3_laysInjuries_102 (by decide) ?_
  refine lv_goto (tgt := 107) hx hb dX3_laysInjuries_103 (by decide) ?_
  exact B3_laysInjuries_107 cx hK23 hK31 hK44 _ _ _ _ _ hw _ _ _ hM hS (lv_sub hl [0, 1, 2, 3] rfl)
def w3_laysInjuries_44 (Q : MS → Prop) (K23 : Int32 → MS → Prop) (K31 : Int32 → Int32 → MS → Prop) (K44 : Int32 → Int32 → Int32 → MS → Prop) (x1 : Int32) (x2 : Int32) (x3 : Int32) (σ : MS) : Prop :=
  if (gA σ 4 18) ≤ x3 then (∀ v2 : Int32, v2 = x2 + (1 : Int32) → K31 x1 v2 σ) else (w3_its x3 (7 : Int32) σ (fun r3 s3 => if r3 = x2 then (w3_laysInjuries_102 Q K23 K31 K44 x1 x2 x3 s3) else (if (gA s3 0 2) ≤ x2 then (w3_laysInjuries_106 Q K23 K31 K44 x1 x2 x3 s3) else (if (gA s3 0 2) ≤ x3 then (w3_laysInjuries_106 Q K23 K31 K44 x1 x2 x3 s3) else (vp_in ((61 : Int32) + x2) 640 ∧ (w3_has (gA s3 0 ((61 : Int32) + x2).toNatClampNeg) x3 s3 (fun r4 s4 => if r4 = 0 then (w3_laysInjuries_106 Q K23 K31 K44 x1 x2 x3 s4) else (w3_laysInjuries_102 Q K23 K31 K44 x1 x2 x3 s4))))))))
set_option maxHeartbeats 4000000 in
theorem B3_laysInjuries_44 {l : Launch} {p : Program} {e : Env} {s : State} {m : MethodId} {args : Array Value} {below : List Frame} {meth : Method} {c : Code} {G : mm_G} {Q : MS → Prop} {K23 : Int32 → MS → Prop} {K31 : Int32 → Int32 → MS → Prop} {K44 : Int32 → Int32 → Int32 → MS → Prop} (cx : mm_X cX3_laysInjuries 5 none G p s m args meth c) (hK23 : ∀ (x1 : Int32) (σ : MS), K23 x1 σ → mm_T p l e ({ frames := 1, cells := 0, slots := 0, locals := 40 } : Room) s m args below meth c G (mm_Qv G Q) 5 23 σ [(0, .ref (mm_o G)), (1, .int x1)] []) (hK31 : ∀ (x1 : Int32) (x2 : Int32) (σ : MS), K31 x1 x2 σ → mm_T p l e ({ frames := 1, cells := 0, slots := 0, locals := 40 } : Room) s m args below meth c G (mm_Qv G Q) 5 31 σ [(0, .ref (mm_o G)), (1, .int x1), (2, .int x2)] []) (hK44 : ∀ (x1 : Int32) (x2 : Int32) (x3 : Int32) (σ : MS), K44 x1 x2 x3 σ → mm_T p l e ({ frames := 1, cells := 0, slots := 0, locals := 40 } : Room) s m args below meth c G (mm_Qv G Q) 5 44 σ [(0, .ref (mm_o G)), (1, .int x1), (2, .int x2), (3, .int x3)] []) : ∀ (x1 : Int32) (x2 : Int32) (x3 : Int32) (σ : MS), w3_laysInjuries_44 Q K23 K31 K44 x1 x2 x3 σ → mm_T p l e ({ frames := 1, cells := 0, slots := 0, locals := 40 } : Room) s m args below meth c G (mm_Qv G Q) 5 44 σ [(0, .ref (mm_o G)), (1, .int x1), (2, .int x2), (3, .int x3)] [] := by
  intro x1 x2 x3 σ hw H locs ls hM hS hl
  unfold w3_laysInjuries_44 at hw
  obtain ⟨hx, hb, hml, hown, hts, hr, hlk, hMK, hZ⟩ := id cx
  refine lv_iload_n hx hb dX3_laysInjuries_44 rfl (lv_at hl 3 rfl) ?_
  refine lv_aload_n hx hb dX3_laysInjuries_45 rfl (lv_at hl 0 rfl) ?_
  refine mg_4 cx hM dX3_laysInjuries_46 ?_
  refine lv_bipush (v := (18 : Int32)) hx hb dX3_laysInjuries_49 (by decide) ?_
  refine mm_iald cx hM 4 rfl (j := 18) (by decide) (vp_lit (by decide)) dX3_laysInjuries_51 ?_
  refine lv_icmp_ge (tgt := 153) hx hb dX3_laysInjuries_52 (by decide) (fun hc => ?_) (fun hc => ?_)
  · have hw := mm_ip hc hw
    obtain ⟨v2, hv2⟩ : ∃ v : Int32, v = x2 + (1 : Int32) := ⟨_, rfl⟩
    have hw := hw v2 hv2
    refine lv_iinc (v := v2) (lv' := [(2, .int v2), (0, .ref (mm_o G)), (1, .int x1), (3, .int x3)]) hx hb dX3_laysInjuries_153 hl (k := 2) rfl (by rw [hv2]; rfl) (by decide) rfl (fun ls hl => ?_)
    refine lv_goto (tgt := 31) hx hb dX3_laysInjuries_156 (by decide) ?_
    exact hK31 _ _ _ hw _ _ _ hM hS (lv_sub hl [1, 2, 0] rfl)
  · have hw := mm_in hc hw
    refine lv_aload_n hx hb dX3_laysInjuries_55 rfl (lv_at hl 0 rfl) ?_
    refine lv_iload_n hx hb dX3_laysInjuries_56 rfl (lv_at hl 3 rfl) ?_
    refine lv_bipush (v := (7 : Int32)) hx hb dX3_laysInjuries_57 (by decide) ?_
    refine C3_its cx hM hS hw ⟨Nat.le_of_ble_eq_true rfl, Nat.le_of_ble_eq_true rfl⟩ (Nat.le_of_ble_eq_true rfl) hl.1 ⟨Nat.zero_le _, Nat.zero_le _⟩ dX3_laysInjuries_59 (fun r3 s3 H locs hw hM hS => ?_)
    refine lv_iload_n hx hb dX3_laysInjuries_62 rfl (lv_at hl 2 rfl) ?_
    refine lv_icmp_eq (tgt := 102) hx hb dX3_laysInjuries_63 (by decide) (fun hc => ?_) (fun hc => ?_)
    · have hw := mm_ip hc hw
      exact B3_laysInjuries_102 cx hK23 hK31 hK44 _ _ _ _ hw _ _ _ hM hS (lv_sub hl [0, 1, 2, 3] rfl)
    · have hw := mm_in hc hw
      refine lv_iload_n hx hb dX3_laysInjuries_66 rfl (lv_at hl 2 rfl) ?_
      refine lv_aload_n hx hb dX3_laysInjuries_67 rfl (lv_at hl 0 rfl) ?_
      refine mg_0 cx hM dX3_laysInjuries_68 ?_
      refine lv_iconst (v := (2 : Int32)) hx hb dX3_laysInjuries_71 (by decide) ?_
      refine mm_iald cx hM 0 rfl (j := 2) (by decide) (vp_lit (by decide)) dX3_laysInjuries_72 ?_
      refine lv_icmp_ge (tgt := 106) hx hb dX3_laysInjuries_73 (by decide) (fun hc => ?_) (fun hc => ?_)
      · have hw := mm_ip hc hw
        exact B3_laysInjuries_106 cx hK23 hK31 hK44 _ _ _ _ hw _ _ _ hM hS (lv_sub hl [0, 1, 2, 3] rfl)
      · have hw := mm_in hc hw
        refine lv_iload_n hx hb dX3_laysInjuries_76 rfl (lv_at hl 3 rfl) ?_
        refine lv_aload_n hx hb dX3_laysInjuries_77 rfl (lv_at hl 0 rfl) ?_
        refine mg_0 cx hM dX3_laysInjuries_78 ?_
        refine lv_iconst (v := (2 : Int32)) hx hb dX3_laysInjuries_81 (by decide) ?_
        refine mm_iald cx hM 0 rfl (j := 2) (by decide) (vp_lit (by decide)) dX3_laysInjuries_82 ?_
        refine lv_icmp_ge (tgt := 106) hx hb dX3_laysInjuries_83 (by decide) (fun hc => ?_) (fun hc => ?_)
        · have hw := mm_ip hc hw
          exact B3_laysInjuries_106 cx hK23 hK31 hK44 _ _ _ _ hw _ _ _ hM hS (lv_sub hl [0, 1, 2, 3] rfl)
        · have hw := mm_in hc hw
          refine lv_aload_n hx hb dX3_laysInjuries_86 rfl (lv_at hl 0 rfl) ?_
          refine mg_0 cx hM dX3_laysInjuries_87 ?_
          refine lv_bipush (v := (61 : Int32)) hx hb dX3_laysInjuries_90 (by decide) ?_
          refine lv_iload_n hx hb dX3_laysInjuries_92 rfl (lv_at hl 2 rfl) ?_
          refine lv_iadd hx hb dX3_laysInjuries_93 ?_
          obtain ⟨hi, hw⟩ := hw
          refine mm_iald cx hM 0 rfl rfl hi dX3_laysInjuries_94 ?_
          refine lv_iload_n hx hb dX3_laysInjuries_95 rfl (lv_at hl 3 rfl) ?_
          refine C3_has cx hM hS hw ⟨Nat.le_of_ble_eq_true rfl, Nat.le_of_ble_eq_true rfl⟩ (Nat.le_of_ble_eq_true rfl) hl.1 ⟨Nat.zero_le _, Nat.zero_le _⟩ dX3_laysInjuries_96 (fun r4 s4 H locs hw hM hS => ?_)
          refine lv_if_eq (tgt := 106) hx hb dX3_laysInjuries_99 (by decide) (fun hc => ?_) (fun hc => ?_)
          · have hw := mm_ip hc hw
            exact B3_laysInjuries_106 cx hK23 hK31 hK44 _ _ _ _ hw _ _ _ hM hS (lv_sub hl [0, 1, 2, 3] rfl)
          · have hw := mm_in hc hw
            exact B3_laysInjuries_102 cx hK23 hK31 hK44 _ _ _ _ hw _ _ _ hM hS (lv_sub hl [0, 1, 2, 3] rfl)
theorem L3_laysInjuries_44 {l : Launch} {p : Program} {e : Env} {s : State} {m : MethodId} {args : Array Value} {below : List Frame} {meth : Method} {c : Code} {G : mm_G} {Q : MS → Prop} {K23 : Int32 → MS → Prop} {K31 : Int32 → Int32 → MS → Prop} (cx : mm_X cX3_laysInjuries 5 none G p s m args meth c) (hK23 : ∀ (x1 : Int32) (σ : MS), K23 x1 σ → mm_T p l e ({ frames := 1, cells := 0, slots := 0, locals := 40 } : Room) s m args below meth c G (mm_Qv G Q) 5 23 σ [(0, .ref (mm_o G)), (1, .int x1)] []) (hK31 : ∀ (x1 : Int32) (x2 : Int32) (σ : MS), K31 x1 x2 σ → mm_T p l e ({ frames := 1, cells := 0, slots := 0, locals := 40 } : Room) s m args below meth c G (mm_Qv G Q) 5 31 σ [(0, .ref (mm_o G)), (1, .int x1), (2, .int x2)] []) : ∀ (x1 : Int32) (x2 : Int32) (x3 : Int32) (σ : MS), lp4F (w3_laysInjuries_44 Q K23 K31) x1 x2 x3 σ → mm_T p l e ({ frames := 1, cells := 0, slots := 0, locals := 40 } : Room) s m args below meth c G (mm_Qv G Q) 5 44 σ [(0, .ref (mm_o G)), (1, .int x1), (2, .int x2), (3, .int x3)] [] :=
  lp4F_of (fun K hK => B3_laysInjuries_44 cx hK23 hK31 hK)
def w3_laysInjuries_31 (Q : MS → Prop) (K23 : Int32 → MS → Prop) (K31 : Int32 → Int32 → MS → Prop) (x1 : Int32) (x2 : Int32) (σ : MS) : Prop :=
  if (gA σ 4 18) ≤ x2 then (∀ v5 : Int32, v5 = x1 + (1 : Int32) → K23 v5 σ) else (lp4F (w3_laysInjuries_44 Q K23 K31) x1 x2 (0 : Int32) σ)
set_option maxHeartbeats 4000000 in
theorem B3_laysInjuries_31 {l : Launch} {p : Program} {e : Env} {s : State} {m : MethodId} {args : Array Value} {below : List Frame} {meth : Method} {c : Code} {G : mm_G} {Q : MS → Prop} {K23 : Int32 → MS → Prop} {K31 : Int32 → Int32 → MS → Prop} (cx : mm_X cX3_laysInjuries 5 none G p s m args meth c) (hK23 : ∀ (x1 : Int32) (σ : MS), K23 x1 σ → mm_T p l e ({ frames := 1, cells := 0, slots := 0, locals := 40 } : Room) s m args below meth c G (mm_Qv G Q) 5 23 σ [(0, .ref (mm_o G)), (1, .int x1)] []) (hK31 : ∀ (x1 : Int32) (x2 : Int32) (σ : MS), K31 x1 x2 σ → mm_T p l e ({ frames := 1, cells := 0, slots := 0, locals := 40 } : Room) s m args below meth c G (mm_Qv G Q) 5 31 σ [(0, .ref (mm_o G)), (1, .int x1), (2, .int x2)] []) : ∀ (x1 : Int32) (x2 : Int32) (σ : MS), w3_laysInjuries_31 Q K23 K31 x1 x2 σ → mm_T p l e ({ frames := 1, cells := 0, slots := 0, locals := 40 } : Room) s m args below meth c G (mm_Qv G Q) 5 31 σ [(0, .ref (mm_o G)), (1, .int x1), (2, .int x2)] [] := by
  intro x1 x2 σ hw H locs ls hM hS hl
  unfold w3_laysInjuries_31 at hw
  obtain ⟨hx, hb, hml, hown, hts, hr, hlk, hMK, hZ⟩ := id cx
  refine lv_iload_n hx hb dX3_laysInjuries_31 rfl (lv_at hl 2 rfl) ?_
  refine lv_aload_n hx hb dX3_laysInjuries_32 rfl (lv_at hl 0 rfl) ?_
  refine mg_4 cx hM dX3_laysInjuries_33 ?_
  refine lv_bipush (v := (18 : Int32)) hx hb dX3_laysInjuries_36 (by decide) ?_
  refine mm_iald cx hM 4 rfl (j := 18) (by decide) (vp_lit (by decide)) dX3_laysInjuries_38 ?_
  refine lv_icmp_ge (tgt := 159) hx hb dX3_laysInjuries_39 (by decide) (fun hc => ?_) (fun hc => ?_)
  · have hw := mm_ip hc hw
    obtain ⟨v5, hv5⟩ : ∃ v : Int32, v = x1 + (1 : Int32) := ⟨_, rfl⟩
    have hw := hw v5 hv5
    refine lv_iinc (v := v5) (lv' := [(1, .int v5), (0, .ref (mm_o G)), (2, .int x2)]) hx hb dX3_laysInjuries_159 hl (k := 1) rfl (by rw [hv5]; rfl) (by decide) rfl (fun ls hl => ?_)
    refine lv_goto (tgt := 23) hx hb dX3_laysInjuries_162 (by decide) ?_
    exact hK23 _ _ hw _ _ _ hM hS (lv_sub hl [1, 0] rfl)
  · have hw := mm_in hc hw
    refine lv_iconst (v := (0 : Int32)) hx hb dX3_laysInjuries_42 (by decide) ?_
    refine lv_istore_n (lv' := [(3, .int (0 : Int32)), (0, .ref (mm_o G)), (1, .int x1), (2, .int x2)]) hx hb dX3_laysInjuries_43 rfl hl (by decide) rfl (fun ls hl => ?_)
    exact L3_laysInjuries_44 cx hK23 hK31 _ _ _ _ hw _ _ _ hM hS (lv_sub hl [1, 2, 3, 0] rfl)
theorem L3_laysInjuries_31 {l : Launch} {p : Program} {e : Env} {s : State} {m : MethodId} {args : Array Value} {below : List Frame} {meth : Method} {c : Code} {G : mm_G} {Q : MS → Prop} {K23 : Int32 → MS → Prop} (cx : mm_X cX3_laysInjuries 5 none G p s m args meth c) (hK23 : ∀ (x1 : Int32) (σ : MS), K23 x1 σ → mm_T p l e ({ frames := 1, cells := 0, slots := 0, locals := 40 } : Room) s m args below meth c G (mm_Qv G Q) 5 23 σ [(0, .ref (mm_o G)), (1, .int x1)] []) : ∀ (x1 : Int32) (x2 : Int32) (σ : MS), lp3F (w3_laysInjuries_31 Q K23) x1 x2 σ → mm_T p l e ({ frames := 1, cells := 0, slots := 0, locals := 40 } : Room) s m args below meth c G (mm_Qv G Q) 5 31 σ [(0, .ref (mm_o G)), (1, .int x1), (2, .int x2)] [] :=
  lp3F_of (fun K hK => B3_laysInjuries_31 cx hK23 hK)
def w3_laysInjuries_23 (Q : MS → Prop) (K23 : Int32 → MS → Prop) (x1 : Int32) (σ : MS) : Prop :=
  if (8 : Int32) ≤ x1 then (Q σ) else (lp3F (w3_laysInjuries_31 Q K23) x1 (0 : Int32) σ)
set_option maxHeartbeats 4000000 in
theorem B3_laysInjuries_23 {l : Launch} {p : Program} {e : Env} {s : State} {m : MethodId} {args : Array Value} {below : List Frame} {meth : Method} {c : Code} {G : mm_G} {Q : MS → Prop} {K23 : Int32 → MS → Prop} (cx : mm_X cX3_laysInjuries 5 none G p s m args meth c) (hK23 : ∀ (x1 : Int32) (σ : MS), K23 x1 σ → mm_T p l e ({ frames := 1, cells := 0, slots := 0, locals := 40 } : Room) s m args below meth c G (mm_Qv G Q) 5 23 σ [(0, .ref (mm_o G)), (1, .int x1)] []) : ∀ (x1 : Int32) (σ : MS), w3_laysInjuries_23 Q K23 x1 σ → mm_T p l e ({ frames := 1, cells := 0, slots := 0, locals := 40 } : Room) s m args below meth c G (mm_Qv G Q) 5 23 σ [(0, .ref (mm_o G)), (1, .int x1)] [] := by
  intro x1 σ hw H locs ls hM hS hl
  unfold w3_laysInjuries_23 at hw
  obtain ⟨hx, hb, hml, hown, hts, hr, hlk, hMK, hZ⟩ := id cx
  refine lv_iload_n hx hb dX3_laysInjuries_23 rfl (lv_at hl 1 rfl) ?_
  refine lv_bipush (v := (8 : Int32)) hx hb dX3_laysInjuries_24 (by decide) ?_
  refine lv_icmp_ge (tgt := 165) hx hb dX3_laysInjuries_26 (by decide) (fun hc => ?_) (fun hc => ?_)
  · have hw := mm_ip hc hw
    exact mm_vret cx hM hS hw dX3_laysInjuries_165
  · have hw := mm_in hc hw
    refine lv_iconst (v := (0 : Int32)) hx hb dX3_laysInjuries_29 (by decide) ?_
    refine lv_istore_n (lv' := [(2, .int (0 : Int32)), (0, .ref (mm_o G)), (1, .int x1)]) hx hb dX3_laysInjuries_30 rfl hl (by decide) rfl (fun ls hl => ?_)
    exact L3_laysInjuries_31 cx hK23 _ _ _ hw _ _ _ hM hS (lv_sub hl [1, 2, 0] rfl)
theorem L3_laysInjuries_23 {l : Launch} {p : Program} {e : Env} {s : State} {m : MethodId} {args : Array Value} {below : List Frame} {meth : Method} {c : Code} {G : mm_G} {Q : MS → Prop} (cx : mm_X cX3_laysInjuries 5 none G p s m args meth c) : ∀ (x1 : Int32) (σ : MS), lp2F (w3_laysInjuries_23 Q) x1 σ → mm_T p l e ({ frames := 1, cells := 0, slots := 0, locals := 40 } : Room) s m args below meth c G (mm_Qv G Q) 5 23 σ [(0, .ref (mm_o G)), (1, .int x1)] [] :=
  lp2F_of (fun K hK => B3_laysInjuries_23 cx hK)
def w3_laysInjuries_2 (Q : MS → Prop) (K2 : Int32 → MS → Prop) (x1 : Int32) (σ : MS) : Prop :=
  if (8 : Int32) ≤ x1 then (lp2F (w3_laysInjuries_23 Q) (0 : Int32) σ) else (vp_in x1 8 ∧ (∀ v6 : Int32, v6 = x1 + (1 : Int32) → K2 v6 (sA σ 30 x1.toNatClampNeg x1)))
set_option maxHeartbeats 4000000 in
theorem B3_laysInjuries_2 {l : Launch} {p : Program} {e : Env} {s : State} {m : MethodId} {args : Array Value} {below : List Frame} {meth : Method} {c : Code} {G : mm_G} {Q : MS → Prop} {K2 : Int32 → MS → Prop} (cx : mm_X cX3_laysInjuries 5 none G p s m args meth c) (hK2 : ∀ (x1 : Int32) (σ : MS), K2 x1 σ → mm_T p l e ({ frames := 1, cells := 0, slots := 0, locals := 40 } : Room) s m args below meth c G (mm_Qv G Q) 5 2 σ [(0, .ref (mm_o G)), (1, .int x1)] []) : ∀ (x1 : Int32) (σ : MS), w3_laysInjuries_2 Q K2 x1 σ → mm_T p l e ({ frames := 1, cells := 0, slots := 0, locals := 40 } : Room) s m args below meth c G (mm_Qv G Q) 5 2 σ [(0, .ref (mm_o G)), (1, .int x1)] [] := by
  intro x1 σ hw H locs ls hM hS hl
  unfold w3_laysInjuries_2 at hw
  obtain ⟨hx, hb, hml, hown, hts, hr, hlk, hMK, hZ⟩ := id cx
  refine lv_iload_n hx hb dX3_laysInjuries_2 rfl (lv_at hl 1 rfl) ?_
  refine lv_bipush (v := (8 : Int32)) hx hb dX3_laysInjuries_3 (by decide) ?_
  refine lv_icmp_ge (tgt := 21) hx hb dX3_laysInjuries_5 (by decide) (fun hc => ?_) (fun hc => ?_)
  · have hw := mm_ip hc hw
    refine lv_iconst (v := (0 : Int32)) hx hb dX3_laysInjuries_21 (by decide) ?_
    refine lv_istore_n (lv' := [(1, .int (0 : Int32)), (0, .ref (mm_o G))]) hx hb dX3_laysInjuries_22 rfl hl (by decide) rfl (fun ls hl => ?_)
    exact L3_laysInjuries_23 cx _ _ hw _ _ _ hM hS (lv_sub hl [1, 0] rfl)
  · have hw := mm_in hc hw
    refine lv_aload_n hx hb dX3_laysInjuries_8 rfl (lv_at hl 0 rfl) ?_
    refine mg_30 cx hM dX3_laysInjuries_9 ?_
    refine lv_iload_n hx hb dX3_laysInjuries_12 rfl (lv_at hl 1 rfl) ?_
    refine lv_iload_n hx hb dX3_laysInjuries_13 rfl (lv_at hl 1 rfl) ?_
    obtain ⟨hi, hw⟩ := hw
    refine mm_iast cx hM hS 30 rfl rfl hi dX3_laysInjuries_14 (fun H locs hM hS => ?_)
    obtain ⟨v6, hv6⟩ : ∃ v : Int32, v = x1 + (1 : Int32) := ⟨_, rfl⟩
    have hw := hw v6 hv6
    refine lv_iinc (v := v6) (lv' := [(1, .int v6), (0, .ref (mm_o G))]) hx hb dX3_laysInjuries_15 hl (k := 1) rfl (by rw [hv6]; rfl) (by decide) rfl (fun ls hl => ?_)
    refine lv_goto (tgt := 2) hx hb dX3_laysInjuries_18 (by decide) ?_
    exact hK2 _ _ hw _ _ _ hM hS (lv_sub hl [1, 0] rfl)
theorem L3_laysInjuries_2 {l : Launch} {p : Program} {e : Env} {s : State} {m : MethodId} {args : Array Value} {below : List Frame} {meth : Method} {c : Code} {G : mm_G} {Q : MS → Prop} (cx : mm_X cX3_laysInjuries 5 none G p s m args meth c) : ∀ (x1 : Int32) (σ : MS), lp2F (w3_laysInjuries_2 Q) x1 σ → mm_T p l e ({ frames := 1, cells := 0, slots := 0, locals := 40 } : Room) s m args below meth c G (mm_Qv G Q) 5 2 σ [(0, .ref (mm_o G)), (1, .int x1)] [] :=
  lp2F_of (fun K hK => B3_laysInjuries_2 cx hK)
def w3_laysInjuries (σ : MS) (Q : MS → Prop) : Prop :=
  lp2F (w3_laysInjuries_2 Q) (0 : Int32) σ
set_option maxHeartbeats 4000000 in
theorem M3_laysInjuries (l : Launch) (G : mm_G) (σ : MS) (Q : MS → Prop) (hw : w3_laysInjuries σ Q) : mm_Mv l yX3_laysInjuries (ws_ yX3_laysInjuries cX3_laysInjuries 5 none) ({ frames := 1, cells := 0, slots := 0, locals := 40 } : Room) G [.ref (mm_o G)] σ Q := by
  refine mm_of (by decide) rfl ?_
  intro p e s m args below meth c cx hM ha
  refine mm_entry [.ref (mm_o G)] 5 [(0, .ref (mm_o G))] ha (Nat.le_of_ble_eq_true rfl) rfl (fun ls hl => ?_)
  have hS : va_S (mm_A G) s.heap s.heap [] := va_S.rf
  unfold w3_laysInjuries at hw
  obtain ⟨hx, hb, hml, hown, hts, hr, hlk, hMK, hZ⟩ := id cx
  refine lv_iconst (v := (0 : Int32)) hx hb dX3_laysInjuries_0 (by decide) ?_
  refine lv_istore_n (lv' := [(1, .int (0 : Int32)), (0, .ref (mm_o G))]) hx hb dX3_laysInjuries_1 rfl hl (by decide) rfl (fun ls hl => ?_)
  exact L3_laysInjuries_2 cx _ _ hw _ _ _ hM hS (lv_sub hl [1, 0] rfl)
theorem C3_laysInjuries {l : Launch} {p : Program} {e : Env} {R : Room} {s : State} {m : MethodId} {args : Array Value} {below : List Frame} {meth : Method} {c : Code} {H : Heap} {locs : List Loc} {cells slots : Nat} {Qz : State → Prop} {cc : ByteArray} {nL : Nat} {ret : Option FieldType} {G : mm_G} {pc : Nat} {ls : Array Slot} {rest : List Value} {σ : MS} (cx : mm_X cc nL ret G p s m args meth c) (hM : mm_R G σ H) (hS0 : va_S (mm_A G) s.heap H locs) {Qf : MS → Prop} (hw : w3_laysInjuries σ Qf) (hR : (({ frames := 1, cells := 0, slots := 0, locals := 40 } : Room)).frames + 1 ≤ R.frames ∧ 8 + (5 + 11) + (({ frames := 1, cells := 0, slots := 0, locals := 40 } : Room)).locals ≤ R.locals) (hroom : (rest.map fun v => v.category).sum ≤ 8) (hsize : ls.size = nL) (hf : cells ≤ R.cells ∧ slots ≤ R.slots) (hdg : decode cc pc = .ok (.invokevirtual 383, 3))
    (kk : ∀ (σ1 : MS) (H1 : Heap) (locs1 : List Loc), Qf σ1 → mm_R G σ1 H1 → va_S (mm_A G) s.heap H1 locs1 → W p l e R s m args below meth c H1 locs1 cells slots Qz (F0 m (pc + 3) ls rest)) : W p l e R s m args below meth c H locs cells slots Qz (F0 m pc ls (.ref (mm_o G) :: rest)) := by
  obtain ⟨hx, hb, hml, hown, hts, hr, hlk, hK, hZ⟩ := id cx
  exact mm_Vv cx hM hS0 (As := []) (M3_laysInjuries l G σ Qf hw) (cwV 0 hts (lw_V q2768 q2770 qs122 q172 q2771) rfl rfl rfl (by decide +kernel) hR) rfl hsize rfl hroom hf hdg kk
def w3_needs (x1 : Int32) (σ : MS) (Q : Int32 → MS → Prop) : Prop :=
  w3_its x1 (0 : Int32) σ (fun r1 s1 => vp_in ((26 : Int32) + r1) 640 ∧ (Q (gA s1 0 ((26 : Int32) + r1).toNatClampNeg) s1))
set_option maxHeartbeats 4000000 in
theorem M3_needs (l : Launch) (G : mm_G) (x1 : Int32) (σ : MS) (Q : Int32 → MS → Prop) (hw : w3_needs x1 σ Q) : mm_Mi l yX3_needs (ws_ yX3_needs cX3_needs 2 (some .int)) ({ frames := 1, cells := 0, slots := 0, locals := 40 } : Room) G [.ref (mm_o G), .int x1] σ Q := by
  refine mm_of (by decide) rfl ?_
  intro p e s m args below meth c cx hM ha
  refine mm_entry [.ref (mm_o G), .int x1] 2 [(0, .ref (mm_o G)), (1, .int x1)] ha (Nat.le_of_ble_eq_true rfl) rfl (fun ls hl => ?_)
  have hS : va_S (mm_A G) s.heap s.heap [] := va_S.rf
  unfold w3_needs at hw
  obtain ⟨hx, hb, hml, hown, hts, hr, hlk, hMK, hZ⟩ := id cx
  refine lv_aload_n hx hb dX3_needs_0 rfl (lv_at hl 0 rfl) ?_
  refine mg_0 cx hM dX3_needs_1 ?_
  refine lv_bipush (v := (26 : Int32)) hx hb dX3_needs_4 (by decide) ?_
  refine lv_aload_n hx hb dX3_needs_6 rfl (lv_at hl 0 rfl) ?_
  refine lv_iload_n hx hb dX3_needs_7 rfl (lv_at hl 1 rfl) ?_
  refine lv_iconst (v := (0 : Int32)) hx hb dX3_needs_8 (by decide) ?_
  refine C3_its cx hM hS hw ⟨Nat.le_of_ble_eq_true rfl, Nat.le_of_ble_eq_true rfl⟩ (Nat.le_of_ble_eq_true rfl) hl.1 ⟨Nat.zero_le _, Nat.zero_le _⟩ dX3_needs_9 (fun r1 s1 H locs hw hM hS => ?_)
  refine lv_iadd hx hb dX3_needs_12 ?_
  obtain ⟨hi, hw⟩ := hw
  refine mm_iald cx hM 0 rfl rfl hi dX3_needs_13 ?_
  exact mm_iret cx hM hS hw dX3_needs_14
theorem C3_needs {l : Launch} {p : Program} {e : Env} {R : Room} {s : State} {m : MethodId} {args : Array Value} {below : List Frame} {meth : Method} {c : Code} {H : Heap} {locs : List Loc} {cells slots : Nat} {Qz : State → Prop} {cc : ByteArray} {nL : Nat} {ret : Option FieldType} {G : mm_G} {pc : Nat} {ls : Array Slot} {rest : List Value} {x1 : Int32} {σ : MS} (cx : mm_X cc nL ret G p s m args meth c) (hM : mm_R G σ H) (hS0 : va_S (mm_A G) s.heap H locs) {Qf : Int32 → MS → Prop} (hw : w3_needs x1 σ Qf) (hR : (({ frames := 1, cells := 0, slots := 0, locals := 40 } : Room)).frames + 1 ≤ R.frames ∧ 8 + (2 + 11) + (({ frames := 1, cells := 0, slots := 0, locals := 40 } : Room)).locals ≤ R.locals) (hroom : (rest.map fun v => v.category).sum ≤ 8) (hsize : ls.size = nL) (hf : cells ≤ R.cells ∧ slots ≤ R.slots) (hdg : decode cc pc = .ok (.invokevirtual 353, 3))
    (kk : ∀ (r : Int32) (σ1 : MS) (H1 : Heap) (locs1 : List Loc), Qf r σ1 → mm_R G σ1 H1 → va_S (mm_A G) s.heap H1 locs1 → W p l e R s m args below meth c H1 locs1 cells slots Qz (F0 m (pc + 3) ls (.int r :: rest))) : W p l e R s m args below meth c H locs cells slots Qz (F0 m pc ls (.int x1 :: .ref (mm_o G) :: rest)) := by
  obtain ⟨hx, hb, hml, hown, hts, hr, hlk, hK, hZ⟩ := id cx
  exact mm_Vi cx hM hS0 (As := [.int x1]) (M3_needs l G x1 σ Qf hw) (cwV 1 hts (lw_V q2772 q2774 qs123 q172 q2775) rfl rfl rfl (by decide +kernel) hR) rfl hsize rfl hroom hf hdg kk
def w3_barOf_56 (Q : Int32 → MS → Prop) (K5 : Int32 → Int32 → Int32 → MS → Prop) (x1 : Int32) (x3 : Int32) (x4 : Int32) (σ : MS) : Prop :=
  ∀ v1 : Int32, v1 = x4 + (1 : Int32) → K5 x1 x3 v1 σ
set_option maxHeartbeats 4000000 in
theorem B3_barOf_56 {l : Launch} {p : Program} {e : Env} {s : State} {m : MethodId} {args : Array Value} {below : List Frame} {meth : Method} {c : Code} {G : mm_G} {Q : Int32 → MS → Prop} {K5 : Int32 → Int32 → Int32 → MS → Prop} (cx : mm_X cX3_barOf 5 (some .int) G p s m args meth c) (hK5 : ∀ (x1 : Int32) (x3 : Int32) (x4 : Int32) (σ : MS), K5 x1 x3 x4 σ → mm_T p l e ({ frames := 1, cells := 0, slots := 0, locals := 40 } : Room) s m args below meth c G (mm_Qi G Q) 5 5 σ [(0, .ref (mm_o G)), (1, .int x1), (3, .int x3), (4, .int x4)] []) : ∀ (x1 : Int32) (x3 : Int32) (x4 : Int32) (σ : MS), w3_barOf_56 Q K5 x1 x3 x4 σ → mm_T p l e ({ frames := 1, cells := 0, slots := 0, locals := 40 } : Room) s m args below meth c G (mm_Qi G Q) 5 56 σ [(0, .ref (mm_o G)), (1, .int x1), (3, .int x3), (4, .int x4)] [] := by
  intro x1 x3 x4 σ hw H locs ls hM hS hl
  unfold w3_barOf_56 at hw
  obtain ⟨hx, hb, hml, hown, hts, hr, hlk, hMK, hZ⟩ := id cx
  obtain ⟨v1, hv1⟩ : ∃ v : Int32, v = x4 + (1 : Int32) := ⟨_, rfl⟩
  have hw := hw v1 hv1
  refine lv_iinc (v := v1) (lv' := [(4, .int v1), (0, .ref (mm_o G)), (1, .int x1), (3, .int x3)]) hx hb dX3_barOf_56 hl (k := 3) rfl (by rw [hv1]; rfl) (by decide) rfl (fun ls hl => ?_)
  refine lv_goto (tgt := 5) hx hb dX3_barOf_59 (by decide) ?_
  exact hK5 _ _ _ _ hw _ _ _ hM hS (lv_sub hl [1, 2, 3, 0] rfl)
def w3_barOf_5 (Q : Int32 → MS → Prop) (K5 : Int32 → Int32 → Int32 → MS → Prop) (x1 : Int32) (x3 : Int32) (x4 : Int32) (σ : MS) : Prop :=
  if (gA σ 0 4) ≤ x4 then (Q (-1 : Int32) σ) else (vp_in ((66 : Int32) + x4) 640 ∧ (w3_its x1 (0 : Int32) σ (fun r2 s2 => if (gA σ 0 ((66 : Int32) + x4).toNatClampNeg) = r2 then (if x3 = 0 then (vp_in ((72 : Int32) + x4) 640 ∧ (Q (gA s2 0 ((72 : Int32) + x4).toNatClampNeg) s2)) else (∀ v3 : Int32, v3 = x3 + (-1 : Int32) → w3_barOf_56 Q K5 x1 v3 x4 s2)) else (w3_barOf_56 Q K5 x1 x3 x4 s2))))
set_option maxHeartbeats 4000000 in
theorem B3_barOf_5 {l : Launch} {p : Program} {e : Env} {s : State} {m : MethodId} {args : Array Value} {below : List Frame} {meth : Method} {c : Code} {G : mm_G} {Q : Int32 → MS → Prop} {K5 : Int32 → Int32 → Int32 → MS → Prop} (cx : mm_X cX3_barOf 5 (some .int) G p s m args meth c) (hK5 : ∀ (x1 : Int32) (x3 : Int32) (x4 : Int32) (σ : MS), K5 x1 x3 x4 σ → mm_T p l e ({ frames := 1, cells := 0, slots := 0, locals := 40 } : Room) s m args below meth c G (mm_Qi G Q) 5 5 σ [(0, .ref (mm_o G)), (1, .int x1), (3, .int x3), (4, .int x4)] []) : ∀ (x1 : Int32) (x3 : Int32) (x4 : Int32) (σ : MS), w3_barOf_5 Q K5 x1 x3 x4 σ → mm_T p l e ({ frames := 1, cells := 0, slots := 0, locals := 40 } : Room) s m args below meth c G (mm_Qi G Q) 5 5 σ [(0, .ref (mm_o G)), (1, .int x1), (3, .int x3), (4, .int x4)] [] := by
  intro x1 x3 x4 σ hw H locs ls hM hS hl
  unfold w3_barOf_5 at hw
  obtain ⟨hx, hb, hml, hown, hts, hr, hlk, hMK, hZ⟩ := id cx
  refine lv_iload hx hb dX3_barOf_5 (lv_at hl 3 rfl) ?_
  refine lv_aload_n hx hb dX3_barOf_7 rfl (lv_at hl 0 rfl) ?_
  refine mg_0 cx hM dX3_barOf_8 ?_
  refine lv_iconst (v := (4 : Int32)) hx hb dX3_barOf_11 (by decide) ?_
  refine mm_iald cx hM 0 rfl (j := 4) (by decide) (vp_lit (by decide)) dX3_barOf_12 ?_
  refine lv_icmp_ge (tgt := 62) hx hb dX3_barOf_13 (by decide) (fun hc => ?_) (fun hc => ?_)
  · have hw := mm_ip hc hw
    refine lv_iconst (v := (-1 : Int32)) hx hb dX3_barOf_62 (by decide) ?_
    exact mm_iret cx hM hS hw dX3_barOf_63
  · have hw := mm_in hc hw
    refine lv_aload_n hx hb dX3_barOf_16 rfl (lv_at hl 0 rfl) ?_
    refine mg_0 cx hM dX3_barOf_17 ?_
    refine lv_bipush (v := (66 : Int32)) hx hb dX3_barOf_20 (by decide) ?_
    refine lv_iload hx hb dX3_barOf_22 (lv_at hl 3 rfl) ?_
    refine lv_iadd hx hb dX3_barOf_24 ?_
    obtain ⟨hi, hw⟩ := hw
    refine mm_iald cx hM 0 rfl rfl hi dX3_barOf_25 ?_
    refine lv_aload_n hx hb dX3_barOf_26 rfl (lv_at hl 0 rfl) ?_
    refine lv_iload_n hx hb dX3_barOf_27 rfl (lv_at hl 1 rfl) ?_
    refine lv_iconst (v := (0 : Int32)) hx hb dX3_barOf_28 (by decide) ?_
    refine C3_its cx hM hS hw ⟨Nat.le_of_ble_eq_true rfl, Nat.le_of_ble_eq_true rfl⟩ (Nat.le_of_ble_eq_true rfl) hl.1 ⟨Nat.zero_le _, Nat.zero_le _⟩ dX3_barOf_29 (fun r2 s2 H locs hw hM hS => ?_)
    refine lv_icmp_eq (tgt := 38) hx hb dX3_barOf_32 (by decide) (fun hc => ?_) (fun hc => ?_)
    · have hw := mm_ip hc hw
      refine lv_iload_n hx hb dX3_barOf_38 rfl (lv_at hl 2 rfl) ?_
      refine lv_if_ne (tgt := 53) hx hb dX3_barOf_39 (by decide) (fun hc => ?_) (fun hc => ?_)
      · have hw := mm_in hc hw
        obtain ⟨v3, hv3⟩ : ∃ v : Int32, v = x3 + (-1 : Int32) := ⟨_, rfl⟩
        have hw := hw v3 hv3
        refine lv_iinc (v := v3) (lv' := [(3, .int v3), (0, .ref (mm_o G)), (1, .int x1), (4, .int x4)]) hx hb dX3_barOf_53 hl (k := 2) rfl (by rw [hv3]; rfl) (by decide) rfl (fun ls hl => ?_)
        exact B3_barOf_56 cx hK5 _ _ _ _ hw _ _ _ hM hS (lv_sub hl [1, 2, 0, 3] rfl)
      · have hw := mm_ip hc hw
        refine lv_aload_n hx hb dX3_barOf_42 rfl (lv_at hl 0 rfl) ?_
        refine mg_0 cx hM dX3_barOf_43 ?_
        refine lv_bipush (v := (72 : Int32)) hx hb dX3_barOf_46 (by decide) ?_
        refine lv_iload hx hb dX3_barOf_48 (lv_at hl 3 rfl) ?_
        refine lv_iadd hx hb dX3_barOf_50 ?_
        obtain ⟨hi, hw⟩ := hw
        refine mm_iald cx hM 0 rfl rfl hi dX3_barOf_51 ?_
        exact mm_iret cx hM hS hw dX3_barOf_52
    · have hw := mm_in hc hw
      refine lv_goto (tgt := 56) hx hb dX3_barOf_35 (by decide) ?_
      exact B3_barOf_56 cx hK5 _ _ _ _ hw _ _ _ hM hS (lv_sub hl [0, 1, 2, 3] rfl)
theorem L3_barOf_5 {l : Launch} {p : Program} {e : Env} {s : State} {m : MethodId} {args : Array Value} {below : List Frame} {meth : Method} {c : Code} {G : mm_G} {Q : Int32 → MS → Prop} (cx : mm_X cX3_barOf 5 (some .int) G p s m args meth c) : ∀ (x1 : Int32) (x3 : Int32) (x4 : Int32) (σ : MS), lp4F (w3_barOf_5 Q) x1 x3 x4 σ → mm_T p l e ({ frames := 1, cells := 0, slots := 0, locals := 40 } : Room) s m args below meth c G (mm_Qi G Q) 5 5 σ [(0, .ref (mm_o G)), (1, .int x1), (3, .int x3), (4, .int x4)] [] :=
  lp4F_of (fun K hK => B3_barOf_5 cx hK)
def w3_barOf (x1 : Int32) (x2 : Int32) (σ : MS) (Q : Int32 → MS → Prop) : Prop :=
  lp4F (w3_barOf_5 Q) x1 x2 (0 : Int32) σ
set_option maxHeartbeats 4000000 in
theorem M3_barOf (l : Launch) (G : mm_G) (x1 : Int32) (x2 : Int32) (σ : MS) (Q : Int32 → MS → Prop) (hw : w3_barOf x1 x2 σ Q) : mm_Mi l yX3_barOf (ws_ yX3_barOf cX3_barOf 5 (some .int)) ({ frames := 1, cells := 0, slots := 0, locals := 40 } : Room) G [.ref (mm_o G), .int x1, .int x2] σ Q := by
  refine mm_of (by decide) rfl ?_
  intro p e s m args below meth c cx hM ha
  refine mm_entry [.ref (mm_o G), .int x1, .int x2] 5 [(0, .ref (mm_o G)), (1, .int x1), (2, .int x2)] ha (Nat.le_of_ble_eq_true rfl) rfl (fun ls hl => ?_)
  have hS : va_S (mm_A G) s.heap s.heap [] := va_S.rf
  unfold w3_barOf at hw
  obtain ⟨hx, hb, hml, hown, hts, hr, hlk, hMK, hZ⟩ := id cx
  refine lv_iload_n hx hb dX3_barOf_0 rfl (lv_at hl 2 rfl) ?_
  refine lv_istore_n (lv' := [(3, .int x2), (0, .ref (mm_o G)), (1, .int x1), (2, .int x2)]) hx hb dX3_barOf_1 rfl hl (by decide) rfl (fun ls hl => ?_)
  refine lv_iconst (v := (0 : Int32)) hx hb dX3_barOf_2 (by decide) ?_
  refine lv_istore (lv' := [(4, .int (0 : Int32)), (3, .int x2), (0, .ref (mm_o G)), (1, .int x1), (2, .int x2)]) hx hb dX3_barOf_3 hl (by decide) rfl (fun ls hl => ?_)
  exact L3_barOf_5 cx _ _ _ _ hw _ _ _ hM hS (lv_sub hl [2, 3, 1, 0] rfl)
theorem C3_barOf {l : Launch} {p : Program} {e : Env} {R : Room} {s : State} {m : MethodId} {args : Array Value} {below : List Frame} {meth : Method} {c : Code} {H : Heap} {locs : List Loc} {cells slots : Nat} {Qz : State → Prop} {cc : ByteArray} {nL : Nat} {ret : Option FieldType} {G : mm_G} {pc : Nat} {ls : Array Slot} {rest : List Value} {x1 : Int32} {x2 : Int32} {σ : MS} (cx : mm_X cc nL ret G p s m args meth c) (hM : mm_R G σ H) (hS0 : va_S (mm_A G) s.heap H locs) {Qf : Int32 → MS → Prop} (hw : w3_barOf x1 x2 σ Qf) (hR : (({ frames := 1, cells := 0, slots := 0, locals := 40 } : Room)).frames + 1 ≤ R.frames ∧ 8 + (5 + 11) + (({ frames := 1, cells := 0, slots := 0, locals := 40 } : Room)).locals ≤ R.locals) (hroom : (rest.map fun v => v.category).sum ≤ 8) (hsize : ls.size = nL) (hf : cells ≤ R.cells ∧ slots ≤ R.slots) (hdg : decode cc pc = .ok (.invokevirtual 342, 3))
    (kk : ∀ (r : Int32) (σ1 : MS) (H1 : Heap) (locs1 : List Loc), Qf r σ1 → mm_R G σ1 H1 → va_S (mm_A G) s.heap H1 locs1 → W p l e R s m args below meth c H1 locs1 cells slots Qz (F0 m (pc + 3) ls (.int r :: rest))) : W p l e R s m args below meth c H locs cells slots Qz (F0 m pc ls (.int x2 :: .int x1 :: .ref (mm_o G) :: rest)) := by
  obtain ⟨hx, hb, hml, hown, hts, hr, hlk, hK, hZ⟩ := id cx
  exact mm_Vi cx hM hS0 (As := [.int x1, .int x2]) (M3_barOf l G x1 x2 σ Qf hw) (cwV 2 hts (lw_V q2780 q2782 qs125 q172 q2783) rfl rfl rfl (by decide +kernel) hR) rfl hsize rfl hroom hf hdg kk
def w3_bars_2 (Q : Int32 → MS → Prop) (K2 : Int32 → Int32 → MS → Prop) (x1 : Int32) (x2 : Int32) (σ : MS) : Prop :=
  w3_barOf x1 x2 σ (fun r1 s1 => if r1 = (-1 : Int32) then (Q x2 s1) else (∀ v2 : Int32, v2 = x2 + (1 : Int32) → K2 x1 v2 s1))
set_option maxHeartbeats 4000000 in
theorem B3_bars_2 {l : Launch} {p : Program} {e : Env} {s : State} {m : MethodId} {args : Array Value} {below : List Frame} {meth : Method} {c : Code} {G : mm_G} {Q : Int32 → MS → Prop} {K2 : Int32 → Int32 → MS → Prop} (cx : mm_X cX3_bars 3 (some .int) G p s m args meth c) (hK2 : ∀ (x1 : Int32) (x2 : Int32) (σ : MS), K2 x1 x2 σ → mm_T p l e ({ frames := 2, cells := 0, slots := 0, locals := 80 } : Room) s m args below meth c G (mm_Qi G Q) 3 2 σ [(0, .ref (mm_o G)), (1, .int x1), (2, .int x2)] []) : ∀ (x1 : Int32) (x2 : Int32) (σ : MS), w3_bars_2 Q K2 x1 x2 σ → mm_T p l e ({ frames := 2, cells := 0, slots := 0, locals := 80 } : Room) s m args below meth c G (mm_Qi G Q) 3 2 σ [(0, .ref (mm_o G)), (1, .int x1), (2, .int x2)] [] := by
  intro x1 x2 σ hw H locs ls hM hS hl
  unfold w3_bars_2 at hw
  obtain ⟨hx, hb, hml, hown, hts, hr, hlk, hMK, hZ⟩ := id cx
  refine lv_aload_n hx hb dX3_bars_2 rfl (lv_at hl 0 rfl) ?_
  refine lv_iload_n hx hb dX3_bars_3 rfl (lv_at hl 1 rfl) ?_
  refine lv_iload_n hx hb dX3_bars_4 rfl (lv_at hl 2 rfl) ?_
  refine C3_barOf cx hM hS hw ⟨Nat.le_of_ble_eq_true rfl, Nat.le_of_ble_eq_true rfl⟩ (Nat.le_of_ble_eq_true rfl) hl.1 ⟨Nat.zero_le _, Nat.zero_le _⟩ dX3_bars_5 (fun r1 s1 H locs hw hM hS => ?_)
  refine lv_iconst (v := (-1 : Int32)) hx hb dX3_bars_8 (by decide) ?_
  refine lv_icmp_eq (tgt := 18) hx hb dX3_bars_9 (by decide) (fun hc => ?_) (fun hc => ?_)
  · have hw := mm_ip hc hw
    refine lv_iload_n hx hb dX3_bars_18 rfl (lv_at hl 2 rfl) ?_
    exact mm_iret cx hM hS hw dX3_bars_19
  · have hw := mm_in hc hw
    obtain ⟨v2, hv2⟩ : ∃ v : Int32, v = x2 + (1 : Int32) := ⟨_, rfl⟩
    have hw := hw v2 hv2
    refine lv_iinc (v := v2) (lv' := [(2, .int v2), (0, .ref (mm_o G)), (1, .int x1)]) hx hb dX3_bars_12 hl (k := 2) rfl (by rw [hv2]; rfl) (by decide) rfl (fun ls hl => ?_)
    refine lv_goto (tgt := 2) hx hb dX3_bars_15 (by decide) ?_
    exact hK2 _ _ _ hw _ _ _ hM hS (lv_sub hl [1, 2, 0] rfl)
theorem L3_bars_2 {l : Launch} {p : Program} {e : Env} {s : State} {m : MethodId} {args : Array Value} {below : List Frame} {meth : Method} {c : Code} {G : mm_G} {Q : Int32 → MS → Prop} (cx : mm_X cX3_bars 3 (some .int) G p s m args meth c) : ∀ (x1 : Int32) (x2 : Int32) (σ : MS), lp3F (w3_bars_2 Q) x1 x2 σ → mm_T p l e ({ frames := 2, cells := 0, slots := 0, locals := 80 } : Room) s m args below meth c G (mm_Qi G Q) 3 2 σ [(0, .ref (mm_o G)), (1, .int x1), (2, .int x2)] [] :=
  lp3F_of (fun K hK => B3_bars_2 cx hK)
def w3_bars (x1 : Int32) (σ : MS) (Q : Int32 → MS → Prop) : Prop :=
  lp3F (w3_bars_2 Q) x1 (0 : Int32) σ
set_option maxHeartbeats 4000000 in
theorem M3_bars (l : Launch) (G : mm_G) (x1 : Int32) (σ : MS) (Q : Int32 → MS → Prop) (hw : w3_bars x1 σ Q) : mm_Mi l yX3_bars (ws_ yX3_bars cX3_bars 3 (some .int)) ({ frames := 2, cells := 0, slots := 0, locals := 80 } : Room) G [.ref (mm_o G), .int x1] σ Q := by
  refine mm_of (by decide) rfl ?_
  intro p e s m args below meth c cx hM ha
  refine mm_entry [.ref (mm_o G), .int x1] 3 [(0, .ref (mm_o G)), (1, .int x1)] ha (Nat.le_of_ble_eq_true rfl) rfl (fun ls hl => ?_)
  have hS : va_S (mm_A G) s.heap s.heap [] := va_S.rf
  unfold w3_bars at hw
  obtain ⟨hx, hb, hml, hown, hts, hr, hlk, hMK, hZ⟩ := id cx
  refine lv_iconst (v := (0 : Int32)) hx hb dX3_bars_0 (by decide) ?_
  refine lv_istore_n (lv' := [(2, .int (0 : Int32)), (0, .ref (mm_o G)), (1, .int x1)]) hx hb dX3_bars_1 rfl hl (by decide) rfl (fun ls hl => ?_)
  exact L3_bars_2 cx _ _ _ hw _ _ _ hM hS (lv_sub hl [1, 2, 0] rfl)
theorem C3_bars {l : Launch} {p : Program} {e : Env} {R : Room} {s : State} {m : MethodId} {args : Array Value} {below : List Frame} {meth : Method} {c : Code} {H : Heap} {locs : List Loc} {cells slots : Nat} {Qz : State → Prop} {cc : ByteArray} {nL : Nat} {ret : Option FieldType} {G : mm_G} {pc : Nat} {ls : Array Slot} {rest : List Value} {x1 : Int32} {σ : MS} (cx : mm_X cc nL ret G p s m args meth c) (hM : mm_R G σ H) (hS0 : va_S (mm_A G) s.heap H locs) {Qf : Int32 → MS → Prop} (hw : w3_bars x1 σ Qf) (hR : (({ frames := 2, cells := 0, slots := 0, locals := 80 } : Room)).frames + 1 ≤ R.frames ∧ 8 + (3 + 11) + (({ frames := 2, cells := 0, slots := 0, locals := 80 } : Room)).locals ≤ R.locals) (hroom : (rest.map fun v => v.category).sum ≤ 8) (hsize : ls.size = nL) (hf : cells ≤ R.cells ∧ slots ≤ R.slots) (hdg : decode cc pc = .ok (.invokevirtual 361, 3))
    (kk : ∀ (r : Int32) (σ1 : MS) (H1 : Heap) (locs1 : List Loc), Qf r σ1 → mm_R G σ1 H1 → va_S (mm_A G) s.heap H1 locs1 → W p l e R s m args below meth c H1 locs1 cells slots Qz (F0 m (pc + 3) ls (.int r :: rest))) : W p l e R s m args below meth c H locs cells slots Qz (F0 m pc ls (.int x1 :: .ref (mm_o G) :: rest)) := by
  obtain ⟨hx, hb, hml, hown, hts, hr, hlk, hK, hZ⟩ := id cx
  exact mm_Vi cx hM hS0 (As := [.int x1]) (M3_bars l G x1 σ Qf hw) (cwV 1 hts (lw_V q2776 q2778 qs124 q172 q2779) rfl rfl rfl (by decide +kernel) hR) rfl hsize rfl hroom hf hdg kk
def w3_many_4 (Q : Int32 → MS → Prop) (K4 : Nat → Int32 → Int32 → MS → Prop) (x0 : Nat) (x1 : Int32) (x2 : Int32) (σ : MS) : Prop :=
  if (8 : Int32) ≤ x2 then (Q x1 σ) else (mm_i x0 = true ∧ (vp_in x2 (mm_z x0) ∧ (w3_bits (gA σ x0 x2.toNatClampNeg) σ (fun r1 s1 => ∀ v2 : Int32, v2 = (x1 + r1) → ∀ v3 : Int32, v3 = x2 + (1 : Int32) → K4 x0 v2 v3 s1))))
set_option maxHeartbeats 4000000 in
theorem B3_many_4 {l : Launch} {p : Program} {e : Env} {s : State} {m : MethodId} {args : Array Value} {below : List Frame} {meth : Method} {c : Code} {G : mm_G} {Q : Int32 → MS → Prop} {K4 : Nat → Int32 → Int32 → MS → Prop} (cx : mm_X cX3_many 3 (some .int) G p s m args meth c) (hK4 : ∀ (x0 : Nat) (x1 : Int32) (x2 : Int32) (σ : MS), K4 x0 x1 x2 σ → mm_T p l e ({ frames := 1, cells := 0, slots := 0, locals := 40 } : Room) s m args below meth c G (mm_Qi G Q) 3 4 σ [(0, .ref (mm_a G x0)), (1, .int x1), (2, .int x2)] []) : ∀ (x0 : Nat) (x1 : Int32) (x2 : Int32) (σ : MS), w3_many_4 Q K4 x0 x1 x2 σ → mm_T p l e ({ frames := 1, cells := 0, slots := 0, locals := 40 } : Room) s m args below meth c G (mm_Qi G Q) 3 4 σ [(0, .ref (mm_a G x0)), (1, .int x1), (2, .int x2)] [] := by
  intro x0 x1 x2 σ hw H locs ls hM hS hl
  unfold w3_many_4 at hw
  obtain ⟨hx, hb, hml, hown, hts, hr, hlk, hMK, hZ⟩ := id cx
  refine lv_iload_n hx hb dX3_many_4 rfl (lv_at hl 2 rfl) ?_
  refine lv_bipush (v := (8 : Int32)) hx hb dX3_many_5 (by decide) ?_
  refine lv_icmp_ge (tgt := 25) hx hb dX3_many_7 (by decide) (fun hc => ?_) (fun hc => ?_)
  · have hw := mm_ip hc hw
    refine lv_iload_n hx hb dX3_many_25 rfl (lv_at hl 1 rfl) ?_
    exact mm_iret cx hM hS hw dX3_many_26
  · have hw := mm_in hc hw
    refine lv_iload_n hx hb dX3_many_10 rfl (lv_at hl 1 rfl) ?_
    refine lv_aload_n hx hb dX3_many_11 rfl (lv_at hl 0 rfl) ?_
    refine lv_iload_n hx hb dX3_many_12 rfl (lv_at hl 2 rfl) ?_
    obtain ⟨hk, hw⟩ := hw
    obtain ⟨hi, hw⟩ := hw
    refine mm_iald cx hM x0 hk rfl hi dX3_many_13 ?_
    refine C3_bits cx hM hS hw ⟨Nat.le_of_ble_eq_true rfl, Nat.le_of_ble_eq_true rfl⟩ (Nat.le_of_ble_eq_true rfl) hl.1 ⟨Nat.zero_le _, Nat.zero_le _⟩ dX3_many_14 (fun r1 s1 H locs hw hM hS => ?_)
    refine lv_iadd hx hb dX3_many_17 ?_
    refine lv_topi (fun v2 hv2 => ?_)
    have hw := hw v2 hv2
    refine lv_istore_n (lv' := [(1, .int v2), (0, .ref (mm_a G x0)), (2, .int x2)]) hx hb dX3_many_18 rfl hl (by decide) rfl (fun ls hl => ?_)
    obtain ⟨v3, hv3⟩ : ∃ v : Int32, v = x2 + (1 : Int32) := ⟨_, rfl⟩
    have hw := hw v3 hv3
    refine lv_iinc (v := v3) (lv' := [(2, .int v3), (1, .int v2), (0, .ref (mm_a G x0))]) hx hb dX3_many_19 hl (k := 2) rfl (by rw [hv3]; rfl) (by decide) rfl (fun ls hl => ?_)
    refine lv_goto (tgt := 4) hx hb dX3_many_22 (by decide) ?_
    exact hK4 _ _ _ _ hw _ _ _ hM hS (lv_sub hl [2, 1, 0] rfl)
theorem L3_many_4 {l : Launch} {p : Program} {e : Env} {s : State} {m : MethodId} {args : Array Value} {below : List Frame} {meth : Method} {c : Code} {G : mm_G} {Q : Int32 → MS → Prop} (cx : mm_X cX3_many 3 (some .int) G p s m args meth c) : ∀ (x0 : Nat) (x1 : Int32) (x2 : Int32) (σ : MS), lp4F (w3_many_4 Q) x0 x1 x2 σ → mm_T p l e ({ frames := 1, cells := 0, slots := 0, locals := 40 } : Room) s m args below meth c G (mm_Qi G Q) 3 4 σ [(0, .ref (mm_a G x0)), (1, .int x1), (2, .int x2)] [] :=
  lp4F_of (fun K hK => B3_many_4 cx hK)
def w3_many (x0 : Nat) (σ : MS) (Q : Int32 → MS → Prop) : Prop :=
  lp4F (w3_many_4 Q) x0 (0 : Int32) (0 : Int32) σ
set_option maxHeartbeats 4000000 in
theorem M3_many (l : Launch) (G : mm_G) (x0 : Nat) (σ : MS) (Q : Int32 → MS → Prop) (hw : w3_many x0 σ Q) : mm_Mi l yX3_many (ws_ yX3_many cX3_many 3 (some .int)) ({ frames := 1, cells := 0, slots := 0, locals := 40 } : Room) G [.ref (mm_a G x0)] σ Q := by
  refine mm_of (by decide) rfl ?_
  intro p e s m args below meth c cx hM ha
  refine mm_entry [.ref (mm_a G x0)] 3 [(0, .ref (mm_a G x0))] ha (Nat.le_of_ble_eq_true rfl) rfl (fun ls hl => ?_)
  have hS : va_S (mm_A G) s.heap s.heap [] := va_S.rf
  unfold w3_many at hw
  obtain ⟨hx, hb, hml, hown, hts, hr, hlk, hMK, hZ⟩ := id cx
  refine lv_iconst (v := (0 : Int32)) hx hb dX3_many_0 (by decide) ?_
  refine lv_istore_n (lv' := [(1, .int (0 : Int32)), (0, .ref (mm_a G x0))]) hx hb dX3_many_1 rfl hl (by decide) rfl (fun ls hl => ?_)
  refine lv_iconst (v := (0 : Int32)) hx hb dX3_many_2 (by decide) ?_
  refine lv_istore_n (lv' := [(2, .int (0 : Int32)), (1, .int (0 : Int32)), (0, .ref (mm_a G x0))]) hx hb dX3_many_3 rfl hl (by decide) rfl (fun ls hl => ?_)
  exact L3_many_4 cx _ _ _ _ hw _ _ _ hM hS (lv_sub hl [2, 1, 0] rfl)
theorem C3_many {l : Launch} {p : Program} {e : Env} {R : Room} {s : State} {m : MethodId} {args : Array Value} {below : List Frame} {meth : Method} {c : Code} {H : Heap} {locs : List Loc} {cells slots : Nat} {Qz : State → Prop} {cc : ByteArray} {nL : Nat} {ret : Option FieldType} {G : mm_G} {pc : Nat} {ls : Array Slot} {rest : List Value} {x0 : Nat} {σ : MS} (cx : mm_X cc nL ret G p s m args meth c) (hM : mm_R G σ H) (hS0 : va_S (mm_A G) s.heap H locs) {Qf : Int32 → MS → Prop} (hw : w3_many x0 σ Qf) (hR : (({ frames := 1, cells := 0, slots := 0, locals := 40 } : Room)).frames + 1 ≤ R.frames ∧ 8 + (3 + 11) + (({ frames := 1, cells := 0, slots := 0, locals := 40 } : Room)).locals ≤ R.locals) (hroom : (rest.map fun v => v.category).sum ≤ 8) (hsize : ls.size = nL) (hf : cells ≤ R.cells ∧ slots ≤ R.slots) (hdg : decode cc pc = .ok (.invokestatic 322, 3))
    (kk : ∀ (r : Int32) (σ1 : MS) (H1 : Heap) (locs1 : List Loc), Qf r σ1 → mm_R G σ1 H1 → va_S (mm_A G) s.heap H1 locs1 → W p l e R s m args below meth c H1 locs1 cells slots Qz (F0 m (pc + 3) ls (.int r :: rest))) : W p l e R s m args below meth c H locs cells slots Qz (F0 m pc ls (.ref (mm_a G x0) :: rest)) := by
  obtain ⟨hx, hb, hml, hown, hts, hr, hlk, hK, hZ⟩ := id cx
  exact mm_Si cx hM hS0 (As := [.ref (mm_a G x0)]) (M3_many l G x0 σ Qf hw) (va_cwS 1 hts (lw_S q2792 q2793 q172 q2794) rfl rfl rfl (by decide +kernel) hR) rfl hsize rfl hroom hf hdg kk
def w3_need (x1 : Int32) (x2 : Int32) (σ : MS) (Q : Int32 → MS → Prop) : Prop :=
  w3_its x1 (0 : Int32) σ (fun r1 s1 => vp_in (((31 : Int32) + ((4 : Int32) * r1)) + x2) 640 ∧ (Q (gA s1 0 (((31 : Int32) + ((4 : Int32) * r1)) + x2).toNatClampNeg) s1))
set_option maxHeartbeats 4000000 in
theorem M3_need (l : Launch) (G : mm_G) (x1 : Int32) (x2 : Int32) (σ : MS) (Q : Int32 → MS → Prop) (hw : w3_need x1 x2 σ Q) : mm_Mi l yX3_need (ws_ yX3_need cX3_need 3 (some .int)) ({ frames := 1, cells := 0, slots := 0, locals := 40 } : Room) G [.ref (mm_o G), .int x1, .int x2] σ Q := by
  refine mm_of (by decide) rfl ?_
  intro p e s m args below meth c cx hM ha
  refine mm_entry [.ref (mm_o G), .int x1, .int x2] 3 [(0, .ref (mm_o G)), (1, .int x1), (2, .int x2)] ha (Nat.le_of_ble_eq_true rfl) rfl (fun ls hl => ?_)
  have hS : va_S (mm_A G) s.heap s.heap [] := va_S.rf
  unfold w3_need at hw
  obtain ⟨hx, hb, hml, hown, hts, hr, hlk, hMK, hZ⟩ := id cx
  refine lv_aload_n hx hb dX3_need_0 rfl (lv_at hl 0 rfl) ?_
  refine mg_0 cx hM dX3_need_1 ?_
  refine lv_bipush (v := (31 : Int32)) hx hb dX3_need_4 (by decide) ?_
  refine lv_iconst (v := (4 : Int32)) hx hb dX3_need_6 (by decide) ?_
  refine lv_aload_n hx hb dX3_need_7 rfl (lv_at hl 0 rfl) ?_
  refine lv_iload_n hx hb dX3_need_8 rfl (lv_at hl 1 rfl) ?_
  refine lv_iconst (v := (0 : Int32)) hx hb dX3_need_9 (by decide) ?_
  refine C3_its cx hM hS hw ⟨Nat.le_of_ble_eq_true rfl, Nat.le_of_ble_eq_true rfl⟩ (Nat.le_of_ble_eq_true rfl) hl.1 ⟨Nat.zero_le _, Nat.zero_le _⟩ dX3_need_10 (fun r1 s1 H locs hw hM hS => ?_)
  refine lv_imul hx hb dX3_need_13 ?_
  refine lv_iadd hx hb dX3_need_14 ?_
  refine lv_iload_n hx hb dX3_need_15 rfl (lv_at hl 2 rfl) ?_
  refine lv_iadd hx hb dX3_need_16 ?_
  obtain ⟨hi, hw⟩ := hw
  refine mm_iald cx hM 0 rfl rfl hi dX3_need_17 ?_
  exact mm_iret cx hM hS hw dX3_need_18
theorem C3_need {l : Launch} {p : Program} {e : Env} {R : Room} {s : State} {m : MethodId} {args : Array Value} {below : List Frame} {meth : Method} {c : Code} {H : Heap} {locs : List Loc} {cells slots : Nat} {Qz : State → Prop} {cc : ByteArray} {nL : Nat} {ret : Option FieldType} {G : mm_G} {pc : Nat} {ls : Array Slot} {rest : List Value} {x1 : Int32} {x2 : Int32} {σ : MS} (cx : mm_X cc nL ret G p s m args meth c) (hM : mm_R G σ H) (hS0 : va_S (mm_A G) s.heap H locs) {Qf : Int32 → MS → Prop} (hw : w3_need x1 x2 σ Qf) (hR : (({ frames := 1, cells := 0, slots := 0, locals := 40 } : Room)).frames + 1 ≤ R.frames ∧ 8 + (3 + 11) + (({ frames := 1, cells := 0, slots := 0, locals := 40 } : Room)).locals ≤ R.locals) (hroom : (rest.map fun v => v.category).sum ≤ 8) (hsize : ls.size = nL) (hf : cells ≤ R.cells ∧ slots ≤ R.slots) (hdg : decode cc pc = .ok (.invokevirtual 355, 3))
    (kk : ∀ (r : Int32) (σ1 : MS) (H1 : Heap) (locs1 : List Loc), Qf r σ1 → mm_R G σ1 H1 → va_S (mm_A G) s.heap H1 locs1 → W p l e R s m args below meth c H1 locs1 cells slots Qz (F0 m (pc + 3) ls (.int r :: rest))) : W p l e R s m args below meth c H locs cells slots Qz (F0 m pc ls (.int x2 :: .int x1 :: .ref (mm_o G) :: rest)) := by
  obtain ⟨hx, hb, hml, hown, hts, hr, hlk, hK, hZ⟩ := id cx
  exact mm_Vi cx hM hS0 (As := [.int x1, .int x2]) (M3_need l G x1 x2 σ Qf hw) (cwV 2 hts (lw_V q2795 q2797 qs128 q172 q2798) rfl rfl rfl (by decide +kernel) hR) rfl hsize rfl hroom hf hdg kk
def w3_holdsIn_5 (Q : Int32 → MS → Prop) (K5 : Nat → Int32 → Int32 → Int32 → MS → Prop) (x1 : Nat) (x2 : Int32) (x3 : Int32) (x4 : Int32) (σ : MS) : Prop :=
  if (8 : Int32) ≤ x4 then (Q x3 σ) else (mm_i x1 = true ∧ (vp_in x4 (mm_z x1) ∧ (vp_in (((8 : Int32) * x2) + x4) 256 ∧ (w3_bits ((gA σ x1 x4.toNatClampNeg) &&& (gA σ 25 (((8 : Int32) * x2) + x4).toNatClampNeg)) σ (fun r1 s1 => ∀ v2 : Int32, v2 = (x3 + r1) → ∀ v3 : Int32, v3 = x4 + (1 : Int32) → K5 x1 x2 v2 v3 s1)))))
set_option maxHeartbeats 4000000 in
theorem B3_holdsIn_5 {l : Launch} {p : Program} {e : Env} {s : State} {m : MethodId} {args : Array Value} {below : List Frame} {meth : Method} {c : Code} {G : mm_G} {Q : Int32 → MS → Prop} {K5 : Nat → Int32 → Int32 → Int32 → MS → Prop} (cx : mm_X cX3_holdsIn 5 (some .int) G p s m args meth c) (hK5 : ∀ (x1 : Nat) (x2 : Int32) (x3 : Int32) (x4 : Int32) (σ : MS), K5 x1 x2 x3 x4 σ → mm_T p l e ({ frames := 1, cells := 0, slots := 0, locals := 40 } : Room) s m args below meth c G (mm_Qi G Q) 5 5 σ [(0, .ref (mm_o G)), (1, .ref (mm_a G x1)), (2, .int x2), (3, .int x3), (4, .int x4)] []) : ∀ (x1 : Nat) (x2 : Int32) (x3 : Int32) (x4 : Int32) (σ : MS), w3_holdsIn_5 Q K5 x1 x2 x3 x4 σ → mm_T p l e ({ frames := 1, cells := 0, slots := 0, locals := 40 } : Room) s m args below meth c G (mm_Qi G Q) 5 5 σ [(0, .ref (mm_o G)), (1, .ref (mm_a G x1)), (2, .int x2), (3, .int x3), (4, .int x4)] [] := by
  intro x1 x2 x3 x4 σ hw H locs ls hM hS hl
  unfold w3_holdsIn_5 at hw
  obtain ⟨hx, hb, hml, hown, hts, hr, hlk, hMK, hZ⟩ := id cx
  refine lv_iload hx hb dX3_holdsIn_5 (lv_at hl 4 rfl) ?_
  refine lv_bipush (v := (8 : Int32)) hx hb dX3_holdsIn_7 (by decide) ?_
  refine lv_icmp_ge (tgt := 41) hx hb dX3_holdsIn_9 (by decide) (fun hc => ?_) (fun hc => ?_)
  · have hw := mm_ip hc hw
    refine lv_iload_n hx hb dX3_holdsIn_41 rfl (lv_at hl 3 rfl) ?_
    exact mm_iret cx hM hS hw dX3_holdsIn_42
  · have hw := mm_in hc hw
    refine lv_iload_n hx hb dX3_holdsIn_12 rfl (lv_at hl 3 rfl) ?_
    refine lv_aload_n hx hb dX3_holdsIn_13 rfl (lv_at hl 1 rfl) ?_
    refine lv_iload hx hb dX3_holdsIn_14 (lv_at hl 4 rfl) ?_
    obtain ⟨hk, hw⟩ := hw
    obtain ⟨hi, hw⟩ := hw
    refine mm_iald cx hM x1 hk rfl hi dX3_holdsIn_16 ?_
    refine lv_aload_n hx hb dX3_holdsIn_17 rfl (lv_at hl 0 rfl) ?_
    refine mg_25 cx hM dX3_holdsIn_18 ?_
    refine lv_bipush (v := (8 : Int32)) hx hb dX3_holdsIn_21 (by decide) ?_
    refine lv_iload_n hx hb dX3_holdsIn_23 rfl (lv_at hl 2 rfl) ?_
    refine lv_imul hx hb dX3_holdsIn_24 ?_
    refine lv_iload hx hb dX3_holdsIn_25 (lv_at hl 4 rfl) ?_
    refine lv_iadd hx hb dX3_holdsIn_27 ?_
    obtain ⟨hi, hw⟩ := hw
    refine mm_iald cx hM 25 rfl rfl hi dX3_holdsIn_28 ?_
    refine lv_iand hx hb dX3_holdsIn_29 ?_
    refine C3_bits cx hM hS hw ⟨Nat.le_of_ble_eq_true rfl, Nat.le_of_ble_eq_true rfl⟩ (Nat.le_of_ble_eq_true rfl) hl.1 ⟨Nat.zero_le _, Nat.zero_le _⟩ dX3_holdsIn_30 (fun r1 s1 H locs hw hM hS => ?_)
    refine lv_iadd hx hb dX3_holdsIn_33 ?_
    refine lv_topi (fun v2 hv2 => ?_)
    have hw := hw v2 hv2
    refine lv_istore_n (lv' := [(3, .int v2), (0, .ref (mm_o G)), (1, .ref (mm_a G x1)), (2, .int x2), (4, .int x4)]) hx hb dX3_holdsIn_34 rfl hl (by decide) rfl (fun ls hl => ?_)
    obtain ⟨v3, hv3⟩ : ∃ v : Int32, v = x4 + (1 : Int32) := ⟨_, rfl⟩
    have hw := hw v3 hv3
    refine lv_iinc (v := v3) (lv' := [(4, .int v3), (3, .int v2), (0, .ref (mm_o G)), (1, .ref (mm_a G x1)), (2, .int x2)]) hx hb dX3_holdsIn_35 hl (k := 4) rfl (by rw [hv3]; rfl) (by decide) rfl (fun ls hl => ?_)
    refine lv_goto (tgt := 5) hx hb dX3_holdsIn_38 (by decide) ?_
    exact hK5 _ _ _ _ _ hw _ _ _ hM hS (lv_sub hl [2, 3, 4, 1, 0] rfl)
theorem L3_holdsIn_5 {l : Launch} {p : Program} {e : Env} {s : State} {m : MethodId} {args : Array Value} {below : List Frame} {meth : Method} {c : Code} {G : mm_G} {Q : Int32 → MS → Prop} (cx : mm_X cX3_holdsIn 5 (some .int) G p s m args meth c) : ∀ (x1 : Nat) (x2 : Int32) (x3 : Int32) (x4 : Int32) (σ : MS), lp5F (w3_holdsIn_5 Q) x1 x2 x3 x4 σ → mm_T p l e ({ frames := 1, cells := 0, slots := 0, locals := 40 } : Room) s m args below meth c G (mm_Qi G Q) 5 5 σ [(0, .ref (mm_o G)), (1, .ref (mm_a G x1)), (2, .int x2), (3, .int x3), (4, .int x4)] [] :=
  lp5F_of (fun K hK => B3_holdsIn_5 cx hK)
def w3_holdsIn (x1 : Nat) (x2 : Int32) (σ : MS) (Q : Int32 → MS → Prop) : Prop :=
  lp5F (w3_holdsIn_5 Q) x1 x2 (0 : Int32) (0 : Int32) σ
set_option maxHeartbeats 4000000 in
theorem M3_holdsIn (l : Launch) (G : mm_G) (x1 : Nat) (x2 : Int32) (σ : MS) (Q : Int32 → MS → Prop) (hw : w3_holdsIn x1 x2 σ Q) : mm_Mi l yX3_holdsIn (ws_ yX3_holdsIn cX3_holdsIn 5 (some .int)) ({ frames := 1, cells := 0, slots := 0, locals := 40 } : Room) G [.ref (mm_o G), .ref (mm_a G x1), .int x2] σ Q := by
  refine mm_of (by decide) rfl ?_
  intro p e s m args below meth c cx hM ha
  refine mm_entry [.ref (mm_o G), .ref (mm_a G x1), .int x2] 5 [(0, .ref (mm_o G)), (1, .ref (mm_a G x1)), (2, .int x2)] ha (Nat.le_of_ble_eq_true rfl) rfl (fun ls hl => ?_)
  have hS : va_S (mm_A G) s.heap s.heap [] := va_S.rf
  unfold w3_holdsIn at hw
  obtain ⟨hx, hb, hml, hown, hts, hr, hlk, hMK, hZ⟩ := id cx
  refine lv_iconst (v := (0 : Int32)) hx hb dX3_holdsIn_0 (by decide) ?_
  refine lv_istore_n (lv' := [(3, .int (0 : Int32)), (0, .ref (mm_o G)), (1, .ref (mm_a G x1)), (2, .int x2)]) hx hb dX3_holdsIn_1 rfl hl (by decide) rfl (fun ls hl => ?_)
  refine lv_iconst (v := (0 : Int32)) hx hb dX3_holdsIn_2 (by decide) ?_
  refine lv_istore (lv' := [(4, .int (0 : Int32)), (3, .int (0 : Int32)), (0, .ref (mm_o G)), (1, .ref (mm_a G x1)), (2, .int x2)]) hx hb dX3_holdsIn_3 hl (by decide) rfl (fun ls hl => ?_)
  exact L3_holdsIn_5 cx _ _ _ _ _ hw _ _ _ hM hS (lv_sub hl [2, 3, 4, 1, 0] rfl)
theorem C3_holdsIn {l : Launch} {p : Program} {e : Env} {R : Room} {s : State} {m : MethodId} {args : Array Value} {below : List Frame} {meth : Method} {c : Code} {H : Heap} {locs : List Loc} {cells slots : Nat} {Qz : State → Prop} {cc : ByteArray} {nL : Nat} {ret : Option FieldType} {G : mm_G} {pc : Nat} {ls : Array Slot} {rest : List Value} {x1 : Nat} {x2 : Int32} {σ : MS} (cx : mm_X cc nL ret G p s m args meth c) (hM : mm_R G σ H) (hS0 : va_S (mm_A G) s.heap H locs) {Qf : Int32 → MS → Prop} (hw : w3_holdsIn x1 x2 σ Qf) (hR : (({ frames := 1, cells := 0, slots := 0, locals := 40 } : Room)).frames + 1 ≤ R.frames ∧ 8 + (5 + 11) + (({ frames := 1, cells := 0, slots := 0, locals := 40 } : Room)).locals ≤ R.locals) (hroom : (rest.map fun v => v.category).sum ≤ 8) (hsize : ls.size = nL) (hf : cells ≤ R.cells ∧ slots ≤ R.slots) (hdg : decode cc pc = .ok (.invokevirtual 318, 3))
    (kk : ∀ (r : Int32) (σ1 : MS) (H1 : Heap) (locs1 : List Loc), Qf r σ1 → mm_R G σ1 H1 → va_S (mm_A G) s.heap H1 locs1 → W p l e R s m args below meth c H1 locs1 cells slots Qz (F0 m (pc + 3) ls (.int r :: rest))) : W p l e R s m args below meth c H locs cells slots Qz (F0 m pc ls (.int x2 :: .ref (mm_a G x1) :: .ref (mm_o G) :: rest)) := by
  obtain ⟨hx, hb, hml, hown, hts, hr, hlk, hK, hZ⟩ := id cx
  exact mm_Vi cx hM hS0 (As := [.ref (mm_a G x1), .int x2]) (M3_holdsIn l G x1 x2 σ Qf hw) (cwV 2 hts (lw_V q2803 q2805 qs130 q172 q2806) rfl rfl rfl (by decide +kernel) hR) rfl hsize rfl hroom hf hdg kk
def w3_isSure (x1 : Nat) (x2 : Int32) (σ : MS) (Q : Int32 → MS → Prop) : Prop :=
  w3_holdsIn x1 x2 σ (fun r1 s1 => w3_many x1 s1 (fun r2 s2 => if r1 = r2 then (Q (1 : Int32) s2) else (Q (0 : Int32) s2)))
set_option maxHeartbeats 4000000 in
theorem M3_isSure (l : Launch) (G : mm_G) (x1 : Nat) (x2 : Int32) (σ : MS) (Q : Int32 → MS → Prop) (hw : w3_isSure x1 x2 σ Q) : mm_Mi l yX3_isSure (ws_ yX3_isSure cX3_isSure 3 (some .boolean)) ({ frames := 2, cells := 0, slots := 0, locals := 80 } : Room) G [.ref (mm_o G), .ref (mm_a G x1), .int x2] σ Q := by
  refine mm_of (by decide) rfl ?_
  intro p e s m args below meth c cx hM ha
  refine mm_entry [.ref (mm_o G), .ref (mm_a G x1), .int x2] 3 [(0, .ref (mm_o G)), (1, .ref (mm_a G x1)), (2, .int x2)] ha (Nat.le_of_ble_eq_true rfl) rfl (fun ls hl => ?_)
  have hS : va_S (mm_A G) s.heap s.heap [] := va_S.rf
  unfold w3_isSure at hw
  obtain ⟨hx, hb, hml, hown, hts, hr, hlk, hMK, hZ⟩ := id cx
  refine lv_aload_n hx hb dX3_isSure_0 rfl (lv_at hl 0 rfl) ?_
  refine lv_aload_n hx hb dX3_isSure_1 rfl (lv_at hl 1 rfl) ?_
  refine lv_iload_n hx hb dX3_isSure_2 rfl (lv_at hl 2 rfl) ?_
  refine C3_holdsIn cx hM hS hw ⟨Nat.le_of_ble_eq_true rfl, Nat.le_of_ble_eq_true rfl⟩ (Nat.le_of_ble_eq_true rfl) hl.1 ⟨Nat.zero_le _, Nat.zero_le _⟩ dX3_isSure_3 (fun r1 s1 H locs hw hM hS => ?_)
  refine lv_aload_n hx hb dX3_isSure_6 rfl (lv_at hl 1 rfl) ?_
  refine C3_many cx hM hS hw ⟨Nat.le_of_ble_eq_true rfl, Nat.le_of_ble_eq_true rfl⟩ (Nat.le_of_ble_eq_true rfl) hl.1 ⟨Nat.zero_le _, Nat.zero_le _⟩ dX3_isSure_7 (fun r2 s2 H locs hw hM hS => ?_)
  refine lv_icmp_ne (tgt := 17) hx hb dX3_isSure_10 (by decide) (fun hc => ?_) (fun hc => ?_)
  · have hw := mm_in hc hw
    refine lv_iconst (v := (0 : Int32)) hx hb dX3_isSure_17 (by decide) ?_
    exact mm_zret cx hM hS (Or.inl rfl) hw dX3_isSure_18
  · have hw := mm_ip hc hw
    refine lv_iconst (v := (1 : Int32)) hx hb dX3_isSure_13 (by decide) ?_
    refine lv_goto (tgt := 18) hx hb dX3_isSure_14 (by decide) ?_
    exact mm_zret cx hM hS (Or.inr rfl) hw dX3_isSure_18
theorem C3_isSure {l : Launch} {p : Program} {e : Env} {R : Room} {s : State} {m : MethodId} {args : Array Value} {below : List Frame} {meth : Method} {c : Code} {H : Heap} {locs : List Loc} {cells slots : Nat} {Qz : State → Prop} {cc : ByteArray} {nL : Nat} {ret : Option FieldType} {G : mm_G} {pc : Nat} {ls : Array Slot} {rest : List Value} {x1 : Nat} {x2 : Int32} {σ : MS} (cx : mm_X cc nL ret G p s m args meth c) (hM : mm_R G σ H) (hS0 : va_S (mm_A G) s.heap H locs) {Qf : Int32 → MS → Prop} (hw : w3_isSure x1 x2 σ Qf) (hR : (({ frames := 2, cells := 0, slots := 0, locals := 80 } : Room)).frames + 1 ≤ R.frames ∧ 8 + (3 + 11) + (({ frames := 2, cells := 0, slots := 0, locals := 80 } : Room)).locals ≤ R.locals) (hroom : (rest.map fun v => v.category).sum ≤ 8) (hsize : ls.size = nL) (hf : cells ≤ R.cells ∧ slots ≤ R.slots) (hdg : decode cc pc = .ok (.invokevirtual 358, 3))
    (kk : ∀ (r : Int32) (σ1 : MS) (H1 : Heap) (locs1 : List Loc), Qf r σ1 → mm_R G σ1 H1 → va_S (mm_A G) s.heap H1 locs1 → W p l e R s m args below meth c H1 locs1 cells slots Qz (F0 m (pc + 3) ls (.int r :: rest))) : W p l e R s m args below meth c H locs cells slots Qz (F0 m pc ls (.int x2 :: .ref (mm_a G x1) :: .ref (mm_o G) :: rest)) := by
  obtain ⟨hx, hb, hml, hown, hts, hr, hlk, hK, hZ⟩ := id cx
  exact mm_Vi cx hM hS0 (As := [.ref (mm_a G x1), .int x2]) (M3_isSure l G x1 x2 σ Qf hw) (cwV 2 hts (lw_V q2799 q2801 qs129 q172 q2802) rfl rfl rfl (by decide +kernel) hR) rfl hsize rfl hroom hf hdg kk
