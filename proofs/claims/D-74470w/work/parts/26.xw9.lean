set_option maxRecDepth 100000
-- X8_seenA
def wX8_seenA_71 (F : Nat → Int32 → Int32 → XS → (Int32 → XS → Prop) → Prop) (Q : Int32 → XS → Prop) (K8 : Nat → Int32 → Int32 → Int32 → Int32 → Int32 → XS → Prop) (th : Nat) (x1 : Int32) (x2 : Int32) (x3 : Int32) (x4 : Int32) (x5 : Int32) (σ : XS) : Prop :=
  ∀ v1 : Int32, v1 = x5 + (1 : Int32) → K8 th x1 x2 x3 x4 v1 σ
set_option maxHeartbeats 4000000 in
theorem BX8_seenA_71 {l : Launch} {p : Program} {e : Env} {s : State} {m : MethodId} {args : Array Value} {below : List Frame} {meth : Method} {c : Code} {E : xx_E} {F : Nat → Int32 → Int32 → XS → (Int32 → XS → Prop) → Prop} {Q : Int32 → XS → Prop} {K8 : Nat → Int32 → Int32 → Int32 → Int32 → Int32 → XS → Prop} (d : Nat) (hF : XF_seen l E F d) (cx : xx_X "StruckCounts$Some" cX8_seen 6 (some .int) E p s m args meth c) (hK8 : ∀ (th : Nat) (x1 : Int32) (x2 : Int32) (x3 : Int32) (x4 : Int32) (x5 : Int32) (σ : XS), K8 th x1 x2 x3 x4 x5 σ → x_T p l e ({ frames := (8 + 4 * d), cells := 0, slots := 0, locals := 40 * (8 + 4 * d) } : Room) s m args below meth c E (va_Qi Q (fun σ' t => xW E σ' t) (xA E)) 0 0 6 8 0 0 σ [(0, xv E (some th)), (1, .int x1), (2, .int x2), (3, .int x3), (4, .int x4), (5, .int x5)] []) : ∀ (th : Nat) (x1 : Int32) (x2 : Int32) (x3 : Int32) (x4 : Int32) (x5 : Int32) (σ : XS), wX8_seenA_71 F Q K8 th x1 x2 x3 x4 x5 σ → x_T p l e ({ frames := (8 + 4 * d), cells := 0, slots := 0, locals := 40 * (8 + 4 * d) } : Room) s m args below meth c E (va_Qi Q (fun σ' t => xW E σ' t) (xA E)) 0 0 6 71 0 0 σ [(0, xv E (some th)), (1, .int x1), (2, .int x2), (3, .int x3), (4, .int x4), (5, .int x5)] [] := by
  intro th x1 x2 x3 x4 x5 σ hw H locs ls cells slots hR hS hl hcb hsb
  unfold wX8_seenA_71 at hw
  obtain ⟨hx, hb, hml, hown, hts, hrt, hlk, hMK, hZ⟩ := id cx
  obtain ⟨v1, hv1⟩ : ∃ v : Int32, v = x5 + (1 : Int32) := ⟨_, rfl⟩
  have hw := hw v1 hv1
  refine lv_iinc (v := v1) (lv' := [(5, .int v1), (0, xv E (some th)), (1, .int x1), (2, .int x2), (3, .int x3), (4, .int x4)]) hx hb dX8_seen_71 hl (k := 5) rfl (by rw [hv1]; rfl) (by decide) rfl (fun ls hl => ?_)
  refine lv_goto (tgt := 8) hx hb dX8_seen_74 (by decide) ?_
  exact hK8 _ _ _ _ _ _ _ hw _ _ _ _ _ hR hS (lv_sub hl [1, 2, 3, 4, 5, 0] rfl) hcb hsb
def wX8_seenA_46 (F : Nat → Int32 → Int32 → XS → (Int32 → XS → Prop) → Prop) (Q : Int32 → XS → Prop) (K8 : Nat → Int32 → Int32 → Int32 → Int32 → Int32 → XS → Prop) (th : Nat) (x1 : Int32) (x2 : Int32) (x3 : Int32) (x4 : Int32) (x5 : Int32) (σ : XS) : Prop :=
  kd σ th = 11 ∧ (oc σ (fr σ th 0) 16 (fun a4 => wJ7_get a4 x5 σ (fun r3 s3 => xck [10, 7, 8, 9, 11] s3 r3 ∧ (oe r3 (fun a6 => [10, 7, 8, 9, 11].contains (kd s3 a6) = true ∧ (wX15_mayBeSeen F a6 x1 x2 s3 (fun r5 s5 => if r5 = 0 then (wX8_seenA_71 F Q K8 th x1 x2 x3 x4 x5 s5) else (∀ v7 : Int32, v7 = x4 + (1 : Int32) → wX8_seenA_71 F Q K8 th x1 x2 x3 v7 x5 s5))))))))
set_option maxHeartbeats 4000000 in
theorem BX8_seenA_46 {l : Launch} {p : Program} {e : Env} {s : State} {m : MethodId} {args : Array Value} {below : List Frame} {meth : Method} {c : Code} {E : xx_E} {F : Nat → Int32 → Int32 → XS → (Int32 → XS → Prop) → Prop} {Q : Int32 → XS → Prop} {K8 : Nat → Int32 → Int32 → Int32 → Int32 → Int32 → XS → Prop} (d : Nat) (hF : XF_seen l E F d) (cx : xx_X "StruckCounts$Some" cX8_seen 6 (some .int) E p s m args meth c) (hK8 : ∀ (th : Nat) (x1 : Int32) (x2 : Int32) (x3 : Int32) (x4 : Int32) (x5 : Int32) (σ : XS), K8 th x1 x2 x3 x4 x5 σ → x_T p l e ({ frames := (8 + 4 * d), cells := 0, slots := 0, locals := 40 * (8 + 4 * d) } : Room) s m args below meth c E (va_Qi Q (fun σ' t => xW E σ' t) (xA E)) 0 0 6 8 0 0 σ [(0, xv E (some th)), (1, .int x1), (2, .int x2), (3, .int x3), (4, .int x4), (5, .int x5)] []) : ∀ (th : Nat) (x1 : Int32) (x2 : Int32) (x3 : Int32) (x4 : Int32) (x5 : Int32) (σ : XS), wX8_seenA_46 F Q K8 th x1 x2 x3 x4 x5 σ → x_T p l e ({ frames := (8 + 4 * d), cells := 0, slots := 0, locals := 40 * (8 + 4 * d) } : Room) s m args below meth c E (va_Qi Q (fun σ' t => xW E σ' t) (xA E)) 0 0 6 46 0 0 σ [(0, xv E (some th)), (1, .int x1), (2, .int x2), (3, .int x3), (4, .int x4), (5, .int x5)] [] := by
  intro th x1 x2 x3 x4 x5 σ hw H locs ls cells slots hR hS hl hcb hsb
  unfold wX8_seenA_46 at hw
  obtain ⟨hx, hb, hml, hown, hts, hrt, hlk, hMK, hZ⟩ := id cx
  refine x_aload_n cx dX8_seen_46 rfl (lv_at hl 0 rfl) ?_
  obtain ⟨hk2, hw⟩ := hw
  refine xg_X8_9_11 cx hR rfl hk2 dX8_seen_47 ?_
  refine lv_iload hx hb dX8_seen_50 (lv_at hl 5 rfl) ?_
  obtain ⟨a4, hr4, hk4, hw⟩ := hw
  refine CJ7_get_X8_21 cx hR hS hr4 hk4 hw (by constructor <;> dsimp only <;> omega) (Nat.le_of_ble_eq_true rfl) hl.1 ⟨by dsimp only; omega, by dsimp only; omega⟩ dX8_seen_52 (fun r3 s3 H locs hw hR hS => ?_)
  obtain ⟨hv, hw⟩ := hw
  refine x_cast cx hR q421 (xcc_0 hv) dX8_seen_55 ?_
  refine lv_iload_n hx hb dX8_seen_58 rfl (lv_at hl 1 rfl) ?_
  refine lv_iload_n hx hb dX8_seen_59 rfl (lv_at hl 2 rfl) ?_
  obtain ⟨a6, hr6, hw⟩ := hw
  obtain ⟨hkk, hw⟩ := hw
  refine CE_mayBeSeen_X8_38F d hF hkk cx hR hS hr6 hw (by constructor <;> dsimp only <;> omega) (Nat.le_of_ble_eq_true rfl) hl.1 ⟨by dsimp only; omega, by dsimp only; omega⟩ dX8_seen_60 (fun r5 s5 H locs hw hR hS => ?_)
  refine lv_if_eq (tgt := 71) hx hb dX8_seen_65 (by decide) (fun hc => ?_) (fun hc => ?_)
  · have hw := mm_ip hc hw
    exact BX8_seenA_71 d hF cx hK8 _ _ _ _ _ _ _ hw _ _ _ _ _ hR hS (lv_sub hl [0, 1, 2, 3, 4, 5] rfl) hcb hsb
  · have hw := mm_in hc hw
    obtain ⟨v7, hv7⟩ : ∃ v : Int32, v = x4 + (1 : Int32) := ⟨_, rfl⟩
    have hw := hw v7 hv7
    refine lv_iinc (v := v7) (lv' := [(4, .int v7), (0, xv E (some th)), (1, .int x1), (2, .int x2), (3, .int x3), (5, .int x5)]) hx hb dX8_seen_68 hl (k := 4) rfl (by rw [hv7]; rfl) (by decide) rfl (fun ls hl => ?_)
    exact BX8_seenA_71 d hF cx hK8 _ _ _ _ _ _ _ hw _ _ _ _ _ hR hS (lv_sub hl [1, 2, 3, 4, 0, 5] rfl) hcb hsb
def wX8_seenA_8 (F : Nat → Int32 → Int32 → XS → (Int32 → XS → Prop) → Prop) (Q : Int32 → XS → Prop) (K8 : Nat → Int32 → Int32 → Int32 → Int32 → Int32 → XS → Prop) (th : Nat) (x1 : Int32) (x2 : Int32) (x3 : Int32) (x4 : Int32) (x5 : Int32) (σ : XS) : Prop :=
  kd σ th = 11 ∧ (oc σ (fr σ th 0) 16 (fun a10 => wJ7_size a10 σ (fun r9 s9 => if r9 ≤ x5 then (kd s9 th = 11 ∧ (wX11_due th s9 (fun r11 s11 => if x3 < r11 then (kd s11 th = 11 ∧ (wX11_due th s11 (fun r13 s13 => if r13 ≤ x4 then (Q (2 : Int32) s13) else (Q (0 : Int32) s13)))) else (Q (1 : Int32) s11)))) else (kd s9 th = 11 ∧ (oc s9 (fr s9 th 0) 16 (fun a17 => wJ7_get a17 x5 s9 (fun r16 s16 => xck [10, 7, 8, 9, 11] s16 r16 ∧ (oe r16 (fun a19 => F a19 x1 x2 s16 (fun r18 s18 => if r18 = (1 : Int32) then (∀ v20 : Int32, v20 = x3 + (1 : Int32) → wX8_seenA_46 F Q K8 th x1 x2 v20 x4 x5 s18) else (wX8_seenA_46 F Q K8 th x1 x2 x3 x4 x5 s18)))))))))))
set_option maxHeartbeats 4000000 in
theorem BX8_seenA_8 {l : Launch} {p : Program} {e : Env} {s : State} {m : MethodId} {args : Array Value} {below : List Frame} {meth : Method} {c : Code} {E : xx_E} {F : Nat → Int32 → Int32 → XS → (Int32 → XS → Prop) → Prop} {Q : Int32 → XS → Prop} {K8 : Nat → Int32 → Int32 → Int32 → Int32 → Int32 → XS → Prop} (d : Nat) (hF : XF_seen l E F d) (cx : xx_X "StruckCounts$Some" cX8_seen 6 (some .int) E p s m args meth c) (hK8 : ∀ (th : Nat) (x1 : Int32) (x2 : Int32) (x3 : Int32) (x4 : Int32) (x5 : Int32) (σ : XS), K8 th x1 x2 x3 x4 x5 σ → x_T p l e ({ frames := (8 + 4 * d), cells := 0, slots := 0, locals := 40 * (8 + 4 * d) } : Room) s m args below meth c E (va_Qi Q (fun σ' t => xW E σ' t) (xA E)) 0 0 6 8 0 0 σ [(0, xv E (some th)), (1, .int x1), (2, .int x2), (3, .int x3), (4, .int x4), (5, .int x5)] []) : ∀ (th : Nat) (x1 : Int32) (x2 : Int32) (x3 : Int32) (x4 : Int32) (x5 : Int32) (σ : XS), wX8_seenA_8 F Q K8 th x1 x2 x3 x4 x5 σ → x_T p l e ({ frames := (8 + 4 * d), cells := 0, slots := 0, locals := 40 * (8 + 4 * d) } : Room) s m args below meth c E (va_Qi Q (fun σ' t => xW E σ' t) (xA E)) 0 0 6 8 0 0 σ [(0, xv E (some th)), (1, .int x1), (2, .int x2), (3, .int x3), (4, .int x4), (5, .int x5)] [] := by
  intro th x1 x2 x3 x4 x5 σ hw H locs ls cells slots hR hS hl hcb hsb
  unfold wX8_seenA_8 at hw
  obtain ⟨hx, hb, hml, hown, hts, hrt, hlk, hMK, hZ⟩ := id cx
  refine lv_iload hx hb dX8_seen_8 (lv_at hl 5 rfl) ?_
  refine x_aload_n cx dX8_seen_10 rfl (lv_at hl 0 rfl) ?_
  obtain ⟨hk8, hw⟩ := hw
  refine xg_X8_9_11 cx hR rfl hk8 dX8_seen_11 ?_
  obtain ⟨a10, hr10, hk10, hw⟩ := hw
  refine CJ7_size_X8_15 cx hR hS hr10 hk10 hw (by constructor <;> dsimp only <;> omega) (Nat.le_of_ble_eq_true rfl) hl.1 ⟨by dsimp only; omega, by dsimp only; omega⟩ dX8_seen_14 (fun r9 s9 H locs hw hR hS => ?_)
  refine lv_icmp_ge (tgt := 77) hx hb dX8_seen_17 (by decide) (fun hc => ?_) (fun hc => ?_)
  · have hw := mm_ip hc hw
    refine lv_iload_n hx hb dX8_seen_77 rfl (lv_at hl 3 rfl) ?_
    refine x_aload_n cx dX8_seen_78 rfl (lv_at hl 0 rfl) ?_
    obtain ⟨hk12, hw⟩ := hw
    refine CX11_due_X8_31 cx hR hS rfl hk12 hw (by constructor <;> dsimp only <;> omega) (Nat.le_of_ble_eq_true rfl) hl.1 ⟨by dsimp only; omega, by dsimp only; omega⟩ dX8_seen_79 (fun r11 s11 H locs hw hR hS => ?_)
    refine lv_icmp_lt (tgt := 89) hx hb dX8_seen_82 (by decide) (fun hc => ?_) (fun hc => ?_)
    · have hw := mm_ip hc hw
      refine lv_iload hx hb dX8_seen_89 (lv_at hl 4 rfl) ?_
      refine x_aload_n cx dX8_seen_91 rfl (lv_at hl 0 rfl) ?_
      obtain ⟨hk14, hw⟩ := hw
      refine CX11_due_X8_31 cx hR hS rfl hk14 hw (by constructor <;> dsimp only <;> omega) (Nat.le_of_ble_eq_true rfl) hl.1 ⟨by dsimp only; omega, by dsimp only; omega⟩ dX8_seen_92 (fun r13 s13 H locs hw hR hS => ?_)
      refine lv_icmp_ge (tgt := 102) hx hb dX8_seen_95 (by decide) (fun hc => ?_) (fun hc => ?_)
      · have hw := mm_ip hc hw
        refine lv_iconst (v := (2 : Int32)) hx hb dX8_seen_102 (by decide) ?_
        exact x_iret cx hR hS (xle hcb) (xle hsb) hw dX8_seen_103
      · have hw := mm_in hc hw
        refine lv_iconst (v := (0 : Int32)) hx hb dX8_seen_98 (by decide) ?_
        refine lv_goto (tgt := 103) hx hb dX8_seen_99 (by decide) ?_
        exact x_iret cx hR hS (xle hcb) (xle hsb) hw dX8_seen_103
    · have hw := mm_in hc hw
      refine lv_iconst (v := (1 : Int32)) hx hb dX8_seen_85 (by decide) ?_
      refine lv_goto (tgt := 103) hx hb dX8_seen_86 (by decide) ?_
      exact x_iret cx hR hS (xle hcb) (xle hsb) hw dX8_seen_103
  · have hw := mm_in hc hw
    refine x_aload_n cx dX8_seen_20 rfl (lv_at hl 0 rfl) ?_
    obtain ⟨hk15, hw⟩ := hw
    refine xg_X8_9_11 cx hR rfl hk15 dX8_seen_21 ?_
    refine lv_iload hx hb dX8_seen_24 (lv_at hl 5 rfl) ?_
    obtain ⟨a17, hr17, hk17, hw⟩ := hw
    refine CJ7_get_X8_21 cx hR hS hr17 hk17 hw (by constructor <;> dsimp only <;> omega) (Nat.le_of_ble_eq_true rfl) hl.1 ⟨by dsimp only; omega, by dsimp only; omega⟩ dX8_seen_26 (fun r16 s16 H locs hw hR hS => ?_)
    obtain ⟨hv, hw⟩ := hw
    refine x_cast cx hR q421 (xcc_0 hv) dX8_seen_29 ?_
    refine lv_iload_n hx hb dX8_seen_32 rfl (lv_at hl 1 rfl) ?_
    refine lv_iload_n hx hb dX8_seen_33 rfl (lv_at hl 2 rfl) ?_
    obtain ⟨a19, hr19, hw⟩ := hw
    refine CE_seen_X8_34F d hF cx hR hS hr19 hw (by constructor <;> dsimp only <;> omega) (Nat.le_of_ble_eq_true rfl) hl.1 ⟨by dsimp only; omega, by dsimp only; omega⟩ dX8_seen_34 (fun r18 s18 H locs hw hR hS => ?_)
    refine lv_iconst (v := (1 : Int32)) hx hb dX8_seen_39 (by decide) ?_
    refine lv_icmp_ne (tgt := 46) hx hb dX8_seen_40 (by decide) (fun hc => ?_) (fun hc => ?_)
    · have hw := mm_in hc hw
      exact BX8_seenA_46 d hF cx hK8 _ _ _ _ _ _ _ hw _ _ _ _ _ hR hS (lv_sub hl [0, 1, 2, 3, 4, 5] rfl) hcb hsb
    · have hw := mm_ip hc hw
      obtain ⟨v20, hv20⟩ : ∃ v : Int32, v = x3 + (1 : Int32) := ⟨_, rfl⟩
      have hw := hw v20 hv20
      refine lv_iinc (v := v20) (lv' := [(3, .int v20), (0, xv E (some th)), (1, .int x1), (2, .int x2), (4, .int x4), (5, .int x5)]) hx hb dX8_seen_43 hl (k := 3) rfl (by rw [hv20]; rfl) (by decide) rfl (fun ls hl => ?_)
      exact BX8_seenA_46 d hF cx hK8 _ _ _ _ _ _ _ hw _ _ _ _ _ hR hS (lv_sub hl [1, 2, 3, 0, 4, 5] rfl) hcb hsb
theorem LX8_seenA_8 {l : Launch} {p : Program} {e : Env} {s : State} {m : MethodId} {args : Array Value} {below : List Frame} {meth : Method} {c : Code} {E : xx_E} {F : Nat → Int32 → Int32 → XS → (Int32 → XS → Prop) → Prop} {Q : Int32 → XS → Prop} (d : Nat) (hF : XF_seen l E F d) (cx : xx_X "StruckCounts$Some" cX8_seen 6 (some .int) E p s m args meth c) : ∀ (th : Nat) (x1 : Int32) (x2 : Int32) (x3 : Int32) (x4 : Int32) (x5 : Int32) (σ : XS), lp7F (wX8_seenA_8 F Q) th x1 x2 x3 x4 x5 σ → x_T p l e ({ frames := (8 + 4 * d), cells := 0, slots := 0, locals := 40 * (8 + 4 * d) } : Room) s m args below meth c E (va_Qi Q (fun σ' t => xW E σ' t) (xA E)) 0 0 6 8 0 0 σ [(0, xv E (some th)), (1, .int x1), (2, .int x2), (3, .int x3), (4, .int x4), (5, .int x5)] [] :=
  lp7F_of (fun K hK => BX8_seenA_8 d hF cx hK)
def wX8_seenA (F : Nat → Int32 → Int32 → XS → (Int32 → XS → Prop) → Prop) (th : Nat) (x1 : Int32) (x2 : Int32) (σ : XS) (Q : Int32 → XS → Prop) : Prop :=
  lp7F (wX8_seenA_8 F Q) th x1 x2 (0 : Int32) (0 : Int32) (0 : Int32) σ
set_option maxHeartbeats 4000000 in
theorem MX8_seenA (l : Launch) (E : xx_E) {F : Nat → Int32 → Int32 → XS → (Int32 → XS → Prop) → Prop} (d : Nat) (hF : XF_seen l E F d) (th : Nat) (x1 : Int32) (x2 : Int32) (σ : XS) (Q : Int32 → XS → Prop) (hw : wX8_seenA F th x1 x2 σ Q) : xx_Mi l yX8_seen (ws_ yX8_seen cX8_seen 6 (some .int)) ({ frames := (8 + 4 * d), cells := 0, slots := 0, locals := 40 * (8 + 4 * d) } : Room) E [xv E (some th), .int x1, .int x2] σ Q 0 0 := by
  refine x_of (own := "StruckCounts$Some") (by decide +kernel) rfl ?_
  intro p e s m args below meth c cx hR ha hnm
  refine x_entry [xv E (some th), .int x1, .int x2] 6 [(0, xv E (some th)), (1, .int x1), (2, .int x2)] ha (by simp [lg_sl, xv_cat, vc_i, vc_j, vc_f]) (by simp [lv_args, xv_cat, vc_i, vc_j, vc_f]) (fun ls hl => ?_)
  have hS : va_S (xA E) s.heap s.heap [] := va_S.rf
  have hcb : 0 + 0 ≤ 0 := Nat.le_of_eq (Nat.zero_add _)
  have hsb : 0 + 0 ≤ 0 := Nat.le_of_eq (Nat.zero_add _)
  unfold wX8_seenA at hw
  obtain ⟨hx, hb, hml, hown, hts, hrt, hlk, hMK, hZ⟩ := id cx
  refine lv_iconst (v := (0 : Int32)) hx hb dX8_seen_0 (by decide) ?_
  refine lv_istore_n (i := 3) (lv' := [(3, .int (0 : Int32)), (0, xv E (some th)), (1, .int x1), (2, .int x2)]) hx hb dX8_seen_1 rfl hl (by decide) rfl (fun ls hl => ?_)
  refine lv_iconst (v := (0 : Int32)) hx hb dX8_seen_2 (by decide) ?_
  refine lv_istore (i := 4) (lv' := [(4, .int (0 : Int32)), (3, .int (0 : Int32)), (0, xv E (some th)), (1, .int x1), (2, .int x2)]) hx hb dX8_seen_3 hl (by decide) rfl (fun ls hl => ?_)
  refine lv_iconst (v := (0 : Int32)) hx hb dX8_seen_5 (by decide) ?_
  refine lv_istore (i := 5) (lv' := [(5, .int (0 : Int32)), (4, .int (0 : Int32)), (3, .int (0 : Int32)), (0, xv E (some th)), (1, .int x1), (2, .int x2)]) hx hb dX8_seen_6 hl (by decide) rfl (fun ls hl => ?_)
  exact LX8_seenA_8 d hF cx _ _ _ _ _ _ _ hw _ _ _ _ _ hR hS (lv_sub hl [3, 4, 5, 2, 1, 0] rfl) hcb hsb
-- E_seen
def wE_seen (d : Nat) : Nat → Int32 → Int32 → XS → (Int32 → XS → Prop) → Prop := Nat.rec (motive := fun _ => Nat → Int32 → Int32 → XS → (Int32 → XS → Prop) → Prop) (fun _ _ _ _ _ => False) (fun _ F a x y σ Q => if kd σ a = 10 then wX10_seen a x y σ Q else if kd σ a = 7 then wX7_seen F a x y σ Q else if kd σ a = 8 then wX8_seenS F a x y σ Q else if kd σ a = 9 then wX8_seenM F a x y σ Q else if kd σ a = 11 then wX8_seenA F a x y σ Q else False) d
theorem ME_seen (l : Launch) (E : xx_E) : ∀ d : Nat, XF_seen l E (wE_seen d) d := by
  intro d
  induction d with
  | zero => exact fun _ _ _ _ _ h => h.elim
  | succ d ih =>
    intro a x y σ Q h
    by_cases hk : kd σ a = 10
    · exact Or.inl ⟨hk, _, by dsimp only; omega, by dsimp only; omega, rfl, rfl, MX10_seen l E a x y σ Q (mm_ip hk h)⟩
    replace h := mm_in hk h
    by_cases hk : kd σ a = 7
    · exact Or.inr (Or.inl ⟨hk, _, by dsimp only; omega, by dsimp only; omega, rfl, rfl, MX7_seen l E d ih a x y σ Q (mm_ip hk h)⟩)
    replace h := mm_in hk h
    by_cases hk : kd σ a = 8
    · exact Or.inr (Or.inr ⟨Or.inl hk, _, by dsimp only; omega, by dsimp only; omega, rfl, rfl, MX8_seenS l E d ih a x y σ Q (mm_ip hk h)⟩)
    replace h := mm_in hk h
    by_cases hk : kd σ a = 9
    · exact Or.inr (Or.inr ⟨Or.inr (Or.inl hk), _, by dsimp only; omega, by dsimp only; omega, rfl, rfl, MX8_seenM l E d ih a x y σ Q (mm_ip hk h)⟩)
    replace h := mm_in hk h
    by_cases hk : kd σ a = 11
    · exact Or.inr (Or.inr ⟨Or.inr (Or.inr hk), _, by dsimp only; omega, by dsimp only; omega, rfl, rfl, MX8_seenA l E d ih a x y σ Q (mm_ip hk h)⟩)
    replace h := mm_in hk h
    exact h.elim
-- X0_looks
theorem xg_X0_299_13 {l : Launch} {p : Program} {e : Env} {R : Room} {s : State} {m : MethodId} {args : Array Value} {below : List Frame} {meth : Method} {c : Code} {H : Heap} {locs : List Loc} {cells slots : Nat} {Qz : State → Prop} {cc : ByteArray} {nL : Nat} {ret : Option FieldType} {E : xx_E} {σ : XS} {pc : Nat} {ls : Array Slot} {rest : List Value} (cx : xx_X "StruckCounts" cc nL ret E p s m args meth c) (hR : xR E σ H) {a : Nat} {r : Option Nat} (hr : r = some a) (hk : kd σ a = 13) (hdg : decode cc pc = .ok (.getfield 299, 3)) (kk : W p l e R s m args below meth c H locs cells slots Qz (F0 m (pc + 3) ls (xv E (fr σ a 0) :: rest))) : W p l e R s m args below meth c H locs cells slots Qz (F0 m pc ls (xv E r :: rest)) :=
  x_getN (ci := 12) cx hR hr hk (by decide) rfl in_X13 0 (by decide) (xx_nf_mem (i := 25) rfl) (fun _ h => h) (v := xv E (fr σ a 0)) rfl hdg kk
theorem CE_seen_X0_303F {l : Launch} {p : Program} {e : Env} {R : Room} {s : State} {m : MethodId} {args : Array Value} {below : List Frame} {meth : Method} {c : Code} {H : Heap} {locs : List Loc} {cells slots : Nat} {Qz : State → Prop} {cc : ByteArray} {nL : Nat} {ret : Option FieldType} {E : xx_E} {σ : XS} {pc : Nat} {ls : Array Slot} {rest : List Value} {F : Nat → Int32 → Int32 → XS → (Int32 → XS → Prop) → Prop} (d : Nat) (hF : XF_seen l E F d) {th : Nat} {x1 : Int32} {x2 : Int32} (cx : xx_X "StruckCounts" cc nL ret E p s m args meth c) (hR0 : xR E σ H) (hS0 : va_S (xA E) s.heap H locs) {r0 : Option Nat} (hr : r0 = some th) {Qf : Int32 → XS → Prop} (hw : F th x1 x2 σ Qf) (hR : (6 + 4 * d) + 1 ≤ R.frames ∧ 40 * ((6 + 4 * d) + 1) ≤ R.locals) (hrest : rest.length ≤ 4) (hsize : ls.size = nL) (hf : cells + 0 ≤ R.cells ∧ slots + 0 ≤ R.slots) (hdg : decode cc pc = .ok (.invokeinterface 303 3, 5))
    (kk : ∀ (r : Int32) (σ1 : XS) (H1 : Heap) (locs1 : List Loc), Qf r σ1 → xR E σ1 H1 → va_S (xA E) s.heap H1 locs1 → W p l e R s m args below meth c H1 locs1 (cells + 0) (slots + 0) Qz (F0 m (pc + 5) ls (.int r :: rest))) : W p l e R s m args below meth c H locs cells slots Qz (F0 m pc ls (.int x2 :: .int x1 :: xv E r0 :: rest)) := by
  subst hr
  obtain ⟨hx, hb, hml, hown, hts, hrt, hlk, hK, hZ⟩ := id cx
  rcases hF _ _ _ _ _ hw with ⟨hk, rm, h1, h2, hrc, hrs, met⟩ | ⟨hk, rm, h1, h2, hrc, hrs, met⟩ | ⟨hk, rm, h1, h2, hrc, hrs, met⟩
  · exact va_callFi (va_runF (C := "StruckCounts$Fact") (As := [.int x1, .int x2]) (rest := rest) ((x_K cx).1.1 9 _ rfl).2 (x_fix cx) met (va_cwF (C := "StruckCounts$Fact") (x := ⟨"StruckCounts$Expr", "seen", "(II)I"⟩) 2 hts (lw_app (xin4 q1999 q2009 q2011 q197) (lw_meth q2013)) rfl hrc hrs (hK.2.2.2.2.2.1 ("StruckCounts$Fact", ⟨"StruckCounts$Expr", "seen", "(II)I"⟩, ⟨"StruckCounts$Fact", "seen", "(II)I"⟩) (List.mem_of_getElem? (i := 1) rfl)) (by decide +kernel) ⟨by omega, by omega⟩) (x_preV cx hR0 hS0 hk (by decide) (q := (RX10, TX10, 1)) rfl rfl [.int x1, .int x2]) rfl rfl hsize rfl (lv_room (xroom hrest)) hdg hf) hS0 (fun q _ h => h) (fun q h => h) (fun r u t H1 locs1 ht hvm hw hB hz1 hk1 hS => kk r u H1 locs1 hw (x_after ht hB) hS)
  · exact va_callFi (va_runF (C := "StruckCounts$Not") (As := [.int x1, .int x2]) (rest := rest) ((x_K cx).1.1 6 _ rfl).2 (x_fix cx) met (va_cwF (C := "StruckCounts$Not") (x := ⟨"StruckCounts$Expr", "seen", "(II)I"⟩) 2 hts (lw_app (xin4 q1999 q2014 q2016 q194) (lw_meth q2018)) rfl hrc hrs (hK.2.2.2.2.2.1 ("StruckCounts$Not", ⟨"StruckCounts$Expr", "seen", "(II)I"⟩, ⟨"StruckCounts$Not", "seen", "(II)I"⟩) (List.mem_of_getElem? (i := 5) rfl)) (by decide +kernel) ⟨by omega, by omega⟩) (x_preV cx hR0 hS0 hk (by decide) (q := (RX7, TX7, 1)) rfl rfl [.int x1, .int x2]) rfl rfl hsize rfl (lv_room (xroom hrest)) hdg hf) hS0 (fun q _ h => h) (fun q h => h) (fun r u t H1 locs1 ht hvm hw hB hz1 hk1 hS => kk r u H1 locs1 hw (x_after ht hB) hS)
  · rcases hk with hk | hk | hk
    · exact va_callFi (va_runF (C := "StruckCounts$Some") (As := [.int x1, .int x2]) (rest := rest) ((x_K cx).1.1 7 _ rfl).2 (x_fix cx) met (va_cwF (C := "StruckCounts$Some") (x := ⟨"StruckCounts$Expr", "seen", "(II)I"⟩) 2 hts (lw_app (xin4 q1999 q2023 q2004 q195) (lw_meth q2006)) rfl hrc hrs (hK.2.2.2.2.2.1 ("StruckCounts$Some", ⟨"StruckCounts$Expr", "seen", "(II)I"⟩, ⟨"StruckCounts$Some", "seen", "(II)I"⟩) (List.mem_of_getElem? (i := 7) rfl)) (by decide +kernel) ⟨by omega, by omega⟩) (x_preV cx hR0 hS0 hk (by decide) (q := (RX8, TX8, 1)) rfl rfl [.int x1, .int x2]) rfl rfl hsize rfl (lv_room (xroom hrest)) hdg hf) hS0 (fun q _ h => h) (fun q h => h) (fun r u t H1 locs1 ht hvm hw hB hz1 hk1 hS => kk r u H1 locs1 hw (x_after ht hB) hS)
    · exact va_callFi (va_runF (C := "StruckCounts$SoMany") (As := [.int x1, .int x2]) (rest := rest) ((x_K cx).1.1 8 _ rfl).2 (x_fix cx) met (va_cwF (C := "StruckCounts$SoMany") (x := ⟨"StruckCounts$Expr", "seen", "(II)I"⟩) 2 hts (lw_app (xin4 q1999 q2021 q2004 q195) (lw_meth q2006)) rfl hrc hrs (hK.2.2.2.2.2.1 ("StruckCounts$SoMany", ⟨"StruckCounts$Expr", "seen", "(II)I"⟩, ⟨"StruckCounts$Some", "seen", "(II)I"⟩) (List.mem_of_getElem? (i := 9) rfl)) (by decide +kernel) ⟨by omega, by omega⟩) (x_preV cx hR0 hS0 hk (by decide) (q := (RX9, TX9, 2)) rfl rfl [.int x1, .int x2]) rfl rfl hsize rfl (lv_room (xroom hrest)) hdg hf) hS0 (fun q _ h => h) (fun q h => h) (fun r u t H1 locs1 ht hvm hw hB hz1 hk1 hS => kk r u H1 locs1 hw (x_after ht hB) hS)
    · exact va_callFi (va_runF (C := "StruckCounts$All") (As := [.int x1, .int x2]) (rest := rest) ((x_K cx).1.1 10 _ rfl).2 (x_fix cx) met (va_cwF (C := "StruckCounts$All") (x := ⟨"StruckCounts$Expr", "seen", "(II)I"⟩) 2 hts (lw_app (xin4 q1999 q2002 q2004 q195) (lw_meth q2006)) rfl hrc hrs (hK.2.2.2.2.2.1 ("StruckCounts$All", ⟨"StruckCounts$Expr", "seen", "(II)I"⟩, ⟨"StruckCounts$Some", "seen", "(II)I"⟩) (List.mem_of_getElem? (i := 3) rfl)) (by decide +kernel) ⟨by omega, by omega⟩) (x_preV cx hR0 hS0 hk (by decide) (q := (RX11, TX11, 1)) rfl rfl [.int x1, .int x2]) rfl rfl hsize rfl (lv_room (xroom hrest)) hdg hf) hS0 (fun q _ h => h) (fun q h => h) (fun r u t H1 locs1 ht hvm hw hB hz1 hk1 hS => kk r u H1 locs1 hw (x_after ht hB) hS)
theorem CE_seen_X0_303 {l : Launch} {p : Program} {e : Env} {R : Room} {s : State} {m : MethodId} {args : Array Value} {below : List Frame} {meth : Method} {c : Code} {H : Heap} {locs : List Loc} {cells slots : Nat} {Qz : State → Prop} {cc : ByteArray} {nL : Nat} {ret : Option FieldType} {E : xx_E} {σ : XS} {pc : Nat} {ls : Array Slot} {rest : List Value} (d : Nat) {th : Nat} {x1 : Int32} {x2 : Int32} (cx : xx_X "StruckCounts" cc nL ret E p s m args meth c) (hR0 : xR E σ H) (hS0 : va_S (xA E) s.heap H locs) {r0 : Option Nat} (hr : r0 = some th) {Qf : Int32 → XS → Prop} (hw : wE_seen d th x1 x2 σ Qf) (hR : (6 + 4 * d) + 1 ≤ R.frames ∧ 40 * ((6 + 4 * d) + 1) ≤ R.locals) (hrest : rest.length ≤ 4) (hsize : ls.size = nL) (hf : cells + 0 ≤ R.cells ∧ slots + 0 ≤ R.slots) (hdg : decode cc pc = .ok (.invokeinterface 303 3, 5))
    (kk : ∀ (r : Int32) (σ1 : XS) (H1 : Heap) (locs1 : List Loc), Qf r σ1 → xR E σ1 H1 → va_S (xA E) s.heap H1 locs1 → W p l e R s m args below meth c H1 locs1 (cells + 0) (slots + 0) Qz (F0 m (pc + 5) ls (.int r :: rest))) : W p l e R s m args below meth c H locs cells slots Qz (F0 m pc ls (.int x2 :: .int x1 :: xv E r0 :: rest)) :=
  CE_seen_X0_303F d (ME_seen l E d) cx hR0 hS0 hr hw hR hrest hsize hf hdg kk
def wX0_looks (d : Nat) (th : Nat) (x1 : Option Nat) (x2 : Int32) (x3 : Int32) (x4 : Int32) (σ : XS) (Q : Int32 → XS → Prop) : Prop :=
  oc σ x1 16 (fun a2 => wJ7_size a2 σ (fun r1 s1 => wX0_in x3 (0 : Int32) (r1 - (1 : Int32)) s1 (fun r3 s3 => if r3 = 0 then (Q (-1 : Int32) s3) else (wX0_in x4 (0 : Int32) (2 : Int32) s3 (fun r4 s4 => if r4 = 0 then (Q (-1 : Int32) s4) else (oc s4 x1 16 (fun a6 => wJ7_get a6 x3 s4 (fun r5 s5 => xck [13] s5 r5 ∧ (if x4 = 0 then (oc s5 r5 13 (fun a17 => kd s5 th = 1 ∧ (oc s5 (fr s5 th 6) 3 (fun a19 => oc s5 (fr s5 a19 5) 100 (fun a20 => vp_in x2 (ln s5 a20) ∧ (oc s5 (fr s5 a19 6) 100 (fun a21 => vp_in x2 (ln s5 a21) ∧ (oe (fr s5 a17 0) (fun a23 => wE_seen d a23 (ai s5 a20 x2.toNatClampNeg) (ai s5 a21 x2.toNatClampNeg) s5 (fun r22 s22 => Q r22 s22)))))))))) else (if x4 = (1 : Int32) then (oc s5 r5 13 (fun a11 => kd s5 th = 1 ∧ (oc s5 (fr s5 th 6) 3 (fun a13 => oc s5 (fr s5 a13 5) 100 (fun a14 => vp_in x2 (ln s5 a14) ∧ (oc s5 (fr s5 a13 6) 100 (fun a15 => vp_in x2 (ln s5 a15) ∧ (wX0_holdsIn th (fr s5 a11 1) (ai s5 a14 x2.toNatClampNeg) (ai s5 a15 x2.toNatClampNeg) s5 (fun r16 s16 => if r16 = (1 : Int32) then (Q (1 : Int32) s16) else (Q (0 : Int32) s16)))))))))) else (oc s5 r5 13 (fun a7 => kd s5 th = 1 ∧ (oc s5 (fr s5 th 6) 3 (fun a9 => wX0_holdsIn th (fr s5 a7 1) (fi s5 a9 7) (fi s5 a9 8) s5 (fun r10 s10 => Q r10 s10)))))))))))))))
set_option maxHeartbeats 4000000 in
theorem MX0_looks (l : Launch) (E : xx_E) (d : Nat) (th : Nat) (x1 : Option Nat) (x2 : Int32) (x3 : Int32) (x4 : Int32) (σ : XS) (Q : Int32 → XS → Prop) (hw : wX0_looks d th x1 x2 x3 x4 σ Q) : xx_Mi l yX0_looks (ws_ yX0_looks cX0_looks 6 (some .int)) ({ frames := (7 + 4 * d), cells := 0, slots := 0, locals := 40 * (7 + 4 * d) } : Room) E [xv E (some th), xv E x1, .int x2, .int x3, .int x4] σ Q 0 0 := by
  refine x_of (own := "StruckCounts") (by decide +kernel) rfl ?_
  intro p e s m args below meth c cx hR ha hnm
  refine x_entry [xv E (some th), xv E x1, .int x2, .int x3, .int x4] 6 [(0, xv E (some th)), (1, xv E x1), (2, .int x2), (3, .int x3), (4, .int x4)] ha (by simp [lg_sl, xv_cat, vc_i, vc_j, vc_f]) (by simp [lv_args, xv_cat, vc_i, vc_j, vc_f]) (fun ls hl => ?_)
  have hS : va_S (xA E) s.heap s.heap [] := va_S.rf
  have hcb : 0 + 0 ≤ 0 := Nat.le_of_eq (Nat.zero_add _)
  have hsb : 0 + 0 ≤ 0 := Nat.le_of_eq (Nat.zero_add _)
  unfold wX0_looks at hw
  obtain ⟨hx, hb, hml, hown, hts, hrt, hlk, hMK, hZ⟩ := id cx
  refine lv_iload_n hx hb dX0_looks_0 rfl (lv_at hl 3 rfl) ?_
  refine lv_iconst (v := (0 : Int32)) hx hb dX0_looks_1 (by decide) ?_
  refine x_aload_n cx dX0_looks_2 rfl (lv_at hl 1 rfl) ?_
  obtain ⟨a2, hr2, hk2, hw⟩ := hw
  refine CJ7_size_X0_159 cx hR hS hr2 hk2 hw (by constructor <;> dsimp only <;> omega) (Nat.le_of_ble_eq_true rfl) hl.1 ⟨by dsimp only; omega, by dsimp only; omega⟩ dX0_looks_3 (fun r1 s1 H locs hw hR hS => ?_)
  refine lv_iconst (v := (1 : Int32)) hx hb dX0_looks_6 (by decide) ?_
  refine lv_isub hx hb dX0_looks_7 ?_
  refine CX0_in_X0_96 cx hR hS  hw (by constructor <;> dsimp only <;> omega) (Nat.le_of_ble_eq_true rfl) hl.1 ⟨by dsimp only; omega, by dsimp only; omega⟩ dX0_looks_8 (fun r3 s3 H locs hw hR hS => ?_)
  refine lv_if_eq (tgt := 24) hx hb dX0_looks_11 (by decide) (fun hc => ?_) (fun hc => ?_)
  · have hw := mm_ip hc hw
    refine lv_iconst (v := (-1 : Int32)) hx hb dX0_looks_24 (by decide) ?_
    exact x_iret cx hR hS (xle hcb) (xle hsb) hw dX0_looks_25
  · have hw := mm_in hc hw
    refine lv_iload hx hb dX0_looks_14 (lv_at hl 4 rfl) ?_
    refine lv_iconst (v := (0 : Int32)) hx hb dX0_looks_16 (by decide) ?_
    refine lv_iconst (v := (2 : Int32)) hx hb dX0_looks_17 (by decide) ?_
    refine CX0_in_X0_96 cx hR hS  hw (by constructor <;> dsimp only <;> omega) (Nat.le_of_ble_eq_true rfl) hl.1 ⟨by dsimp only; omega, by dsimp only; omega⟩ dX0_looks_18 (fun r4 s4 H locs hw hR hS => ?_)
    refine lv_if_ne (tgt := 26) hx hb dX0_looks_21 (by decide) (fun hc => ?_) (fun hc => ?_)
    · have hw := mm_in hc hw
      refine x_aload_n cx dX0_looks_26 rfl (lv_at hl 1 rfl) ?_
      refine lv_iload_n hx hb dX0_looks_27 rfl (lv_at hl 3 rfl) ?_
      obtain ⟨a6, hr6, hk6, hw⟩ := hw
      refine CJ7_get_X0_167 cx hR hS hr6 hk6 hw (by constructor <;> dsimp only <;> omega) (Nat.le_of_ble_eq_true rfl) hl.1 ⟨by dsimp only; omega, by dsimp only; omega⟩ dX0_looks_28 (fun r5 s5 H locs hw hR hS => ?_)
      obtain ⟨hv, hw⟩ := hw
      refine x_cast cx hR q1965 (xcc_1 hv) dX0_looks_31 ?_
      refine x_astore (i := 5) (r := r5) (lv' := [(5, xv E r5), (0, xv E (some th)), (1, xv E x1), (2, .int x2), (3, .int x3), (4, .int x4)]) cx dX0_looks_34 hl (by decide) rfl (fun ls hl => ?_)
      refine lv_iload hx hb dX0_looks_36 (lv_at hl 5 rfl) ?_
      refine lv_if_ne (tgt := 70) hx hb dX0_looks_38 (by decide) (fun hc => ?_) (fun hc => ?_)
      · have hw := mm_in hc hw
        refine lv_iload hx hb dX0_looks_70 (lv_at hl 5 rfl) ?_
        refine lv_iconst (v := (1 : Int32)) hx hb dX0_looks_72 (by decide) ?_
        refine lv_icmp_ne (tgt := 113) hx hb dX0_looks_73 (by decide) (fun hc => ?_) (fun hc => ?_)
        · have hw := mm_in hc hw
          refine x_aload_n cx dX0_looks_113 rfl (lv_at hl 1 rfl) ?_
          refine x_aload cx dX0_looks_114 (lv_at hl 0 rfl) ?_
          obtain ⟨a7, hr7, hk7, hw⟩ := hw
          refine xg_X0_175_13 cx hR hr7 hk7 dX0_looks_116 ?_
          refine x_aload_n cx dX0_looks_119 rfl (lv_at hl 1 rfl) ?_
          obtain ⟨hk8, hw⟩ := hw
          refine xg_X0_31_1 cx hR rfl hk8 dX0_looks_120 ?_
          obtain ⟨a9, hr9, hk9, hw⟩ := hw
          refine xg_X0_149_3 cx hR hr9 hk9 dX0_looks_123 ?_
          refine x_aload_n cx dX0_looks_126 rfl (lv_at hl 1 rfl) ?_
          refine xg_X0_31_1 cx hR rfl hk8 dX0_looks_127 ?_
          refine xg_X0_152_3 cx hR hr9 hk9 dX0_looks_130 ?_
          refine CX0_holdsIn_X0_216 cx hR hS rfl hk8 hw (by constructor <;> dsimp only <;> omega) (Nat.le_of_ble_eq_true rfl) hl.1 ⟨by dsimp only; omega, by dsimp only; omega⟩ dX0_looks_133 (fun r10 s10 H locs hw hR hS => ?_)
          exact x_iret cx hR hS (xle hcb) (xle hsb) hw dX0_looks_136
        · have hw := mm_ip hc hw
          refine x_aload_n cx dX0_looks_76 rfl (lv_at hl 1 rfl) ?_
          refine x_aload cx dX0_looks_77 (lv_at hl 0 rfl) ?_
          obtain ⟨a11, hr11, hk11, hw⟩ := hw
          refine xg_X0_175_13 cx hR hr11 hk11 dX0_looks_79 ?_
          refine x_aload_n cx dX0_looks_82 rfl (lv_at hl 1 rfl) ?_
          obtain ⟨hk12, hw⟩ := hw
          refine xg_X0_31_1 cx hR rfl hk12 dX0_looks_83 ?_
          obtain ⟨a13, hr13, hk13, hw⟩ := hw
          refine xg_X0_195_3 cx hR hr13 hk13 dX0_looks_86 ?_
          refine lv_iload_n hx hb dX0_looks_89 rfl (lv_at hl 3 rfl) ?_
          obtain ⟨a14, hr14, hk14, hw⟩ := hw
          obtain ⟨hi, hw⟩ := hw
          refine x_iald cx hR hr14 hk14 (j := x2.toNatClampNeg) rfl hi dX0_looks_90 ?_
          refine x_aload_n cx dX0_looks_91 rfl (lv_at hl 1 rfl) ?_
          refine xg_X0_31_1 cx hR rfl hk12 dX0_looks_92 ?_
          refine xg_X0_247_3 cx hR hr13 hk13 dX0_looks_95 ?_
          refine lv_iload_n hx hb dX0_looks_98 rfl (lv_at hl 3 rfl) ?_
          obtain ⟨a15, hr15, hk15, hw⟩ := hw
          obtain ⟨hi, hw⟩ := hw
          refine x_iald cx hR hr15 hk15 (j := x2.toNatClampNeg) rfl hi dX0_looks_99 ?_
          refine CX0_holdsIn_X0_216 cx hR hS rfl hk12 hw (by constructor <;> dsimp only <;> omega) (Nat.le_of_ble_eq_true rfl) hl.1 ⟨by dsimp only; omega, by dsimp only; omega⟩ dX0_looks_100 (fun r16 s16 H locs hw hR hS => ?_)
          refine lv_iconst (v := (1 : Int32)) hx hb dX0_looks_103 (by decide) ?_
          refine lv_icmp_ne (tgt := 111) hx hb dX0_looks_104 (by decide) (fun hc => ?_) (fun hc => ?_)
          · have hw := mm_in hc hw
            refine lv_iconst (v := (0 : Int32)) hx hb dX0_looks_111 (by decide) ?_
            exact x_iret cx hR hS (xle hcb) (xle hsb) hw dX0_looks_112
          · have hw := mm_ip hc hw
            refine lv_iconst (v := (1 : Int32)) hx hb dX0_looks_107 (by decide) ?_
            refine lv_goto (tgt := 112) hx hb dX0_looks_108 (by decide) ?_
            exact x_iret cx hR hS (xle hcb) (xle hsb) hw dX0_looks_112
      · have hw := mm_ip hc hw
        refine x_aload cx dX0_looks_41 (lv_at hl 0 rfl) ?_
        obtain ⟨a17, hr17, hk17, hw⟩ := hw
        refine xg_X0_299_13 cx hR hr17 hk17 dX0_looks_43 ?_
        refine x_aload_n cx dX0_looks_46 rfl (lv_at hl 1 rfl) ?_
        obtain ⟨hk18, hw⟩ := hw
        refine xg_X0_31_1 cx hR rfl hk18 dX0_looks_47 ?_
        obtain ⟨a19, hr19, hk19, hw⟩ := hw
        refine xg_X0_195_3 cx hR hr19 hk19 dX0_looks_50 ?_
        refine lv_iload_n hx hb dX0_looks_53 rfl (lv_at hl 3 rfl) ?_
        obtain ⟨a20, hr20, hk20, hw⟩ := hw
        obtain ⟨hi, hw⟩ := hw
        refine x_iald cx hR hr20 hk20 (j := x2.toNatClampNeg) rfl hi dX0_looks_54 ?_
        refine x_aload_n cx dX0_looks_55 rfl (lv_at hl 1 rfl) ?_
        refine xg_X0_31_1 cx hR rfl hk18 dX0_looks_56 ?_
        refine xg_X0_247_3 cx hR hr19 hk19 dX0_looks_59 ?_
        refine lv_iload_n hx hb dX0_looks_62 rfl (lv_at hl 3 rfl) ?_
        obtain ⟨a21, hr21, hk21, hw⟩ := hw
        obtain ⟨hi, hw⟩ := hw
        refine x_iald cx hR hr21 hk21 (j := x2.toNatClampNeg) rfl hi dX0_looks_63 ?_
        obtain ⟨a23, hr23, hw⟩ := hw
        refine CE_seen_X0_303 d cx hR hS hr23 hw (by constructor <;> dsimp only <;> omega) (Nat.le_of_ble_eq_true rfl) hl.1 ⟨by dsimp only; omega, by dsimp only; omega⟩ dX0_looks_64 (fun r22 s22 H locs hw hR hS => ?_)
        exact x_iret cx hR hS (xle hcb) (xle hsb) hw dX0_looks_69
    · have hw := mm_ip hc hw
      refine lv_iconst (v := (-1 : Int32)) hx hb dX0_looks_24 (by decide) ?_
      exact x_iret cx hR hS (xle hcb) (xle hsb) hw dX0_looks_25
-- X0_element
theorem CX0_looks_X0_308 {l : Launch} {p : Program} {e : Env} {R : Room} {s : State} {m : MethodId} {args : Array Value} {below : List Frame} {meth : Method} {c : Code} {H : Heap} {locs : List Loc} {cells slots : Nat} {Qz : State → Prop} {cc : ByteArray} {nL : Nat} {ret : Option FieldType} {E : xx_E} {σ : XS} {pc : Nat} {ls : Array Slot} {rest : List Value} (d : Nat) {th : Nat} {x1 : Option Nat} {x2 : Int32} {x3 : Int32} {x4 : Int32} (cx : xx_X "StruckCounts" cc nL ret E p s m args meth c) (hR0 : xR E σ H) (hS0 : va_S (xA E) s.heap H locs) {r0 : Option Nat} (hr : r0 = some th) (hk : kd σ th = 1) {Qf : Int32 → XS → Prop} (hw : wX0_looks d th x1 x2 x3 x4 σ Qf) (hR : (({ frames := (7 + 4 * d), cells := 0, slots := 0, locals := 40 * (7 + 4 * d) } : Room)).frames + 1 ≤ R.frames ∧ 8 + (6 + 11) + (({ frames := (7 + 4 * d), cells := 0, slots := 0, locals := 40 * (7 + 4 * d) } : Room)).locals ≤ R.locals) (hrest : rest.length ≤ 4) (hsize : ls.size = nL) (hf : cells + 0 ≤ R.cells ∧ slots + 0 ≤ R.slots) (hdg : decode cc pc = .ok (.invokevirtual 308, 3))
    (kk : ∀ (r : Int32) (σ1 : XS) (H1 : Heap) (locs1 : List Loc), Qf r σ1 → xR E σ1 H1 → va_S (xA E) s.heap H1 locs1 → W p l e R s m args below meth c H1 locs1 (cells + 0) (slots + 0) Qz (F0 m (pc + 3) ls (.int r :: rest))) : W p l e R s m args below meth c H locs cells slots Qz (F0 m pc ls (.int x4 :: .int x3 :: .int x2 :: xv E x1 :: xv E r0 :: rest)) := by
  subst hr
  obtain ⟨hx, hb, hml, hown, hts, hrt, hlk, hK, hZ⟩ := id cx
  exact x_goi (va_runV (As := [xv E x1, .int x2, .int x3, .int x4]) (rest := rest) (x_fix cx) (MX0_looks l E d th x1 x2 x3 x4 σ Qf hw) (cwV 4 hts (lw_V q1994 q1996 qs49 q156 q1997) rfl rfl rfl (by decide +kernel) hR) (x_preV cx hR0 hS0 hk (by decide) (q := (RX0, TX0, 24)) rfl rfl [xv E x1, .int x2, .int x3, .int x4]) rfl rfl hsize rfl (lv_room (xroom hrest)) hdg hf) hS0 kk
def wX0_element (d : Nat) (th : Nat) (x1 : Int32) (x2 : Int32) (x3 : Int32) (σ : XS) (Q : Int32 → XS → Prop) : Prop :=
  kd σ th = 1 ∧ (wX0_isCount th x1 σ (fun r1 s1 => if r1 = 0 then (Q (-1 : Int32) s1) else (kd s1 th = 1 ∧ (wX0_told th x1 s1 (fun r3 s3 => oc s3 r3 12 (fun a5 => kd s3 th = 1 ∧ (wX0_looks d th (fr s3 a5 2) x1 x2 x3 s3 (fun r6 s6 => Q r6 s6))))))))
set_option maxHeartbeats 4000000 in
theorem MX0_element (l : Launch) (E : xx_E) (d : Nat) (th : Nat) (x1 : Int32) (x2 : Int32) (x3 : Int32) (σ : XS) (Q : Int32 → XS → Prop) (hw : wX0_element d th x1 x2 x3 σ Q) : xx_Mi l yX0_element (ws_ yX0_element cX0_element 4 (some .int)) ({ frames := (8 + 4 * d), cells := 0, slots := 0, locals := 40 * (8 + 4 * d) } : Room) E [xv E (some th), .int x1, .int x2, .int x3] σ Q 0 0 := by
  refine x_of (own := "StruckCounts") (by decide +kernel) rfl ?_
  intro p e s m args below meth c cx hR ha hnm
  refine x_entry [xv E (some th), .int x1, .int x2, .int x3] 4 [(0, xv E (some th)), (1, .int x1), (2, .int x2), (3, .int x3)] ha (by simp [lg_sl, xv_cat, vc_i, vc_j, vc_f]) (by simp [lv_args, xv_cat, vc_i, vc_j, vc_f]) (fun ls hl => ?_)
  have hS : va_S (xA E) s.heap s.heap [] := va_S.rf
  have hcb : 0 + 0 ≤ 0 := Nat.le_of_eq (Nat.zero_add _)
  have hsb : 0 + 0 ≤ 0 := Nat.le_of_eq (Nat.zero_add _)
  unfold wX0_element at hw
  obtain ⟨hx, hb, hml, hown, hts, hrt, hlk, hMK, hZ⟩ := id cx
  refine x_aload_n cx dX0_element_0 rfl (lv_at hl 0 rfl) ?_
  refine lv_iload_n hx hb dX0_element_1 rfl (lv_at hl 1 rfl) ?_
  obtain ⟨hk2, hw⟩ := hw
  refine CX0_isCount_X0_290 cx hR hS rfl hk2 hw (by constructor <;> dsimp only <;> omega) (Nat.le_of_ble_eq_true rfl) hl.1 ⟨by dsimp only; omega, by dsimp only; omega⟩ dX0_element_2 (fun r1 s1 H locs hw hR hS => ?_)
  refine lv_if_eq (tgt := 26) hx hb dX0_element_5 (by decide) (fun hc => ?_) (fun hc => ?_)
  · have hw := mm_ip hc hw
    refine lv_iconst (v := (-1 : Int32)) hx hb dX0_element_26 (by decide) ?_
    exact x_iret cx hR hS (xle hcb) (xle hsb) hw dX0_element_27
  · have hw := mm_in hc hw
    refine x_aload_n cx dX0_element_8 rfl (lv_at hl 0 rfl) ?_
    refine x_aload_n cx dX0_element_9 rfl (lv_at hl 0 rfl) ?_
    refine lv_iload_n hx hb dX0_element_10 rfl (lv_at hl 1 rfl) ?_
    obtain ⟨hk4, hw⟩ := hw
    refine CX0_told_X0_178 cx hR hS rfl hk4 hw (by constructor <;> dsimp only <;> omega) (Nat.le_of_ble_eq_true rfl) hl.1 ⟨by dsimp only; omega, by dsimp only; omega⟩ dX0_element_11 (fun r3 s3 H locs hw hR hS => ?_)
    obtain ⟨a5, hr5, hk5, hw⟩ := hw
    refine xg_X0_182_12 cx hR hr5 hk5 dX0_element_14 ?_
    refine lv_iload_n hx hb dX0_element_17 rfl (lv_at hl 1 rfl) ?_
    refine lv_iload_n hx hb dX0_element_18 rfl (lv_at hl 2 rfl) ?_
    refine lv_iload_n hx hb dX0_element_19 rfl (lv_at hl 3 rfl) ?_
    obtain ⟨hk7, hw⟩ := hw
    refine CX0_looks_X0_308 d cx hR hS rfl hk7 hw (by constructor <;> dsimp only <;> omega) (Nat.le_of_ble_eq_true rfl) hl.1 ⟨by dsimp only; omega, by dsimp only; omega⟩ dX0_element_20 (fun r6 s6 H locs hw hR hS => ?_)
    refine lv_goto (tgt := 27) hx hb dX0_element_23 (by decide) ?_
    exact x_iret cx hR hS (xle hcb) (xle hsb) hw dX0_element_27
-- X0_bar
def wX0_bar (d : Nat) (th : Nat) (x1 : Int32) (x2 : Int32) (x3 : Int32) (σ : XS) (Q : Int32 → XS → Prop) : Prop :=
  kd σ th = 1 ∧ (wX0_isCount th x1 σ (fun r1 s1 => if r1 = 0 then (Q (-1 : Int32) s1) else (kd s1 th = 1 ∧ (wX0_told th x1 s1 (fun r3 s3 => oc s3 r3 12 (fun a5 => kd s3 th = 1 ∧ (wX0_looks d th (fr s3 a5 3) x1 x2 x3 s3 (fun r6 s6 => Q r6 s6))))))))
set_option maxHeartbeats 4000000 in
theorem MX0_bar (l : Launch) (E : xx_E) (d : Nat) (th : Nat) (x1 : Int32) (x2 : Int32) (x3 : Int32) (σ : XS) (Q : Int32 → XS → Prop) (hw : wX0_bar d th x1 x2 x3 σ Q) : xx_Mi l yX0_bar (ws_ yX0_bar cX0_bar 4 (some .int)) ({ frames := (8 + 4 * d), cells := 0, slots := 0, locals := 40 * (8 + 4 * d) } : Room) E [xv E (some th), .int x1, .int x2, .int x3] σ Q 0 0 := by
  refine x_of (own := "StruckCounts") (by decide +kernel) rfl ?_
  intro p e s m args below meth c cx hR ha hnm
  refine x_entry [xv E (some th), .int x1, .int x2, .int x3] 4 [(0, xv E (some th)), (1, .int x1), (2, .int x2), (3, .int x3)] ha (by simp [lg_sl, xv_cat, vc_i, vc_j, vc_f]) (by simp [lv_args, xv_cat, vc_i, vc_j, vc_f]) (fun ls hl => ?_)
  have hS : va_S (xA E) s.heap s.heap [] := va_S.rf
  have hcb : 0 + 0 ≤ 0 := Nat.le_of_eq (Nat.zero_add _)
  have hsb : 0 + 0 ≤ 0 := Nat.le_of_eq (Nat.zero_add _)
  unfold wX0_bar at hw
  obtain ⟨hx, hb, hml, hown, hts, hrt, hlk, hMK, hZ⟩ := id cx
  refine x_aload_n cx dX0_bar_0 rfl (lv_at hl 0 rfl) ?_
  refine lv_iload_n hx hb dX0_bar_1 rfl (lv_at hl 1 rfl) ?_
  obtain ⟨hk2, hw⟩ := hw
  refine CX0_isCount_X0_290 cx hR hS rfl hk2 hw (by constructor <;> dsimp only <;> omega) (Nat.le_of_ble_eq_true rfl) hl.1 ⟨by dsimp only; omega, by dsimp only; omega⟩ dX0_bar_2 (fun r1 s1 H locs hw hR hS => ?_)
  refine lv_if_eq (tgt := 26) hx hb dX0_bar_5 (by decide) (fun hc => ?_) (fun hc => ?_)
  · have hw := mm_ip hc hw
    refine lv_iconst (v := (-1 : Int32)) hx hb dX0_bar_26 (by decide) ?_
    exact x_iret cx hR hS (xle hcb) (xle hsb) hw dX0_bar_27
  · have hw := mm_in hc hw
    refine x_aload_n cx dX0_bar_8 rfl (lv_at hl 0 rfl) ?_
    refine x_aload_n cx dX0_bar_9 rfl (lv_at hl 0 rfl) ?_
    refine lv_iload_n hx hb dX0_bar_10 rfl (lv_at hl 1 rfl) ?_
    obtain ⟨hk4, hw⟩ := hw
    refine CX0_told_X0_178 cx hR hS rfl hk4 hw (by constructor <;> dsimp only <;> omega) (Nat.le_of_ble_eq_true rfl) hl.1 ⟨by dsimp only; omega, by dsimp only; omega⟩ dX0_bar_11 (fun r3 s3 H locs hw hR hS => ?_)
    obtain ⟨a5, hr5, hk5, hw⟩ := hw
    refine xg_X0_185_12 cx hR hr5 hk5 dX0_bar_14 ?_
    refine lv_iload_n hx hb dX0_bar_17 rfl (lv_at hl 1 rfl) ?_
    refine lv_iload_n hx hb dX0_bar_18 rfl (lv_at hl 2 rfl) ?_
    refine lv_iload_n hx hb dX0_bar_19 rfl (lv_at hl 3 rfl) ?_
    obtain ⟨hk7, hw⟩ := hw
    refine CX0_looks_X0_308 d cx hR hS rfl hk7 hw (by constructor <;> dsimp only <;> omega) (Nat.le_of_ble_eq_true rfl) hl.1 ⟨by dsimp only; omega, by dsimp only; omega⟩ dX0_bar_20 (fun r6 s6 H locs hw hR hS => ?_)
    refine lv_goto (tgt := 27) hx hb dX0_bar_23 (by decide) ?_
    exact x_iret cx hR hS (xle hcb) (xle hsb) hw dX0_bar_27
-- X0_mayKnow
def wX0_mayKnow_30 (Q : Int32 → XS → Prop) (th : Nat) (t0 : Option Nat) (t1 : Int32) (t2 : Int32) (t3 : Int32) (σ : XS) : Prop :=
  oc σ t0 1 (fun a2 => wX0_isLeft a2 t1 (t2 ||| t3) σ (fun r1 s1 => zb r1 ∧ Q r1 s1))
set_option maxHeartbeats 4000000 in
theorem BX0_mayKnow_30 {l : Launch} {p : Program} {e : Env} {s : State} {m : MethodId} {args : Array Value} {below : List Frame} {meth : Method} {c : Code} {E : xx_E} {Q : Int32 → XS → Prop} (cx : xx_X "StruckCounts" cX0_mayKnow 3 (some .boolean) E p s m args meth c) : ∀ (th : Nat) (t0 : Option Nat) (t1 : Int32) (t2 : Int32) (t3 : Int32) (σ : XS), wX0_mayKnow_30 Q th t0 t1 t2 t3 σ → x_T p l e ({ frames := 2, cells := 0, slots := 0, locals := 80 } : Room) s m args below meth c E (va_Qi Q (fun σ' t => xW E σ' t) (xA E)) 0 0 3 30 0 0 σ [(0, xv E (some th))] [.int t3, .int t2, .int t1, xv E t0] := by
  intro th t0 t1 t2 t3 σ hw H locs ls cells slots hR hS hl hcb hsb
  unfold wX0_mayKnow_30 at hw
  obtain ⟨hx, hb, hml, hown, hts, hrt, hlk, hMK, hZ⟩ := id cx
  refine lv_ior hx hb dX0_mayKnow_30 ?_
  obtain ⟨a2, hr2, hk2, hw⟩ := hw
  refine CX0_isLeft_X0_227 cx hR hS hr2 hk2 hw ⟨Nat.le_of_ble_eq_true rfl, Nat.le_of_ble_eq_true rfl⟩ (Nat.le_of_ble_eq_true rfl) hl.1 ⟨by dsimp only; omega, by dsimp only; omega⟩ dX0_mayKnow_31 (fun r1 s1 H locs hw hR hS => ?_)
  obtain ⟨hz, hw⟩ := hw
  exact x_nret cx hR hS (xle hcb) (xle hsb) (zb_nar hz) hw dX0_mayKnow_34
def wX0_mayKnow (th : Nat) (x1 : Int32) (x2 : Int32) (σ : XS) (Q : Int32 → XS → Prop) : Prop :=
  kd σ th = 1 ∧ (oc σ (fr σ th 6) 3 (fun a4 => if x2 = 0 then (wX0_mayKnow_30 Q th (some th) ((fi σ a4 7) ||| ((1 : Int32) <<< (x1 &&& 31))) (fi σ a4 8) (0 : Int32) σ) else (wX0_mayKnow_30 Q th (some th) ((fi σ a4 7) ||| ((1 : Int32) <<< (x1 &&& 31))) (fi σ a4 8) ((1 : Int32) <<< (x1 &&& 31)) σ)))
set_option maxHeartbeats 4000000 in
theorem MX0_mayKnow (l : Launch) (E : xx_E) (th : Nat) (x1 : Int32) (x2 : Int32) (σ : XS) (Q : Int32 → XS → Prop) (hw : wX0_mayKnow th x1 x2 σ Q) : xx_Mi l yX0_mayKnow (ws_ yX0_mayKnow cX0_mayKnow 3 (some .boolean)) ({ frames := 2, cells := 0, slots := 0, locals := 80 } : Room) E [xv E (some th), .int x1, .int x2] σ Q 0 0 := by
  refine x_of (own := "StruckCounts") (by decide +kernel) rfl ?_
  intro p e s m args below meth c cx hR ha hnm
  refine x_entry [xv E (some th), .int x1, .int x2] 3 [(0, xv E (some th)), (1, .int x1), (2, .int x2)] ha (by simp [lg_sl, xv_cat, vc_i, vc_j, vc_f]) (by simp [lv_args, xv_cat, vc_i, vc_j, vc_f]) (fun ls hl => ?_)
  have hS : va_S (xA E) s.heap s.heap [] := va_S.rf
  have hcb : 0 + 0 ≤ 0 := Nat.le_of_eq (Nat.zero_add _)
  have hsb : 0 + 0 ≤ 0 := Nat.le_of_eq (Nat.zero_add _)
  unfold wX0_mayKnow at hw
  obtain ⟨hx, hb, hml, hown, hts, hrt, hlk, hMK, hZ⟩ := id cx
  refine x_aload_n cx dX0_mayKnow_0 rfl (lv_at hl 0 rfl) ?_
  refine x_aload_n cx dX0_mayKnow_1 rfl (lv_at hl 0 rfl) ?_
  obtain ⟨hk3, hw⟩ := hw
  refine xg_X0_31_1 cx hR rfl hk3 dX0_mayKnow_2 ?_
  obtain ⟨a4, hr4, hk4, hw⟩ := hw
  refine xg_X0_149_3 cx hR hr4 hk4 dX0_mayKnow_5 ?_
  refine lv_iconst (v := (1 : Int32)) hx hb dX0_mayKnow_8 (by decide) ?_
  refine lv_iload_n hx hb dX0_mayKnow_9 rfl (lv_at hl 1 rfl) ?_
  refine lv_ishl hx hb dX0_mayKnow_10 ?_
  refine lv_ior hx hb dX0_mayKnow_11 ?_
  refine x_aload_n cx dX0_mayKnow_12 rfl (lv_at hl 0 rfl) ?_
  refine xg_X0_31_1 cx hR rfl hk3 dX0_mayKnow_13 ?_
  refine xg_X0_152_3 cx hR hr4 hk4 dX0_mayKnow_16 ?_
  refine lv_iload_n hx hb dX0_mayKnow_19 rfl (lv_at hl 2 rfl) ?_
  refine lv_if_eq (tgt := 29) hx hb dX0_mayKnow_20 (by decide) (fun hc => ?_) (fun hc => ?_)
  · have hw := mm_ip hc hw
    refine lv_iconst (v := (0 : Int32)) hx hb dX0_mayKnow_29 (by decide) ?_
    exact BX0_mayKnow_30 cx _ _ _ _ _ _ hw _ _ _ _ _ hR hS (lv_sub hl [0] rfl) hcb hsb
  · have hw := mm_in hc hw
    refine lv_iconst (v := (1 : Int32)) hx hb dX0_mayKnow_23 (by decide) ?_
    refine lv_iload_n hx hb dX0_mayKnow_24 rfl (lv_at hl 1 rfl) ?_
    refine lv_ishl hx hb dX0_mayKnow_25 ?_
    refine lv_goto (tgt := 30) hx hb dX0_mayKnow_26 (by decide) ?_
    exact BX0_mayKnow_30 cx _ _ _ _ _ _ hw _ _ _ _ _ hR hS (lv_sub hl [0] rfl) hcb hsb
-- X2_copies
def wX2_copies (x0 : Option Nat) (x1 : Option Nat) (σ : XS) (Q : XS → Prop) : Prop :=
  oc σ x0 100 (fun a1 => oc σ x1 100 (fun a2 => xK ≤ a2 ∧ (xcpy σ a1 (0 : Int32) a2 (0 : Int32) (8 : Int32) ∧ (Q (pai1 σ a2 (va_cpy (ai σ a1) (ai σ a2) (0 : Int32).toNatClampNeg (0 : Int32).toNatClampNeg (8 : Int32).toNatClampNeg))))))
set_option maxHeartbeats 4000000 in
theorem MX2_copies (l : Launch) (E : xx_E) (x0 : Option Nat) (x1 : Option Nat) (σ : XS) (Q : XS → Prop) (hw : wX2_copies x0 x1 σ Q) : xx_Mv l yX2_copies (ws_ yX2_copies cX2_copies 2 none) ({ frames := 1, cells := 0, slots := 0, locals := 40 } : Room) E [xv E x0, xv E x1] σ Q 0 0 := by
  refine x_of (own := "StruckCounts$State") (by decide +kernel) rfl ?_
  intro p e s m args below meth c cx hR ha hnm
  refine x_entry [xv E x0, xv E x1] 2 [(0, xv E x0), (1, xv E x1)] ha (by simp [lg_sl, xv_cat, vc_i, vc_j, vc_f]) (by simp [lv_args, xv_cat, vc_i, vc_j, vc_f]) (fun ls hl => ?_)
  have hS : va_S (xA E) s.heap s.heap [] := va_S.rf
  have hcb : 0 + 0 ≤ 0 := Nat.le_of_eq (Nat.zero_add _)
  have hsb : 0 + 0 ≤ 0 := Nat.le_of_eq (Nat.zero_add _)
  unfold wX2_copies at hw
  obtain ⟨hx, hb, hml, hown, hts, hrt, hlk, hMK, hZ⟩ := id cx
  refine x_aload_n cx dX2_copies_0 rfl (lv_at hl 0 rfl) ?_
  refine lv_iconst (v := (0 : Int32)) hx hb dX2_copies_1 (by decide) ?_
  refine x_aload_n cx dX2_copies_2 rfl (lv_at hl 1 rfl) ?_
  refine lv_iconst (v := (0 : Int32)) hx hb dX2_copies_3 (by decide) ?_
  refine lv_bipush (v := (8 : Int32)) hx hb dX2_copies_4 (by decide) ?_
  obtain ⟨a1, hr1, hk1, hw⟩ := hw
  obtain ⟨a2, hr2, hk2, hw⟩ := hw
  obtain ⟨hge_a2, hw⟩ := hw
  obtain ⟨hcp, hw⟩ := hw
  refine x_copyi cx hl.1 hR hS q2062 hr1 hr2 hge_a2 hk1 hk2 hcp (by dsimp only; omega) (xroomC (Nat.le_of_ble_eq_true rfl) (by dsimp only; omega)) dX2_copies_6 (fun H locs hR hS => ?_)
  exact x_vret cx hR hS (xle hcb) (xle hsb) hw dX2_copies_9
-- X2_be
theorem xg_X2_43_3 {l : Launch} {p : Program} {e : Env} {R : Room} {s : State} {m : MethodId} {args : Array Value} {below : List Frame} {meth : Method} {c : Code} {H : Heap} {locs : List Loc} {cells slots : Nat} {Qz : State → Prop} {cc : ByteArray} {nL : Nat} {ret : Option FieldType} {E : xx_E} {σ : XS} {pc : Nat} {ls : Array Slot} {rest : List Value} (cx : xx_X "StruckCounts$State" cc nL ret E p s m args meth c) (hR : xR E σ H) {a : Nat} {r : Option Nat} (hr : r = some a) (hk : kd σ a = 3) (hdg : decode cc pc = .ok (.getfield 43, 3)) (kk : W p l e R s m args below meth c H locs cells slots Qz (F0 m (pc + 3) ls (.int (fi σ a 7) :: rest))) : W p l e R s m args below meth c H locs cells slots Qz (F0 m pc ls (xv E r :: rest)) :=
  x_get (ci := 2) cx hR hr hk (by decide) rfl in_X2 7 (by decide) q497 (fun _ h => h) (v := .int (fi σ a 7)) rfl hdg kk
theorem xg_X2_47_3 {l : Launch} {p : Program} {e : Env} {R : Room} {s : State} {m : MethodId} {args : Array Value} {below : List Frame} {meth : Method} {c : Code} {H : Heap} {locs : List Loc} {cells slots : Nat} {Qz : State → Prop} {cc : ByteArray} {nL : Nat} {ret : Option FieldType} {E : xx_E} {σ : XS} {pc : Nat} {ls : Array Slot} {rest : List Value} (cx : xx_X "StruckCounts$State" cc nL ret E p s m args meth c) (hR : xR E σ H) {a : Nat} {r : Option Nat} (hr : r = some a) (hk : kd σ a = 3) (hdg : decode cc pc = .ok (.getfield 47, 3)) (kk : W p l e R s m args below meth c H locs cells slots Qz (F0 m (pc + 3) ls (.int (fi σ a 8) :: rest))) : W p l e R s m args below meth c H locs cells slots Qz (F0 m pc ls (xv E r :: rest)) :=
  x_get (ci := 2) cx hR hr hk (by decide) rfl in_X2 8 (by decide) q499 (fun _ h => h) (v := .int (fi σ a 8)) rfl hdg kk
theorem xg_X2_53_3 {l : Launch} {p : Program} {e : Env} {R : Room} {s : State} {m : MethodId} {args : Array Value} {below : List Frame} {meth : Method} {c : Code} {H : Heap} {locs : List Loc} {cells slots : Nat} {Qz : State → Prop} {cc : ByteArray} {nL : Nat} {ret : Option FieldType} {E : xx_E} {σ : XS} {pc : Nat} {ls : Array Slot} {rest : List Value} (cx : xx_X "StruckCounts$State" cc nL ret E p s m args meth c) (hR : xR E σ H) {a : Nat} {r : Option Nat} (hr : r = some a) (hk : kd σ a = 3) (hdg : decode cc pc = .ok (.getfield 53, 3)) (kk : W p l e R s m args below meth c H locs cells slots Qz (F0 m (pc + 3) ls (.int (fi σ a 10) :: rest))) : W p l e R s m args below meth c H locs cells slots Qz (F0 m pc ls (xv E r :: rest)) :=
  x_get (ci := 2) cx hR hr hk (by decide) rfl in_X2 10 (by decide) q503 (fun _ h => h) (v := .int (fi σ a 10)) rfl hdg kk
theorem xg_X2_56_3 {l : Launch} {p : Program} {e : Env} {R : Room} {s : State} {m : MethodId} {args : Array Value} {below : List Frame} {meth : Method} {c : Code} {H : Heap} {locs : List Loc} {cells slots : Nat} {Qz : State → Prop} {cc : ByteArray} {nL : Nat} {ret : Option FieldType} {E : xx_E} {σ : XS} {pc : Nat} {ls : Array Slot} {rest : List Value} (cx : xx_X "StruckCounts$State" cc nL ret E p s m args meth c) (hR : xR E σ H) {a : Nat} {r : Option Nat} (hr : r = some a) (hk : kd σ a = 3) (hdg : decode cc pc = .ok (.getfield 56, 3)) (kk : W p l e R s m args below meth c H locs cells slots Qz (F0 m (pc + 3) ls (.int (fi σ a 11) :: rest))) : W p l e R s m args below meth c H locs cells slots Qz (F0 m pc ls (xv E r :: rest)) :=
  x_get (ci := 2) cx hR hr hk (by decide) rfl in_X2 11 (by decide) q505 (fun _ h => h) (v := .int (fi σ a 11)) rfl hdg kk
theorem xg_X2_59_3 {l : Launch} {p : Program} {e : Env} {R : Room} {s : State} {m : MethodId} {args : Array Value} {below : List Frame} {meth : Method} {c : Code} {H : Heap} {locs : List Loc} {cells slots : Nat} {Qz : State → Prop} {cc : ByteArray} {nL : Nat} {ret : Option FieldType} {E : xx_E} {σ : XS} {pc : Nat} {ls : Array Slot} {rest : List Value} (cx : xx_X "StruckCounts$State" cc nL ret E p s m args meth c) (hR : xR E σ H) {a : Nat} {r : Option Nat} (hr : r = some a) (hk : kd σ a = 3) (hdg : decode cc pc = .ok (.getfield 59, 3)) (kk : W p l e R s m args below meth c H locs cells slots Qz (F0 m (pc + 3) ls (.int (fi σ a 12) :: rest))) : W p l e R s m args below meth c H locs cells slots Qz (F0 m pc ls (xv E r :: rest)) :=
  x_get (ci := 2) cx hR hr hk (by decide) rfl in_X2 12 (by decide) q507 (fun _ h => h) (v := .int (fi σ a 12)) rfl hdg kk
theorem CX2_copies_X2_39 {l : Launch} {p : Program} {e : Env} {R : Room} {s : State} {m : MethodId} {args : Array Value} {below : List Frame} {meth : Method} {c : Code} {H : Heap} {locs : List Loc} {cells slots : Nat} {Qz : State → Prop} {cc : ByteArray} {nL : Nat} {ret : Option FieldType} {E : xx_E} {σ : XS} {pc : Nat} {ls : Array Slot} {rest : List Value} {x0 : Option Nat} {x1 : Option Nat} (cx : xx_X "StruckCounts$State" cc nL ret E p s m args meth c) (hR0 : xR E σ H) (hS0 : va_S (xA E) s.heap H locs) {Qf : XS → Prop} (hw : wX2_copies x0 x1 σ Qf) (hR : (({ frames := 1, cells := 0, slots := 0, locals := 40 } : Room)).frames + 1 ≤ R.frames ∧ 8 + (2 + 11) + (({ frames := 1, cells := 0, slots := 0, locals := 40 } : Room)).locals ≤ R.locals) (hrest : rest.length ≤ 4) (hsize : ls.size = nL) (hf : cells + 0 ≤ R.cells ∧ slots + 0 ≤ R.slots) (hdg : decode cc pc = .ok (.invokestatic 39, 3))
    (kk : ∀ (σ1 : XS) (H1 : Heap) (locs1 : List Loc), Qf σ1 → xR E σ1 H1 → va_S (xA E) s.heap H1 locs1 → W p l e R s m args below meth c H1 locs1 (cells + 0) (slots + 0) Qz (F0 m (pc + 3) ls rest)) : W p l e R s m args below meth c H locs cells slots Qz (F0 m pc ls (xv E x1 :: xv E x0 :: rest)) := by
  obtain ⟨hx, hb, hml, hown, hts, hrt, hlk, hK, hZ⟩ := id cx
  exact x_gov (va_runS (As := [xv E x0, xv E x1]) (rest := rest) (x_fix cx) (MX2_copies l E x0 x1 σ Qf hw) (va_cwS 2 hts (lw_S q2063 q2064 q168 q2065) rfl rfl rfl (by decide +kernel) hR) ⟨xblind, x_pre cx hR0 hS0 [xv E x0, xv E x1]⟩ rfl rfl hsize rfl (lv_room (xroom hrest)) hdg hf) hS0 kk
def wX2_be (th : Nat) (x1 : Option Nat) (σ : XS) (Q : XS → Prop) : Prop :=
  oc σ x1 3 (fun a1 => kd σ th = 3 ∧ (oc σ (fr σ a1 0) 100 (fun a3 => oc σ (fr σ th 0) 100 (fun a4 => xK ≤ a4 ∧ (xcpy σ a3 (0 : Int32) a4 (0 : Int32) (8 : Int32) ∧ (wX2_copies (fr (pai1 σ a4 (va_cpy (ai σ a3) (ai σ a4) (0 : Int32).toNatClampNeg (0 : Int32).toNatClampNeg (8 : Int32).toNatClampNeg)) a1 1) (fr (pai1 σ a4 (va_cpy (ai σ a3) (ai σ a4) (0 : Int32).toNatClampNeg (0 : Int32).toNatClampNeg (8 : Int32).toNatClampNeg)) th 1) (pai1 σ a4 (va_cpy (ai σ a3) (ai σ a4) (0 : Int32).toNatClampNeg (0 : Int32).toNatClampNeg (8 : Int32).toNatClampNeg)) (fun s5 => oc s5 x1 3 (fun a6 => kd s5 th = 3 ∧ (wX2_copies (fr s5 a6 2) (fr s5 th 2) s5 (fun s8 => oc s8 x1 3 (fun a9 => kd s8 th = 3 ∧ (wX2_copies (fr s8 a9 3) (fr s8 th 3) s8 (fun s11 => oc s11 x1 3 (fun a12 => kd s11 th = 3 ∧ (wX2_copies (fr s11 a12 4) (fr s11 th 4) s11 (fun s14 => oc s14 x1 3 (fun a15 => kd s14 th = 3 ∧ (wX2_copies (fr s14 a15 5) (fr s14 th 5) s14 (fun s17 => oc s17 x1 3 (fun a18 => kd s17 th = 3 ∧ (wX2_copies (fr s17 a18 6) (fr s17 th 6) s17 (fun s20 => oc s20 x1 3 (fun a21 => kd s20 th = 3 ∧ (xK ≤ th ∧ (zb (fi (pfi (pfi (pfi (pfi (pfi s20 th 7 (fi s20 a21 7)) th 8 (fi (pfi s20 th 7 (fi s20 a21 7)) a21 8)) th 9 (fi (pfi (pfi s20 th 7 (fi s20 a21 7)) th 8 (fi (pfi s20 th 7 (fi s20 a21 7)) a21 8)) a21 9)) th 10 (fi (pfi (pfi (pfi s20 th 7 (fi s20 a21 7)) th 8 (fi (pfi s20 th 7 (fi s20 a21 7)) a21 8)) th 9 (fi (pfi (pfi s20 th 7 (fi s20 a21 7)) th 8 (fi (pfi s20 th 7 (fi s20 a21 7)) a21 8)) a21 9)) a21 10)) th 11 (fi (pfi (pfi (pfi (pfi s20 th 7 (fi s20 a21 7)) th 8 (fi (pfi s20 th 7 (fi s20 a21 7)) a21 8)) th 9 (fi (pfi (pfi s20 th 7 (fi s20 a21 7)) th 8 (fi (pfi s20 th 7 (fi s20 a21 7)) a21 8)) a21 9)) th 10 (fi (pfi (pfi (pfi s20 th 7 (fi s20 a21 7)) th 8 (fi (pfi s20 th 7 (fi s20 a21 7)) a21 8)) th 9 (fi (pfi (pfi s20 th 7 (fi s20 a21 7)) th 8 (fi (pfi s20 th 7 (fi s20 a21 7)) a21 8)) a21 9)) a21 10)) a21 11)) a21 12) ∧ (Q (pfi (pfi (pfi (pfi (pfi (pfi s20 th 7 (fi s20 a21 7)) th 8 (fi (pfi s20 th 7 (fi s20 a21 7)) a21 8)) th 9 (fi (pfi (pfi s20 th 7 (fi s20 a21 7)) th 8 (fi (pfi s20 th 7 (fi s20 a21 7)) a21 8)) a21 9)) th 10 (fi (pfi (pfi (pfi s20 th 7 (fi s20 a21 7)) th 8 (fi (pfi s20 th 7 (fi s20 a21 7)) a21 8)) th 9 (fi (pfi (pfi s20 th 7 (fi s20 a21 7)) th 8 (fi (pfi s20 th 7 (fi s20 a21 7)) a21 8)) a21 9)) a21 10)) th 11 (fi (pfi (pfi (pfi (pfi s20 th 7 (fi s20 a21 7)) th 8 (fi (pfi s20 th 7 (fi s20 a21 7)) a21 8)) th 9 (fi (pfi (pfi s20 th 7 (fi s20 a21 7)) th 8 (fi (pfi s20 th 7 (fi s20 a21 7)) a21 8)) a21 9)) th 10 (fi (pfi (pfi (pfi s20 th 7 (fi s20 a21 7)) th 8 (fi (pfi s20 th 7 (fi s20 a21 7)) a21 8)) th 9 (fi (pfi (pfi s20 th 7 (fi s20 a21 7)) th 8 (fi (pfi s20 th 7 (fi s20 a21 7)) a21 8)) a21 9)) a21 10)) a21 11)) th 12 (fi (pfi (pfi (pfi (pfi (pfi s20 th 7 (fi s20 a21 7)) th 8 (fi (pfi s20 th 7 (fi s20 a21 7)) a21 8)) th 9 (fi (pfi (pfi s20 th 7 (fi s20 a21 7)) th 8 (fi (pfi s20 th 7 (fi s20 a21 7)) a21 8)) a21 9)) th 10 (fi (pfi (pfi (pfi s20 th 7 (fi s20 a21 7)) th 8 (fi (pfi s20 th 7 (fi s20 a21 7)) a21 8)) th 9 (fi (pfi (pfi s20 th 7 (fi s20 a21 7)) th 8 (fi (pfi s20 th 7 (fi s20 a21 7)) a21 8)) a21 9)) a21 10)) th 11 (fi (pfi (pfi (pfi (pfi s20 th 7 (fi s20 a21 7)) th 8 (fi (pfi s20 th 7 (fi s20 a21 7)) a21 8)) th 9 (fi (pfi (pfi s20 th 7 (fi s20 a21 7)) th 8 (fi (pfi s20 th 7 (fi s20 a21 7)) a21 8)) a21 9)) th 10 (fi (pfi (pfi (pfi s20 th 7 (fi s20 a21 7)) th 8 (fi (pfi s20 th 7 (fi s20 a21 7)) a21 8)) th 9 (fi (pfi (pfi s20 th 7 (fi s20 a21 7)) th 8 (fi (pfi s20 th 7 (fi s20 a21 7)) a21 8)) a21 9)) a21 10)) a21 11)) a21 12))))))))))))))))))))))))))))
set_option maxHeartbeats 4000000 in
theorem MX2_be (l : Launch) (E : xx_E) (th : Nat) (x1 : Option Nat) (σ : XS) (Q : XS → Prop) (hw : wX2_be th x1 σ Q) : xx_Mv l yX2_be (ws_ yX2_be cX2_be 2 none) ({ frames := 2, cells := 0, slots := 0, locals := 80 } : Room) E [xv E (some th), xv E x1] σ Q 0 0 := by
  refine x_of (own := "StruckCounts$State") (by decide +kernel) rfl ?_
  intro p e s m args below meth c cx hR ha hnm
  refine x_entry [xv E (some th), xv E x1] 2 [(0, xv E (some th)), (1, xv E x1)] ha (by simp [lg_sl, xv_cat, vc_i, vc_j, vc_f]) (by simp [lv_args, xv_cat, vc_i, vc_j, vc_f]) (fun ls hl => ?_)
  have hS : va_S (xA E) s.heap s.heap [] := va_S.rf
  have hcb : 0 + 0 ≤ 0 := Nat.le_of_eq (Nat.zero_add _)
  have hsb : 0 + 0 ≤ 0 := Nat.le_of_eq (Nat.zero_add _)
  unfold wX2_be at hw
  obtain ⟨hx, hb, hml, hown, hts, hrt, hlk, hMK, hZ⟩ := id cx
  refine x_aload_n cx dX2_be_0 rfl (lv_at hl 1 rfl) ?_
  obtain ⟨a1, hr1, hk1, hw⟩ := hw
  refine xg_X2_9_3 cx hR hr1 hk1 dX2_be_1 ?_
  refine lv_iconst (v := (0 : Int32)) hx hb dX2_be_4 (by decide) ?_
  refine x_aload_n cx dX2_be_5 rfl (lv_at hl 0 rfl) ?_
  obtain ⟨hk2, hw⟩ := hw
  refine xg_X2_9_3 cx hR rfl hk2 dX2_be_6 ?_
  refine lv_iconst (v := (0 : Int32)) hx hb dX2_be_9 (by decide) ?_
  refine lv_bipush (v := (8 : Int32)) hx hb dX2_be_10 (by decide) ?_
  obtain ⟨a3, hr3, hk3, hw⟩ := hw
  obtain ⟨a4, hr4, hk4, hw⟩ := hw
  obtain ⟨hge_a4, hw⟩ := hw
  obtain ⟨hcp, hw⟩ := hw
  refine x_copyi cx hl.1 hR hS q2062 hr3 hr4 hge_a4 hk3 hk4 hcp (by dsimp only; omega) (xroomC (Nat.le_of_ble_eq_true rfl) (by dsimp only; omega)) dX2_be_12 (fun H locs hR hS => ?_)
  refine x_aload_n cx dX2_be_15 rfl (lv_at hl 1 rfl) ?_
  refine xg_X2_15_3 cx hR hr1 hk1 dX2_be_16 ?_
  refine x_aload_n cx dX2_be_19 rfl (lv_at hl 0 rfl) ?_
  refine xg_X2_15_3 cx hR rfl hk2 dX2_be_20 ?_
  refine CX2_copies_X2_39 cx hR hS  hw ⟨Nat.le_of_ble_eq_true rfl, Nat.le_of_ble_eq_true rfl⟩ (Nat.le_of_ble_eq_true rfl) hl.1 ⟨by dsimp only; omega, by dsimp only; omega⟩ dX2_be_23 (fun s5 H locs hw hR hS => ?_)
  refine x_aload_n cx dX2_be_26 rfl (lv_at hl 1 rfl) ?_
  obtain ⟨a6, hr6, hk6, hw⟩ := hw
  refine xg_X2_18_3 cx hR hr6 hk6 dX2_be_27 ?_
  refine x_aload_n cx dX2_be_30 rfl (lv_at hl 0 rfl) ?_
  obtain ⟨hk7, hw⟩ := hw
  refine xg_X2_18_3 cx hR rfl hk7 dX2_be_31 ?_
  refine CX2_copies_X2_39 cx hR hS  hw ⟨Nat.le_of_ble_eq_true rfl, Nat.le_of_ble_eq_true rfl⟩ (Nat.le_of_ble_eq_true rfl) hl.1 ⟨by dsimp only; omega, by dsimp only; omega⟩ dX2_be_34 (fun s8 H locs hw hR hS => ?_)
  refine x_aload_n cx dX2_be_37 rfl (lv_at hl 1 rfl) ?_
  obtain ⟨a9, hr9, hk9, hw⟩ := hw
  refine xg_X2_21_3 cx hR hr9 hk9 dX2_be_38 ?_
  refine x_aload_n cx dX2_be_41 rfl (lv_at hl 0 rfl) ?_
  obtain ⟨hk10, hw⟩ := hw
  refine xg_X2_21_3 cx hR rfl hk10 dX2_be_42 ?_
  refine CX2_copies_X2_39 cx hR hS  hw ⟨Nat.le_of_ble_eq_true rfl, Nat.le_of_ble_eq_true rfl⟩ (Nat.le_of_ble_eq_true rfl) hl.1 ⟨by dsimp only; omega, by dsimp only; omega⟩ dX2_be_45 (fun s11 H locs hw hR hS => ?_)
  refine x_aload_n cx dX2_be_48 rfl (lv_at hl 1 rfl) ?_
  obtain ⟨a12, hr12, hk12, hw⟩ := hw
  refine xg_X2_24_3 cx hR hr12 hk12 dX2_be_49 ?_
  refine x_aload_n cx dX2_be_52 rfl (lv_at hl 0 rfl) ?_
  obtain ⟨hk13, hw⟩ := hw
  refine xg_X2_24_3 cx hR rfl hk13 dX2_be_53 ?_
  refine CX2_copies_X2_39 cx hR hS  hw ⟨Nat.le_of_ble_eq_true rfl, Nat.le_of_ble_eq_true rfl⟩ (Nat.le_of_ble_eq_true rfl) hl.1 ⟨by dsimp only; omega, by dsimp only; omega⟩ dX2_be_56 (fun s14 H locs hw hR hS => ?_)
  refine x_aload_n cx dX2_be_59 rfl (lv_at hl 1 rfl) ?_
  obtain ⟨a15, hr15, hk15, hw⟩ := hw
  refine xg_X2_27_3 cx hR hr15 hk15 dX2_be_60 ?_
  refine x_aload_n cx dX2_be_63 rfl (lv_at hl 0 rfl) ?_
  obtain ⟨hk16, hw⟩ := hw
  refine xg_X2_27_3 cx hR rfl hk16 dX2_be_64 ?_
  refine CX2_copies_X2_39 cx hR hS  hw ⟨Nat.le_of_ble_eq_true rfl, Nat.le_of_ble_eq_true rfl⟩ (Nat.le_of_ble_eq_true rfl) hl.1 ⟨by dsimp only; omega, by dsimp only; omega⟩ dX2_be_67 (fun s17 H locs hw hR hS => ?_)
  refine x_aload_n cx dX2_be_70 rfl (lv_at hl 1 rfl) ?_
  obtain ⟨a18, hr18, hk18, hw⟩ := hw
  refine xg_X2_30_3 cx hR hr18 hk18 dX2_be_71 ?_
  refine x_aload_n cx dX2_be_74 rfl (lv_at hl 0 rfl) ?_
  obtain ⟨hk19, hw⟩ := hw
  refine xg_X2_30_3 cx hR rfl hk19 dX2_be_75 ?_
  refine CX2_copies_X2_39 cx hR hS  hw ⟨Nat.le_of_ble_eq_true rfl, Nat.le_of_ble_eq_true rfl⟩ (Nat.le_of_ble_eq_true rfl) hl.1 ⟨by dsimp only; omega, by dsimp only; omega⟩ dX2_be_78 (fun s20 H locs hw hR hS => ?_)
  refine x_aload_n cx dX2_be_81 rfl (lv_at hl 0 rfl) ?_
  refine x_aload_n cx dX2_be_82 rfl (lv_at hl 1 rfl) ?_
  obtain ⟨a21, hr21, hk21, hw⟩ := hw
  refine xg_X2_43_3 cx hR hr21 hk21 dX2_be_83 ?_
  obtain ⟨hk22, hw⟩ := hw
  obtain ⟨hge_th, hw⟩ := hw
  refine xp_X2_43_3 (v := (fi s20 a21 7)) cx hR hS rfl hge_th hk22 dX2_be_86 (fun H locs hR hS => ?_)
  refine x_aload_n cx dX2_be_89 rfl (lv_at hl 0 rfl) ?_
  refine x_aload_n cx dX2_be_90 rfl (lv_at hl 1 rfl) ?_
  refine xg_X2_47_3 cx hR hr21 hk21 dX2_be_91 ?_
  refine xp_X2_47_3 (v := (fi (pfi s20 th 7 (fi s20 a21 7)) a21 8)) cx hR hS rfl hge_th hk22 dX2_be_94 (fun H locs hR hS => ?_)
  refine x_aload_n cx dX2_be_97 rfl (lv_at hl 0 rfl) ?_
  refine x_aload_n cx dX2_be_98 rfl (lv_at hl 1 rfl) ?_
  refine xg_X2_50_3 cx hR hr21 hk21 dX2_be_99 ?_
  refine xp_X2_50_3 (v := (fi (pfi (pfi s20 th 7 (fi s20 a21 7)) th 8 (fi (pfi s20 th 7 (fi s20 a21 7)) a21 8)) a21 9)) cx hR hS rfl hge_th hk22 dX2_be_102 (fun H locs hR hS => ?_)
  refine x_aload_n cx dX2_be_105 rfl (lv_at hl 0 rfl) ?_
  refine x_aload_n cx dX2_be_106 rfl (lv_at hl 1 rfl) ?_
  refine xg_X2_53_3 cx hR hr21 hk21 dX2_be_107 ?_
  refine xp_X2_53_3 (v := (fi (pfi (pfi (pfi s20 th 7 (fi s20 a21 7)) th 8 (fi (pfi s20 th 7 (fi s20 a21 7)) a21 8)) th 9 (fi (pfi (pfi s20 th 7 (fi s20 a21 7)) th 8 (fi (pfi s20 th 7 (fi s20 a21 7)) a21 8)) a21 9)) a21 10)) cx hR hS rfl hge_th hk22 dX2_be_110 (fun H locs hR hS => ?_)
  refine x_aload_n cx dX2_be_113 rfl (lv_at hl 0 rfl) ?_
  refine x_aload_n cx dX2_be_114 rfl (lv_at hl 1 rfl) ?_
  refine xg_X2_56_3 cx hR hr21 hk21 dX2_be_115 ?_
  refine xp_X2_56_3 (v := (fi (pfi (pfi (pfi (pfi s20 th 7 (fi s20 a21 7)) th 8 (fi (pfi s20 th 7 (fi s20 a21 7)) a21 8)) th 9 (fi (pfi (pfi s20 th 7 (fi s20 a21 7)) th 8 (fi (pfi s20 th 7 (fi s20 a21 7)) a21 8)) a21 9)) th 10 (fi (pfi (pfi (pfi s20 th 7 (fi s20 a21 7)) th 8 (fi (pfi s20 th 7 (fi s20 a21 7)) a21 8)) th 9 (fi (pfi (pfi s20 th 7 (fi s20 a21 7)) th 8 (fi (pfi s20 th 7 (fi s20 a21 7)) a21 8)) a21 9)) a21 10)) a21 11)) cx hR hS rfl hge_th hk22 dX2_be_118 (fun H locs hR hS => ?_)
  refine x_aload_n cx dX2_be_121 rfl (lv_at hl 0 rfl) ?_
  refine x_aload_n cx dX2_be_122 rfl (lv_at hl 1 rfl) ?_
  refine xg_X2_59_3 cx hR hr21 hk21 dX2_be_123 ?_
  obtain ⟨hz, hw⟩ := hw
  refine xp_X2_59_3 (v := (fi (pfi (pfi (pfi (pfi (pfi s20 th 7 (fi s20 a21 7)) th 8 (fi (pfi s20 th 7 (fi s20 a21 7)) a21 8)) th 9 (fi (pfi (pfi s20 th 7 (fi s20 a21 7)) th 8 (fi (pfi s20 th 7 (fi s20 a21 7)) a21 8)) a21 9)) th 10 (fi (pfi (pfi (pfi s20 th 7 (fi s20 a21 7)) th 8 (fi (pfi s20 th 7 (fi s20 a21 7)) a21 8)) th 9 (fi (pfi (pfi s20 th 7 (fi s20 a21 7)) th 8 (fi (pfi s20 th 7 (fi s20 a21 7)) a21 8)) a21 9)) a21 10)) th 11 (fi (pfi (pfi (pfi (pfi s20 th 7 (fi s20 a21 7)) th 8 (fi (pfi s20 th 7 (fi s20 a21 7)) a21 8)) th 9 (fi (pfi (pfi s20 th 7 (fi s20 a21 7)) th 8 (fi (pfi s20 th 7 (fi s20 a21 7)) a21 8)) a21 9)) th 10 (fi (pfi (pfi (pfi s20 th 7 (fi s20 a21 7)) th 8 (fi (pfi s20 th 7 (fi s20 a21 7)) a21 8)) th 9 (fi (pfi (pfi s20 th 7 (fi s20 a21 7)) th 8 (fi (pfi s20 th 7 (fi s20 a21 7)) a21 8)) a21 9)) a21 10)) a21 11)) a21 12)) cx hR hS rfl hge_th hk22 hz dX2_be_126 (fun H locs hR hS => ?_)
  exact x_vret cx hR hS (xle hcb) (xle hsb) hw dX2_be_129
-- X0_keeps
theorem xg_X0_127_1 {l : Launch} {p : Program} {e : Env} {R : Room} {s : State} {m : MethodId} {args : Array Value} {below : List Frame} {meth : Method} {c : Code} {H : Heap} {locs : List Loc} {cells slots : Nat} {Qz : State → Prop} {cc : ByteArray} {nL : Nat} {ret : Option FieldType} {E : xx_E} {σ : XS} {pc : Nat} {ls : Array Slot} {rest : List Value} (cx : xx_X "StruckCounts" cc nL ret E p s m args meth c) (hR : xR E σ H) {a : Nat} {r : Option Nat} (hr : r = some a) (hk : kd σ a = 1) (hdg : decode cc pc = .ok (.getfield 127, 3)) (kk : W p l e R s m args below meth c H locs cells slots Qz (F0 m (pc + 3) ls (.int (fi σ a 4) :: rest))) : W p l e R s m args below meth c H locs cells slots Qz (F0 m pc ls (xv E r :: rest)) :=
  x_get (ci := 0) cx hR hr hk (by decide) rfl in_X0 4 (by decide) q575 (fun _ h => h) (v := .int (fi σ a 4)) rfl hdg kk
theorem xp_X0_127_1 {l : Launch} {p : Program} {e : Env} {R : Room} {s : State} {m : MethodId} {args : Array Value} {below : List Frame} {meth : Method} {c : Code} {H : Heap} {locs : List Loc} {cells slots : Nat} {Qz : State → Prop} {cc : ByteArray} {nL : Nat} {ret : Option FieldType} {E : xx_E} {σ : XS} {pc : Nat} {ls : Array Slot} {rest : List Value} (cx : xx_X "StruckCounts" cc nL ret E p s m args meth c) (hR : xR E σ H) (hS0 : va_S (xA E) s.heap H locs) {a : Nat} {r : Option Nat} {v : Int32} (hr : r = some a) (ha : xK ≤ a) (hk : kd σ a = 1) (hdg : decode cc pc = .ok (.putfield 127, 3)) (kk : ∀ (H1 : Heap) (locs1 : List Loc), xR E (pfi σ a 4 v) H1 → va_S (xA E) s.heap H1 locs1 → W p l e R s m args below meth c H1 locs1 cells slots Qz (F0 m (pc + 3) ls rest)) : W p l e R s m args below meth c H locs cells slots Qz (F0 m pc ls (.int v :: xv E r :: rest)) :=
  x_put (ci := 0) cx hR hS0 hr ha hk (by decide) rfl in_X0 tyX0 tyX0_ok nmX0 4 (by decide) (Or.inl ⟨q575, rfl⟩) (fun _ h => h) rfl rfl (xput_i rfl) hdg kk
theorem CX2_be_X0_312 {l : Launch} {p : Program} {e : Env} {R : Room} {s : State} {m : MethodId} {args : Array Value} {below : List Frame} {meth : Method} {c : Code} {H : Heap} {locs : List Loc} {cells slots : Nat} {Qz : State → Prop} {cc : ByteArray} {nL : Nat} {ret : Option FieldType} {E : xx_E} {σ : XS} {pc : Nat} {ls : Array Slot} {rest : List Value} {th : Nat} {x1 : Option Nat} (cx : xx_X "StruckCounts" cc nL ret E p s m args meth c) (hR0 : xR E σ H) (hS0 : va_S (xA E) s.heap H locs) {r0 : Option Nat} (hr : r0 = some th) (hk : kd σ th = 3) {Qf : XS → Prop} (hw : wX2_be th x1 σ Qf) (hR : (({ frames := 2, cells := 0, slots := 0, locals := 80 } : Room)).frames + 1 ≤ R.frames ∧ 8 + (2 + 11) + (({ frames := 2, cells := 0, slots := 0, locals := 80 } : Room)).locals ≤ R.locals) (hrest : rest.length ≤ 4) (hsize : ls.size = nL) (hf : cells + 0 ≤ R.cells ∧ slots + 0 ≤ R.slots) (hdg : decode cc pc = .ok (.invokevirtual 312, 3))
    (kk : ∀ (σ1 : XS) (H1 : Heap) (locs1 : List Loc), Qf σ1 → xR E σ1 H1 → va_S (xA E) s.heap H1 locs1 → W p l e R s m args below meth c H1 locs1 (cells + 0) (slots + 0) Qz (F0 m (pc + 3) ls rest)) : W p l e R s m args below meth c H locs cells slots Qz (F0 m pc ls (xv E x1 :: xv E r0 :: rest)) := by
  subst hr
  obtain ⟨hx, hb, hml, hown, hts, hrt, hlk, hK, hZ⟩ := id cx
  exact x_gov (va_runV (As := [xv E x1]) (rest := rest) (x_fix cx) (MX2_be l E th x1 σ Qf hw) (cwV 1 hts (lw_V q2058 q2059 q2060 q168 q2061) rfl rfl rfl (by decide +kernel) hR) (x_preV cx hR0 hS0 hk (by decide) (q := (RX2, TX2, 13)) rfl rfl [xv E x1]) rfl rfl hsize rfl (lv_room (xroom hrest)) hdg hf) hS0 kk
def wX0_keeps_62 (Q : XS → Prop) (th : Nat) (σ : XS) : Prop :=
  kd σ th = 1 ∧ (oc σ (fr σ th 7) 104 (fun a2 => vp_in (fi σ th 4) (ln σ a2) ∧ (oc σ (ar σ a2 ((fi σ th 4).toNatClampNeg)) 3 (fun a4 => wX2_be a4 (fr σ th 6) σ (fun s3 => kd s3 th = 1 ∧ (xK ≤ th ∧ (Q (pfi s3 th 4 ((fi s3 th 4) + (1 : Int32))))))))))
set_option maxHeartbeats 4000000 in
theorem BX0_keeps_62 {l : Launch} {p : Program} {e : Env} {s : State} {m : MethodId} {args : Array Value} {below : List Frame} {meth : Method} {c : Code} {E : xx_E} {Q : XS → Prop} (cx : xx_X "StruckCounts" cX0_keeps 3 none E p s m args meth c) : ∀ (th : Nat) (σ : XS), wX0_keeps_62 Q th σ → x_T p l e ({ frames := 3, cells := 0, slots := 0, locals := 120 } : Room) s m args below meth c E (va_Qv Q (fun σ' t => xW E σ' t) (xA E)) 0 0 3 62 0 0 σ [(0, xv E (some th))] [] := by
  intro th σ hw H locs ls cells slots hR hS hl hcb hsb
  unfold wX0_keeps_62 at hw
  obtain ⟨hx, hb, hml, hown, hts, hrt, hlk, hMK, hZ⟩ := id cx
  refine x_aload_n cx dX0_keeps_62 rfl (lv_at hl 0 rfl) ?_
  obtain ⟨hk1, hw⟩ := hw
  refine xg_X0_35_1 cx hR rfl hk1 dX0_keeps_63 ?_
  refine x_aload_n cx dX0_keeps_66 rfl (lv_at hl 0 rfl) ?_
  refine xg_X0_127_1 cx hR rfl hk1 dX0_keeps_67 ?_
  obtain ⟨a2, hr2, hk2, hw⟩ := hw
  obtain ⟨hi, hw⟩ := hw
  refine x_aald cx hR hr2 4 hk2 (by decide) (by decide) (j := (fi σ th 4).toNatClampNeg) rfl hi dX0_keeps_70 ?_
  refine x_aload_n cx dX0_keeps_71 rfl (lv_at hl 0 rfl) ?_
  refine xg_X0_31_1 cx hR rfl hk1 dX0_keeps_72 ?_
  obtain ⟨a4, hr4, hk4, hw⟩ := hw
  refine CX2_be_X0_312 cx hR hS hr4 hk4 hw ⟨Nat.le_of_ble_eq_true rfl, Nat.le_of_ble_eq_true rfl⟩ (Nat.le_of_ble_eq_true rfl) hl.1 ⟨by dsimp only; omega, by dsimp only; omega⟩ dX0_keeps_75 (fun s3 H locs hw hR hS => ?_)
  refine x_aload_n cx dX0_keeps_78 rfl (lv_at hl 0 rfl) ?_
  refine lv_dup hx hb dX0_keeps_79 (xv_cat _ _) ?_
  obtain ⟨hk5, hw⟩ := hw
  refine xg_X0_127_1 cx hR rfl hk5 dX0_keeps_80 ?_
  refine lv_iconst (v := (1 : Int32)) hx hb dX0_keeps_83 (by decide) ?_
  refine lv_iadd hx hb dX0_keeps_84 ?_
  obtain ⟨hge_th, hw⟩ := hw
  refine xp_X0_127_1 (v := ((fi s3 th 4) + (1 : Int32))) cx hR hS rfl hge_th hk5 dX0_keeps_85 (fun H locs hR hS => ?_)
  exact x_vret cx hR hS (xle hcb) (xle hsb) hw dX0_keeps_88
def wX0_keeps_18 (Q : XS → Prop) (K18 : Nat → Option Nat → Int32 → XS → Prop) (th : Nat) (x1 : Option Nat) (x2 : Int32) (σ : XS) : Prop :=
  if (16 : Int32) ≤ x2 then (kd σ th = 1 ∧ (oc σ (fr σ th 7) 104 (fun a7 => xK ≤ a7 ∧ (vp_in (15 : Int32) (ln σ a7) ∧ (xck [3] σ x1 ∧ (xK ≤ th ∧ (wX0_keeps_62 Q th (pfi (par σ a7 15 x1) th 4 ((fi (par σ a7 15 x1) th 4) - (1 : Int32)))))))))) else (kd σ th = 1 ∧ (oc σ (fr σ th 7) 104 (fun a9 => vp_in x2 (ln σ a9) ∧ (xK ≤ a9 ∧ (vp_in (x2 - (1 : Int32)) (ln σ a9) ∧ (xck [3] σ (ar σ a9 x2.toNatClampNeg) ∧ (∀ v10 : Int32, v10 = x2 + (1 : Int32) → K18 th x1 v10 (par σ a9 ((x2 - (1 : Int32)).toNatClampNeg) (ar σ a9 x2.toNatClampNeg)))))))))
set_option maxHeartbeats 4000000 in
theorem BX0_keeps_18 {l : Launch} {p : Program} {e : Env} {s : State} {m : MethodId} {args : Array Value} {below : List Frame} {meth : Method} {c : Code} {E : xx_E} {Q : XS → Prop} {K18 : Nat → Option Nat → Int32 → XS → Prop} (cx : xx_X "StruckCounts" cX0_keeps 3 none E p s m args meth c) (hK18 : ∀ (th : Nat) (x1 : Option Nat) (x2 : Int32) (σ : XS), K18 th x1 x2 σ → x_T p l e ({ frames := 3, cells := 0, slots := 0, locals := 120 } : Room) s m args below meth c E (va_Qv Q (fun σ' t => xW E σ' t) (xA E)) 0 0 3 18 0 0 σ [(0, xv E (some th)), (1, xv E x1), (2, .int x2)] []) : ∀ (th : Nat) (x1 : Option Nat) (x2 : Int32) (σ : XS), wX0_keeps_18 Q K18 th x1 x2 σ → x_T p l e ({ frames := 3, cells := 0, slots := 0, locals := 120 } : Room) s m args below meth c E (va_Qv Q (fun σ' t => xW E σ' t) (xA E)) 0 0 3 18 0 0 σ [(0, xv E (some th)), (1, xv E x1), (2, .int x2)] [] := by
  intro th x1 x2 σ hw H locs ls cells slots hR hS hl hcb hsb
  unfold wX0_keeps_18 at hw
  obtain ⟨hx, hb, hml, hown, hts, hrt, hlk, hMK, hZ⟩ := id cx
  refine lv_iload_n hx hb dX0_keeps_18 rfl (lv_at hl 2 rfl) ?_
  refine lv_bipush (v := (16 : Int32)) hx hb dX0_keeps_19 (by decide) ?_
  refine lv_icmp_ge (tgt := 44) hx hb dX0_keeps_21 (by decide) (fun hc => ?_) (fun hc => ?_)
  · have hw := mm_ip hc hw
    refine x_aload_n cx dX0_keeps_44 rfl (lv_at hl 0 rfl) ?_
    obtain ⟨hk6, hw⟩ := hw
    refine xg_X0_35_1 cx hR rfl hk6 dX0_keeps_45 ?_
    refine lv_bipush (v := (15 : Int32)) hx hb dX0_keeps_48 (by decide) ?_
    refine x_aload_n cx dX0_keeps_50 rfl (lv_at hl 1 rfl) ?_
    obtain ⟨a7, hr7, hk7, hw⟩ := hw
    obtain ⟨hge_a7, hw⟩ := hw
    obtain ⟨hi, hw⟩ := hw
    obtain ⟨hv, hw⟩ := hw
    refine x_ast cx hR hS hr7 hge_a7 4 (C := "StruckCounts$State") rfl hk7 (by decide) (by decide) (j := 15) (by decide) hi (xcs_104 cx hv) dX0_keeps_51 (fun H locs hR hS => ?_)
    refine x_aload_n cx dX0_keeps_52 rfl (lv_at hl 0 rfl) ?_
    refine lv_dup hx hb dX0_keeps_53 (xv_cat _ _) ?_
    refine xg_X0_127_1 cx hR rfl hk6 dX0_keeps_54 ?_
    refine lv_iconst (v := (1 : Int32)) hx hb dX0_keeps_57 (by decide) ?_
    refine lv_isub hx hb dX0_keeps_58 ?_
    obtain ⟨hge_th, hw⟩ := hw
    refine xp_X0_127_1 (v := ((fi (par σ a7 15 x1) th 4) - (1 : Int32))) cx hR hS rfl hge_th hk6 dX0_keeps_59 (fun H locs hR hS => ?_)
    exact BX0_keeps_62 cx _ _ hw _ _ _ _ _ hR hS (lv_sub hl [0] rfl) hcb hsb
  · have hw := mm_in hc hw
    refine x_aload_n cx dX0_keeps_24 rfl (lv_at hl 0 rfl) ?_
    obtain ⟨hk8, hw⟩ := hw
    refine xg_X0_35_1 cx hR rfl hk8 dX0_keeps_25 ?_
    refine lv_iload_n hx hb dX0_keeps_28 rfl (lv_at hl 2 rfl) ?_
    refine lv_iconst (v := (1 : Int32)) hx hb dX0_keeps_29 (by decide) ?_
    refine lv_isub hx hb dX0_keeps_30 ?_
    refine x_aload_n cx dX0_keeps_31 rfl (lv_at hl 0 rfl) ?_
    refine xg_X0_35_1 cx hR rfl hk8 dX0_keeps_32 ?_
    refine lv_iload_n hx hb dX0_keeps_35 rfl (lv_at hl 2 rfl) ?_
    obtain ⟨a9, hr9, hk9, hw⟩ := hw
    obtain ⟨hi, hw⟩ := hw
    refine x_aald cx hR hr9 4 hk9 (by decide) (by decide) (j := x2.toNatClampNeg) rfl hi dX0_keeps_36 ?_
    obtain ⟨hge_a9, hw⟩ := hw
    obtain ⟨hi, hw⟩ := hw
    obtain ⟨hv, hw⟩ := hw
    refine x_ast cx hR hS hr9 hge_a9 4 (C := "StruckCounts$State") rfl hk9 (by decide) (by decide) (j := (x2 - (1 : Int32)).toNatClampNeg) rfl hi (xcs_104 cx hv) dX0_keeps_37 (fun H locs hR hS => ?_)
    obtain ⟨v10, hv10⟩ : ∃ v : Int32, v = x2 + (1 : Int32) := ⟨_, rfl⟩
    have hw := hw v10 hv10
    refine lv_iinc (v := v10) (lv' := [(2, .int v10), (0, xv E (some th)), (1, xv E x1)]) hx hb dX0_keeps_38 hl (k := 2) rfl (by rw [hv10]; rfl) (by decide) (by simp [xv_cat]) (fun ls hl => ?_)
    refine lv_goto (tgt := 18) hx hb dX0_keeps_41 (by decide) ?_
    exact hK18 _ _ _ _ hw _ _ _ _ _ hR hS (lv_sub hl [1, 2, 0] rfl) hcb hsb
theorem LX0_keeps_18 {l : Launch} {p : Program} {e : Env} {s : State} {m : MethodId} {args : Array Value} {below : List Frame} {meth : Method} {c : Code} {E : xx_E} {Q : XS → Prop} (cx : xx_X "StruckCounts" cX0_keeps 3 none E p s m args meth c) : ∀ (th : Nat) (x1 : Option Nat) (x2 : Int32) (σ : XS), lp4F (wX0_keeps_18 Q) th x1 x2 σ → x_T p l e ({ frames := 3, cells := 0, slots := 0, locals := 120 } : Room) s m args below meth c E (va_Qv Q (fun σ' t => xW E σ' t) (xA E)) 0 0 3 18 0 0 σ [(0, xv E (some th)), (1, xv E x1), (2, .int x2)] [] :=
  lp4F_of (fun K hK => BX0_keeps_18 cx hK)
def wX0_keeps (th : Nat) (σ : XS) (Q : XS → Prop) : Prop :=
  kd σ th = 1 ∧ (if (fi σ th 4) = (16 : Int32) then (oc σ (fr σ th 7) 104 (fun a12 => vp_in (0 : Int32) (ln σ a12) ∧ (lp4F (wX0_keeps_18 Q) th (ar σ a12 0) (1 : Int32) σ))) else (wX0_keeps_62 Q th σ))
set_option maxHeartbeats 4000000 in
theorem MX0_keeps (l : Launch) (E : xx_E) (th : Nat) (σ : XS) (Q : XS → Prop) (hw : wX0_keeps th σ Q) : xx_Mv l yX0_keeps (ws_ yX0_keeps cX0_keeps 3 none) ({ frames := 3, cells := 0, slots := 0, locals := 120 } : Room) E [xv E (some th)] σ Q 0 0 := by
  refine x_of (own := "StruckCounts") (by decide +kernel) rfl ?_
  intro p e s m args below meth c cx hR ha hnm
  refine x_entry [xv E (some th)] 3 [(0, xv E (some th))] ha (by simp [lg_sl, xv_cat, vc_i, vc_j, vc_f]) (by simp [lv_args, xv_cat, vc_i, vc_j, vc_f]) (fun ls hl => ?_)
  have hS : va_S (xA E) s.heap s.heap [] := va_S.rf
  have hcb : 0 + 0 ≤ 0 := Nat.le_of_eq (Nat.zero_add _)
  have hsb : 0 + 0 ≤ 0 := Nat.le_of_eq (Nat.zero_add _)
  unfold wX0_keeps at hw
  obtain ⟨hx, hb, hml, hown, hts, hrt, hlk, hMK, hZ⟩ := id cx
  refine x_aload_n cx dX0_keeps_0 rfl (lv_at hl 0 rfl) ?_
  obtain ⟨hk11, hw⟩ := hw
  refine xg_X0_127_1 cx hR rfl hk11 dX0_keeps_1 ?_
  refine lv_bipush (v := (16 : Int32)) hx hb dX0_keeps_4 (by decide) ?_
  refine lv_icmp_ne (tgt := 62) hx hb dX0_keeps_6 (by decide) (fun hc => ?_) (fun hc => ?_)
  · have hw := mm_in hc hw
    exact BX0_keeps_62 cx _ _ hw _ _ _ _ _ hR hS (lv_sub hl [0] rfl) hcb hsb
  · have hw := mm_ip hc hw
    refine x_aload_n cx dX0_keeps_9 rfl (lv_at hl 0 rfl) ?_
    refine xg_X0_35_1 cx hR rfl hk11 dX0_keeps_10 ?_
    refine lv_iconst (v := (0 : Int32)) hx hb dX0_keeps_13 (by decide) ?_
    obtain ⟨a12, hr12, hk12, hw⟩ := hw
    obtain ⟨hi, hw⟩ := hw
    refine x_aald cx hR hr12 4 hk12 (by decide) (by decide) (j := 0) (by decide) hi dX0_keeps_14 ?_
    refine x_astore_n (i := 1) (r := (ar σ a12 0)) (lv' := [(1, xv E (ar σ a12 0)), (0, xv E (some th))]) cx dX0_keeps_15 rfl hl (by decide) (by simp [xv_cat]) (fun ls hl => ?_)
    refine lv_iconst (v := (1 : Int32)) hx hb dX0_keeps_16 (by decide) ?_
    refine lv_istore_n (i := 2) (lv' := [(2, .int (1 : Int32)), (1, xv E (ar σ a12 0)), (0, xv E (some th))]) hx hb dX0_keeps_17 rfl hl (by decide) (by simp [xv_cat]) (fun ls hl => ?_)
    exact LX0_keeps_18 cx _ _ _ _ hw _ _ _ _ _ hR hS (lv_sub hl [2, 1, 0] rfl) hcb hsb
-- X2_knows
def wX2_knows_35 (Q : XS → Prop) (th : Nat) (t0 : Option Nat) (t1 : Int32) (t2 : Int32) (σ : XS) : Prop :=
  oc σ t0 3 (fun a1 => xK ≤ a1 ∧ (Q (pfi σ a1 8 (t1 ||| t2))))
set_option maxHeartbeats 4000000 in
theorem BX2_knows_35 {l : Launch} {p : Program} {e : Env} {s : State} {m : MethodId} {args : Array Value} {below : List Frame} {meth : Method} {c : Code} {E : xx_E} {Q : XS → Prop} (cx : xx_X "StruckCounts$State" cX2_knows 4 none E p s m args meth c) : ∀ (th : Nat) (t0 : Option Nat) (t1 : Int32) (t2 : Int32) (σ : XS), wX2_knows_35 Q th t0 t1 t2 σ → x_T p l e ({ frames := 0, cells := 0, slots := 0, locals := 0 } : Room) s m args below meth c E (va_Qv Q (fun σ' t => xW E σ' t) (xA E)) 0 0 4 35 0 0 σ [(0, xv E (some th))] [.int t2, .int t1, xv E t0] := by
  intro th t0 t1 t2 σ hw H locs ls cells slots hR hS hl hcb hsb
  unfold wX2_knows_35 at hw
  obtain ⟨hx, hb, hml, hown, hts, hrt, hlk, hMK, hZ⟩ := id cx
  refine lv_ior hx hb dX2_knows_35 ?_
  obtain ⟨a1, hr1, hk1, hw⟩ := hw
  obtain ⟨hge_a1, hw⟩ := hw
  refine xp_X2_47_3 (v := (t1 ||| t2)) cx hR hS hr1 hge_a1 hk1 dX2_knows_36 (fun H locs hR hS => ?_)
  exact x_vret cx hR hS (xle hcb) (xle hsb) hw dX2_knows_39
def wX2_knows (th : Nat) (x1 : Int32) (x2 : Int32) (x3 : Int32) (σ : XS) (Q : XS → Prop) : Prop :=
  kd σ th = 3 ∧ (oc σ (fr σ th 0) 100 (fun a3 => xK ≤ a3 ∧ (vp_in x1 (ln σ a3) ∧ (xK ≤ th ∧ (if x2 = 0 then (wX2_knows_35 Q th (some th) (fi (pfi (pai σ a3 x1.toNatClampNeg x3) th 7 ((fi (pai σ a3 x1.toNatClampNeg x3) th 7) ||| ((1 : Int32) <<< (x1 &&& 31)))) th 8) (0 : Int32) (pfi (pai σ a3 x1.toNatClampNeg x3) th 7 ((fi (pai σ a3 x1.toNatClampNeg x3) th 7) ||| ((1 : Int32) <<< (x1 &&& 31))))) else (wX2_knows_35 Q th (some th) (fi (pfi (pai σ a3 x1.toNatClampNeg x3) th 7 ((fi (pai σ a3 x1.toNatClampNeg x3) th 7) ||| ((1 : Int32) <<< (x1 &&& 31)))) th 8) ((1 : Int32) <<< (x1 &&& 31)) (pfi (pai σ a3 x1.toNatClampNeg x3) th 7 ((fi (pai σ a3 x1.toNatClampNeg x3) th 7) ||| ((1 : Int32) <<< (x1 &&& 31))))))))))
set_option maxHeartbeats 4000000 in
theorem MX2_knows (l : Launch) (E : xx_E) (th : Nat) (x1 : Int32) (x2 : Int32) (x3 : Int32) (σ : XS) (Q : XS → Prop) (hw : wX2_knows th x1 x2 x3 σ Q) : xx_Mv l yX2_knows (ws_ yX2_knows cX2_knows 4 none) ({ frames := 0, cells := 0, slots := 0, locals := 0 } : Room) E [xv E (some th), .int x1, .int x2, .int x3] σ Q 0 0 := by
  refine x_of (own := "StruckCounts$State") (by decide +kernel) rfl ?_
  intro p e s m args below meth c cx hR ha hnm
  refine x_entry [xv E (some th), .int x1, .int x2, .int x3] 4 [(0, xv E (some th)), (1, .int x1), (2, .int x2), (3, .int x3)] ha (by simp [lg_sl, xv_cat, vc_i, vc_j, vc_f]) (by simp [lv_args, xv_cat, vc_i, vc_j, vc_f]) (fun ls hl => ?_)
  have hS : va_S (xA E) s.heap s.heap [] := va_S.rf
  have hcb : 0 + 0 ≤ 0 := Nat.le_of_eq (Nat.zero_add _)
  have hsb : 0 + 0 ≤ 0 := Nat.le_of_eq (Nat.zero_add _)
  unfold wX2_knows at hw
  obtain ⟨hx, hb, hml, hown, hts, hrt, hlk, hMK, hZ⟩ := id cx
  refine x_aload_n cx dX2_knows_0 rfl (lv_at hl 0 rfl) ?_
  obtain ⟨hk2, hw⟩ := hw
  refine xg_X2_9_3 cx hR rfl hk2 dX2_knows_1 ?_
  refine lv_iload_n hx hb dX2_knows_4 rfl (lv_at hl 1 rfl) ?_
  refine lv_iload_n hx hb dX2_knows_5 rfl (lv_at hl 3 rfl) ?_
  obtain ⟨a3, hr3, hk3, hw⟩ := hw
  obtain ⟨hge_a3, hw⟩ := hw
  obtain ⟨hi, hw⟩ := hw
  refine x_iast cx hR hS hr3 hge_a3 hk3 (j := x1.toNatClampNeg) rfl hi dX2_knows_6 (fun H locs hR hS => ?_)
  refine x_aload_n cx dX2_knows_7 rfl (lv_at hl 0 rfl) ?_
  refine lv_dup hx hb dX2_knows_8 (xv_cat _ _) ?_
  refine xg_X2_43_3 cx hR rfl hk2 dX2_knows_9 ?_
  refine lv_iconst (v := (1 : Int32)) hx hb dX2_knows_12 (by decide) ?_
  refine lv_iload_n hx hb dX2_knows_13 rfl (lv_at hl 1 rfl) ?_
  refine lv_ishl hx hb dX2_knows_14 ?_
  refine lv_ior hx hb dX2_knows_15 ?_
  obtain ⟨hge_th, hw⟩ := hw
  refine xp_X2_43_3 (v := ((fi (pai σ a3 x1.toNatClampNeg x3) th 7) ||| ((1 : Int32) <<< (x1 &&& 31)))) cx hR hS rfl hge_th hk2 dX2_knows_16 (fun H locs hR hS => ?_)
  refine x_aload_n cx dX2_knows_19 rfl (lv_at hl 0 rfl) ?_
  refine lv_dup hx hb dX2_knows_20 (xv_cat _ _) ?_
  refine xg_X2_47_3 cx hR rfl hk2 dX2_knows_21 ?_
  refine lv_iload_n hx hb dX2_knows_24 rfl (lv_at hl 2 rfl) ?_
  refine lv_if_eq (tgt := 34) hx hb dX2_knows_25 (by decide) (fun hc => ?_) (fun hc => ?_)
  · have hw := mm_ip hc hw
    refine lv_iconst (v := (0 : Int32)) hx hb dX2_knows_34 (by decide) ?_
    exact BX2_knows_35 cx _ _ _ _ _ hw _ _ _ _ _ hR hS (lv_sub hl [0] rfl) hcb hsb
  · have hw := mm_in hc hw
    refine lv_iconst (v := (1 : Int32)) hx hb dX2_knows_28 (by decide) ?_
    refine lv_iload_n hx hb dX2_knows_29 rfl (lv_at hl 1 rfl) ?_
    refine lv_ishl hx hb dX2_knows_30 ?_
    refine lv_goto (tgt := 35) hx hb dX2_knows_31 (by decide) ?_
    exact BX2_knows_35 cx _ _ _ _ _ hw _ _ _ _ _ hR hS (lv_sub hl [0] rfl) hcb hsb
-- X2_answered
def wX2_answered_24 (Q : Int32 → XS → Prop) (K4 : Nat → Int32 → Int32 → Int32 → XS → Prop) (th : Nat) (x1 : Int32) (x3 : Int32) (t0 : Int32) (t1 : Int32) (σ : XS) : Prop :=
  ∀ v1 : Int32, v1 = (t0 + t1) → ∀ v2 : Int32, v2 = x3 + (1 : Int32) → K4 th x1 v1 v2 σ
set_option maxHeartbeats 4000000 in
theorem BX2_answered_24 {l : Launch} {p : Program} {e : Env} {s : State} {m : MethodId} {args : Array Value} {below : List Frame} {meth : Method} {c : Code} {E : xx_E} {Q : Int32 → XS → Prop} {K4 : Nat → Int32 → Int32 → Int32 → XS → Prop} (cx : xx_X "StruckCounts$State" cX2_answered 4 (some .int) E p s m args meth c) (hK4 : ∀ (th : Nat) (x1 : Int32) (x2 : Int32) (x3 : Int32) (σ : XS), K4 th x1 x2 x3 σ → x_T p l e ({ frames := 0, cells := 0, slots := 0, locals := 0 } : Room) s m args below meth c E (va_Qi Q (fun σ' t => xW E σ' t) (xA E)) 0 0 4 4 0 0 σ [(0, xv E (some th)), (1, .int x1), (2, .int x2), (3, .int x3)] []) : ∀ (th : Nat) (x1 : Int32) (x3 : Int32) (t0 : Int32) (t1 : Int32) (σ : XS), wX2_answered_24 Q K4 th x1 x3 t0 t1 σ → x_T p l e ({ frames := 0, cells := 0, slots := 0, locals := 0 } : Room) s m args below meth c E (va_Qi Q (fun σ' t => xW E σ' t) (xA E)) 0 0 4 24 0 0 σ [(0, xv E (some th)), (1, .int x1), (3, .int x3)] [.int t1, .int t0] := by
  intro th x1 x3 t0 t1 σ hw H locs ls cells slots hR hS hl hcb hsb
  unfold wX2_answered_24 at hw
  obtain ⟨hx, hb, hml, hown, hts, hrt, hlk, hMK, hZ⟩ := id cx
  refine lv_iadd hx hb dX2_answered_24 ?_
  refine lv_topi (fun v1 hv1 => ?_)
  have hw := hw v1 hv1
  refine lv_istore_n (i := 2) (lv' := [(2, .int v1), (0, xv E (some th)), (1, .int x1), (3, .int x3)]) hx hb dX2_answered_25 rfl hl (by decide) rfl (fun ls hl => ?_)
  obtain ⟨v2, hv2⟩ : ∃ v : Int32, v = x3 + (1 : Int32) := ⟨_, rfl⟩
  have hw := hw v2 hv2
  refine lv_iinc (v := v2) (lv' := [(3, .int v2), (2, .int v1), (0, xv E (some th)), (1, .int x1)]) hx hb dX2_answered_26 hl (k := 3) rfl (by rw [hv2]; rfl) (by decide) rfl (fun ls hl => ?_)
  refine lv_goto (tgt := 4) hx hb dX2_answered_29 (by decide) ?_
  exact hK4 _ _ _ _ _ hw _ _ _ _ _ hR hS (lv_sub hl [2, 3, 1, 0] rfl) hcb hsb
def wX2_answered_4 (Q : Int32 → XS → Prop) (K4 : Nat → Int32 → Int32 → Int32 → XS → Prop) (th : Nat) (x1 : Int32) (x2 : Int32) (x3 : Int32) (σ : XS) : Prop :=
  if x1 ≤ x3 then (Q x2 σ) else (kd σ th = 3 ∧ (oc σ (fr σ th 0) 100 (fun a4 => vp_in x3 (ln σ a4) ∧ (if (ai σ a4 x3.toNatClampNeg) = 0 then (wX2_answered_24 Q K4 th x1 x3 x2 (0 : Int32) σ) else (wX2_answered_24 Q K4 th x1 x3 x2 (1 : Int32) σ)))))
set_option maxHeartbeats 4000000 in
theorem BX2_answered_4 {l : Launch} {p : Program} {e : Env} {s : State} {m : MethodId} {args : Array Value} {below : List Frame} {meth : Method} {c : Code} {E : xx_E} {Q : Int32 → XS → Prop} {K4 : Nat → Int32 → Int32 → Int32 → XS → Prop} (cx : xx_X "StruckCounts$State" cX2_answered 4 (some .int) E p s m args meth c) (hK4 : ∀ (th : Nat) (x1 : Int32) (x2 : Int32) (x3 : Int32) (σ : XS), K4 th x1 x2 x3 σ → x_T p l e ({ frames := 0, cells := 0, slots := 0, locals := 0 } : Room) s m args below meth c E (va_Qi Q (fun σ' t => xW E σ' t) (xA E)) 0 0 4 4 0 0 σ [(0, xv E (some th)), (1, .int x1), (2, .int x2), (3, .int x3)] []) : ∀ (th : Nat) (x1 : Int32) (x2 : Int32) (x3 : Int32) (σ : XS), wX2_answered_4 Q K4 th x1 x2 x3 σ → x_T p l e ({ frames := 0, cells := 0, slots := 0, locals := 0 } : Room) s m args below meth c E (va_Qi Q (fun σ' t => xW E σ' t) (xA E)) 0 0 4 4 0 0 σ [(0, xv E (some th)), (1, .int x1), (2, .int x2), (3, .int x3)] [] := by
  intro th x1 x2 x3 σ hw H locs ls cells slots hR hS hl hcb hsb
  unfold wX2_answered_4 at hw
  obtain ⟨hx, hb, hml, hown, hts, hrt, hlk, hMK, hZ⟩ := id cx
  refine lv_iload_n hx hb dX2_answered_4 rfl (lv_at hl 3 rfl) ?_
  refine lv_iload_n hx hb dX2_answered_5 rfl (lv_at hl 1 rfl) ?_
  refine lv_icmp_ge (tgt := 32) hx hb dX2_answered_6 (by decide) (fun hc => ?_) (fun hc => ?_)
  · have hw := mm_ip hc hw
    refine lv_iload_n hx hb dX2_answered_32 rfl (lv_at hl 2 rfl) ?_
    exact x_iret cx hR hS (xle hcb) (xle hsb) hw dX2_answered_33
  · have hw := mm_in hc hw
    refine lv_iload_n hx hb dX2_answered_9 rfl (lv_at hl 2 rfl) ?_
    refine x_aload_n cx dX2_answered_10 rfl (lv_at hl 0 rfl) ?_
    obtain ⟨hk3, hw⟩ := hw
    refine xg_X2_9_3 cx hR rfl hk3 dX2_answered_11 ?_
    refine lv_iload_n hx hb dX2_answered_14 rfl (lv_at hl 3 rfl) ?_
    obtain ⟨a4, hr4, hk4, hw⟩ := hw
    obtain ⟨hi, hw⟩ := hw
    refine x_iald cx hR hr4 hk4 (j := x3.toNatClampNeg) rfl hi dX2_answered_15 ?_
    refine lv_if_ne (tgt := 23) hx hb dX2_answered_16 (by decide) (fun hc => ?_) (fun hc => ?_)
    · have hw := mm_in hc hw
      refine lv_iconst (v := (1 : Int32)) hx hb dX2_answered_23 (by decide) ?_
      exact BX2_answered_24 cx hK4 _ _ _ _ _ _ hw _ _ _ _ _ hR hS (lv_sub hl [0, 1, 3] rfl) hcb hsb
    · have hw := mm_ip hc hw
      refine lv_iconst (v := (0 : Int32)) hx hb dX2_answered_19 (by decide) ?_
      refine lv_goto (tgt := 24) hx hb dX2_answered_20 (by decide) ?_
      exact BX2_answered_24 cx hK4 _ _ _ _ _ _ hw _ _ _ _ _ hR hS (lv_sub hl [0, 1, 3] rfl) hcb hsb
theorem LX2_answered_4 {l : Launch} {p : Program} {e : Env} {s : State} {m : MethodId} {args : Array Value} {below : List Frame} {meth : Method} {c : Code} {E : xx_E} {Q : Int32 → XS → Prop} (cx : xx_X "StruckCounts$State" cX2_answered 4 (some .int) E p s m args meth c) : ∀ (th : Nat) (x1 : Int32) (x2 : Int32) (x3 : Int32) (σ : XS), lp5F (wX2_answered_4 Q) th x1 x2 x3 σ → x_T p l e ({ frames := 0, cells := 0, slots := 0, locals := 0 } : Room) s m args below meth c E (va_Qi Q (fun σ' t => xW E σ' t) (xA E)) 0 0 4 4 0 0 σ [(0, xv E (some th)), (1, .int x1), (2, .int x2), (3, .int x3)] [] :=
  lp5F_of (fun K hK => BX2_answered_4 cx hK)
def wX2_answered (th : Nat) (x1 : Int32) (σ : XS) (Q : Int32 → XS → Prop) : Prop :=
  lp5F (wX2_answered_4 Q) th x1 (0 : Int32) (0 : Int32) σ
set_option maxHeartbeats 4000000 in
theorem MX2_answered (l : Launch) (E : xx_E) (th : Nat) (x1 : Int32) (σ : XS) (Q : Int32 → XS → Prop) (hw : wX2_answered th x1 σ Q) : xx_Mi l yX2_answered (ws_ yX2_answered cX2_answered 4 (some .int)) ({ frames := 0, cells := 0, slots := 0, locals := 0 } : Room) E [xv E (some th), .int x1] σ Q 0 0 := by
  refine x_of (own := "StruckCounts$State") (by decide +kernel) rfl ?_
  intro p e s m args below meth c cx hR ha hnm
  refine x_entry [xv E (some th), .int x1] 4 [(0, xv E (some th)), (1, .int x1)] ha (by simp [lg_sl, xv_cat, vc_i, vc_j, vc_f]) (by simp [lv_args, xv_cat, vc_i, vc_j, vc_f]) (fun ls hl => ?_)
  have hS : va_S (xA E) s.heap s.heap [] := va_S.rf
  have hcb : 0 + 0 ≤ 0 := Nat.le_of_eq (Nat.zero_add _)
  have hsb : 0 + 0 ≤ 0 := Nat.le_of_eq (Nat.zero_add _)
  unfold wX2_answered at hw
  obtain ⟨hx, hb, hml, hown, hts, hrt, hlk, hMK, hZ⟩ := id cx
  refine lv_iconst (v := (0 : Int32)) hx hb dX2_answered_0 (by decide) ?_
  refine lv_istore_n (i := 2) (lv' := [(2, .int (0 : Int32)), (0, xv E (some th)), (1, .int x1)]) hx hb dX2_answered_1 rfl hl (by decide) rfl (fun ls hl => ?_)
  refine lv_iconst (v := (0 : Int32)) hx hb dX2_answered_2 (by decide) ?_
  refine lv_istore_n (i := 3) (lv' := [(3, .int (0 : Int32)), (2, .int (0 : Int32)), (0, xv E (some th)), (1, .int x1)]) hx hb dX2_answered_3 rfl hl (by decide) rfl (fun ls hl => ?_)
  exact LX2_answered_4 cx _ _ _ _ _ hw _ _ _ _ _ hR hS (lv_sub hl [2, 3, 1, 0] rfl) hcb hsb
-- X0_answer
theorem xg_X0_316_3 {l : Launch} {p : Program} {e : Env} {R : Room} {s : State} {m : MethodId} {args : Array Value} {below : List Frame} {meth : Method} {c : Code} {H : Heap} {locs : List Loc} {cells slots : Nat} {Qz : State → Prop} {cc : ByteArray} {nL : Nat} {ret : Option FieldType} {E : xx_E} {σ : XS} {pc : Nat} {ls : Array Slot} {rest : List Value} (cx : xx_X "StruckCounts" cc nL ret E p s m args meth c) (hR : xR E σ H) {a : Nat} {r : Option Nat} (hr : r = some a) (hk : kd σ a = 3) (hdg : decode cc pc = .ok (.getfield 316, 3)) (kk : W p l e R s m args below meth c H locs cells slots Qz (F0 m (pc + 3) ls (.int (fi σ a 12) :: rest))) : W p l e R s m args below meth c H locs cells slots Qz (F0 m pc ls (xv E r :: rest)) :=
  x_getN (ci := 2) cx hR hr hk (by decide) rfl in_X2 12 (by decide) (xx_nf_mem (i := 20) rfl) (fun _ h => h) (v := .int (fi σ a 12)) rfl hdg kk
theorem CX0_mayKnow_X0_320 {l : Launch} {p : Program} {e : Env} {R : Room} {s : State} {m : MethodId} {args : Array Value} {below : List Frame} {meth : Method} {c : Code} {H : Heap} {locs : List Loc} {cells slots : Nat} {Qz : State → Prop} {cc : ByteArray} {nL : Nat} {ret : Option FieldType} {E : xx_E} {σ : XS} {pc : Nat} {ls : Array Slot} {rest : List Value} {th : Nat} {x1 : Int32} {x2 : Int32} (cx : xx_X "StruckCounts" cc nL ret E p s m args meth c) (hR0 : xR E σ H) (hS0 : va_S (xA E) s.heap H locs) {r0 : Option Nat} (hr : r0 = some th) (hk : kd σ th = 1) {Qf : Int32 → XS → Prop} (hw : wX0_mayKnow th x1 x2 σ Qf) (hR : (({ frames := 2, cells := 0, slots := 0, locals := 80 } : Room)).frames + 1 ≤ R.frames ∧ 8 + (3 + 11) + (({ frames := 2, cells := 0, slots := 0, locals := 80 } : Room)).locals ≤ R.locals) (hrest : rest.length ≤ 4) (hsize : ls.size = nL) (hf : cells + 0 ≤ R.cells ∧ slots + 0 ≤ R.slots) (hdg : decode cc pc = .ok (.invokevirtual 320, 3))
    (kk : ∀ (r : Int32) (σ1 : XS) (H1 : Heap) (locs1 : List Loc), Qf r σ1 → xR E σ1 H1 → va_S (xA E) s.heap H1 locs1 → W p l e R s m args below meth c H1 locs1 (cells + 0) (slots + 0) Qz (F0 m (pc + 3) ls (.int r :: rest))) : W p l e R s m args below meth c H locs cells slots Qz (F0 m pc ls (.int x2 :: .int x1 :: xv E r0 :: rest)) := by
  subst hr
  obtain ⟨hx, hb, hml, hown, hts, hrt, hlk, hK, hZ⟩ := id cx
  exact x_goi (va_runV (As := [.int x1, .int x2]) (rest := rest) (x_fix cx) (MX0_mayKnow l E th x1 x2 σ Qf hw) (cwV 2 hts (lw_V q2050 q2052 qs50 q156 q2053) rfl rfl rfl (by decide +kernel) hR) (x_preV cx hR0 hS0 hk (by decide) (q := (RX0, TX0, 24)) rfl rfl [.int x1, .int x2]) rfl rfl hsize rfl (lv_room (xroom hrest)) hdg hf) hS0 kk
theorem CX0_keeps_X0_324 {l : Launch} {p : Program} {e : Env} {R : Room} {s : State} {m : MethodId} {args : Array Value} {below : List Frame} {meth : Method} {c : Code} {H : Heap} {locs : List Loc} {cells slots : Nat} {Qz : State → Prop} {cc : ByteArray} {nL : Nat} {ret : Option FieldType} {E : xx_E} {σ : XS} {pc : Nat} {ls : Array Slot} {rest : List Value} {th : Nat} (cx : xx_X "StruckCounts" cc nL ret E p s m args meth c) (hR0 : xR E σ H) (hS0 : va_S (xA E) s.heap H locs) {r0 : Option Nat} (hr : r0 = some th) (hk : kd σ th = 1) {Qf : XS → Prop} (hw : wX0_keeps th σ Qf) (hR : (({ frames := 3, cells := 0, slots := 0, locals := 120 } : Room)).frames + 1 ≤ R.frames ∧ 8 + (3 + 11) + (({ frames := 3, cells := 0, slots := 0, locals := 120 } : Room)).locals ≤ R.locals) (hrest : rest.length ≤ 4) (hsize : ls.size = nL) (hf : cells + 0 ≤ R.cells ∧ slots + 0 ≤ R.slots) (hdg : decode cc pc = .ok (.invokevirtual 324, 3))
    (kk : ∀ (σ1 : XS) (H1 : Heap) (locs1 : List Loc), Qf σ1 → xR E σ1 H1 → va_S (xA E) s.heap H1 locs1 → W p l e R s m args below meth c H1 locs1 (cells + 0) (slots + 0) Qz (F0 m (pc + 3) ls rest)) : W p l e R s m args below meth c H locs cells slots Qz (F0 m pc ls (xv E r0 :: rest)) := by
  subst hr
  obtain ⟨hx, hb, hml, hown, hts, hrt, hlk, hK, hZ⟩ := id cx
  exact x_gov (va_runV (As := []) (rest := rest) (x_fix cx) (MX0_keeps l E th σ Qf hw) (cwV 0 hts (lw_V q2054 q2056 qs51 q156 q2057) rfl rfl rfl (by decide +kernel) hR) (x_preV cx hR0 hS0 hk (by decide) (q := (RX0, TX0, 24)) rfl rfl []) rfl rfl hsize rfl (lv_room (xroom hrest)) hdg hf) hS0 kk
theorem CX2_knows_X0_327 {l : Launch} {p : Program} {e : Env} {R : Room} {s : State} {m : MethodId} {args : Array Value} {below : List Frame} {meth : Method} {c : Code} {H : Heap} {locs : List Loc} {cells slots : Nat} {Qz : State → Prop} {cc : ByteArray} {nL : Nat} {ret : Option FieldType} {E : xx_E} {σ : XS} {pc : Nat} {ls : Array Slot} {rest : List Value} {th : Nat} {x1 : Int32} {x2 : Int32} {x3 : Int32} (cx : xx_X "StruckCounts" cc nL ret E p s m args meth c) (hR0 : xR E σ H) (hS0 : va_S (xA E) s.heap H locs) {r0 : Option Nat} (hr : r0 = some th) (hk : kd σ th = 3) {Qf : XS → Prop} (hw : wX2_knows th x1 x2 x3 σ Qf) (hR : (({ frames := 0, cells := 0, slots := 0, locals := 0 } : Room)).frames + 1 ≤ R.frames ∧ 8 + (4 + 11) + (({ frames := 0, cells := 0, slots := 0, locals := 0 } : Room)).locals ≤ R.locals) (hrest : rest.length ≤ 4) (hsize : ls.size = nL) (hf : cells + 0 ≤ R.cells ∧ slots + 0 ≤ R.slots) (hdg : decode cc pc = .ok (.invokevirtual 327, 3))
    (kk : ∀ (σ1 : XS) (H1 : Heap) (locs1 : List Loc), Qf σ1 → xR E σ1 H1 → va_S (xA E) s.heap H1 locs1 → W p l e R s m args below meth c H1 locs1 (cells + 0) (slots + 0) Qz (F0 m (pc + 3) ls rest)) : W p l e R s m args below meth c H locs cells slots Qz (F0 m pc ls (.int x3 :: .int x2 :: .int x1 :: xv E r0 :: rest)) := by
  subst hr
  obtain ⟨hx, hb, hml, hown, hts, hrt, hlk, hK, hZ⟩ := id cx
  exact x_gov (va_runV (As := [.int x1, .int x2, .int x3]) (rest := rest) (x_fix cx) (MX2_knows l E th x1 x2 x3 σ Qf hw) (cwV 3 hts (lw_V q2066 q2067 q2068 q168 q2069) rfl rfl rfl (by decide +kernel) hR) (x_preV cx hR0 hS0 hk (by decide) (q := (RX2, TX2, 13)) rfl rfl [.int x1, .int x2, .int x3]) rfl rfl hsize rfl (lv_room (xroom hrest)) hdg hf) hS0 kk
theorem CX2_answered_X0_331 {l : Launch} {p : Program} {e : Env} {R : Room} {s : State} {m : MethodId} {args : Array Value} {below : List Frame} {meth : Method} {c : Code} {H : Heap} {locs : List Loc} {cells slots : Nat} {Qz : State → Prop} {cc : ByteArray} {nL : Nat} {ret : Option FieldType} {E : xx_E} {σ : XS} {pc : Nat} {ls : Array Slot} {rest : List Value} {th : Nat} {x1 : Int32} (cx : xx_X "StruckCounts" cc nL ret E p s m args meth c) (hR0 : xR E σ H) (hS0 : va_S (xA E) s.heap H locs) {r0 : Option Nat} (hr : r0 = some th) (hk : kd σ th = 3) {Qf : Int32 → XS → Prop} (hw : wX2_answered th x1 σ Qf) (hR : (({ frames := 0, cells := 0, slots := 0, locals := 0 } : Room)).frames + 1 ≤ R.frames ∧ 8 + (4 + 11) + (({ frames := 0, cells := 0, slots := 0, locals := 0 } : Room)).locals ≤ R.locals) (hrest : rest.length ≤ 4) (hsize : ls.size = nL) (hf : cells + 0 ≤ R.cells ∧ slots + 0 ≤ R.slots) (hdg : decode cc pc = .ok (.invokevirtual 331, 3))
    (kk : ∀ (r : Int32) (σ1 : XS) (H1 : Heap) (locs1 : List Loc), Qf r σ1 → xR E σ1 H1 → va_S (xA E) s.heap H1 locs1 → W p l e R s m args below meth c H1 locs1 (cells + 0) (slots + 0) Qz (F0 m (pc + 3) ls (.int r :: rest))) : W p l e R s m args below meth c H locs cells slots Qz (F0 m pc ls (.int x1 :: xv E r0 :: rest)) := by
  subst hr
  obtain ⟨hx, hb, hml, hown, hts, hrt, hlk, hK, hZ⟩ := id cx
  exact x_goi (va_runV (As := [.int x1]) (rest := rest) (x_fix cx) (MX2_answered l E th x1 σ Qf hw) (cwV 1 hts (lw_V q2070 q2071 q2072 q168 q2073) rfl rfl rfl (by decide +kernel) hR) (x_preV cx hR0 hS0 hk (by decide) (q := (RX2, TX2, 13)) rfl rfl [.int x1]) rfl rfl hsize rfl (lv_room (xroom hrest)) hdg hf) hS0 kk
def wX0_answer_133 (Q : Int32 → XS → Prop) (th : Nat) (σ : XS) : Prop :=
  kd σ th = 1 ∧ (oc σ (fr σ th 5) 2 (fun a2 => oc σ (fr σ th 6) 3 (fun a4 => wX2_answered a4 (fi σ a2 5) σ (fun r3 s3 => Q r3 s3))))
set_option maxHeartbeats 4000000 in
theorem BX0_answer_133 {l : Launch} {p : Program} {e : Env} {s : State} {m : MethodId} {args : Array Value} {below : List Frame} {meth : Method} {c : Code} {E : xx_E} {Q : Int32 → XS → Prop} (cx : xx_X "StruckCounts" cX0_answer 3 (some .int) E p s m args meth c) : ∀ (th : Nat) (σ : XS), wX0_answer_133 Q th σ → x_T p l e ({ frames := 4, cells := 0, slots := 0, locals := 160 } : Room) s m args below meth c E (va_Qi Q (fun σ' t => xW E σ' t) (xA E)) 0 0 3 133 0 0 σ [(0, xv E (some th))] [] := by
  intro th σ hw H locs ls cells slots hR hS hl hcb hsb
  unfold wX0_answer_133 at hw
  obtain ⟨hx, hb, hml, hown, hts, hrt, hlk, hMK, hZ⟩ := id cx
  refine x_aload_n cx dX0_answer_133 rfl (lv_at hl 0 rfl) ?_
  obtain ⟨hk1, hw⟩ := hw
  refine xg_X0_31_1 cx hR rfl hk1 dX0_answer_134 ?_
  refine x_aload_n cx dX0_answer_137 rfl (lv_at hl 0 rfl) ?_
  refine xg_X0_24_1 cx hR rfl hk1 dX0_answer_138 ?_
  obtain ⟨a2, hr2, hk2, hw⟩ := hw
  refine xg_X0_133_2 cx hR hr2 hk2 dX0_answer_141 ?_
  obtain ⟨a4, hr4, hk4, hw⟩ := hw
  refine CX2_answered_X0_331 cx hR hS hr4 hk4 hw ⟨Nat.le_of_ble_eq_true rfl, Nat.le_of_ble_eq_true rfl⟩ (Nat.le_of_ble_eq_true rfl) hl.1 ⟨by dsimp only; omega, by dsimp only; omega⟩ dX0_answer_144 (fun r3 s3 H locs hw hR hS => ?_)
  exact x_iret cx hR hS (xle hcb) (xle hsb) hw dX0_answer_147
def wX0_answer_116 (Q : Int32 → XS → Prop) (th : Nat) (t0 : Option Nat) (t1 : Int32) (t2 : Int32) (σ : XS) : Prop :=
  oc σ t0 3 (fun a6 => wX2_knows a6 t1 t2 (1 : Int32) σ (fun s5 => wX0_answer_133 Q th s5))
set_option maxHeartbeats 4000000 in
theorem BX0_answer_116 {l : Launch} {p : Program} {e : Env} {s : State} {m : MethodId} {args : Array Value} {below : List Frame} {meth : Method} {c : Code} {E : xx_E} {Q : Int32 → XS → Prop} (cx : xx_X "StruckCounts" cX0_answer 3 (some .int) E p s m args meth c) : ∀ (th : Nat) (t0 : Option Nat) (t1 : Int32) (t2 : Int32) (σ : XS), wX0_answer_116 Q th t0 t1 t2 σ → x_T p l e ({ frames := 4, cells := 0, slots := 0, locals := 160 } : Room) s m args below meth c E (va_Qi Q (fun σ' t => xW E σ' t) (xA E)) 0 0 3 116 0 0 σ [(0, xv E (some th))] [.int t2, .int t1, xv E t0] := by
  intro th t0 t1 t2 σ hw H locs ls cells slots hR hS hl hcb hsb
  unfold wX0_answer_116 at hw
  obtain ⟨hx, hb, hml, hown, hts, hrt, hlk, hMK, hZ⟩ := id cx
  refine lv_iconst (v := (1 : Int32)) hx hb dX0_answer_116 (by decide) ?_
  obtain ⟨a6, hr6, hk6, hw⟩ := hw
  refine CX2_knows_X0_327 cx hR hS hr6 hk6 hw ⟨Nat.le_of_ble_eq_true rfl, Nat.le_of_ble_eq_true rfl⟩ (Nat.le_of_ble_eq_true rfl) hl.1 ⟨by dsimp only; omega, by dsimp only; omega⟩ dX0_answer_117 (fun s5 H locs hw hR hS => ?_)
  refine lv_goto (tgt := 133) hx hb dX0_answer_120 (by decide) ?_
  exact BX0_answer_133 cx _ _ hw _ _ _ _ _ hR hS (lv_sub hl [0] rfl) hcb hsb
def wX0_answer_92 (Q : Int32 → XS → Prop) (th : Nat) (x1 : Int32) (x2 : Int32) (σ : XS) : Prop :=
  kd σ th = 1 ∧ (wX0_keeps th σ (fun s7 => if (2 : Int32) ≤ x2 then (kd s7 th = 1 ∧ (oc s7 (fr s7 th 6) 3 (fun a10 => oc s7 (fr s7 a10 0) 100 (fun a11 => xK ≤ a11 ∧ (vp_in x1 (ln s7 a11) ∧ (wX0_answer_133 Q th (pai s7 a11 x1.toNatClampNeg x2))))))) else (kd s7 th = 1 ∧ (if x2 = (1 : Int32) then (wX0_answer_116 Q th (fr s7 th 6) x1 (1 : Int32) s7) else (wX0_answer_116 Q th (fr s7 th 6) x1 (0 : Int32) s7)))))
set_option maxHeartbeats 4000000 in
theorem BX0_answer_92 {l : Launch} {p : Program} {e : Env} {s : State} {m : MethodId} {args : Array Value} {below : List Frame} {meth : Method} {c : Code} {E : xx_E} {Q : Int32 → XS → Prop} (cx : xx_X "StruckCounts" cX0_answer 3 (some .int) E p s m args meth c) : ∀ (th : Nat) (x1 : Int32) (x2 : Int32) (σ : XS), wX0_answer_92 Q th x1 x2 σ → x_T p l e ({ frames := 4, cells := 0, slots := 0, locals := 160 } : Room) s m args below meth c E (va_Qi Q (fun σ' t => xW E σ' t) (xA E)) 0 0 3 92 0 0 σ [(0, xv E (some th)), (1, .int x1), (2, .int x2)] [] := by
  intro th x1 x2 σ hw H locs ls cells slots hR hS hl hcb hsb
  unfold wX0_answer_92 at hw
  obtain ⟨hx, hb, hml, hown, hts, hrt, hlk, hMK, hZ⟩ := id cx
  refine x_aload_n cx dX0_answer_92 rfl (lv_at hl 0 rfl) ?_
  obtain ⟨hk8, hw⟩ := hw
  refine CX0_keeps_X0_324 cx hR hS rfl hk8 hw ⟨Nat.le_of_ble_eq_true rfl, Nat.le_of_ble_eq_true rfl⟩ (Nat.le_of_ble_eq_true rfl) hl.1 ⟨by dsimp only; omega, by dsimp only; omega⟩ dX0_answer_93 (fun s7 H locs hw hR hS => ?_)
  refine lv_iload_n hx hb dX0_answer_96 rfl (lv_at hl 2 rfl) ?_
  refine lv_iconst (v := (2 : Int32)) hx hb dX0_answer_97 (by decide) ?_
  refine lv_icmp_ge (tgt := 123) hx hb dX0_answer_98 (by decide) (fun hc => ?_) (fun hc => ?_)
  · have hw := mm_ip hc hw
    refine x_aload_n cx dX0_answer_123 rfl (lv_at hl 0 rfl) ?_
    obtain ⟨hk9, hw⟩ := hw
    refine xg_X0_31_1 cx hR rfl hk9 dX0_answer_124 ?_
    obtain ⟨a10, hr10, hk10, hw⟩ := hw
    refine xg_X0_284_3 cx hR hr10 hk10 dX0_answer_127 ?_
    refine lv_iload_n hx hb dX0_answer_130 rfl (lv_at hl 1 rfl) ?_
    refine lv_iload_n hx hb dX0_answer_131 rfl (lv_at hl 2 rfl) ?_
    obtain ⟨a11, hr11, hk11, hw⟩ := hw
    obtain ⟨hge_a11, hw⟩ := hw
    obtain ⟨hi, hw⟩ := hw
    refine x_iast cx hR hS hr11 hge_a11 hk11 (j := x1.toNatClampNeg) rfl hi dX0_answer_132 (fun H locs hR hS => ?_)
    exact BX0_answer_133 cx _ _ hw _ _ _ _ _ hR hS (lv_sub hl [0] rfl) hcb hsb
  · have hw := mm_in hc hw
    refine x_aload_n cx dX0_answer_101 rfl (lv_at hl 0 rfl) ?_
    obtain ⟨hk12, hw⟩ := hw
    refine xg_X0_31_1 cx hR rfl hk12 dX0_answer_102 ?_
    refine lv_iload_n hx hb dX0_answer_105 rfl (lv_at hl 1 rfl) ?_
    refine lv_iload_n hx hb dX0_answer_106 rfl (lv_at hl 2 rfl) ?_
    refine lv_iconst (v := (1 : Int32)) hx hb dX0_answer_107 (by decide) ?_
    refine lv_icmp_ne (tgt := 115) hx hb dX0_answer_108 (by decide) (fun hc => ?_) (fun hc => ?_)
    · have hw := mm_in hc hw
      refine lv_iconst (v := (0 : Int32)) hx hb dX0_answer_115 (by decide) ?_
      exact BX0_answer_116 cx _ _ _ _ _ hw _ _ _ _ _ hR hS (lv_sub hl [0] rfl) hcb hsb
    · have hw := mm_ip hc hw
      refine lv_iconst (v := (1 : Int32)) hx hb dX0_answer_111 (by decide) ?_
      refine lv_goto (tgt := 116) hx hb dX0_answer_112 (by decide) ?_
      exact BX0_answer_116 cx _ _ _ _ _ hw _ _ _ _ _ hR hS (lv_sub hl [0] rfl) hcb hsb
def wX0_answer_83 (Q : Int32 → XS → Prop) (th : Nat) (x1 : Int32) (x2 : Int32) (t0 : Option Nat) (t1 : Int32) (t2 : Int32) (σ : XS) : Prop :=
  oc σ t0 1 (fun a14 => wX0_mayKnow a14 t1 t2 σ (fun r13 s13 => if r13 = 0 then (Q (-4 : Int32) s13) else (wX0_answer_92 Q th x1 x2 s13)))
set_option maxHeartbeats 4000000 in
theorem BX0_answer_83 {l : Launch} {p : Program} {e : Env} {s : State} {m : MethodId} {args : Array Value} {below : List Frame} {meth : Method} {c : Code} {E : xx_E} {Q : Int32 → XS → Prop} (cx : xx_X "StruckCounts" cX0_answer 3 (some .int) E p s m args meth c) : ∀ (th : Nat) (x1 : Int32) (x2 : Int32) (t0 : Option Nat) (t1 : Int32) (t2 : Int32) (σ : XS), wX0_answer_83 Q th x1 x2 t0 t1 t2 σ → x_T p l e ({ frames := 4, cells := 0, slots := 0, locals := 160 } : Room) s m args below meth c E (va_Qi Q (fun σ' t => xW E σ' t) (xA E)) 0 0 3 83 0 0 σ [(0, xv E (some th)), (1, .int x1), (2, .int x2)] [.int t2, .int t1, xv E t0] := by
  intro th x1 x2 t0 t1 t2 σ hw H locs ls cells slots hR hS hl hcb hsb
  unfold wX0_answer_83 at hw
  obtain ⟨hx, hb, hml, hown, hts, hrt, hlk, hMK, hZ⟩ := id cx
  obtain ⟨a14, hr14, hk14, hw⟩ := hw
  refine CX0_mayKnow_X0_320 cx hR hS hr14 hk14 hw ⟨Nat.le_of_ble_eq_true rfl, Nat.le_of_ble_eq_true rfl⟩ (Nat.le_of_ble_eq_true rfl) hl.1 ⟨by dsimp only; omega, by dsimp only; omega⟩ dX0_answer_83 (fun r13 s13 H locs hw hR hS => ?_)
  refine lv_if_ne (tgt := 92) hx hb dX0_answer_86 (by decide) (fun hc => ?_) (fun hc => ?_)
  · have hw := mm_in hc hw
    exact BX0_answer_92 cx _ _ _ _ hw _ _ _ _ _ hR hS (lv_sub hl [0, 1, 2] rfl) hcb hsb
  · have hw := mm_ip hc hw
    refine lv_bipush (v := (-4 : Int32)) hx hb dX0_answer_89 (by decide) ?_
    exact x_iret cx hR hS (xle hcb) (xle hsb) hw dX0_answer_91
def wX0_answer_66 (Q : Int32 → XS → Prop) (th : Nat) (x1 : Int32) (x2 : Int32) (σ : XS) : Prop :=
  if (2 : Int32) ≤ x2 then (wX0_answer_92 Q th x1 x2 σ) else (if x2 = (1 : Int32) then (wX0_answer_83 Q th x1 x2 (some th) x1 (1 : Int32) σ) else (wX0_answer_83 Q th x1 x2 (some th) x1 (0 : Int32) σ))
set_option maxHeartbeats 4000000 in
theorem BX0_answer_66 {l : Launch} {p : Program} {e : Env} {s : State} {m : MethodId} {args : Array Value} {below : List Frame} {meth : Method} {c : Code} {E : xx_E} {Q : Int32 → XS → Prop} (cx : xx_X "StruckCounts" cX0_answer 3 (some .int) E p s m args meth c) : ∀ (th : Nat) (x1 : Int32) (x2 : Int32) (σ : XS), wX0_answer_66 Q th x1 x2 σ → x_T p l e ({ frames := 4, cells := 0, slots := 0, locals := 160 } : Room) s m args below meth c E (va_Qi Q (fun σ' t => xW E σ' t) (xA E)) 0 0 3 66 0 0 σ [(0, xv E (some th)), (1, .int x1), (2, .int x2)] [] := by
  intro th x1 x2 σ hw H locs ls cells slots hR hS hl hcb hsb
  unfold wX0_answer_66 at hw
  obtain ⟨hx, hb, hml, hown, hts, hrt, hlk, hMK, hZ⟩ := id cx
  refine lv_iload_n hx hb dX0_answer_66 rfl (lv_at hl 2 rfl) ?_
  refine lv_iconst (v := (2 : Int32)) hx hb dX0_answer_67 (by decide) ?_
  refine lv_icmp_ge (tgt := 92) hx hb dX0_answer_68 (by decide) (fun hc => ?_) (fun hc => ?_)
  · have hw := mm_ip hc hw
    exact BX0_answer_92 cx _ _ _ _ hw _ _ _ _ _ hR hS (lv_sub hl [0, 1, 2] rfl) hcb hsb
  · have hw := mm_in hc hw
    refine x_aload_n cx dX0_answer_71 rfl (lv_at hl 0 rfl) ?_
    refine lv_iload_n hx hb dX0_answer_72 rfl (lv_at hl 1 rfl) ?_
    refine lv_iload_n hx hb dX0_answer_73 rfl (lv_at hl 2 rfl) ?_
    refine lv_iconst (v := (1 : Int32)) hx hb dX0_answer_74 (by decide) ?_
    refine lv_icmp_ne (tgt := 82) hx hb dX0_answer_75 (by decide) (fun hc => ?_) (fun hc => ?_)
    · have hw := mm_in hc hw
      refine lv_iconst (v := (0 : Int32)) hx hb dX0_answer_82 (by decide) ?_
      exact BX0_answer_83 cx _ _ _ _ _ _ _ hw _ _ _ _ _ hR hS (lv_sub hl [0, 1, 2] rfl) hcb hsb
    · have hw := mm_ip hc hw
      refine lv_iconst (v := (1 : Int32)) hx hb dX0_answer_78 (by decide) ?_
      refine lv_goto (tgt := 83) hx hb dX0_answer_79 (by decide) ?_
      exact BX0_answer_83 cx _ _ _ _ _ _ _ hw _ _ _ _ _ hR hS (lv_sub hl [0, 1, 2] rfl) hcb hsb
def wX0_answer (th : Nat) (x1 : Int32) (x2 : Int32) (σ : XS) (Q : Int32 → XS → Prop) : Prop :=
  kd σ th = 1 ∧ (wX0_isFact th x1 σ (fun r15 s15 => if r15 = 0 then (Q (-1 : Int32) s15) else (wX0_in x2 (0 : Int32) (3 : Int32) s15 (fun r17 s17 => if r17 = 0 then (Q (-1 : Int32) s17) else (kd s17 th = 1 ∧ (oc s17 (fr s17 th 6) 3 (fun a19 => if (fi s17 a19 12) = 0 then (oc s17 (fr s17 a19 0) 100 (fun a20 => vp_in x1 (ln s17 a20) ∧ (if (ai s17 a20 x1.toNatClampNeg) = (1 : Int32) then (Q (-3 : Int32) s17) else (if x2 ≤ (1 : Int32) then (wX0_answer_66 Q th x1 x2 s17) else (vp_in x1 (ln s17 a20) ∧ (if (ai s17 a20 x1.toNatClampNeg) = x2 then (Q (-3 : Int32) s17) else (wX0_answer_66 Q th x1 x2 s17))))))) else (Q (-2 : Int32) s17))))))))
set_option maxHeartbeats 4000000 in
theorem MX0_answer (l : Launch) (E : xx_E) (th : Nat) (x1 : Int32) (x2 : Int32) (σ : XS) (Q : Int32 → XS → Prop) (hw : wX0_answer th x1 x2 σ Q) : xx_Mi l yX0_answer (ws_ yX0_answer cX0_answer 3 (some .int)) ({ frames := 4, cells := 0, slots := 0, locals := 160 } : Room) E [xv E (some th), .int x1, .int x2] σ Q 0 0 := by
  refine x_of (own := "StruckCounts") (by decide +kernel) rfl ?_
  intro p e s m args below meth c cx hR ha hnm
  refine x_entry [xv E (some th), .int x1, .int x2] 3 [(0, xv E (some th)), (1, .int x1), (2, .int x2)] ha (by simp [lg_sl, xv_cat, vc_i, vc_j, vc_f]) (by simp [lv_args, xv_cat, vc_i, vc_j, vc_f]) (fun ls hl => ?_)
  have hS : va_S (xA E) s.heap s.heap [] := va_S.rf
  have hcb : 0 + 0 ≤ 0 := Nat.le_of_eq (Nat.zero_add _)
  have hsb : 0 + 0 ≤ 0 := Nat.le_of_eq (Nat.zero_add _)
  unfold wX0_answer at hw
  obtain ⟨hx, hb, hml, hown, hts, hrt, hlk, hMK, hZ⟩ := id cx
  refine x_aload_n cx dX0_answer_0 rfl (lv_at hl 0 rfl) ?_
  refine lv_iload_n hx hb dX0_answer_1 rfl (lv_at hl 1 rfl) ?_
  obtain ⟨hk16, hw⟩ := hw
  refine CX0_isFact_X0_277 cx hR hS rfl hk16 hw ⟨Nat.le_of_ble_eq_true rfl, Nat.le_of_ble_eq_true rfl⟩ (Nat.le_of_ble_eq_true rfl) hl.1 ⟨by dsimp only; omega, by dsimp only; omega⟩ dX0_answer_2 (fun r15 s15 H locs hw hR hS => ?_)
  refine lv_if_eq (tgt := 17) hx hb dX0_answer_5 (by decide) (fun hc => ?_) (fun hc => ?_)
  · have hw := mm_ip hc hw
    refine lv_iconst (v := (-1 : Int32)) hx hb dX0_answer_17 (by decide) ?_
    exact x_iret cx hR hS (xle hcb) (xle hsb) hw dX0_answer_18
  · have hw := mm_in hc hw
    refine lv_iload_n hx hb dX0_answer_8 rfl (lv_at hl 2 rfl) ?_
    refine lv_iconst (v := (0 : Int32)) hx hb dX0_answer_9 (by decide) ?_
    refine lv_iconst (v := (3 : Int32)) hx hb dX0_answer_10 (by decide) ?_
    refine CX0_in_X0_96 cx hR hS  hw ⟨Nat.le_of_ble_eq_true rfl, Nat.le_of_ble_eq_true rfl⟩ (Nat.le_of_ble_eq_true rfl) hl.1 ⟨by dsimp only; omega, by dsimp only; omega⟩ dX0_answer_11 (fun r17 s17 H locs hw hR hS => ?_)
    refine lv_if_ne (tgt := 19) hx hb dX0_answer_14 (by decide) (fun hc => ?_) (fun hc => ?_)
    · have hw := mm_in hc hw
      refine x_aload_n cx dX0_answer_19 rfl (lv_at hl 0 rfl) ?_
      obtain ⟨hk18, hw⟩ := hw
      refine xg_X0_31_1 cx hR rfl hk18 dX0_answer_20 ?_
      obtain ⟨a19, hr19, hk19, hw⟩ := hw
      refine xg_X0_316_3 cx hR hr19 hk19 dX0_answer_23 ?_
      refine lv_if_eq (tgt := 32) hx hb dX0_answer_26 (by decide) (fun hc => ?_) (fun hc => ?_)
      · have hw := mm_ip hc hw
        refine x_aload_n cx dX0_answer_32 rfl (lv_at hl 0 rfl) ?_
        refine xg_X0_31_1 cx hR rfl hk18 dX0_answer_33 ?_
        refine xg_X0_284_3 cx hR hr19 hk19 dX0_answer_36 ?_
        refine lv_iload_n hx hb dX0_answer_39 rfl (lv_at hl 1 rfl) ?_
        obtain ⟨a20, hr20, hk20, hw⟩ := hw
        obtain ⟨hi, hw⟩ := hw
        refine x_iald cx hR hr20 hk20 (j := x1.toNatClampNeg) rfl hi dX0_answer_40 ?_
        refine lv_iconst (v := (1 : Int32)) hx hb dX0_answer_41 (by decide) ?_
        refine lv_icmp_eq (tgt := 63) hx hb dX0_answer_42 (by decide) (fun hc => ?_) (fun hc => ?_)
        · have hw := mm_ip hc hw
          refine lv_bipush (v := (-3 : Int32)) hx hb dX0_answer_63 (by decide) ?_
          exact x_iret cx hR hS (xle hcb) (xle hsb) hw dX0_answer_65
        · have hw := mm_in hc hw
          refine lv_iload_n hx hb dX0_answer_45 rfl (lv_at hl 2 rfl) ?_
          refine lv_iconst (v := (1 : Int32)) hx hb dX0_answer_46 (by decide) ?_
          refine lv_icmp_le (tgt := 66) hx hb dX0_answer_47 (by decide) (fun hc => ?_) (fun hc => ?_)
          · have hw := mm_ip hc hw
            exact BX0_answer_66 cx _ _ _ _ hw _ _ _ _ _ hR hS (lv_sub hl [0, 1, 2] rfl) hcb hsb
          · have hw := mm_in hc hw
            refine x_aload_n cx dX0_answer_50 rfl (lv_at hl 0 rfl) ?_
            refine xg_X0_31_1 cx hR rfl hk18 dX0_answer_51 ?_
            refine xg_X0_284_3 cx hR hr19 hk19 dX0_answer_54 ?_
            refine lv_iload_n hx hb dX0_answer_57 rfl (lv_at hl 1 rfl) ?_
            obtain ⟨hi, hw⟩ := hw
            refine x_iald cx hR hr20 hk20 (j := x1.toNatClampNeg) rfl hi dX0_answer_58 ?_
            refine lv_iload_n hx hb dX0_answer_59 rfl (lv_at hl 2 rfl) ?_
            refine lv_icmp_ne (tgt := 66) hx hb dX0_answer_60 (by decide) (fun hc => ?_) (fun hc => ?_)
            · have hw := mm_in hc hw
              exact BX0_answer_66 cx _ _ _ _ hw _ _ _ _ _ hR hS (lv_sub hl [0, 1, 2] rfl) hcb hsb
            · have hw := mm_ip hc hw
              refine lv_bipush (v := (-3 : Int32)) hx hb dX0_answer_63 (by decide) ?_
              exact x_iret cx hR hS (xle hcb) (xle hsb) hw dX0_answer_65
      · have hw := mm_in hc hw
        refine lv_bipush (v := (-2 : Int32)) hx hb dX0_answer_29 (by decide) ?_
        exact x_iret cx hR hS (xle hcb) (xle hsb) hw dX0_answer_31
    · have hw := mm_ip hc hw
      refine lv_iconst (v := (-1 : Int32)) hx hb dX0_answer_17 (by decide) ?_
      exact x_iret cx hR hS (xle hcb) (xle hsb) hw dX0_answer_18
-- X0_withdraw
theorem xp_X0_149_3 {l : Launch} {p : Program} {e : Env} {R : Room} {s : State} {m : MethodId} {args : Array Value} {below : List Frame} {meth : Method} {c : Code} {H : Heap} {locs : List Loc} {cells slots : Nat} {Qz : State → Prop} {cc : ByteArray} {nL : Nat} {ret : Option FieldType} {E : xx_E} {σ : XS} {pc : Nat} {ls : Array Slot} {rest : List Value} (cx : xx_X "StruckCounts" cc nL ret E p s m args meth c) (hR : xR E σ H) (hS0 : va_S (xA E) s.heap H locs) {a : Nat} {r : Option Nat} {v : Int32} (hr : r = some a) (ha : xK ≤ a) (hk : kd σ a = 3) (hdg : decode cc pc = .ok (.putfield 149, 3)) (kk : ∀ (H1 : Heap) (locs1 : List Loc), xR E (pfi σ a 7 v) H1 → va_S (xA E) s.heap H1 locs1 → W p l e R s m args below meth c H1 locs1 cells slots Qz (F0 m (pc + 3) ls rest)) : W p l e R s m args below meth c H locs cells slots Qz (F0 m pc ls (.int v :: xv E r :: rest)) :=
  x_put (ci := 2) cx hR hS0 hr ha hk (by decide) rfl in_X2 tyX2 tyX2_ok nmX2 7 (by decide) (Or.inr (Or.inr ⟨_, (xx_nf_mem (i := 15) rfl), rfl⟩)) (fun _ h => h) rfl rfl (xput_i rfl) hdg kk
theorem xp_X0_152_3 {l : Launch} {p : Program} {e : Env} {R : Room} {s : State} {m : MethodId} {args : Array Value} {below : List Frame} {meth : Method} {c : Code} {H : Heap} {locs : List Loc} {cells slots : Nat} {Qz : State → Prop} {cc : ByteArray} {nL : Nat} {ret : Option FieldType} {E : xx_E} {σ : XS} {pc : Nat} {ls : Array Slot} {rest : List Value} (cx : xx_X "StruckCounts" cc nL ret E p s m args meth c) (hR : xR E σ H) (hS0 : va_S (xA E) s.heap H locs) {a : Nat} {r : Option Nat} {v : Int32} (hr : r = some a) (ha : xK ≤ a) (hk : kd σ a = 3) (hdg : decode cc pc = .ok (.putfield 152, 3)) (kk : ∀ (H1 : Heap) (locs1 : List Loc), xR E (pfi σ a 8 v) H1 → va_S (xA E) s.heap H1 locs1 → W p l e R s m args below meth c H1 locs1 cells slots Qz (F0 m (pc + 3) ls rest)) : W p l e R s m args below meth c H locs cells slots Qz (F0 m pc ls (.int v :: xv E r :: rest)) :=
  x_put (ci := 2) cx hR hS0 hr ha hk (by decide) rfl in_X2 tyX2 tyX2_ok nmX2 8 (by decide) (Or.inr (Or.inr ⟨_, (xx_nf_mem (i := 16) rfl), rfl⟩)) (fun _ h => h) rfl rfl (xput_i rfl) hdg kk
def wX0_withdraw (th : Nat) (x1 : Int32) (σ : XS) (Q : Int32 → XS → Prop) : Prop :=
  kd σ th = 1 ∧ (wX0_isFact th x1 σ (fun r1 s1 => if r1 = 0 then (Q (-1 : Int32) s1) else (kd s1 th = 1 ∧ (oc s1 (fr s1 th 6) 3 (fun a4 => if (fi s1 a4 12) = 0 then (oc s1 (fr s1 a4 0) 100 (fun a5 => vp_in x1 (ln s1 a5) ∧ (if (ai s1 a5 x1.toNatClampNeg) = (1 : Int32) then (wX0_keeps th s1 (fun s6 => kd s6 th = 1 ∧ (oc s6 (fr s6 th 6) 3 (fun a8 => oc s6 (fr s6 a8 0) 100 (fun a9 => xK ≤ a9 ∧ (vp_in x1 (ln s6 a9) ∧ (oc (pai s6 a9 x1.toNatClampNeg (0 : Int32)) (fr (pai s6 a9 x1.toNatClampNeg (0 : Int32)) th 6) 3 (fun a10 => xK ≤ a10 ∧ (oc (pfi (pai s6 a9 x1.toNatClampNeg (0 : Int32)) a10 7 ((fi (pai s6 a9 x1.toNatClampNeg (0 : Int32)) a10 7) &&& (((1 : Int32) <<< (x1 &&& 31)) ^^^ (-1 : Int32)))) (fr (pfi (pai s6 a9 x1.toNatClampNeg (0 : Int32)) a10 7 ((fi (pai s6 a9 x1.toNatClampNeg (0 : Int32)) a10 7) &&& (((1 : Int32) <<< (x1 &&& 31)) ^^^ (-1 : Int32)))) th 6) 3 (fun a11 => xK ≤ a11 ∧ (oc (pfi (pfi (pai s6 a9 x1.toNatClampNeg (0 : Int32)) a10 7 ((fi (pai s6 a9 x1.toNatClampNeg (0 : Int32)) a10 7) &&& (((1 : Int32) <<< (x1 &&& 31)) ^^^ (-1 : Int32)))) a11 8 ((fi (pfi (pai s6 a9 x1.toNatClampNeg (0 : Int32)) a10 7 ((fi (pai s6 a9 x1.toNatClampNeg (0 : Int32)) a10 7) &&& (((1 : Int32) <<< (x1 &&& 31)) ^^^ (-1 : Int32)))) a11 8) &&& (((1 : Int32) <<< (x1 &&& 31)) ^^^ (-1 : Int32)))) (fr (pfi (pfi (pai s6 a9 x1.toNatClampNeg (0 : Int32)) a10 7 ((fi (pai s6 a9 x1.toNatClampNeg (0 : Int32)) a10 7) &&& (((1 : Int32) <<< (x1 &&& 31)) ^^^ (-1 : Int32)))) a11 8 ((fi (pfi (pai s6 a9 x1.toNatClampNeg (0 : Int32)) a10 7 ((fi (pai s6 a9 x1.toNatClampNeg (0 : Int32)) a10 7) &&& (((1 : Int32) <<< (x1 &&& 31)) ^^^ (-1 : Int32)))) a11 8) &&& (((1 : Int32) <<< (x1 &&& 31)) ^^^ (-1 : Int32)))) th 5) 2 (fun a12 => oc (pfi (pfi (pai s6 a9 x1.toNatClampNeg (0 : Int32)) a10 7 ((fi (pai s6 a9 x1.toNatClampNeg (0 : Int32)) a10 7) &&& (((1 : Int32) <<< (x1 &&& 31)) ^^^ (-1 : Int32)))) a11 8 ((fi (pfi (pai s6 a9 x1.toNatClampNeg (0 : Int32)) a10 7 ((fi (pai s6 a9 x1.toNatClampNeg (0 : Int32)) a10 7) &&& (((1 : Int32) <<< (x1 &&& 31)) ^^^ (-1 : Int32)))) a11 8) &&& (((1 : Int32) <<< (x1 &&& 31)) ^^^ (-1 : Int32)))) (fr (pfi (pfi (pai s6 a9 x1.toNatClampNeg (0 : Int32)) a10 7 ((fi (pai s6 a9 x1.toNatClampNeg (0 : Int32)) a10 7) &&& (((1 : Int32) <<< (x1 &&& 31)) ^^^ (-1 : Int32)))) a11 8 ((fi (pfi (pai s6 a9 x1.toNatClampNeg (0 : Int32)) a10 7 ((fi (pai s6 a9 x1.toNatClampNeg (0 : Int32)) a10 7) &&& (((1 : Int32) <<< (x1 &&& 31)) ^^^ (-1 : Int32)))) a11 8) &&& (((1 : Int32) <<< (x1 &&& 31)) ^^^ (-1 : Int32)))) th 6) 3 (fun a14 => wX2_answered a14 (fi (pfi (pfi (pai s6 a9 x1.toNatClampNeg (0 : Int32)) a10 7 ((fi (pai s6 a9 x1.toNatClampNeg (0 : Int32)) a10 7) &&& (((1 : Int32) <<< (x1 &&& 31)) ^^^ (-1 : Int32)))) a11 8 ((fi (pfi (pai s6 a9 x1.toNatClampNeg (0 : Int32)) a10 7 ((fi (pai s6 a9 x1.toNatClampNeg (0 : Int32)) a10 7) &&& (((1 : Int32) <<< (x1 &&& 31)) ^^^ (-1 : Int32)))) a11 8) &&& (((1 : Int32) <<< (x1 &&& 31)) ^^^ (-1 : Int32)))) a12 5) (pfi (pfi (pai s6 a9 x1.toNatClampNeg (0 : Int32)) a10 7 ((fi (pai s6 a9 x1.toNatClampNeg (0 : Int32)) a10 7) &&& (((1 : Int32) <<< (x1 &&& 31)) ^^^ (-1 : Int32)))) a11 8 ((fi (pfi (pai s6 a9 x1.toNatClampNeg (0 : Int32)) a10 7 ((fi (pai s6 a9 x1.toNatClampNeg (0 : Int32)) a10 7) &&& (((1 : Int32) <<< (x1 &&& 31)) ^^^ (-1 : Int32)))) a11 8) &&& (((1 : Int32) <<< (x1 &&& 31)) ^^^ (-1 : Int32)))) (fun r13 s13 => Q r13 s13)))))))))))))) else (Q (-3 : Int32) s1)))) else (Q (-2 : Int32) s1))))))
set_option maxHeartbeats 4000000 in
theorem MX0_withdraw (l : Launch) (E : xx_E) (th : Nat) (x1 : Int32) (σ : XS) (Q : Int32 → XS → Prop) (hw : wX0_withdraw th x1 σ Q) : xx_Mi l yX0_withdraw (ws_ yX0_withdraw cX0_withdraw 2 (some .int)) ({ frames := 4, cells := 0, slots := 0, locals := 160 } : Room) E [xv E (some th), .int x1] σ Q 0 0 := by
  refine x_of (own := "StruckCounts") (by decide +kernel) rfl ?_
  intro p e s m args below meth c cx hR ha hnm
  refine x_entry [xv E (some th), .int x1] 2 [(0, xv E (some th)), (1, .int x1)] ha (by simp [lg_sl, xv_cat, vc_i, vc_j, vc_f]) (by simp [lv_args, xv_cat, vc_i, vc_j, vc_f]) (fun ls hl => ?_)
  have hS : va_S (xA E) s.heap s.heap [] := va_S.rf
  have hcb : 0 + 0 ≤ 0 := Nat.le_of_eq (Nat.zero_add _)
  have hsb : 0 + 0 ≤ 0 := Nat.le_of_eq (Nat.zero_add _)
  unfold wX0_withdraw at hw
  obtain ⟨hx, hb, hml, hown, hts, hrt, hlk, hMK, hZ⟩ := id cx
  refine x_aload_n cx dX0_withdraw_0 rfl (lv_at hl 0 rfl) ?_
  refine lv_iload_n hx hb dX0_withdraw_1 rfl (lv_at hl 1 rfl) ?_
  obtain ⟨hk2, hw⟩ := hw
  refine CX0_isFact_X0_277 cx hR hS rfl hk2 hw ⟨Nat.le_of_ble_eq_true rfl, Nat.le_of_ble_eq_true rfl⟩ (Nat.le_of_ble_eq_true rfl) hl.1 ⟨by dsimp only; omega, by dsimp only; omega⟩ dX0_withdraw_2 (fun r1 s1 H locs hw hR hS => ?_)
  refine lv_if_ne (tgt := 10) hx hb dX0_withdraw_5 (by decide) (fun hc => ?_) (fun hc => ?_)
  · have hw := mm_in hc hw
    refine x_aload_n cx dX0_withdraw_10 rfl (lv_at hl 0 rfl) ?_
    obtain ⟨hk3, hw⟩ := hw
    refine xg_X0_31_1 cx hR rfl hk3 dX0_withdraw_11 ?_
    obtain ⟨a4, hr4, hk4, hw⟩ := hw
    refine xg_X0_316_3 cx hR hr4 hk4 dX0_withdraw_14 ?_
    refine lv_if_eq (tgt := 23) hx hb dX0_withdraw_17 (by decide) (fun hc => ?_) (fun hc => ?_)
    · have hw := mm_ip hc hw
      refine x_aload_n cx dX0_withdraw_23 rfl (lv_at hl 0 rfl) ?_
      refine xg_X0_31_1 cx hR rfl hk3 dX0_withdraw_24 ?_
      refine xg_X0_284_3 cx hR hr4 hk4 dX0_withdraw_27 ?_
      refine lv_iload_n hx hb dX0_withdraw_30 rfl (lv_at hl 1 rfl) ?_
      obtain ⟨a5, hr5, hk5, hw⟩ := hw
      obtain ⟨hi, hw⟩ := hw
      refine x_iald cx hR hr5 hk5 (j := x1.toNatClampNeg) rfl hi dX0_withdraw_31 ?_
      refine lv_iconst (v := (1 : Int32)) hx hb dX0_withdraw_32 (by decide) ?_
      refine lv_icmp_eq (tgt := 39) hx hb dX0_withdraw_33 (by decide) (fun hc => ?_) (fun hc => ?_)
      · have hw := mm_ip hc hw
        refine x_aload_n cx dX0_withdraw_39 rfl (lv_at hl 0 rfl) ?_
        refine CX0_keeps_X0_324 cx hR hS rfl hk3 hw ⟨Nat.le_of_ble_eq_true rfl, Nat.le_of_ble_eq_true rfl⟩ (Nat.le_of_ble_eq_true rfl) hl.1 ⟨by dsimp only; omega, by dsimp only; omega⟩ dX0_withdraw_40 (fun s6 H locs hw hR hS => ?_)
        refine x_aload_n cx dX0_withdraw_43 rfl (lv_at hl 0 rfl) ?_
        obtain ⟨hk7, hw⟩ := hw
        refine xg_X0_31_1 cx hR rfl hk7 dX0_withdraw_44 ?_
        obtain ⟨a8, hr8, hk8, hw⟩ := hw
        refine xg_X0_284_3 cx hR hr8 hk8 dX0_withdraw_47 ?_
        refine lv_iload_n hx hb dX0_withdraw_50 rfl (lv_at hl 1 rfl) ?_
        refine lv_iconst (v := (0 : Int32)) hx hb dX0_withdraw_51 (by decide) ?_
        obtain ⟨a9, hr9, hk9, hw⟩ := hw
        obtain ⟨hge_a9, hw⟩ := hw
        obtain ⟨hi, hw⟩ := hw
        refine x_iast cx hR hS hr9 hge_a9 hk9 (j := x1.toNatClampNeg) rfl hi dX0_withdraw_52 (fun H locs hR hS => ?_)
        refine x_aload_n cx dX0_withdraw_53 rfl (lv_at hl 0 rfl) ?_
        refine xg_X0_31_1 cx hR rfl hk7 dX0_withdraw_54 ?_
        refine lv_dup hx hb dX0_withdraw_57 (xv_cat _ _) ?_
        obtain ⟨a10, hr10, hk10, hw⟩ := hw
        refine xg_X0_149_3 cx hR hr10 hk10 dX0_withdraw_58 ?_
        refine lv_iconst (v := (1 : Int32)) hx hb dX0_withdraw_61 (by decide) ?_
        refine lv_iload_n hx hb dX0_withdraw_62 rfl (lv_at hl 1 rfl) ?_
        refine lv_ishl hx hb dX0_withdraw_63 ?_
        refine lv_iconst (v := (-1 : Int32)) hx hb dX0_withdraw_64 (by decide) ?_
        refine lv_ixor hx hb dX0_withdraw_65 ?_
        refine lv_iand hx hb dX0_withdraw_66 ?_
        obtain ⟨hge_a10, hw⟩ := hw
        refine xp_X0_149_3 (v := ((fi (pai s6 a9 x1.toNatClampNeg (0 : Int32)) a10 7) &&& (((1 : Int32) <<< (x1 &&& 31)) ^^^ (-1 : Int32)))) cx hR hS hr10 hge_a10 hk10 dX0_withdraw_67 (fun H locs hR hS => ?_)
        refine x_aload_n cx dX0_withdraw_70 rfl (lv_at hl 0 rfl) ?_
        refine xg_X0_31_1 cx hR rfl hk7 dX0_withdraw_71 ?_
        refine lv_dup hx hb dX0_withdraw_74 (xv_cat _ _) ?_
        obtain ⟨a11, hr11, hk11, hw⟩ := hw
        refine xg_X0_152_3 cx hR hr11 hk11 dX0_withdraw_75 ?_
        refine lv_iconst (v := (1 : Int32)) hx hb dX0_withdraw_78 (by decide) ?_
        refine lv_iload_n hx hb dX0_withdraw_79 rfl (lv_at hl 1 rfl) ?_
        refine lv_ishl hx hb dX0_withdraw_80 ?_
        refine lv_iconst (v := (-1 : Int32)) hx hb dX0_withdraw_81 (by decide) ?_
        refine lv_ixor hx hb dX0_withdraw_82 ?_
        refine lv_iand hx hb dX0_withdraw_83 ?_
        obtain ⟨hge_a11, hw⟩ := hw
        refine xp_X0_152_3 (v := ((fi (pfi (pai s6 a9 x1.toNatClampNeg (0 : Int32)) a10 7 ((fi (pai s6 a9 x1.toNatClampNeg (0 : Int32)) a10 7) &&& (((1 : Int32) <<< (x1 &&& 31)) ^^^ (-1 : Int32)))) a11 8) &&& (((1 : Int32) <<< (x1 &&& 31)) ^^^ (-1 : Int32)))) cx hR hS hr11 hge_a11 hk11 dX0_withdraw_84 (fun H locs hR hS => ?_)
        refine x_aload_n cx dX0_withdraw_87 rfl (lv_at hl 0 rfl) ?_
        refine xg_X0_31_1 cx hR rfl hk7 dX0_withdraw_88 ?_
        refine x_aload_n cx dX0_withdraw_91 rfl (lv_at hl 0 rfl) ?_
        refine xg_X0_24_1 cx hR rfl hk7 dX0_withdraw_92 ?_
        obtain ⟨a12, hr12, hk12, hw⟩ := hw
        refine xg_X0_133_2 cx hR hr12 hk12 dX0_withdraw_95 ?_
        obtain ⟨a14, hr14, hk14, hw⟩ := hw
        refine CX2_answered_X0_331 cx hR hS hr14 hk14 hw ⟨Nat.le_of_ble_eq_true rfl, Nat.le_of_ble_eq_true rfl⟩ (Nat.le_of_ble_eq_true rfl) hl.1 ⟨by dsimp only; omega, by dsimp only; omega⟩ dX0_withdraw_98 (fun r13 s13 H locs hw hR hS => ?_)
        exact x_iret cx hR hS (xle hcb) (xle hsb) hw dX0_withdraw_101
      · have hw := mm_in hc hw
        refine lv_bipush (v := (-3 : Int32)) hx hb dX0_withdraw_36 (by decide) ?_
        exact x_iret cx hR hS (xle hcb) (xle hsb) hw dX0_withdraw_38
    · have hw := mm_in hc hw
      refine lv_bipush (v := (-2 : Int32)) hx hb dX0_withdraw_20 (by decide) ?_
      exact x_iret cx hR hS (xle hcb) (xle hsb) hw dX0_withdraw_22
  · have hw := mm_ip hc hw
    refine lv_iconst (v := (-1 : Int32)) hx hb dX0_withdraw_8 (by decide) ?_
    exact x_iret cx hR hS (xle hcb) (xle hsb) hw dX0_withdraw_9
-- X0_firstSayer
def wX0_firstSayer_45 (Q : Int32 → XS → Prop) (K2 : Nat → Int32 → Int32 → XS → Prop) (th : Nat) (x1 : Int32) (x2 : Int32) (σ : XS) : Prop :=
  ∀ v1 : Int32, v1 = x2 + (1 : Int32) → K2 th x1 v1 σ
set_option maxHeartbeats 4000000 in
theorem BX0_firstSayer_45 {l : Launch} {p : Program} {e : Env} {s : State} {m : MethodId} {args : Array Value} {below : List Frame} {meth : Method} {c : Code} {E : xx_E} {Q : Int32 → XS → Prop} {K2 : Nat → Int32 → Int32 → XS → Prop} (cx : xx_X "StruckCounts" cX0_firstSayer 3 (some .int) E p s m args meth c) (hK2 : ∀ (th : Nat) (x1 : Int32) (x2 : Int32) (σ : XS), K2 th x1 x2 σ → x_T p l e ({ frames := 1, cells := 0, slots := 0, locals := 40 } : Room) s m args below meth c E (va_Qi Q (fun σ' t => xW E σ' t) (xA E)) 0 0 3 2 0 0 σ [(0, xv E (some th)), (1, .int x1), (2, .int x2)] []) : ∀ (th : Nat) (x1 : Int32) (x2 : Int32) (σ : XS), wX0_firstSayer_45 Q K2 th x1 x2 σ → x_T p l e ({ frames := 1, cells := 0, slots := 0, locals := 40 } : Room) s m args below meth c E (va_Qi Q (fun σ' t => xW E σ' t) (xA E)) 0 0 3 45 0 0 σ [(0, xv E (some th)), (1, .int x1), (2, .int x2)] [] := by
  intro th x1 x2 σ hw H locs ls cells slots hR hS hl hcb hsb
  unfold wX0_firstSayer_45 at hw
  obtain ⟨hx, hb, hml, hown, hts, hrt, hlk, hMK, hZ⟩ := id cx
  obtain ⟨v1, hv1⟩ : ∃ v : Int32, v = x2 + (1 : Int32) := ⟨_, rfl⟩
  have hw := hw v1 hv1
  refine lv_iinc (v := v1) (lv' := [(2, .int v1), (0, xv E (some th)), (1, .int x1)]) hx hb dX0_firstSayer_45 hl (k := 2) rfl (by rw [hv1]; rfl) (by decide) rfl (fun ls hl => ?_)
  refine lv_goto (tgt := 2) hx hb dX0_firstSayer_48 (by decide) ?_
  exact hK2 _ _ _ _ hw _ _ _ _ _ hR hS (lv_sub hl [1, 2, 0] rfl) hcb hsb
def wX0_firstSayer_2 (Q : Int32 → XS → Prop) (K2 : Nat → Int32 → Int32 → XS → Prop) (th : Nat) (x1 : Int32) (x2 : Int32) (σ : XS) : Prop :=
  kd σ th = 1 ∧ (oc σ (fr σ th 6) 3 (fun a3 => if (fi σ a3 9) ≤ x2 then (Q (-1 : Int32) σ) else (wX0_has (fi σ a3 10) x2 σ (fun r4 s4 => if r4 = 0 then (kd s4 th = 1 ∧ (oc s4 (fr s4 th 6) 3 (fun a6 => oc s4 (fr s4 a6 5) 100 (fun a7 => vp_in x2 (ln s4 a7) ∧ (wX0_has (ai s4 a7 x2.toNatClampNeg) x1 s4 (fun r8 s8 => if r8 = 0 then (wX0_firstSayer_45 Q K2 th x1 x2 s8) else (Q x2 s8))))))) else (wX0_firstSayer_45 Q K2 th x1 x2 s4)))))
set_option maxHeartbeats 4000000 in
theorem BX0_firstSayer_2 {l : Launch} {p : Program} {e : Env} {s : State} {m : MethodId} {args : Array Value} {below : List Frame} {meth : Method} {c : Code} {E : xx_E} {Q : Int32 → XS → Prop} {K2 : Nat → Int32 → Int32 → XS → Prop} (cx : xx_X "StruckCounts" cX0_firstSayer 3 (some .int) E p s m args meth c) (hK2 : ∀ (th : Nat) (x1 : Int32) (x2 : Int32) (σ : XS), K2 th x1 x2 σ → x_T p l e ({ frames := 1, cells := 0, slots := 0, locals := 40 } : Room) s m args below meth c E (va_Qi Q (fun σ' t => xW E σ' t) (xA E)) 0 0 3 2 0 0 σ [(0, xv E (some th)), (1, .int x1), (2, .int x2)] []) : ∀ (th : Nat) (x1 : Int32) (x2 : Int32) (σ : XS), wX0_firstSayer_2 Q K2 th x1 x2 σ → x_T p l e ({ frames := 1, cells := 0, slots := 0, locals := 40 } : Room) s m args below meth c E (va_Qi Q (fun σ' t => xW E σ' t) (xA E)) 0 0 3 2 0 0 σ [(0, xv E (some th)), (1, .int x1), (2, .int x2)] [] := by
  intro th x1 x2 σ hw H locs ls cells slots hR hS hl hcb hsb
  unfold wX0_firstSayer_2 at hw
  obtain ⟨hx, hb, hml, hown, hts, hrt, hlk, hMK, hZ⟩ := id cx
  refine lv_iload_n hx hb dX0_firstSayer_2 rfl (lv_at hl 2 rfl) ?_
  refine x_aload_n cx dX0_firstSayer_3 rfl (lv_at hl 0 rfl) ?_
  obtain ⟨hk2, hw⟩ := hw
  refine xg_X0_31_1 cx hR rfl hk2 dX0_firstSayer_4 ?_
  obtain ⟨a3, hr3, hk3, hw⟩ := hw
  refine xg_X0_136_3 cx hR hr3 hk3 dX0_firstSayer_7 ?_
  refine lv_icmp_ge (tgt := 51) hx hb dX0_firstSayer_10 (by decide) (fun hc => ?_) (fun hc => ?_)
  · have hw := mm_ip hc hw
    refine lv_iconst (v := (-1 : Int32)) hx hb dX0_firstSayer_51 (by decide) ?_
    exact x_iret cx hR hS (xle hcb) (xle hsb) hw dX0_firstSayer_52
  · have hw := mm_in hc hw
    refine x_aload_n cx dX0_firstSayer_13 rfl (lv_at hl 0 rfl) ?_
    refine xg_X0_31_1 cx hR rfl hk2 dX0_firstSayer_14 ?_
    refine xg_X0_220_3 cx hR hr3 hk3 dX0_firstSayer_17 ?_
    refine lv_iload_n hx hb dX0_firstSayer_20 rfl (lv_at hl 2 rfl) ?_
    refine CX0_has_X0_223 cx hR hS  hw ⟨Nat.le_of_ble_eq_true rfl, Nat.le_of_ble_eq_true rfl⟩ (Nat.le_of_ble_eq_true rfl) hl.1 ⟨by dsimp only; omega, by dsimp only; omega⟩ dX0_firstSayer_21 (fun r4 s4 H locs hw hR hS => ?_)
    refine lv_if_ne (tgt := 45) hx hb dX0_firstSayer_24 (by decide) (fun hc => ?_) (fun hc => ?_)
    · have hw := mm_in hc hw
      exact BX0_firstSayer_45 cx hK2 _ _ _ _ hw _ _ _ _ _ hR hS (lv_sub hl [0, 1, 2] rfl) hcb hsb
    · have hw := mm_ip hc hw
      refine x_aload_n cx dX0_firstSayer_27 rfl (lv_at hl 0 rfl) ?_
      obtain ⟨hk5, hw⟩ := hw
      refine xg_X0_31_1 cx hR rfl hk5 dX0_firstSayer_28 ?_
      obtain ⟨a6, hr6, hk6, hw⟩ := hw
      refine xg_X0_195_3 cx hR hr6 hk6 dX0_firstSayer_31 ?_
      refine lv_iload_n hx hb dX0_firstSayer_34 rfl (lv_at hl 2 rfl) ?_
      obtain ⟨a7, hr7, hk7, hw⟩ := hw
      obtain ⟨hi, hw⟩ := hw
      refine x_iald cx hR hr7 hk7 (j := x2.toNatClampNeg) rfl hi dX0_firstSayer_35 ?_
      refine lv_iload_n hx hb dX0_firstSayer_36 rfl (lv_at hl 1 rfl) ?_
      refine CX0_has_X0_223 cx hR hS  hw ⟨Nat.le_of_ble_eq_true rfl, Nat.le_of_ble_eq_true rfl⟩ (Nat.le_of_ble_eq_true rfl) hl.1 ⟨by dsimp only; omega, by dsimp only; omega⟩ dX0_firstSayer_37 (fun r8 s8 H locs hw hR hS => ?_)
      refine lv_if_eq (tgt := 45) hx hb dX0_firstSayer_40 (by decide) (fun hc => ?_) (fun hc => ?_)
      · have hw := mm_ip hc hw
        exact BX0_firstSayer_45 cx hK2 _ _ _ _ hw _ _ _ _ _ hR hS (lv_sub hl [0, 1, 2] rfl) hcb hsb
      · have hw := mm_in hc hw
        refine lv_iload_n hx hb dX0_firstSayer_43 rfl (lv_at hl 2 rfl) ?_
        exact x_iret cx hR hS (xle hcb) (xle hsb) hw dX0_firstSayer_44
theorem LX0_firstSayer_2 {l : Launch} {p : Program} {e : Env} {s : State} {m : MethodId} {args : Array Value} {below : List Frame} {meth : Method} {c : Code} {E : xx_E} {Q : Int32 → XS → Prop} (cx : xx_X "StruckCounts" cX0_firstSayer 3 (some .int) E p s m args meth c) : ∀ (th : Nat) (x1 : Int32) (x2 : Int32) (σ : XS), lp4F (wX0_firstSayer_2 Q) th x1 x2 σ → x_T p l e ({ frames := 1, cells := 0, slots := 0, locals := 40 } : Room) s m args below meth c E (va_Qi Q (fun σ' t => xW E σ' t) (xA E)) 0 0 3 2 0 0 σ [(0, xv E (some th)), (1, .int x1), (2, .int x2)] [] :=
  lp4F_of (fun K hK => BX0_firstSayer_2 cx hK)
def wX0_firstSayer (th : Nat) (x1 : Int32) (σ : XS) (Q : Int32 → XS → Prop) : Prop :=
  lp4F (wX0_firstSayer_2 Q) th x1 (0 : Int32) σ
set_option maxHeartbeats 4000000 in
theorem MX0_firstSayer (l : Launch) (E : xx_E) (th : Nat) (x1 : Int32) (σ : XS) (Q : Int32 → XS → Prop) (hw : wX0_firstSayer th x1 σ Q) : xx_Mi l yX0_firstSayer (ws_ yX0_firstSayer cX0_firstSayer 3 (some .int)) ({ frames := 1, cells := 0, slots := 0, locals := 40 } : Room) E [xv E (some th), .int x1] σ Q 0 0 := by
  refine x_of (own := "StruckCounts") (by decide +kernel) rfl ?_
  intro p e s m args below meth c cx hR ha hnm
  refine x_entry [xv E (some th), .int x1] 3 [(0, xv E (some th)), (1, .int x1)] ha (by simp [lg_sl, xv_cat, vc_i, vc_j, vc_f]) (by simp [lv_args, xv_cat, vc_i, vc_j, vc_f]) (fun ls hl => ?_)
  have hS : va_S (xA E) s.heap s.heap [] := va_S.rf
  have hcb : 0 + 0 ≤ 0 := Nat.le_of_eq (Nat.zero_add _)
  have hsb : 0 + 0 ≤ 0 := Nat.le_of_eq (Nat.zero_add _)
  unfold wX0_firstSayer at hw
  obtain ⟨hx, hb, hml, hown, hts, hrt, hlk, hMK, hZ⟩ := id cx
  refine lv_iconst (v := (0 : Int32)) hx hb dX0_firstSayer_0 (by decide) ?_
  refine lv_istore_n (i := 2) (lv' := [(2, .int (0 : Int32)), (0, xv E (some th)), (1, .int x1)]) hx hb dX0_firstSayer_1 rfl hl (by decide) rfl (fun ls hl => ?_)
  exact LX0_firstSayer_2 cx _ _ _ _ hw _ _ _ _ _ hR hS (lv_sub hl [1, 2, 0] rfl) hcb hsb
-- X0_close
theorem xp_X0_316_3 {l : Launch} {p : Program} {e : Env} {R : Room} {s : State} {m : MethodId} {args : Array Value} {below : List Frame} {meth : Method} {c : Code} {H : Heap} {locs : List Loc} {cells slots : Nat} {Qz : State → Prop} {cc : ByteArray} {nL : Nat} {ret : Option FieldType} {E : xx_E} {σ : XS} {pc : Nat} {ls : Array Slot} {rest : List Value} (cx : xx_X "StruckCounts" cc nL ret E p s m args meth c) (hR : xR E σ H) (hS0 : va_S (xA E) s.heap H locs) {a : Nat} {r : Option Nat} {v : Int32} (hr : r = some a) (ha : xK ≤ a) (hk : kd σ a = 3) (hz : zb v) (hdg : decode cc pc = .ok (.putfield 316, 3)) (kk : ∀ (H1 : Heap) (locs1 : List Loc), xR E (pfi σ a 12 v) H1 → va_S (xA E) s.heap H1 locs1 → W p l e R s m args below meth c H1 locs1 cells slots Qz (F0 m (pc + 3) ls rest)) : W p l e R s m args below meth c H locs cells slots Qz (F0 m pc ls (.int v :: xv E r :: rest)) :=
  x_put (ci := 2) cx hR hS0 hr ha hk (by decide) rfl in_X2 tyX2 tyX2_ok nmX2 12 (by decide) (Or.inr (Or.inr ⟨_, (xx_nf_mem (i := 20) rfl), rfl⟩)) (fun _ h => h) (zb_nar hz) (by rcases hz with rfl | rfl <;> rfl) (xput_i rfl) hdg kk
theorem CX0_firstSayer_X0_334 {l : Launch} {p : Program} {e : Env} {R : Room} {s : State} {m : MethodId} {args : Array Value} {below : List Frame} {meth : Method} {c : Code} {H : Heap} {locs : List Loc} {cells slots : Nat} {Qz : State → Prop} {cc : ByteArray} {nL : Nat} {ret : Option FieldType} {E : xx_E} {σ : XS} {pc : Nat} {ls : Array Slot} {rest : List Value} {th : Nat} {x1 : Int32} (cx : xx_X "StruckCounts" cc nL ret E p s m args meth c) (hR0 : xR E σ H) (hS0 : va_S (xA E) s.heap H locs) {r0 : Option Nat} (hr : r0 = some th) (hk : kd σ th = 1) {Qf : Int32 → XS → Prop} (hw : wX0_firstSayer th x1 σ Qf) (hR : (({ frames := 1, cells := 0, slots := 0, locals := 40 } : Room)).frames + 1 ≤ R.frames ∧ 8 + (3 + 11) + (({ frames := 1, cells := 0, slots := 0, locals := 40 } : Room)).locals ≤ R.locals) (hrest : rest.length ≤ 4) (hsize : ls.size = nL) (hf : cells + 0 ≤ R.cells ∧ slots + 0 ≤ R.slots) (hdg : decode cc pc = .ok (.invokevirtual 334, 3))
    (kk : ∀ (r : Int32) (σ1 : XS) (H1 : Heap) (locs1 : List Loc), Qf r σ1 → xR E σ1 H1 → va_S (xA E) s.heap H1 locs1 → W p l e R s m args below meth c H1 locs1 (cells + 0) (slots + 0) Qz (F0 m (pc + 3) ls (.int r :: rest))) : W p l e R s m args below meth c H locs cells slots Qz (F0 m pc ls (.int x1 :: xv E r0 :: rest)) := by
  subst hr
  obtain ⟨hx, hb, hml, hown, hts, hrt, hlk, hK, hZ⟩ := id cx
  exact x_goi (va_runV (As := [.int x1]) (rest := rest) (x_fix cx) (MX0_firstSayer l E th x1 σ Qf hw) (cwV 1 hts (lw_V q2082 q2084 qs52 q156 q2085) rfl rfl rfl (by decide +kernel) hR) (x_preV cx hR0 hS0 hk (by decide) (q := (RX0, TX0, 24)) rfl rfl [.int x1]) rfl rfl hsize rfl (lv_room (xroom hrest)) hdg hf) hS0 kk
def wX0_close_114 (Q : Int32 → XS → Prop) (K21 : Nat → Int32 → Int32 → XS → Prop) (th : Nat) (x1 : Int32) (x2 : Int32) (σ : XS) : Prop :=
  ∀ v1 : Int32, v1 = x2 + (1 : Int32) → K21 th x1 v1 σ
set_option maxHeartbeats 4000000 in
theorem BX0_close_114 {l : Launch} {p : Program} {e : Env} {s : State} {m : MethodId} {args : Array Value} {below : List Frame} {meth : Method} {c : Code} {E : xx_E} {Q : Int32 → XS → Prop} {K21 : Nat → Int32 → Int32 → XS → Prop} (cx : xx_X "StruckCounts" cX0_close 5 (some .int) E p s m args meth c) (hK21 : ∀ (th : Nat) (x1 : Int32) (x2 : Int32) (σ : XS), K21 th x1 x2 σ → x_T p l e ({ frames := 4, cells := 0, slots := 0, locals := 160 } : Room) s m args below meth c E (va_Qi Q (fun σ' t => xW E σ' t) (xA E)) 0 0 5 21 0 0 σ [(0, xv E (some th)), (1, .int x1), (2, .int x2)] []) : ∀ (th : Nat) (x1 : Int32) (x2 : Int32) (σ : XS), wX0_close_114 Q K21 th x1 x2 σ → x_T p l e ({ frames := 4, cells := 0, slots := 0, locals := 160 } : Room) s m args below meth c E (va_Qi Q (fun σ' t => xW E σ' t) (xA E)) 0 0 5 114 0 0 σ [(0, xv E (some th)), (1, .int x1), (2, .int x2)] [] := by
  intro th x1 x2 σ hw H locs ls cells slots hR hS hl hcb hsb
  unfold wX0_close_114 at hw
  obtain ⟨hx, hb, hml, hown, hts, hrt, hlk, hMK, hZ⟩ := id cx
  obtain ⟨v1, hv1⟩ : ∃ v : Int32, v = x2 + (1 : Int32) := ⟨_, rfl⟩
  have hw := hw v1 hv1
  refine lv_iinc (v := v1) (lv' := [(2, .int v1), (0, xv E (some th)), (1, .int x1)]) hx hb dX0_close_114 hl (k := 2) rfl (by rw [hv1]; rfl) (by decide) rfl (fun ls hl => ?_)
  refine lv_goto (tgt := 21) hx hb dX0_close_117 (by decide) ?_
  exact hK21 _ _ _ _ hw _ _ _ _ _ hR hS (lv_sub hl [1, 2, 0] rfl) hcb hsb
def wX0_close_53 (Q : Int32 → XS → Prop) (K21 : Nat → Int32 → Int32 → XS → Prop) (th : Nat) (x1 : Int32) (x2 : Int32) (t0 : Int32) (σ : XS) : Prop :=
  if t0 = (-1 : Int32) then (wX0_close_114 Q K21 th x1 x2 σ) else (kd σ th = 1 ∧ (oc σ (fr σ th 6) 3 (fun a3 => oc σ (fr σ a3 6) 100 (fun a4 => vp_in t0 (ln σ a4) ∧ (wX0_has (ai σ a4 t0.toNatClampNeg) x2 σ (fun r5 s5 => kd s5 th = 1 ∧ (wX0_mayKnow th x2 r5 s5 (fun r6 s6 => if r6 = 0 then (kd s6 th = 1 ∧ (oc s6 (fr s6 th 6) 3 (fun a9 => oc s6 (fr s6 a9 0) 100 (fun a10 => xK ≤ a10 ∧ (vp_in x2 (ln s6 a10) ∧ (wX0_close_114 Q K21 th x1 x2 (pai s6 a10 x2.toNatClampNeg (3 : Int32)))))))) else (kd s6 th = 1 ∧ (oc s6 (fr s6 th 6) 3 (fun a13 => wX2_knows a13 x2 r5 (1 : Int32) s6 (fun s12 => ∀ v14 : Int32, v14 = x1 + (1 : Int32) → wX0_close_114 Q K21 th v14 x2 s12))))))))))))
set_option maxHeartbeats 4000000 in
theorem BX0_close_53 {l : Launch} {p : Program} {e : Env} {s : State} {m : MethodId} {args : Array Value} {below : List Frame} {meth : Method} {c : Code} {E : xx_E} {Q : Int32 → XS → Prop} {K21 : Nat → Int32 → Int32 → XS → Prop} (cx : xx_X "StruckCounts" cX0_close 5 (some .int) E p s m args meth c) (hK21 : ∀ (th : Nat) (x1 : Int32) (x2 : Int32) (σ : XS), K21 th x1 x2 σ → x_T p l e ({ frames := 4, cells := 0, slots := 0, locals := 160 } : Room) s m args below meth c E (va_Qi Q (fun σ' t => xW E σ' t) (xA E)) 0 0 5 21 0 0 σ [(0, xv E (some th)), (1, .int x1), (2, .int x2)] []) : ∀ (th : Nat) (x1 : Int32) (x2 : Int32) (t0 : Int32) (σ : XS), wX0_close_53 Q K21 th x1 x2 t0 σ → x_T p l e ({ frames := 4, cells := 0, slots := 0, locals := 160 } : Room) s m args below meth c E (va_Qi Q (fun σ' t => xW E σ' t) (xA E)) 0 0 5 53 0 0 σ [(0, xv E (some th)), (1, .int x1), (2, .int x2)] [.int t0] := by
  intro th x1 x2 t0 σ hw H locs ls cells slots hR hS hl hcb hsb
  unfold wX0_close_53 at hw
  obtain ⟨hx, hb, hml, hown, hts, hrt, hlk, hMK, hZ⟩ := id cx
  refine lv_istore_n (i := 3) (lv' := [(3, .int t0), (0, xv E (some th)), (1, .int x1), (2, .int x2)]) hx hb dX0_close_53 rfl hl (by decide) rfl (fun ls hl => ?_)
  refine lv_iload_n hx hb dX0_close_54 rfl (lv_at hl 0 rfl) ?_
  refine lv_iconst (v := (-1 : Int32)) hx hb dX0_close_55 (by decide) ?_
  refine lv_icmp_ne (tgt := 62) hx hb dX0_close_56 (by decide) (fun hc => ?_) (fun hc => ?_)
  · have hw := mm_in hc hw
    refine x_aload_n cx dX0_close_62 rfl (lv_at hl 1 rfl) ?_
    obtain ⟨hk2, hw⟩ := hw
    refine xg_X0_31_1 cx hR rfl hk2 dX0_close_63 ?_
    obtain ⟨a3, hr3, hk3, hw⟩ := hw
    refine xg_X0_247_3 cx hR hr3 hk3 dX0_close_66 ?_
    refine lv_iload_n hx hb dX0_close_69 rfl (lv_at hl 0 rfl) ?_
    obtain ⟨a4, hr4, hk4, hw⟩ := hw
    obtain ⟨hi, hw⟩ := hw
    refine x_iald cx hR hr4 hk4 (j := t0.toNatClampNeg) rfl hi dX0_close_70 ?_
    refine lv_iload_n hx hb dX0_close_71 rfl (lv_at hl 3 rfl) ?_
    refine CX0_has_X0_223 cx hR hS  hw ⟨Nat.le_of_ble_eq_true rfl, Nat.le_of_ble_eq_true rfl⟩ (Nat.le_of_ble_eq_true rfl) hl.1 ⟨by dsimp only; omega, by dsimp only; omega⟩ dX0_close_72 (fun r5 s5 H locs hw hR hS => ?_)
    refine lv_istore (i := 4) (lv' := [(4, .int r5), (3, .int t0), (0, xv E (some th)), (1, .int x1), (2, .int x2)]) hx hb dX0_close_75 hl (by decide) rfl (fun ls hl => ?_)
    refine x_aload_n cx dX0_close_77 rfl (lv_at hl 2 rfl) ?_
    refine lv_iload_n hx hb dX0_close_78 rfl (lv_at hl 4 rfl) ?_
    refine lv_iload hx hb dX0_close_79 (lv_at hl 0 rfl) ?_
    obtain ⟨hk7, hw⟩ := hw
    refine CX0_mayKnow_X0_320 cx hR hS rfl hk7 hw ⟨Nat.le_of_ble_eq_true rfl, Nat.le_of_ble_eq_true rfl⟩ (Nat.le_of_ble_eq_true rfl) hl.1 ⟨by dsimp only; omega, by dsimp only; omega⟩ dX0_close_81 (fun r6 s6 H locs hw hR hS => ?_)
    refine lv_if_eq (tgt := 104) hx hb dX0_close_84 (by decide) (fun hc => ?_) (fun hc => ?_)
    · have hw := mm_ip hc hw
      refine x_aload_n cx dX0_close_104 rfl (lv_at hl 2 rfl) ?_
      obtain ⟨hk8, hw⟩ := hw
      refine xg_X0_31_1 cx hR rfl hk8 dX0_close_105 ?_
      obtain ⟨a9, hr9, hk9, hw⟩ := hw
      refine xg_X0_284_3 cx hR hr9 hk9 dX0_close_108 ?_
      refine lv_iload_n hx hb dX0_close_111 rfl (lv_at hl 4 rfl) ?_
      refine lv_iconst (v := (3 : Int32)) hx hb dX0_close_112 (by decide) ?_
      obtain ⟨a10, hr10, hk10, hw⟩ := hw
      obtain ⟨hge_a10, hw⟩ := hw
      obtain ⟨hi, hw⟩ := hw
      refine x_iast cx hR hS hr10 hge_a10 hk10 (j := x2.toNatClampNeg) rfl hi dX0_close_113 (fun H locs hR hS => ?_)
      exact BX0_close_114 cx hK21 _ _ _ _ hw _ _ _ _ _ hR hS (lv_sub hl [2, 3, 4] rfl) hcb hsb
    · have hw := mm_in hc hw
      refine x_aload_n cx dX0_close_87 rfl (lv_at hl 2 rfl) ?_
      obtain ⟨hk11, hw⟩ := hw
      refine xg_X0_31_1 cx hR rfl hk11 dX0_close_88 ?_
      refine lv_iload_n hx hb dX0_close_91 rfl (lv_at hl 4 rfl) ?_
      refine lv_iload hx hb dX0_close_92 (lv_at hl 0 rfl) ?_
      refine lv_iconst (v := (1 : Int32)) hx hb dX0_close_94 (by decide) ?_
      obtain ⟨a13, hr13, hk13, hw⟩ := hw
      refine CX2_knows_X0_327 cx hR hS hr13 hk13 hw ⟨Nat.le_of_ble_eq_true rfl, Nat.le_of_ble_eq_true rfl⟩ (Nat.le_of_ble_eq_true rfl) hl.1 ⟨by dsimp only; omega, by dsimp only; omega⟩ dX0_close_95 (fun s12 H locs hw hR hS => ?_)
      obtain ⟨v14, hv14⟩ : ∃ v : Int32, v = x1 + (1 : Int32) := ⟨_, rfl⟩
      have hw := hw v14 hv14
      refine lv_iinc (v := v14) (lv' := [(1, .int v14), (4, .int r5), (3, .int t0), (0, xv E (some th)), (2, .int x2)]) hx hb dX0_close_98 hl (k := 3) rfl (by rw [hv14]; rfl) (by decide) (by simp [xv_cat]) (fun ls hl => ?_)
      refine lv_goto (tgt := 114) hx hb dX0_close_101 (by decide) ?_
      exact BX0_close_114 cx hK21 _ _ _ _ hw _ _ _ _ _ hR hS (lv_sub hl [3, 0, 4] rfl) hcb hsb
  · have hw := mm_ip hc hw
    refine lv_goto (tgt := 114) hx hb dX0_close_59 (by decide) ?_
    exact BX0_close_114 cx hK21 _ _ _ _ hw _ _ _ _ _ hR hS (lv_sub hl [1, 2, 3] rfl) hcb hsb
def wX0_close_21 (Q : Int32 → XS → Prop) (K21 : Nat → Int32 → Int32 → XS → Prop) (th : Nat) (x1 : Int32) (x2 : Int32) (σ : XS) : Prop :=
  kd σ th = 1 ∧ (oc σ (fr σ th 5) 2 (fun a16 => if (fi σ a16 5) ≤ x2 then (oc σ (fr σ th 6) 3 (fun a17 => xK ≤ a17 ∧ (Q x1 (pfi σ a17 12 (1 : Int32))))) else (oc σ (fr σ th 6) 3 (fun a18 => oc σ (fr σ a18 0) 100 (fun a19 => vp_in x2 (ln σ a19) ∧ (if (ai σ a19 x2.toNatClampNeg) = 0 then (wX0_firstSayer th x2 σ (fun r20 s20 => wX0_close_53 Q K21 th x1 x2 r20 s20)) else (wX0_close_53 Q K21 th x1 x2 (-1 : Int32) σ)))))))
set_option maxHeartbeats 4000000 in
theorem BX0_close_21 {l : Launch} {p : Program} {e : Env} {s : State} {m : MethodId} {args : Array Value} {below : List Frame} {meth : Method} {c : Code} {E : xx_E} {Q : Int32 → XS → Prop} {K21 : Nat → Int32 → Int32 → XS → Prop} (cx : xx_X "StruckCounts" cX0_close 5 (some .int) E p s m args meth c) (hK21 : ∀ (th : Nat) (x1 : Int32) (x2 : Int32) (σ : XS), K21 th x1 x2 σ → x_T p l e ({ frames := 4, cells := 0, slots := 0, locals := 160 } : Room) s m args below meth c E (va_Qi Q (fun σ' t => xW E σ' t) (xA E)) 0 0 5 21 0 0 σ [(0, xv E (some th)), (1, .int x1), (2, .int x2)] []) : ∀ (th : Nat) (x1 : Int32) (x2 : Int32) (σ : XS), wX0_close_21 Q K21 th x1 x2 σ → x_T p l e ({ frames := 4, cells := 0, slots := 0, locals := 160 } : Room) s m args below meth c E (va_Qi Q (fun σ' t => xW E σ' t) (xA E)) 0 0 5 21 0 0 σ [(0, xv E (some th)), (1, .int x1), (2, .int x2)] [] := by
  intro th x1 x2 σ hw H locs ls cells slots hR hS hl hcb hsb
  unfold wX0_close_21 at hw
  obtain ⟨hx, hb, hml, hown, hts, hrt, hlk, hMK, hZ⟩ := id cx
  refine lv_iload_n hx hb dX0_close_21 rfl (lv_at hl 2 rfl) ?_
  refine x_aload_n cx dX0_close_22 rfl (lv_at hl 0 rfl) ?_
  obtain ⟨hk15, hw⟩ := hw
  refine xg_X0_24_1 cx hR rfl hk15 dX0_close_23 ?_
  obtain ⟨a16, hr16, hk16, hw⟩ := hw
  refine xg_X0_133_2 cx hR hr16 hk16 dX0_close_26 ?_
  refine lv_icmp_ge (tgt := 120) hx hb dX0_close_29 (by decide) (fun hc => ?_) (fun hc => ?_)
  · have hw := mm_ip hc hw
    refine x_aload_n cx dX0_close_120 rfl (lv_at hl 0 rfl) ?_
    refine xg_X0_31_1 cx hR rfl hk15 dX0_close_121 ?_
    refine lv_iconst (v := (1 : Int32)) hx hb dX0_close_124 (by decide) ?_
    obtain ⟨a17, hr17, hk17, hw⟩ := hw
    obtain ⟨hge_a17, hw⟩ := hw
    refine xp_X0_316_3 (v := (1 : Int32)) cx hR hS hr17 hge_a17 hk17 (Or.inr rfl) dX0_close_125 (fun H locs hR hS => ?_)
    refine lv_iload_n hx hb dX0_close_128 rfl (lv_at hl 1 rfl) ?_
    exact x_iret cx hR hS (xle hcb) (xle hsb) hw dX0_close_129
  · have hw := mm_in hc hw
    refine x_aload_n cx dX0_close_32 rfl (lv_at hl 0 rfl) ?_
    refine xg_X0_31_1 cx hR rfl hk15 dX0_close_33 ?_
    obtain ⟨a18, hr18, hk18, hw⟩ := hw
    refine xg_X0_284_3 cx hR hr18 hk18 dX0_close_36 ?_
    refine lv_iload_n hx hb dX0_close_39 rfl (lv_at hl 2 rfl) ?_
    obtain ⟨a19, hr19, hk19, hw⟩ := hw
    obtain ⟨hi, hw⟩ := hw
    refine x_iald cx hR hr19 hk19 (j := x2.toNatClampNeg) rfl hi dX0_close_40 ?_
    refine lv_if_ne (tgt := 52) hx hb dX0_close_41 (by decide) (fun hc => ?_) (fun hc => ?_)
    · have hw := mm_in hc hw
      refine lv_iconst (v := (-1 : Int32)) hx hb dX0_close_52 (by decide) ?_
      exact BX0_close_53 cx hK21 _ _ _ _ _ hw _ _ _ _ _ hR hS (lv_sub hl [0, 1, 2] rfl) hcb hsb
    · have hw := mm_ip hc hw
      refine x_aload_n cx dX0_close_44 rfl (lv_at hl 0 rfl) ?_
      refine lv_iload_n hx hb dX0_close_45 rfl (lv_at hl 2 rfl) ?_
      refine CX0_firstSayer_X0_334 cx hR hS rfl hk15 hw ⟨Nat.le_of_ble_eq_true rfl, Nat.le_of_ble_eq_true rfl⟩ (Nat.le_of_ble_eq_true rfl) hl.1 ⟨by dsimp only; omega, by dsimp only; omega⟩ dX0_close_46 (fun r20 s20 H locs hw hR hS => ?_)
      refine lv_goto (tgt := 53) hx hb dX0_close_49 (by decide) ?_
      exact BX0_close_53 cx hK21 _ _ _ _ _ hw _ _ _ _ _ hR hS (lv_sub hl [0, 1, 2] rfl) hcb hsb
theorem LX0_close_21 {l : Launch} {p : Program} {e : Env} {s : State} {m : MethodId} {args : Array Value} {below : List Frame} {meth : Method} {c : Code} {E : xx_E} {Q : Int32 → XS → Prop} (cx : xx_X "StruckCounts" cX0_close 5 (some .int) E p s m args meth c) : ∀ (th : Nat) (x1 : Int32) (x2 : Int32) (σ : XS), lp4F (wX0_close_21 Q) th x1 x2 σ → x_T p l e ({ frames := 4, cells := 0, slots := 0, locals := 160 } : Room) s m args below meth c E (va_Qi Q (fun σ' t => xW E σ' t) (xA E)) 0 0 5 21 0 0 σ [(0, xv E (some th)), (1, .int x1), (2, .int x2)] [] :=
  lp4F_of (fun K hK => BX0_close_21 cx hK)
def wX0_close (th : Nat) (σ : XS) (Q : Int32 → XS → Prop) : Prop :=
  kd σ th = 1 ∧ (oc σ (fr σ th 6) 3 (fun a22 => if (fi σ a22 12) = 0 then (wX0_keeps th σ (fun s23 => lp4F (wX0_close_21 Q) th (0 : Int32) (0 : Int32) s23)) else (Q (-2 : Int32) σ)))
set_option maxHeartbeats 4000000 in
theorem MX0_close (l : Launch) (E : xx_E) (th : Nat) (σ : XS) (Q : Int32 → XS → Prop) (hw : wX0_close th σ Q) : xx_Mi l yX0_close (ws_ yX0_close cX0_close 5 (some .int)) ({ frames := 4, cells := 0, slots := 0, locals := 160 } : Room) E [xv E (some th)] σ Q 0 0 := by
  refine x_of (own := "StruckCounts") (by decide +kernel) rfl ?_
  intro p e s m args below meth c cx hR ha hnm
  refine x_entry [xv E (some th)] 5 [(0, xv E (some th))] ha (by simp [lg_sl, xv_cat, vc_i, vc_j, vc_f]) (by simp [lv_args, xv_cat, vc_i, vc_j, vc_f]) (fun ls hl => ?_)
  have hS : va_S (xA E) s.heap s.heap [] := va_S.rf
  have hcb : 0 + 0 ≤ 0 := Nat.le_of_eq (Nat.zero_add _)
  have hsb : 0 + 0 ≤ 0 := Nat.le_of_eq (Nat.zero_add _)
  unfold wX0_close at hw
  obtain ⟨hx, hb, hml, hown, hts, hrt, hlk, hMK, hZ⟩ := id cx
  refine x_aload_n cx dX0_close_0 rfl (lv_at hl 0 rfl) ?_
  obtain ⟨hk21, hw⟩ := hw
  refine xg_X0_31_1 cx hR rfl hk21 dX0_close_1 ?_
  obtain ⟨a22, hr22, hk22, hw⟩ := hw
  refine xg_X0_316_3 cx hR hr22 hk22 dX0_close_4 ?_
  refine lv_if_eq (tgt := 13) hx hb dX0_close_7 (by decide) (fun hc => ?_) (fun hc => ?_)
  · have hw := mm_ip hc hw
    refine x_aload_n cx dX0_close_13 rfl (lv_at hl 0 rfl) ?_
    refine CX0_keeps_X0_324 cx hR hS rfl hk21 hw ⟨Nat.le_of_ble_eq_true rfl, Nat.le_of_ble_eq_true rfl⟩ (Nat.le_of_ble_eq_true rfl) hl.1 ⟨by dsimp only; omega, by dsimp only; omega⟩ dX0_close_14 (fun s23 H locs hw hR hS => ?_)
    refine lv_iconst (v := (0 : Int32)) hx hb dX0_close_17 (by decide) ?_
    refine lv_istore_n (i := 1) (lv' := [(1, .int (0 : Int32)), (0, xv E (some th))]) hx hb dX0_close_18 rfl hl (by decide) (by simp [xv_cat]) (fun ls hl => ?_)
    refine lv_iconst (v := (0 : Int32)) hx hb dX0_close_19 (by decide) ?_
    refine lv_istore_n (i := 2) (lv' := [(2, .int (0 : Int32)), (1, .int (0 : Int32)), (0, xv E (some th))]) hx hb dX0_close_20 rfl hl (by decide) rfl (fun ls hl => ?_)
    exact LX0_close_21 cx _ _ _ _ hw _ _ _ _ _ hR hS (lv_sub hl [2, 1, 0] rfl) hcb hsb
  · have hw := mm_in hc hw
    refine lv_bipush (v := (-2 : Int32)) hx hb dX0_close_10 (by decide) ?_
    exact x_iret cx hR hS (xle hcb) (xle hsb) hw dX0_close_12
-- X0_find
def wX0_find (th : Nat) (x1 : Int32) (x2 : Int32) (σ : XS) (Q : Int32 → XS → Prop) : Prop :=
  kd σ th = 1 ∧ (wX0_isFact th x1 σ (fun r1 s1 => if r1 = 0 then (Q (-1 : Int32) s1) else (kd s1 th = 1 ∧ (oc s1 (fr s1 th 6) 3 (fun a4 => if (fi s1 a4 12) = 0 then (Q (-2 : Int32) s1) else (wX0_has (fi s1 a4 7) x1 s1 (fun r5 s5 => if r5 = 0 then (kd s5 th = 1 ∧ (wX0_mayKnow th x1 x2 s5 (fun r6 s6 => if r6 = 0 then (Q (-4 : Int32) s6) else (kd s6 th = 1 ∧ (wX0_keeps th s6 (fun s8 => kd s8 th = 1 ∧ (oc s8 (fr s8 th 6) 3 (fun a12 => wX2_knows a12 x1 x2 (4 : Int32) s8 (fun s11 => kd s11 th = 1 ∧ (oc s11 (fr s11 th 5) 2 (fun a14 => oc s11 (fr s11 th 6) 3 (fun a15 => wJ11_bitCount (fi s11 a15 7) s11 (fun r16 s16 => Q ((fi s11 a14 5) - r16) s16))))))))))))) else (Q (-3 : Int32) s5))))))))
set_option maxHeartbeats 4000000 in
theorem MX0_find (l : Launch) (E : xx_E) (th : Nat) (x1 : Int32) (x2 : Int32) (σ : XS) (Q : Int32 → XS → Prop) (hw : wX0_find th x1 x2 σ Q) : xx_Mi l yX0_find (ws_ yX0_find cX0_find 3 (some .int)) ({ frames := 4, cells := 0, slots := 0, locals := 160 } : Room) E [xv E (some th), .int x1, .int x2] σ Q 0 0 := by
  refine x_of (own := "StruckCounts") (by decide +kernel) rfl ?_
  intro p e s m args below meth c cx hR ha hnm
  refine x_entry [xv E (some th), .int x1, .int x2] 3 [(0, xv E (some th)), (1, .int x1), (2, .int x2)] ha (by simp [lg_sl, xv_cat, vc_i, vc_j, vc_f]) (by simp [lv_args, xv_cat, vc_i, vc_j, vc_f]) (fun ls hl => ?_)
  have hS : va_S (xA E) s.heap s.heap [] := va_S.rf
  have hcb : 0 + 0 ≤ 0 := Nat.le_of_eq (Nat.zero_add _)
  have hsb : 0 + 0 ≤ 0 := Nat.le_of_eq (Nat.zero_add _)
  unfold wX0_find at hw
  obtain ⟨hx, hb, hml, hown, hts, hrt, hlk, hMK, hZ⟩ := id cx
  refine x_aload_n cx dX0_find_0 rfl (lv_at hl 0 rfl) ?_
  refine lv_iload_n hx hb dX0_find_1 rfl (lv_at hl 1 rfl) ?_
  obtain ⟨hk2, hw⟩ := hw
  refine CX0_isFact_X0_277 cx hR hS rfl hk2 hw ⟨Nat.le_of_ble_eq_true rfl, Nat.le_of_ble_eq_true rfl⟩ (Nat.le_of_ble_eq_true rfl) hl.1 ⟨by dsimp only; omega, by dsimp only; omega⟩ dX0_find_2 (fun r1 s1 H locs hw hR hS => ?_)
  refine lv_if_ne (tgt := 10) hx hb dX0_find_5 (by decide) (fun hc => ?_) (fun hc => ?_)
  · have hw := mm_in hc hw
    refine x_aload_n cx dX0_find_10 rfl (lv_at hl 0 rfl) ?_
    obtain ⟨hk3, hw⟩ := hw
    refine xg_X0_31_1 cx hR rfl hk3 dX0_find_11 ?_
    obtain ⟨a4, hr4, hk4, hw⟩ := hw
    refine xg_X0_316_3 cx hR hr4 hk4 dX0_find_14 ?_
    refine lv_if_ne (tgt := 23) hx hb dX0_find_17 (by decide) (fun hc => ?_) (fun hc => ?_)
    · have hw := mm_in hc hw
      refine x_aload_n cx dX0_find_23 rfl (lv_at hl 0 rfl) ?_
      refine xg_X0_31_1 cx hR rfl hk3 dX0_find_24 ?_
      refine xg_X0_149_3 cx hR hr4 hk4 dX0_find_27 ?_
      refine lv_iload_n hx hb dX0_find_30 rfl (lv_at hl 1 rfl) ?_
      refine CX0_has_X0_223 cx hR hS  hw ⟨Nat.le_of_ble_eq_true rfl, Nat.le_of_ble_eq_true rfl⟩ (Nat.le_of_ble_eq_true rfl) hl.1 ⟨by dsimp only; omega, by dsimp only; omega⟩ dX0_find_31 (fun r5 s5 H locs hw hR hS => ?_)
      refine lv_if_eq (tgt := 40) hx hb dX0_find_34 (by decide) (fun hc => ?_) (fun hc => ?_)
      · have hw := mm_ip hc hw
        refine x_aload_n cx dX0_find_40 rfl (lv_at hl 0 rfl) ?_
        refine lv_iload_n hx hb dX0_find_41 rfl (lv_at hl 1 rfl) ?_
        refine lv_iload_n hx hb dX0_find_42 rfl (lv_at hl 2 rfl) ?_
        obtain ⟨hk7, hw⟩ := hw
        refine CX0_mayKnow_X0_320 cx hR hS rfl hk7 hw ⟨Nat.le_of_ble_eq_true rfl, Nat.le_of_ble_eq_true rfl⟩ (Nat.le_of_ble_eq_true rfl) hl.1 ⟨by dsimp only; omega, by dsimp only; omega⟩ dX0_find_43 (fun r6 s6 H locs hw hR hS => ?_)
        refine lv_if_ne (tgt := 52) hx hb dX0_find_46 (by decide) (fun hc => ?_) (fun hc => ?_)
        · have hw := mm_in hc hw
          refine x_aload_n cx dX0_find_52 rfl (lv_at hl 0 rfl) ?_
          obtain ⟨hk9, hw⟩ := hw
          refine CX0_keeps_X0_324 cx hR hS rfl hk9 hw ⟨Nat.le_of_ble_eq_true rfl, Nat.le_of_ble_eq_true rfl⟩ (Nat.le_of_ble_eq_true rfl) hl.1 ⟨by dsimp only; omega, by dsimp only; omega⟩ dX0_find_53 (fun s8 H locs hw hR hS => ?_)
          refine x_aload_n cx dX0_find_56 rfl (lv_at hl 0 rfl) ?_
          obtain ⟨hk10, hw⟩ := hw
          refine xg_X0_31_1 cx hR rfl hk10 dX0_find_57 ?_
          refine lv_iload_n hx hb dX0_find_60 rfl (lv_at hl 1 rfl) ?_
          refine lv_iload_n hx hb dX0_find_61 rfl (lv_at hl 2 rfl) ?_
          refine lv_iconst (v := (4 : Int32)) hx hb dX0_find_62 (by decide) ?_
          obtain ⟨a12, hr12, hk12, hw⟩ := hw
          refine CX2_knows_X0_327 cx hR hS hr12 hk12 hw ⟨Nat.le_of_ble_eq_true rfl, Nat.le_of_ble_eq_true rfl⟩ (Nat.le_of_ble_eq_true rfl) hl.1 ⟨by dsimp only; omega, by dsimp only; omega⟩ dX0_find_63 (fun s11 H locs hw hR hS => ?_)
          refine x_aload_n cx dX0_find_66 rfl (lv_at hl 0 rfl) ?_
          obtain ⟨hk13, hw⟩ := hw
          refine xg_X0_24_1 cx hR rfl hk13 dX0_find_67 ?_
          obtain ⟨a14, hr14, hk14, hw⟩ := hw
          refine xg_X0_133_2 cx hR hr14 hk14 dX0_find_70 ?_
          refine x_aload_n cx dX0_find_73 rfl (lv_at hl 0 rfl) ?_
          refine xg_X0_31_1 cx hR rfl hk13 dX0_find_74 ?_
          obtain ⟨a15, hr15, hk15, hw⟩ := hw
          refine xg_X0_149_3 cx hR hr15 hk15 dX0_find_77 ?_
          refine CJ11_bitCount_X0_198 cx hR hS  hw ⟨Nat.le_of_ble_eq_true rfl, Nat.le_of_ble_eq_true rfl⟩ (Nat.le_of_ble_eq_true rfl) hl.1 ⟨by dsimp only; omega, by dsimp only; omega⟩ dX0_find_80 (fun r16 s16 H locs hw hR hS => ?_)
          refine lv_isub hx hb dX0_find_83 ?_
          exact x_iret cx hR hS (xle hcb) (xle hsb) hw dX0_find_84
        · have hw := mm_ip hc hw
          refine lv_bipush (v := (-4 : Int32)) hx hb dX0_find_49 (by decide) ?_
          exact x_iret cx hR hS (xle hcb) (xle hsb) hw dX0_find_51
      · have hw := mm_in hc hw
        refine lv_bipush (v := (-3 : Int32)) hx hb dX0_find_37 (by decide) ?_
        exact x_iret cx hR hS (xle hcb) (xle hsb) hw dX0_find_39
    · have hw := mm_ip hc hw
      refine lv_bipush (v := (-2 : Int32)) hx hb dX0_find_20 (by decide) ?_
      exact x_iret cx hR hS (xle hcb) (xle hsb) hw dX0_find_22
  · have hw := mm_ip hc hw
    refine lv_iconst (v := (-1 : Int32)) hx hb dX0_find_8 (by decide) ?_
    exact x_iret cx hR hS (xle hcb) (xle hsb) hw dX0_find_9
-- X0_saysSo
def wX0_saysSo_55 (Q : Int32 → XS → Prop) (th : Nat) (t0 : Int32) (t1 : Int32) (σ : XS) : Prop :=
  if t0 = t1 then (Q (1 : Int32) σ) else (Q (0 : Int32) σ)
set_option maxHeartbeats 4000000 in
theorem BX0_saysSo_55 {l : Launch} {p : Program} {e : Env} {s : State} {m : MethodId} {args : Array Value} {below : List Frame} {meth : Method} {c : Code} {E : xx_E} {Q : Int32 → XS → Prop} (cx : xx_X "StruckCounts" cX0_saysSo 4 (some .boolean) E p s m args meth c) : ∀ (th : Nat) (t0 : Int32) (t1 : Int32) (σ : XS), wX0_saysSo_55 Q th t0 t1 σ → x_T p l e ({ frames := 1, cells := 0, slots := 0, locals := 40 } : Room) s m args below meth c E (va_Qi Q (fun σ' t => xW E σ' t) (xA E)) 0 0 4 55 0 0 σ [(0, xv E (some th))] [.int t1, .int t0] := by
  intro th t0 t1 σ hw H locs ls cells slots hR hS hl hcb hsb
  unfold wX0_saysSo_55 at hw
  obtain ⟨hx, hb, hml, hown, hts, hrt, hlk, hMK, hZ⟩ := id cx
  refine lv_icmp_ne (tgt := 62) hx hb dX0_saysSo_55 (by decide) (fun hc => ?_) (fun hc => ?_)
  · have hw := mm_in hc hw
    refine lv_iconst (v := (0 : Int32)) hx hb dX0_saysSo_62 (by decide) ?_
    exact x_nret cx hR hS (xle hcb) (xle hsb) (zb_nar (Or.inl rfl)) hw dX0_saysSo_63
  · have hw := mm_ip hc hw
    refine lv_iconst (v := (1 : Int32)) hx hb dX0_saysSo_58 (by decide) ?_
    refine lv_goto (tgt := 63) hx hb dX0_saysSo_59 (by decide) ?_
    exact x_nret cx hR hS (xle hcb) (xle hsb) (zb_nar (Or.inr rfl)) hw dX0_saysSo_63
def wX0_saysSo (th : Nat) (x1 : Int32) (x2 : Int32) (x3 : Int32) (σ : XS) (Q : Int32 → XS → Prop) : Prop :=
  kd σ th = 1 ∧ (oc σ (fr σ th 6) 3 (fun a2 => oc σ (fr σ a2 5) 100 (fun a3 => vp_in x1 (ln σ a3) ∧ (wX0_has (ai σ a3 x1.toNatClampNeg) x2 σ (fun r4 s4 => if r4 = 0 then (if x3 = (2 : Int32) then (Q (1 : Int32) s4) else (Q (0 : Int32) s4)) else (if (2 : Int32) ≤ x3 then (Q (0 : Int32) s4) else (kd s4 th = 1 ∧ (oc s4 (fr s4 th 6) 3 (fun a6 => oc s4 (fr s4 a6 6) 100 (fun a7 => vp_in x1 (ln s4 a7) ∧ (wX0_has (ai s4 a7 x1.toNatClampNeg) x2 s4 (fun r8 s8 => if x3 = (1 : Int32) then (wX0_saysSo_55 Q th r8 (1 : Int32) s8) else (wX0_saysSo_55 Q th r8 (0 : Int32) s8)))))))))))))
set_option maxHeartbeats 4000000 in
theorem MX0_saysSo (l : Launch) (E : xx_E) (th : Nat) (x1 : Int32) (x2 : Int32) (x3 : Int32) (σ : XS) (Q : Int32 → XS → Prop) (hw : wX0_saysSo th x1 x2 x3 σ Q) : xx_Mi l yX0_saysSo (ws_ yX0_saysSo cX0_saysSo 4 (some .boolean)) ({ frames := 1, cells := 0, slots := 0, locals := 40 } : Room) E [xv E (some th), .int x1, .int x2, .int x3] σ Q 0 0 := by
  refine x_of (own := "StruckCounts") (by decide +kernel) rfl ?_
  intro p e s m args below meth c cx hR ha hnm
  refine x_entry [xv E (some th), .int x1, .int x2, .int x3] 4 [(0, xv E (some th)), (1, .int x1), (2, .int x2), (3, .int x3)] ha (by simp [lg_sl, xv_cat, vc_i, vc_j, vc_f]) (by simp [lv_args, xv_cat, vc_i, vc_j, vc_f]) (fun ls hl => ?_)
  have hS : va_S (xA E) s.heap s.heap [] := va_S.rf
  have hcb : 0 + 0 ≤ 0 := Nat.le_of_eq (Nat.zero_add _)
  have hsb : 0 + 0 ≤ 0 := Nat.le_of_eq (Nat.zero_add _)
  unfold wX0_saysSo at hw
  obtain ⟨hx, hb, hml, hown, hts, hrt, hlk, hMK, hZ⟩ := id cx
  refine x_aload_n cx dX0_saysSo_0 rfl (lv_at hl 0 rfl) ?_
  obtain ⟨hk1, hw⟩ := hw
  refine xg_X0_31_1 cx hR rfl hk1 dX0_saysSo_1 ?_
  obtain ⟨a2, hr2, hk2, hw⟩ := hw
  refine xg_X0_195_3 cx hR hr2 hk2 dX0_saysSo_4 ?_
  refine lv_iload_n hx hb dX0_saysSo_7 rfl (lv_at hl 1 rfl) ?_
  obtain ⟨a3, hr3, hk3, hw⟩ := hw
  obtain ⟨hi, hw⟩ := hw
  refine x_iald cx hR hr3 hk3 (j := x1.toNatClampNeg) rfl hi dX0_saysSo_8 ?_
  refine lv_iload_n hx hb dX0_saysSo_9 rfl (lv_at hl 2 rfl) ?_
  refine CX0_has_X0_223 cx hR hS  hw ⟨Nat.le_of_ble_eq_true rfl, Nat.le_of_ble_eq_true rfl⟩ (Nat.le_of_ble_eq_true rfl) hl.1 ⟨by dsimp only; omega, by dsimp only; omega⟩ dX0_saysSo_10 (fun r4 s4 H locs hw hR hS => ?_)
  refine lv_if_ne (tgt := 27) hx hb dX0_saysSo_13 (by decide) (fun hc => ?_) (fun hc => ?_)
  · have hw := mm_in hc hw
    refine lv_iload_n hx hb dX0_saysSo_27 rfl (lv_at hl 3 rfl) ?_
    refine lv_iconst (v := (2 : Int32)) hx hb dX0_saysSo_28 (by decide) ?_
    refine lv_icmp_ge (tgt := 62) hx hb dX0_saysSo_29 (by decide) (fun hc => ?_) (fun hc => ?_)
    · have hw := mm_ip hc hw
      refine lv_iconst (v := (0 : Int32)) hx hb dX0_saysSo_62 (by decide) ?_
      exact x_nret cx hR hS (xle hcb) (xle hsb) (zb_nar (Or.inl rfl)) hw dX0_saysSo_63
    · have hw := mm_in hc hw
      refine x_aload_n cx dX0_saysSo_32 rfl (lv_at hl 0 rfl) ?_
      obtain ⟨hk5, hw⟩ := hw
      refine xg_X0_31_1 cx hR rfl hk5 dX0_saysSo_33 ?_
      obtain ⟨a6, hr6, hk6, hw⟩ := hw
      refine xg_X0_247_3 cx hR hr6 hk6 dX0_saysSo_36 ?_
      refine lv_iload_n hx hb dX0_saysSo_39 rfl (lv_at hl 1 rfl) ?_
      obtain ⟨a7, hr7, hk7, hw⟩ := hw
      obtain ⟨hi, hw⟩ := hw
      refine x_iald cx hR hr7 hk7 (j := x1.toNatClampNeg) rfl hi dX0_saysSo_40 ?_
      refine lv_iload_n hx hb dX0_saysSo_41 rfl (lv_at hl 2 rfl) ?_
      refine CX0_has_X0_223 cx hR hS  hw ⟨Nat.le_of_ble_eq_true rfl, Nat.le_of_ble_eq_true rfl⟩ (Nat.le_of_ble_eq_true rfl) hl.1 ⟨by dsimp only; omega, by dsimp only; omega⟩ dX0_saysSo_42 (fun r8 s8 H locs hw hR hS => ?_)
      refine lv_iload_n hx hb dX0_saysSo_45 rfl (lv_at hl 3 rfl) ?_
      refine lv_iconst (v := (1 : Int32)) hx hb dX0_saysSo_46 (by decide) ?_
      refine lv_icmp_ne (tgt := 54) hx hb dX0_saysSo_47 (by decide) (fun hc => ?_) (fun hc => ?_)
      · have hw := mm_in hc hw
        refine lv_iconst (v := (0 : Int32)) hx hb dX0_saysSo_54 (by decide) ?_
        exact BX0_saysSo_55 cx _ _ _ _ hw _ _ _ _ _ hR hS (lv_sub hl [0] rfl) hcb hsb
      · have hw := mm_ip hc hw
        refine lv_iconst (v := (1 : Int32)) hx hb dX0_saysSo_50 (by decide) ?_
        refine lv_goto (tgt := 55) hx hb dX0_saysSo_51 (by decide) ?_
        exact BX0_saysSo_55 cx _ _ _ _ hw _ _ _ _ _ hR hS (lv_sub hl [0] rfl) hcb hsb
  · have hw := mm_ip hc hw
    refine lv_iload_n hx hb dX0_saysSo_16 rfl (lv_at hl 3 rfl) ?_
    refine lv_iconst (v := (2 : Int32)) hx hb dX0_saysSo_17 (by decide) ?_
    refine lv_icmp_ne (tgt := 25) hx hb dX0_saysSo_18 (by decide) (fun hc => ?_) (fun hc => ?_)
    · have hw := mm_in hc hw
      refine lv_iconst (v := (0 : Int32)) hx hb dX0_saysSo_25 (by decide) ?_
      exact x_nret cx hR hS (xle hcb) (xle hsb) (zb_nar (Or.inl rfl)) hw dX0_saysSo_26
    · have hw := mm_ip hc hw
      refine lv_iconst (v := (1 : Int32)) hx hb dX0_saysSo_21 (by decide) ?_
      refine lv_goto (tgt := 26) hx hb dX0_saysSo_22 (by decide) ?_
      exact x_nret cx hR hS (xle hcb) (xle hsb) (zb_nar (Or.inr rfl)) hw dX0_saysSo_26
-- X0_say
theorem CX0_saysSo_X0_337 {l : Launch} {p : Program} {e : Env} {R : Room} {s : State} {m : MethodId} {args : Array Value} {below : List Frame} {meth : Method} {c : Code} {H : Heap} {locs : List Loc} {cells slots : Nat} {Qz : State → Prop} {cc : ByteArray} {nL : Nat} {ret : Option FieldType} {E : xx_E} {σ : XS} {pc : Nat} {ls : Array Slot} {rest : List Value} {th : Nat} {x1 : Int32} {x2 : Int32} {x3 : Int32} (cx : xx_X "StruckCounts" cc nL ret E p s m args meth c) (hR0 : xR E σ H) (hS0 : va_S (xA E) s.heap H locs) {r0 : Option Nat} (hr : r0 = some th) (hk : kd σ th = 1) {Qf : Int32 → XS → Prop} (hw : wX0_saysSo th x1 x2 x3 σ Qf) (hR : (({ frames := 1, cells := 0, slots := 0, locals := 40 } : Room)).frames + 1 ≤ R.frames ∧ 8 + (4 + 11) + (({ frames := 1, cells := 0, slots := 0, locals := 40 } : Room)).locals ≤ R.locals) (hrest : rest.length ≤ 4) (hsize : ls.size = nL) (hf : cells + 0 ≤ R.cells ∧ slots + 0 ≤ R.slots) (hdg : decode cc pc = .ok (.invokevirtual 337, 3))
    (kk : ∀ (r : Int32) (σ1 : XS) (H1 : Heap) (locs1 : List Loc), Qf r σ1 → xR E σ1 H1 → va_S (xA E) s.heap H1 locs1 → W p l e R s m args below meth c H1 locs1 (cells + 0) (slots + 0) Qz (F0 m (pc + 3) ls (.int r :: rest))) : W p l e R s m args below meth c H locs cells slots Qz (F0 m pc ls (.int x3 :: .int x2 :: .int x1 :: xv E r0 :: rest)) := by
  subst hr
  obtain ⟨hx, hb, hml, hown, hts, hrt, hlk, hK, hZ⟩ := id cx
  exact x_goi (va_runV (As := [.int x1, .int x2, .int x3]) (rest := rest) (x_fix cx) (MX0_saysSo l E th x1 x2 x3 σ Qf hw) (cwV 3 hts (lw_V q2094 q2096 qs53 q156 q2097) rfl rfl rfl (by decide +kernel) hR) (x_preV cx hR0 hS0 hk (by decide) (q := (RX0, TX0, 24)) rfl rfl [.int x1, .int x2, .int x3]) rfl rfl hsize rfl (lv_room (xroom hrest)) hdg hf) hS0 kk
def wX0_say_197 (Q : Int32 → XS → Prop) (th : Nat) (x1 : Int32) (t0 : Option Nat) (t1 : Int32) (t2 : Int32) (σ : XS) : Prop :=
  oc σ t0 100 (fun a1 => xK ≤ a1 ∧ (vp_in t1 (ln σ a1) ∧ (kd (pai σ a1 t1.toNatClampNeg t2) th = 1 ∧ (oc (pai σ a1 t1.toNatClampNeg t2) (fr (pai σ a1 t1.toNatClampNeg t2) th 6) 3 (fun a3 => oc (pai σ a1 t1.toNatClampNeg t2) (fr (pai σ a1 t1.toNatClampNeg t2) a3 5) 100 (fun a4 => vp_in x1 (ln (pai σ a1 t1.toNatClampNeg t2) a4) ∧ (wJ11_bitCount (ai (pai σ a1 t1.toNatClampNeg t2) a4 x1.toNatClampNeg) (pai σ a1 t1.toNatClampNeg t2) (fun r5 s5 => Q r5 s5))))))))
set_option maxHeartbeats 4000000 in
theorem BX0_say_197 {l : Launch} {p : Program} {e : Env} {s : State} {m : MethodId} {args : Array Value} {below : List Frame} {meth : Method} {c : Code} {E : xx_E} {Q : Int32 → XS → Prop} (cx : xx_X "StruckCounts" cX0_say 5 (some .int) E p s m args meth c) : ∀ (th : Nat) (x1 : Int32) (t0 : Option Nat) (t1 : Int32) (t2 : Int32) (σ : XS), wX0_say_197 Q th x1 t0 t1 t2 σ → x_T p l e ({ frames := 4, cells := 0, slots := 0, locals := 160 } : Room) s m args below meth c E (va_Qi Q (fun σ' t => xW E σ' t) (xA E)) 0 0 5 197 0 0 σ [(0, xv E (some th)), (1, .int x1)] [.int t2, .int t1, xv E t0] := by
  intro th x1 t0 t1 t2 σ hw H locs ls cells slots hR hS hl hcb hsb
  unfold wX0_say_197 at hw
  obtain ⟨hx, hb, hml, hown, hts, hrt, hlk, hMK, hZ⟩ := id cx
  obtain ⟨a1, hr1, hk1, hw⟩ := hw
  obtain ⟨hge_a1, hw⟩ := hw
  obtain ⟨hi, hw⟩ := hw
  refine x_iast cx hR hS hr1 hge_a1 hk1 (j := t1.toNatClampNeg) rfl hi dX0_say_197 (fun H locs hR hS => ?_)
  refine x_aload_n cx dX0_say_198 rfl (lv_at hl 0 rfl) ?_
  obtain ⟨hk2, hw⟩ := hw
  refine xg_X0_31_1 cx hR rfl hk2 dX0_say_199 ?_
  obtain ⟨a3, hr3, hk3, hw⟩ := hw
  refine xg_X0_195_3 cx hR hr3 hk3 dX0_say_202 ?_
  refine lv_iload_n hx hb dX0_say_205 rfl (lv_at hl 1 rfl) ?_
  obtain ⟨a4, hr4, hk4, hw⟩ := hw
  obtain ⟨hi, hw⟩ := hw
  refine x_iald cx hR hr4 hk4 (j := x1.toNatClampNeg) rfl hi dX0_say_206 ?_
  refine CJ11_bitCount_X0_198 cx hR hS  hw ⟨Nat.le_of_ble_eq_true rfl, Nat.le_of_ble_eq_true rfl⟩ (Nat.le_of_ble_eq_true rfl) hl.1 ⟨by dsimp only; omega, by dsimp only; omega⟩ dX0_say_207 (fun r5 s5 H locs hw hR hS => ?_)
  exact x_iret cx hR hS (xle hcb) (xle hsb) hw dX0_say_210
def wX0_say_154 (Q : Int32 → XS → Prop) (th : Nat) (x1 : Int32) (x3 : Int32) (x4 : Int32) (t0 : Option Nat) (t1 : Int32) (t2 : Int32) (σ : XS) : Prop :=
  oc σ t0 100 (fun a6 => xK ≤ a6 ∧ (vp_in t1 (ln σ a6) ∧ (kd (pai σ a6 t1.toNatClampNeg t2) th = 1 ∧ (oc (pai σ a6 t1.toNatClampNeg t2) (fr (pai σ a6 t1.toNatClampNeg t2) th 6) 3 (fun a8 => if x3 = (1 : Int32) then (oc (pai σ a6 t1.toNatClampNeg t2) (fr (pai σ a6 t1.toNatClampNeg t2) a8 6) 100 (fun a10 => vp_in x1 (ln (pai σ a6 t1.toNatClampNeg t2) a10) ∧ (wX0_say_197 Q th x1 (fr (pai σ a6 t1.toNatClampNeg t2) a8 6) x1 ((ai (pai σ a6 t1.toNatClampNeg t2) a10 x1.toNatClampNeg) ||| x4) (pai σ a6 t1.toNatClampNeg t2)))) else (oc (pai σ a6 t1.toNatClampNeg t2) (fr (pai σ a6 t1.toNatClampNeg t2) a8 6) 100 (fun a9 => vp_in x1 (ln (pai σ a6 t1.toNatClampNeg t2) a9) ∧ (wX0_say_197 Q th x1 (fr (pai σ a6 t1.toNatClampNeg t2) a8 6) x1 ((ai (pai σ a6 t1.toNatClampNeg t2) a9 x1.toNatClampNeg) &&& (x4 ^^^ (-1 : Int32))) (pai σ a6 t1.toNatClampNeg t2)))))))))
set_option maxHeartbeats 4000000 in
theorem BX0_say_154 {l : Launch} {p : Program} {e : Env} {s : State} {m : MethodId} {args : Array Value} {below : List Frame} {meth : Method} {c : Code} {E : xx_E} {Q : Int32 → XS → Prop} (cx : xx_X "StruckCounts" cX0_say 5 (some .int) E p s m args meth c) : ∀ (th : Nat) (x1 : Int32) (x3 : Int32) (x4 : Int32) (t0 : Option Nat) (t1 : Int32) (t2 : Int32) (σ : XS), wX0_say_154 Q th x1 x3 x4 t0 t1 t2 σ → x_T p l e ({ frames := 4, cells := 0, slots := 0, locals := 160 } : Room) s m args below meth c E (va_Qi Q (fun σ' t => xW E σ' t) (xA E)) 0 0 5 154 0 0 σ [(0, xv E (some th)), (1, .int x1), (3, .int x3), (4, .int x4)] [.int t2, .int t1, xv E t0] := by
  intro th x1 x3 x4 t0 t1 t2 σ hw H locs ls cells slots hR hS hl hcb hsb
  unfold wX0_say_154 at hw
  obtain ⟨hx, hb, hml, hown, hts, hrt, hlk, hMK, hZ⟩ := id cx
  obtain ⟨a6, hr6, hk6, hw⟩ := hw
  obtain ⟨hge_a6, hw⟩ := hw
  obtain ⟨hi, hw⟩ := hw
  refine x_iast cx hR hS hr6 hge_a6 hk6 (j := t1.toNatClampNeg) rfl hi dX0_say_154 (fun H locs hR hS => ?_)
  refine x_aload_n cx dX0_say_155 rfl (lv_at hl 0 rfl) ?_
  obtain ⟨hk7, hw⟩ := hw
  refine xg_X0_31_1 cx hR rfl hk7 dX0_say_156 ?_
  obtain ⟨a8, hr8, hk8, hw⟩ := hw
  refine xg_X0_247_3 cx hR hr8 hk8 dX0_say_159 ?_
  refine lv_iload_n hx hb dX0_say_162 rfl (lv_at hl 1 rfl) ?_
  refine lv_iload_n hx hb dX0_say_163 rfl (lv_at hl 2 rfl) ?_
  refine lv_iconst (v := (1 : Int32)) hx hb dX0_say_164 (by decide) ?_
  refine lv_icmp_ne (tgt := 183) hx hb dX0_say_165 (by decide) (fun hc => ?_) (fun hc => ?_)
  · have hw := mm_in hc hw
    refine x_aload_n cx dX0_say_183 rfl (lv_at hl 0 rfl) ?_
    refine xg_X0_31_1 cx hR rfl hk7 dX0_say_184 ?_
    refine xg_X0_247_3 cx hR hr8 hk8 dX0_say_187 ?_
    refine lv_iload_n hx hb dX0_say_190 rfl (lv_at hl 1 rfl) ?_
    obtain ⟨a9, hr9, hk9, hw⟩ := hw
    obtain ⟨hi, hw⟩ := hw
    refine x_iald cx hR hr9 hk9 (j := x1.toNatClampNeg) rfl hi dX0_say_191 ?_
    refine lv_iload hx hb dX0_say_192 (lv_at hl 3 rfl) ?_
    refine lv_iconst (v := (-1 : Int32)) hx hb dX0_say_194 (by decide) ?_
    refine lv_ixor hx hb dX0_say_195 ?_
    refine lv_iand hx hb dX0_say_196 ?_
    exact BX0_say_197 cx _ _ _ _ _ _ hw _ _ _ _ _ hR hS (lv_sub hl [0, 1] rfl) hcb hsb
  · have hw := mm_ip hc hw
    refine x_aload_n cx dX0_say_168 rfl (lv_at hl 0 rfl) ?_
    refine xg_X0_31_1 cx hR rfl hk7 dX0_say_169 ?_
    refine xg_X0_247_3 cx hR hr8 hk8 dX0_say_172 ?_
    refine lv_iload_n hx hb dX0_say_175 rfl (lv_at hl 1 rfl) ?_
    obtain ⟨a10, hr10, hk10, hw⟩ := hw
    obtain ⟨hi, hw⟩ := hw
    refine x_iald cx hR hr10 hk10 (j := x1.toNatClampNeg) rfl hi dX0_say_176 ?_
    refine lv_iload hx hb dX0_say_177 (lv_at hl 3 rfl) ?_
    refine lv_ior hx hb dX0_say_179 ?_
    refine lv_goto (tgt := 197) hx hb dX0_say_180 (by decide) ?_
    exact BX0_say_197 cx _ _ _ _ _ _ hw _ _ _ _ _ hR hS (lv_sub hl [0, 1] rfl) hcb hsb
def wX0_say_103 (Q : Int32 → XS → Prop) (th : Nat) (x1 : Int32) (x2 : Int32) (x3 : Int32) (σ : XS) : Prop :=
  kd σ th = 1 ∧ (wX0_keeps th σ (fun s11 => ∀ v13 : Int32, v13 = ((1 : Int32) <<< (x2 &&& 31)) → kd s11 th = 1 ∧ (oc s11 (fr s11 th 6) 3 (fun a15 => if x3 = (2 : Int32) then (oc s11 (fr s11 a15 5) 100 (fun a17 => vp_in x1 (ln s11 a17) ∧ (wX0_say_154 Q th x1 x3 v13 (fr s11 a15 5) x1 ((ai s11 a17 x1.toNatClampNeg) &&& (v13 ^^^ (-1 : Int32))) s11))) else (oc s11 (fr s11 a15 5) 100 (fun a16 => vp_in x1 (ln s11 a16) ∧ (wX0_say_154 Q th x1 x3 v13 (fr s11 a15 5) x1 ((ai s11 a16 x1.toNatClampNeg) ||| v13) s11)))))))
set_option maxHeartbeats 4000000 in
theorem BX0_say_103 {l : Launch} {p : Program} {e : Env} {s : State} {m : MethodId} {args : Array Value} {below : List Frame} {meth : Method} {c : Code} {E : xx_E} {Q : Int32 → XS → Prop} (cx : xx_X "StruckCounts" cX0_say 5 (some .int) E p s m args meth c) : ∀ (th : Nat) (x1 : Int32) (x2 : Int32) (x3 : Int32) (σ : XS), wX0_say_103 Q th x1 x2 x3 σ → x_T p l e ({ frames := 4, cells := 0, slots := 0, locals := 160 } : Room) s m args below meth c E (va_Qi Q (fun σ' t => xW E σ' t) (xA E)) 0 0 5 103 0 0 σ [(0, xv E (some th)), (1, .int x1), (2, .int x2), (3, .int x3)] [] := by
  intro th x1 x2 x3 σ hw H locs ls cells slots hR hS hl hcb hsb
  unfold wX0_say_103 at hw
  obtain ⟨hx, hb, hml, hown, hts, hrt, hlk, hMK, hZ⟩ := id cx
  refine x_aload_n cx dX0_say_103 rfl (lv_at hl 0 rfl) ?_
  obtain ⟨hk12, hw⟩ := hw
  refine CX0_keeps_X0_324 cx hR hS rfl hk12 hw ⟨Nat.le_of_ble_eq_true rfl, Nat.le_of_ble_eq_true rfl⟩ (Nat.le_of_ble_eq_true rfl) hl.1 ⟨by dsimp only; omega, by dsimp only; omega⟩ dX0_say_104 (fun s11 H locs hw hR hS => ?_)
  refine lv_iconst (v := (1 : Int32)) hx hb dX0_say_107 (by decide) ?_
  refine lv_iload_n hx hb dX0_say_108 rfl (lv_at hl 2 rfl) ?_
  refine lv_ishl hx hb dX0_say_109 ?_
  refine lv_topi (fun v13 hv13 => ?_)
  have hw := hw v13 hv13
  refine lv_istore (i := 4) (lv' := [(4, .int v13), (0, xv E (some th)), (1, .int x1), (2, .int x2), (3, .int x3)]) hx hb dX0_say_110 hl (by decide) rfl (fun ls hl => ?_)
  refine x_aload_n cx dX0_say_112 rfl (lv_at hl 1 rfl) ?_
  obtain ⟨hk14, hw⟩ := hw
  refine xg_X0_31_1 cx hR rfl hk14 dX0_say_113 ?_
  obtain ⟨a15, hr15, hk15, hw⟩ := hw
  refine xg_X0_195_3 cx hR hr15 hk15 dX0_say_116 ?_
  refine lv_iload_n hx hb dX0_say_119 rfl (lv_at hl 2 rfl) ?_
  refine lv_iload_n hx hb dX0_say_120 rfl (lv_at hl 4 rfl) ?_
  refine lv_iconst (v := (2 : Int32)) hx hb dX0_say_121 (by decide) ?_
  refine lv_icmp_ne (tgt := 142) hx hb dX0_say_122 (by decide) (fun hc => ?_) (fun hc => ?_)
  · have hw := mm_in hc hw
    refine x_aload_n cx dX0_say_142 rfl (lv_at hl 1 rfl) ?_
    refine xg_X0_31_1 cx hR rfl hk14 dX0_say_143 ?_
    refine xg_X0_195_3 cx hR hr15 hk15 dX0_say_146 ?_
    refine lv_iload_n hx hb dX0_say_149 rfl (lv_at hl 2 rfl) ?_
    obtain ⟨a16, hr16, hk16, hw⟩ := hw
    obtain ⟨hi, hw⟩ := hw
    refine x_iald cx hR hr16 hk16 (j := x1.toNatClampNeg) rfl hi dX0_say_150 ?_
    refine lv_iload hx hb dX0_say_151 (lv_at hl 0 rfl) ?_
    refine lv_ior hx hb dX0_say_153 ?_
    exact BX0_say_154 cx _ _ _ _ _ _ _ _ hw _ _ _ _ _ hR hS (lv_sub hl [1, 2, 4, 0] rfl) hcb hsb
  · have hw := mm_ip hc hw
    refine x_aload_n cx dX0_say_125 rfl (lv_at hl 1 rfl) ?_
    refine xg_X0_31_1 cx hR rfl hk14 dX0_say_126 ?_
    refine xg_X0_195_3 cx hR hr15 hk15 dX0_say_129 ?_
    refine lv_iload_n hx hb dX0_say_132 rfl (lv_at hl 2 rfl) ?_
    obtain ⟨a17, hr17, hk17, hw⟩ := hw
    obtain ⟨hi, hw⟩ := hw
    refine x_iald cx hR hr17 hk17 (j := x1.toNatClampNeg) rfl hi dX0_say_133 ?_
    refine lv_iload hx hb dX0_say_134 (lv_at hl 0 rfl) ?_
    refine lv_iconst (v := (-1 : Int32)) hx hb dX0_say_136 (by decide) ?_
    refine lv_ixor hx hb dX0_say_137 ?_
    refine lv_iand hx hb dX0_say_138 ?_
    refine lv_goto (tgt := 154) hx hb dX0_say_139 (by decide) ?_
    exact BX0_say_154 cx _ _ _ _ _ _ _ _ hw _ _ _ _ _ hR hS (lv_sub hl [1, 2, 4, 0] rfl) hcb hsb
def wX0_say_97 (Q : Int32 → XS → Prop) (th : Nat) (x1 : Int32) (x2 : Int32) (x3 : Int32) (t0 : Int32) (t1 : Int32) (σ : XS) : Prop :=
  if t0 = t1 then (wX0_say_103 Q th x1 x2 x3 σ) else (Q (-4 : Int32) σ)
set_option maxHeartbeats 4000000 in
theorem BX0_say_97 {l : Launch} {p : Program} {e : Env} {s : State} {m : MethodId} {args : Array Value} {below : List Frame} {meth : Method} {c : Code} {E : xx_E} {Q : Int32 → XS → Prop} (cx : xx_X "StruckCounts" cX0_say 5 (some .int) E p s m args meth c) : ∀ (th : Nat) (x1 : Int32) (x2 : Int32) (x3 : Int32) (t0 : Int32) (t1 : Int32) (σ : XS), wX0_say_97 Q th x1 x2 x3 t0 t1 σ → x_T p l e ({ frames := 4, cells := 0, slots := 0, locals := 160 } : Room) s m args below meth c E (va_Qi Q (fun σ' t => xW E σ' t) (xA E)) 0 0 5 97 0 0 σ [(0, xv E (some th)), (1, .int x1), (2, .int x2), (3, .int x3)] [.int t1, .int t0] := by
  intro th x1 x2 x3 t0 t1 σ hw H locs ls cells slots hR hS hl hcb hsb
  unfold wX0_say_97 at hw
  obtain ⟨hx, hb, hml, hown, hts, hrt, hlk, hMK, hZ⟩ := id cx
  refine lv_icmp_eq (tgt := 103) hx hb dX0_say_97 (by decide) (fun hc => ?_) (fun hc => ?_)
  · have hw := mm_ip hc hw
    exact BX0_say_103 cx _ _ _ _ _ hw _ _ _ _ _ hR hS (lv_sub hl [0, 1, 2, 3] rfl) hcb hsb
  · have hw := mm_in hc hw
    refine lv_bipush (v := (-4 : Int32)) hx hb dX0_say_100 (by decide) ?_
    exact x_iret cx hR hS (xle hcb) (xle hsb) hw dX0_say_102
def wX0_say (th : Nat) (x1 : Int32) (x2 : Int32) (x3 : Int32) (σ : XS) (Q : Int32 → XS → Prop) : Prop :=
  kd σ th = 1 ∧ (wX0_isCount th x1 σ (fun r18 s18 => if r18 = 0 then (Q (-1 : Int32) s18) else (kd s18 th = 1 ∧ (wX0_isFact th x2 s18 (fun r20 s20 => if r20 = 0 then (Q (-1 : Int32) s20) else (wX0_in x3 (0 : Int32) (2 : Int32) s20 (fun r22 s22 => if r22 = 0 then (Q (-1 : Int32) s22) else (kd s22 th = 1 ∧ (oc s22 (fr s22 th 6) 3 (fun a24 => wX0_has (fi s22 a24 10) x1 s22 (fun r25 s25 => if r25 = 0 then (kd s25 th = 1 ∧ (wX0_saysSo th x1 x2 x3 s25 (fun r26 s26 => if r26 = 0 then (if (2 : Int32) ≤ x3 then (wX0_say_103 Q th x1 x2 x3 s26) else (kd s26 th = 1 ∧ (oc s26 (fr s26 th 6) 3 (fun a29 => wX0_has (fi s26 a29 7) x2 s26 (fun r30 s30 => if r30 = 0 then (wX0_say_103 Q th x1 x2 x3 s30) else (kd s30 th = 1 ∧ (oc s30 (fr s30 th 6) 3 (fun a32 => wX0_has (fi s30 a32 8) x2 s30 (fun r33 s33 => if x3 = (1 : Int32) then (wX0_say_97 Q th x1 x2 x3 r33 (1 : Int32) s33) else (wX0_say_97 Q th x1 x2 x3 r33 (0 : Int32) s33)))))))))) else (Q (-3 : Int32) s26)))) else (Q (-2 : Int32) s25))))))))))))
set_option maxHeartbeats 4000000 in
theorem MX0_say (l : Launch) (E : xx_E) (th : Nat) (x1 : Int32) (x2 : Int32) (x3 : Int32) (σ : XS) (Q : Int32 → XS → Prop) (hw : wX0_say th x1 x2 x3 σ Q) : xx_Mi l yX0_say (ws_ yX0_say cX0_say 5 (some .int)) ({ frames := 4, cells := 0, slots := 0, locals := 160 } : Room) E [xv E (some th), .int x1, .int x2, .int x3] σ Q 0 0 := by
  refine x_of (own := "StruckCounts") (by decide +kernel) rfl ?_
  intro p e s m args below meth c cx hR ha hnm
  refine x_entry [xv E (some th), .int x1, .int x2, .int x3] 5 [(0, xv E (some th)), (1, .int x1), (2, .int x2), (3, .int x3)] ha (by simp [lg_sl, xv_cat, vc_i, vc_j, vc_f]) (by simp [lv_args, xv_cat, vc_i, vc_j, vc_f]) (fun ls hl => ?_)
  have hS : va_S (xA E) s.heap s.heap [] := va_S.rf
  have hcb : 0 + 0 ≤ 0 := Nat.le_of_eq (Nat.zero_add _)
  have hsb : 0 + 0 ≤ 0 := Nat.le_of_eq (Nat.zero_add _)
  unfold wX0_say at hw
  obtain ⟨hx, hb, hml, hown, hts, hrt, hlk, hMK, hZ⟩ := id cx
  refine x_aload_n cx dX0_say_0 rfl (lv_at hl 0 rfl) ?_
  refine lv_iload_n hx hb dX0_say_1 rfl (lv_at hl 1 rfl) ?_
  obtain ⟨hk19, hw⟩ := hw
  refine CX0_isCount_X0_290 cx hR hS rfl hk19 hw ⟨Nat.le_of_ble_eq_true rfl, Nat.le_of_ble_eq_true rfl⟩ (Nat.le_of_ble_eq_true rfl) hl.1 ⟨by dsimp only; omega, by dsimp only; omega⟩ dX0_say_2 (fun r18 s18 H locs hw hR hS => ?_)
  refine lv_if_eq (tgt := 25) hx hb dX0_say_5 (by decide) (fun hc => ?_) (fun hc => ?_)
  · have hw := mm_ip hc hw
    refine lv_iconst (v := (-1 : Int32)) hx hb dX0_say_25 (by decide) ?_
    exact x_iret cx hR hS (xle hcb) (xle hsb) hw dX0_say_26
  · have hw := mm_in hc hw
    refine x_aload_n cx dX0_say_8 rfl (lv_at hl 0 rfl) ?_
    refine lv_iload_n hx hb dX0_say_9 rfl (lv_at hl 2 rfl) ?_
    obtain ⟨hk21, hw⟩ := hw
    refine CX0_isFact_X0_277 cx hR hS rfl hk21 hw ⟨Nat.le_of_ble_eq_true rfl, Nat.le_of_ble_eq_true rfl⟩ (Nat.le_of_ble_eq_true rfl) hl.1 ⟨by dsimp only; omega, by dsimp only; omega⟩ dX0_say_10 (fun r20 s20 H locs hw hR hS => ?_)
    refine lv_if_eq (tgt := 25) hx hb dX0_say_13 (by decide) (fun hc => ?_) (fun hc => ?_)
    · have hw := mm_ip hc hw
      refine lv_iconst (v := (-1 : Int32)) hx hb dX0_say_25 (by decide) ?_
      exact x_iret cx hR hS (xle hcb) (xle hsb) hw dX0_say_26
    · have hw := mm_in hc hw
      refine lv_iload_n hx hb dX0_say_16 rfl (lv_at hl 3 rfl) ?_
      refine lv_iconst (v := (0 : Int32)) hx hb dX0_say_17 (by decide) ?_
      refine lv_iconst (v := (2 : Int32)) hx hb dX0_say_18 (by decide) ?_
      refine CX0_in_X0_96 cx hR hS  hw ⟨Nat.le_of_ble_eq_true rfl, Nat.le_of_ble_eq_true rfl⟩ (Nat.le_of_ble_eq_true rfl) hl.1 ⟨by dsimp only; omega, by dsimp only; omega⟩ dX0_say_19 (fun r22 s22 H locs hw hR hS => ?_)
      refine lv_if_ne (tgt := 27) hx hb dX0_say_22 (by decide) (fun hc => ?_) (fun hc => ?_)
      · have hw := mm_in hc hw
        refine x_aload_n cx dX0_say_27 rfl (lv_at hl 0 rfl) ?_
        obtain ⟨hk23, hw⟩ := hw
        refine xg_X0_31_1 cx hR rfl hk23 dX0_say_28 ?_
        obtain ⟨a24, hr24, hk24, hw⟩ := hw
        refine xg_X0_220_3 cx hR hr24 hk24 dX0_say_31 ?_
        refine lv_iload_n hx hb dX0_say_34 rfl (lv_at hl 1 rfl) ?_
        refine CX0_has_X0_223 cx hR hS  hw ⟨Nat.le_of_ble_eq_true rfl, Nat.le_of_ble_eq_true rfl⟩ (Nat.le_of_ble_eq_true rfl) hl.1 ⟨by dsimp only; omega, by dsimp only; omega⟩ dX0_say_35 (fun r25 s25 H locs hw hR hS => ?_)
        refine lv_if_eq (tgt := 44) hx hb dX0_say_38 (by decide) (fun hc => ?_) (fun hc => ?_)
        · have hw := mm_ip hc hw
          refine x_aload_n cx dX0_say_44 rfl (lv_at hl 0 rfl) ?_
          refine lv_iload_n hx hb dX0_say_45 rfl (lv_at hl 1 rfl) ?_
          refine lv_iload_n hx hb dX0_say_46 rfl (lv_at hl 2 rfl) ?_
          refine lv_iload_n hx hb dX0_say_47 rfl (lv_at hl 3 rfl) ?_
          obtain ⟨hk27, hw⟩ := hw
          refine CX0_saysSo_X0_337 cx hR hS rfl hk27 hw ⟨Nat.le_of_ble_eq_true rfl, Nat.le_of_ble_eq_true rfl⟩ (Nat.le_of_ble_eq_true rfl) hl.1 ⟨by dsimp only; omega, by dsimp only; omega⟩ dX0_say_48 (fun r26 s26 H locs hw hR hS => ?_)
          refine lv_if_eq (tgt := 57) hx hb dX0_say_51 (by decide) (fun hc => ?_) (fun hc => ?_)
          · have hw := mm_ip hc hw
            refine lv_iload_n hx hb dX0_say_57 rfl (lv_at hl 3 rfl) ?_
            refine lv_iconst (v := (2 : Int32)) hx hb dX0_say_58 (by decide) ?_
            refine lv_icmp_ge (tgt := 103) hx hb dX0_say_59 (by decide) (fun hc => ?_) (fun hc => ?_)
            · have hw := mm_ip hc hw
              exact BX0_say_103 cx _ _ _ _ _ hw _ _ _ _ _ hR hS (lv_sub hl [0, 1, 2, 3] rfl) hcb hsb
            · have hw := mm_in hc hw
              refine x_aload_n cx dX0_say_62 rfl (lv_at hl 0 rfl) ?_
              obtain ⟨hk28, hw⟩ := hw
              refine xg_X0_31_1 cx hR rfl hk28 dX0_say_63 ?_
              obtain ⟨a29, hr29, hk29, hw⟩ := hw
              refine xg_X0_149_3 cx hR hr29 hk29 dX0_say_66 ?_
              refine lv_iload_n hx hb dX0_say_69 rfl (lv_at hl 2 rfl) ?_
              refine CX0_has_X0_223 cx hR hS  hw ⟨Nat.le_of_ble_eq_true rfl, Nat.le_of_ble_eq_true rfl⟩ (Nat.le_of_ble_eq_true rfl) hl.1 ⟨by dsimp only; omega, by dsimp only; omega⟩ dX0_say_70 (fun r30 s30 H locs hw hR hS => ?_)
              refine lv_if_eq (tgt := 103) hx hb dX0_say_73 (by decide) (fun hc => ?_) (fun hc => ?_)
              · have hw := mm_ip hc hw
                exact BX0_say_103 cx _ _ _ _ _ hw _ _ _ _ _ hR hS (lv_sub hl [0, 1, 2, 3] rfl) hcb hsb
              · have hw := mm_in hc hw
                refine x_aload_n cx dX0_say_76 rfl (lv_at hl 0 rfl) ?_
                obtain ⟨hk31, hw⟩ := hw
                refine xg_X0_31_1 cx hR rfl hk31 dX0_say_77 ?_
                obtain ⟨a32, hr32, hk32, hw⟩ := hw
                refine xg_X0_152_3 cx hR hr32 hk32 dX0_say_80 ?_
                refine lv_iload_n hx hb dX0_say_83 rfl (lv_at hl 2 rfl) ?_
                refine CX0_has_X0_223 cx hR hS  hw ⟨Nat.le_of_ble_eq_true rfl, Nat.le_of_ble_eq_true rfl⟩ (Nat.le_of_ble_eq_true rfl) hl.1 ⟨by dsimp only; omega, by dsimp only; omega⟩ dX0_say_84 (fun r33 s33 H locs hw hR hS => ?_)
                refine lv_iload_n hx hb dX0_say_87 rfl (lv_at hl 3 rfl) ?_
                refine lv_iconst (v := (1 : Int32)) hx hb dX0_say_88 (by decide) ?_
                refine lv_icmp_ne (tgt := 96) hx hb dX0_say_89 (by decide) (fun hc => ?_) (fun hc => ?_)
                · have hw := mm_in hc hw
                  refine lv_iconst (v := (0 : Int32)) hx hb dX0_say_96 (by decide) ?_
                  exact BX0_say_97 cx _ _ _ _ _ _ _ hw _ _ _ _ _ hR hS (lv_sub hl [0, 1, 2, 3] rfl) hcb hsb
                · have hw := mm_ip hc hw
                  refine lv_iconst (v := (1 : Int32)) hx hb dX0_say_92 (by decide) ?_
                  refine lv_goto (tgt := 97) hx hb dX0_say_93 (by decide) ?_
                  exact BX0_say_97 cx _ _ _ _ _ _ _ hw _ _ _ _ _ hR hS (lv_sub hl [0, 1, 2, 3] rfl) hcb hsb
          · have hw := mm_in hc hw
            refine lv_bipush (v := (-3 : Int32)) hx hb dX0_say_54 (by decide) ?_
            exact x_iret cx hR hS (xle hcb) (xle hsb) hw dX0_say_56
        · have hw := mm_in hc hw
          refine lv_bipush (v := (-2 : Int32)) hx hb dX0_say_41 (by decide) ?_
          exact x_iret cx hR hS (xle hcb) (xle hsb) hw dX0_say_43
      · have hw := mm_ip hc hw
        refine lv_iconst (v := (-1 : Int32)) hx hb dX0_say_25 (by decide) ?_
        exact x_iret cx hR hS (xle hcb) (xle hsb) hw dX0_say_26
