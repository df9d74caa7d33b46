set_option maxRecDepth 100000
-- X0_holdsIn
def wX0_holdsIn_73 (Q : Int32 → XS → Prop) (K9 : Nat → Option Nat → Int32 → Int32 → Int32 → Int32 → Int32 → XS → Prop) (th : Nat) (x1 : Option Nat) (x2 : Int32) (x3 : Int32) (x4 : Int32) (x5 : Int32) (x6 : Int32) (σ : XS) : Prop :=
  ∀ v1 : Int32, v1 = x6 + (1 : Int32) → K9 th x1 x2 x3 x4 x5 v1 σ
set_option maxHeartbeats 4000000 in
theorem BX0_holdsIn_73 {l : Launch} {p : Program} {e : Env} {s : State} {m : MethodId} {args : Array Value} {below : List Frame} {meth : Method} {c : Code} {E : xx_E} {Q : Int32 → XS → Prop} {K9 : Nat → Option Nat → Int32 → Int32 → Int32 → Int32 → Int32 → XS → Prop} (cx : xx_X "StruckCounts" cX0_holdsIn 7 (some .int) E p s m args meth c) (hK9 : ∀ (th : Nat) (x1 : Option Nat) (x2 : Int32) (x3 : Int32) (x4 : Int32) (x5 : Int32) (x6 : Int32) (σ : XS), K9 th x1 x2 x3 x4 x5 x6 σ → x_T p l e ({ frames := 1, cells := 0, slots := 0, locals := 40 } : Room) s m args below meth c E (va_Qi Q (fun σ' t => xW E σ' t) (xA E)) 0 0 7 9 0 0 σ [(0, xv E (some th)), (1, xv E x1), (2, .int x2), (3, .int x3), (4, .int x4), (5, .int x5), (6, .int x6)] []) : ∀ (th : Nat) (x1 : Option Nat) (x2 : Int32) (x3 : Int32) (x4 : Int32) (x5 : Int32) (x6 : Int32) (σ : XS), wX0_holdsIn_73 Q K9 th x1 x2 x3 x4 x5 x6 σ → x_T p l e ({ frames := 1, cells := 0, slots := 0, locals := 40 } : Room) s m args below meth c E (va_Qi Q (fun σ' t => xW E σ' t) (xA E)) 0 0 7 73 0 0 σ [(0, xv E (some th)), (1, xv E x1), (2, .int x2), (3, .int x3), (4, .int x4), (5, .int x5), (6, .int x6)] [] := by
  intro th x1 x2 x3 x4 x5 x6 σ hw H locs ls cells slots hR hS hl hcb hsb
  unfold wX0_holdsIn_73 at hw
  obtain ⟨hx, hb, hml, hown, hts, hrt, hlk, hMK, hZ⟩ := id cx
  obtain ⟨v1, hv1⟩ : ∃ v : Int32, v = x6 + (1 : Int32) := ⟨_, rfl⟩
  have hw := hw v1 hv1
  refine lv_iinc (v := v1) (lv' := [(6, .int v1), (0, xv E (some th)), (1, xv E x1), (2, .int x2), (3, .int x3), (4, .int x4), (5, .int x5)]) hx hb dX0_holdsIn_73 hl (k := 6) rfl (by rw [hv1]; rfl) (by decide) rfl (fun ls hl => ?_)
  refine lv_goto (tgt := 9) hx hb dX0_holdsIn_76 (by decide) ?_
  exact hK9 _ _ _ _ _ _ _ _ hw _ _ _ _ _ hR hS (lv_sub hl [1, 2, 3, 4, 5, 6, 0] rfl) hcb hsb
def wX0_holdsIn_71 (Q : Int32 → XS → Prop) (K9 : Nat → Option Nat → Int32 → Int32 → Int32 → Int32 → Int32 → XS → Prop) (th : Nat) (x1 : Option Nat) (x2 : Int32) (x3 : Int32) (x4 : Int32) (x6 : Int32) (t0 : Int32) (σ : XS) : Prop :=
  wX0_holdsIn_73 Q K9 th x1 x2 x3 x4 t0 x6 σ
set_option maxHeartbeats 4000000 in
theorem BX0_holdsIn_71 {l : Launch} {p : Program} {e : Env} {s : State} {m : MethodId} {args : Array Value} {below : List Frame} {meth : Method} {c : Code} {E : xx_E} {Q : Int32 → XS → Prop} {K9 : Nat → Option Nat → Int32 → Int32 → Int32 → Int32 → Int32 → XS → Prop} (cx : xx_X "StruckCounts" cX0_holdsIn 7 (some .int) E p s m args meth c) (hK9 : ∀ (th : Nat) (x1 : Option Nat) (x2 : Int32) (x3 : Int32) (x4 : Int32) (x5 : Int32) (x6 : Int32) (σ : XS), K9 th x1 x2 x3 x4 x5 x6 σ → x_T p l e ({ frames := 1, cells := 0, slots := 0, locals := 40 } : Room) s m args below meth c E (va_Qi Q (fun σ' t => xW E σ' t) (xA E)) 0 0 7 9 0 0 σ [(0, xv E (some th)), (1, xv E x1), (2, .int x2), (3, .int x3), (4, .int x4), (5, .int x5), (6, .int x6)] []) : ∀ (th : Nat) (x1 : Option Nat) (x2 : Int32) (x3 : Int32) (x4 : Int32) (x6 : Int32) (t0 : Int32) (σ : XS), wX0_holdsIn_71 Q K9 th x1 x2 x3 x4 x6 t0 σ → x_T p l e ({ frames := 1, cells := 0, slots := 0, locals := 40 } : Room) s m args below meth c E (va_Qi Q (fun σ' t => xW E σ' t) (xA E)) 0 0 7 71 0 0 σ [(0, xv E (some th)), (1, xv E x1), (2, .int x2), (3, .int x3), (4, .int x4), (6, .int x6)] [.int t0] := by
  intro th x1 x2 x3 x4 x6 t0 σ hw H locs ls cells slots hR hS hl hcb hsb
  unfold wX0_holdsIn_71 at hw
  obtain ⟨hx, hb, hml, hown, hts, hrt, hlk, hMK, hZ⟩ := id cx
  refine lv_istore (i := 5) (lv' := [(5, .int t0), (0, xv E (some th)), (1, xv E x1), (2, .int x2), (3, .int x3), (4, .int x4), (6, .int x6)]) hx hb dX0_holdsIn_71 hl (by decide) rfl (fun ls hl => ?_)
  exact BX0_holdsIn_73 cx hK9 _ _ _ _ _ _ _ _ hw _ _ _ _ _ hR hS (lv_sub hl [1, 2, 3, 4, 5, 0, 6] rfl) hcb hsb
def wX0_holdsIn_70 (Q : Int32 → XS → Prop) (K9 : Nat → Option Nat → Int32 → Int32 → Int32 → Int32 → Int32 → XS → Prop) (th : Nat) (x1 : Option Nat) (x2 : Int32) (x3 : Int32) (x4 : Int32) (x6 : Int32) (σ : XS) : Prop :=
  wX0_holdsIn_71 Q K9 th x1 x2 x3 x4 x6 (0 : Int32) σ
set_option maxHeartbeats 4000000 in
theorem BX0_holdsIn_70 {l : Launch} {p : Program} {e : Env} {s : State} {m : MethodId} {args : Array Value} {below : List Frame} {meth : Method} {c : Code} {E : xx_E} {Q : Int32 → XS → Prop} {K9 : Nat → Option Nat → Int32 → Int32 → Int32 → Int32 → Int32 → XS → Prop} (cx : xx_X "StruckCounts" cX0_holdsIn 7 (some .int) E p s m args meth c) (hK9 : ∀ (th : Nat) (x1 : Option Nat) (x2 : Int32) (x3 : Int32) (x4 : Int32) (x5 : Int32) (x6 : Int32) (σ : XS), K9 th x1 x2 x3 x4 x5 x6 σ → x_T p l e ({ frames := 1, cells := 0, slots := 0, locals := 40 } : Room) s m args below meth c E (va_Qi Q (fun σ' t => xW E σ' t) (xA E)) 0 0 7 9 0 0 σ [(0, xv E (some th)), (1, xv E x1), (2, .int x2), (3, .int x3), (4, .int x4), (5, .int x5), (6, .int x6)] []) : ∀ (th : Nat) (x1 : Option Nat) (x2 : Int32) (x3 : Int32) (x4 : Int32) (x6 : Int32) (σ : XS), wX0_holdsIn_70 Q K9 th x1 x2 x3 x4 x6 σ → x_T p l e ({ frames := 1, cells := 0, slots := 0, locals := 40 } : Room) s m args below meth c E (va_Qi Q (fun σ' t => xW E σ' t) (xA E)) 0 0 7 70 0 0 σ [(0, xv E (some th)), (1, xv E x1), (2, .int x2), (3, .int x3), (4, .int x4), (6, .int x6)] [] := by
  intro th x1 x2 x3 x4 x6 σ hw H locs ls cells slots hR hS hl hcb hsb
  unfold wX0_holdsIn_70 at hw
  obtain ⟨hx, hb, hml, hown, hts, hrt, hlk, hMK, hZ⟩ := id cx
  refine lv_iconst (v := (0 : Int32)) hx hb dX0_holdsIn_70 (by decide) ?_
  exact BX0_holdsIn_71 cx hK9 _ _ _ _ _ _ _ _ hw _ _ _ _ _ hR hS (lv_sub hl [0, 1, 2, 3, 4, 5] rfl) hcb hsb
def wX0_holdsIn_52 (Q : Int32 → XS → Prop) (K9 : Nat → Option Nat → Int32 → Int32 → Int32 → Int32 → Int32 → XS → Prop) (th : Nat) (x1 : Option Nat) (x2 : Int32) (x3 : Int32) (x5 : Int32) (x6 : Int32) (t0 : Int32) (σ : XS) : Prop :=
  if x5 = 0 then (wX0_holdsIn_70 Q K9 th x1 x2 x3 t0 x6 σ) else (oc σ x1 101 (fun a2 => vp_in x6 (ln σ a2) ∧ (if (ai σ a2 x6.toNatClampNeg) = 0 then (wX0_holdsIn_70 Q K9 th x1 x2 x3 t0 x6 σ) else (wX0_holdsIn_71 Q K9 th x1 x2 x3 t0 x6 (1 : Int32) σ))))
set_option maxHeartbeats 4000000 in
theorem BX0_holdsIn_52 {l : Launch} {p : Program} {e : Env} {s : State} {m : MethodId} {args : Array Value} {below : List Frame} {meth : Method} {c : Code} {E : xx_E} {Q : Int32 → XS → Prop} {K9 : Nat → Option Nat → Int32 → Int32 → Int32 → Int32 → Int32 → XS → Prop} (cx : xx_X "StruckCounts" cX0_holdsIn 7 (some .int) E p s m args meth c) (hK9 : ∀ (th : Nat) (x1 : Option Nat) (x2 : Int32) (x3 : Int32) (x4 : Int32) (x5 : Int32) (x6 : Int32) (σ : XS), K9 th x1 x2 x3 x4 x5 x6 σ → x_T p l e ({ frames := 1, cells := 0, slots := 0, locals := 40 } : Room) s m args below meth c E (va_Qi Q (fun σ' t => xW E σ' t) (xA E)) 0 0 7 9 0 0 σ [(0, xv E (some th)), (1, xv E x1), (2, .int x2), (3, .int x3), (4, .int x4), (5, .int x5), (6, .int x6)] []) : ∀ (th : Nat) (x1 : Option Nat) (x2 : Int32) (x3 : Int32) (x5 : Int32) (x6 : Int32) (t0 : Int32) (σ : XS), wX0_holdsIn_52 Q K9 th x1 x2 x3 x5 x6 t0 σ → x_T p l e ({ frames := 1, cells := 0, slots := 0, locals := 40 } : Room) s m args below meth c E (va_Qi Q (fun σ' t => xW E σ' t) (xA E)) 0 0 7 52 0 0 σ [(0, xv E (some th)), (1, xv E x1), (2, .int x2), (3, .int x3), (5, .int x5), (6, .int x6)] [.int t0] := by
  intro th x1 x2 x3 x5 x6 t0 σ hw H locs ls cells slots hR hS hl hcb hsb
  unfold wX0_holdsIn_52 at hw
  obtain ⟨hx, hb, hml, hown, hts, hrt, hlk, hMK, hZ⟩ := id cx
  refine lv_istore (i := 4) (lv' := [(4, .int t0), (0, xv E (some th)), (1, xv E x1), (2, .int x2), (3, .int x3), (5, .int x5), (6, .int x6)]) hx hb dX0_holdsIn_52 hl (by decide) rfl (fun ls hl => ?_)
  refine lv_iload hx hb dX0_holdsIn_54 (lv_at hl 5 rfl) ?_
  refine lv_if_eq (tgt := 70) hx hb dX0_holdsIn_56 (by decide) (fun hc => ?_) (fun hc => ?_)
  · have hw := mm_ip hc hw
    exact BX0_holdsIn_70 cx hK9 _ _ _ _ _ _ _ hw _ _ _ _ _ hR hS (lv_sub hl [1, 2, 3, 4, 0, 6] rfl) hcb hsb
  · have hw := mm_in hc hw
    refine x_aload_n cx dX0_holdsIn_59 rfl (lv_at hl 2 rfl) ?_
    refine lv_iload hx hb dX0_holdsIn_60 (lv_at hl 6 rfl) ?_
    obtain ⟨a2, hr2, hk2, hw⟩ := hw
    obtain ⟨hi, hw⟩ := hw
    refine x_zald cx hR hr2 hk2 (j := x6.toNatClampNeg) rfl hi dX0_holdsIn_62 ?_
    refine lv_if_eq (tgt := 70) hx hb dX0_holdsIn_63 (by decide) (fun hc => ?_) (fun hc => ?_)
    · have hw := mm_ip hc hw
      exact BX0_holdsIn_70 cx hK9 _ _ _ _ _ _ _ hw _ _ _ _ _ hR hS (lv_sub hl [1, 2, 3, 4, 0, 6] rfl) hcb hsb
    · have hw := mm_in hc hw
      refine lv_iconst (v := (1 : Int32)) hx hb dX0_holdsIn_66 (by decide) ?_
      refine lv_goto (tgt := 71) hx hb dX0_holdsIn_67 (by decide) ?_
      exact BX0_holdsIn_71 cx hK9 _ _ _ _ _ _ _ _ hw _ _ _ _ _ hR hS (lv_sub hl [1, 2, 3, 4, 0, 6] rfl) hcb hsb
def wX0_holdsIn_47 (Q : Int32 → XS → Prop) (K9 : Nat → Option Nat → Int32 → Int32 → Int32 → Int32 → Int32 → XS → Prop) (th : Nat) (x1 : Option Nat) (x2 : Int32) (x3 : Int32) (x5 : Int32) (x6 : Int32) (σ : XS) : Prop :=
  wX0_holdsIn_52 Q K9 th x1 x2 x3 x5 x6 (1 : Int32) σ
set_option maxHeartbeats 4000000 in
theorem BX0_holdsIn_47 {l : Launch} {p : Program} {e : Env} {s : State} {m : MethodId} {args : Array Value} {below : List Frame} {meth : Method} {c : Code} {E : xx_E} {Q : Int32 → XS → Prop} {K9 : Nat → Option Nat → Int32 → Int32 → Int32 → Int32 → Int32 → XS → Prop} (cx : xx_X "StruckCounts" cX0_holdsIn 7 (some .int) E p s m args meth c) (hK9 : ∀ (th : Nat) (x1 : Option Nat) (x2 : Int32) (x3 : Int32) (x4 : Int32) (x5 : Int32) (x6 : Int32) (σ : XS), K9 th x1 x2 x3 x4 x5 x6 σ → x_T p l e ({ frames := 1, cells := 0, slots := 0, locals := 40 } : Room) s m args below meth c E (va_Qi Q (fun σ' t => xW E σ' t) (xA E)) 0 0 7 9 0 0 σ [(0, xv E (some th)), (1, xv E x1), (2, .int x2), (3, .int x3), (4, .int x4), (5, .int x5), (6, .int x6)] []) : ∀ (th : Nat) (x1 : Option Nat) (x2 : Int32) (x3 : Int32) (x5 : Int32) (x6 : Int32) (σ : XS), wX0_holdsIn_47 Q K9 th x1 x2 x3 x5 x6 σ → x_T p l e ({ frames := 1, cells := 0, slots := 0, locals := 40 } : Room) s m args below meth c E (va_Qi Q (fun σ' t => xW E σ' t) (xA E)) 0 0 7 47 0 0 σ [(0, xv E (some th)), (1, xv E x1), (2, .int x2), (3, .int x3), (5, .int x5), (6, .int x6)] [] := by
  intro th x1 x2 x3 x5 x6 σ hw H locs ls cells slots hR hS hl hcb hsb
  unfold wX0_holdsIn_47 at hw
  obtain ⟨hx, hb, hml, hown, hts, hrt, hlk, hMK, hZ⟩ := id cx
  refine lv_iconst (v := (1 : Int32)) hx hb dX0_holdsIn_47 (by decide) ?_
  refine lv_goto (tgt := 52) hx hb dX0_holdsIn_48 (by decide) ?_
  exact BX0_holdsIn_52 cx hK9 _ _ _ _ _ _ _ _ hw _ _ _ _ _ hR hS (lv_sub hl [0, 1, 2, 3, 4, 5] rfl) hcb hsb
def wX0_holdsIn_9 (Q : Int32 → XS → Prop) (K9 : Nat → Option Nat → Int32 → Int32 → Int32 → Int32 → Int32 → XS → Prop) (th : Nat) (x1 : Option Nat) (x2 : Int32) (x3 : Int32) (x4 : Int32) (x5 : Int32) (x6 : Int32) (σ : XS) : Prop :=
  kd σ th = 1 ∧ (oc σ (fr σ th 5) 2 (fun a5 => wX1_sets a5 σ (fun r4 s4 => if r4 ≤ x6 then (if x5 = 0 then (if x4 = 0 then (Q (0 : Int32) s4) else (Q (2 : Int32) s4)) else (Q (1 : Int32) s4)) else (kd s4 th = 1 ∧ (wX0_agrees th x6 x2 x3 s4 (fun r6 s6 => if r6 = 0 then (wX0_holdsIn_73 Q K9 th x1 x2 x3 x4 x5 x6 s6) else (if x4 = 0 then (oc s6 x1 101 (fun a8 => vp_in x6 (ln s6 a8) ∧ (if (ai s6 a8 x6.toNatClampNeg) = 0 then (wX0_holdsIn_52 Q K9 th x1 x2 x3 x5 x6 (0 : Int32) s6) else (wX0_holdsIn_47 Q K9 th x1 x2 x3 x5 x6 s6)))) else (wX0_holdsIn_47 Q K9 th x1 x2 x3 x5 x6 s6))))))))
set_option maxHeartbeats 4000000 in
theorem BX0_holdsIn_9 {l : Launch} {p : Program} {e : Env} {s : State} {m : MethodId} {args : Array Value} {below : List Frame} {meth : Method} {c : Code} {E : xx_E} {Q : Int32 → XS → Prop} {K9 : Nat → Option Nat → Int32 → Int32 → Int32 → Int32 → Int32 → XS → Prop} (cx : xx_X "StruckCounts" cX0_holdsIn 7 (some .int) E p s m args meth c) (hK9 : ∀ (th : Nat) (x1 : Option Nat) (x2 : Int32) (x3 : Int32) (x4 : Int32) (x5 : Int32) (x6 : Int32) (σ : XS), K9 th x1 x2 x3 x4 x5 x6 σ → x_T p l e ({ frames := 1, cells := 0, slots := 0, locals := 40 } : Room) s m args below meth c E (va_Qi Q (fun σ' t => xW E σ' t) (xA E)) 0 0 7 9 0 0 σ [(0, xv E (some th)), (1, xv E x1), (2, .int x2), (3, .int x3), (4, .int x4), (5, .int x5), (6, .int x6)] []) : ∀ (th : Nat) (x1 : Option Nat) (x2 : Int32) (x3 : Int32) (x4 : Int32) (x5 : Int32) (x6 : Int32) (σ : XS), wX0_holdsIn_9 Q K9 th x1 x2 x3 x4 x5 x6 σ → x_T p l e ({ frames := 1, cells := 0, slots := 0, locals := 40 } : Room) s m args below meth c E (va_Qi Q (fun σ' t => xW E σ' t) (xA E)) 0 0 7 9 0 0 σ [(0, xv E (some th)), (1, xv E x1), (2, .int x2), (3, .int x3), (4, .int x4), (5, .int x5), (6, .int x6)] [] := by
  intro th x1 x2 x3 x4 x5 x6 σ hw H locs ls cells slots hR hS hl hcb hsb
  unfold wX0_holdsIn_9 at hw
  obtain ⟨hx, hb, hml, hown, hts, hrt, hlk, hMK, hZ⟩ := id cx
  refine lv_iload hx hb dX0_holdsIn_9 (lv_at hl 6 rfl) ?_
  refine x_aload_n cx dX0_holdsIn_11 rfl (lv_at hl 0 rfl) ?_
  obtain ⟨hk3, hw⟩ := hw
  refine xg_X0_24_1 cx hR rfl hk3 dX0_holdsIn_12 ?_
  obtain ⟨a5, hr5, hk5, hw⟩ := hw
  refine CX1_sets_X0_142 cx hR hS hr5 hk5 hw ⟨Nat.le_of_ble_eq_true rfl, Nat.le_of_ble_eq_true rfl⟩ (Nat.le_of_ble_eq_true rfl) hl.1 ⟨by dsimp only; omega, by dsimp only; omega⟩ dX0_holdsIn_15 (fun r4 s4 H locs hw hR hS => ?_)
  refine lv_icmp_ge (tgt := 79) hx hb dX0_holdsIn_18 (by decide) (fun hc => ?_) (fun hc => ?_)
  · have hw := mm_ip hc hw
    refine lv_iload hx hb dX0_holdsIn_79 (lv_at hl 5 rfl) ?_
    refine lv_if_eq (tgt := 88) hx hb dX0_holdsIn_81 (by decide) (fun hc => ?_) (fun hc => ?_)
    · have hw := mm_ip hc hw
      refine lv_iload hx hb dX0_holdsIn_88 (lv_at hl 4 rfl) ?_
      refine lv_if_eq (tgt := 97) hx hb dX0_holdsIn_90 (by decide) (fun hc => ?_) (fun hc => ?_)
      · have hw := mm_ip hc hw
        refine lv_iconst (v := (0 : Int32)) hx hb dX0_holdsIn_97 (by decide) ?_
        exact x_iret cx hR hS (xle hcb) (xle hsb) hw dX0_holdsIn_98
      · have hw := mm_in hc hw
        refine lv_iconst (v := (2 : Int32)) hx hb dX0_holdsIn_93 (by decide) ?_
        refine lv_goto (tgt := 98) hx hb dX0_holdsIn_94 (by decide) ?_
        exact x_iret cx hR hS (xle hcb) (xle hsb) hw dX0_holdsIn_98
    · have hw := mm_in hc hw
      refine lv_iconst (v := (1 : Int32)) hx hb dX0_holdsIn_84 (by decide) ?_
      refine lv_goto (tgt := 98) hx hb dX0_holdsIn_85 (by decide) ?_
      exact x_iret cx hR hS (xle hcb) (xle hsb) hw dX0_holdsIn_98
  · have hw := mm_in hc hw
    refine x_aload_n cx dX0_holdsIn_21 rfl (lv_at hl 0 rfl) ?_
    refine lv_iload hx hb dX0_holdsIn_22 (lv_at hl 6 rfl) ?_
    refine lv_iload_n hx hb dX0_holdsIn_24 rfl (lv_at hl 2 rfl) ?_
    refine lv_iload_n hx hb dX0_holdsIn_25 rfl (lv_at hl 3 rfl) ?_
    obtain ⟨hk7, hw⟩ := hw
    refine CX0_agrees_X0_146 cx hR hS rfl hk7 hw ⟨Nat.le_of_ble_eq_true rfl, Nat.le_of_ble_eq_true rfl⟩ (Nat.le_of_ble_eq_true rfl) hl.1 ⟨by dsimp only; omega, by dsimp only; omega⟩ dX0_holdsIn_26 (fun r6 s6 H locs hw hR hS => ?_)
    refine lv_if_ne (tgt := 35) hx hb dX0_holdsIn_29 (by decide) (fun hc => ?_) (fun hc => ?_)
    · have hw := mm_in hc hw
      refine lv_iload hx hb dX0_holdsIn_35 (lv_at hl 4 rfl) ?_
      refine lv_if_ne (tgt := 47) hx hb dX0_holdsIn_37 (by decide) (fun hc => ?_) (fun hc => ?_)
      · have hw := mm_in hc hw
        exact BX0_holdsIn_47 cx hK9 _ _ _ _ _ _ _ hw _ _ _ _ _ hR hS (lv_sub hl [0, 1, 2, 3, 5, 6] rfl) hcb hsb
      · have hw := mm_ip hc hw
        refine x_aload_n cx dX0_holdsIn_40 rfl (lv_at hl 1 rfl) ?_
        refine lv_iload hx hb dX0_holdsIn_41 (lv_at hl 6 rfl) ?_
        obtain ⟨a8, hr8, hk8, hw⟩ := hw
        obtain ⟨hi, hw⟩ := hw
        refine x_zald cx hR hr8 hk8 (j := x6.toNatClampNeg) rfl hi dX0_holdsIn_43 ?_
        refine lv_if_eq (tgt := 51) hx hb dX0_holdsIn_44 (by decide) (fun hc => ?_) (fun hc => ?_)
        · have hw := mm_ip hc hw
          refine lv_iconst (v := (0 : Int32)) hx hb dX0_holdsIn_51 (by decide) ?_
          exact BX0_holdsIn_52 cx hK9 _ _ _ _ _ _ _ _ hw _ _ _ _ _ hR hS (lv_sub hl [0, 1, 2, 3, 5, 6] rfl) hcb hsb
        · have hw := mm_in hc hw
          exact BX0_holdsIn_47 cx hK9 _ _ _ _ _ _ _ hw _ _ _ _ _ hR hS (lv_sub hl [0, 1, 2, 3, 5, 6] rfl) hcb hsb
    · have hw := mm_ip hc hw
      refine lv_goto (tgt := 73) hx hb dX0_holdsIn_32 (by decide) ?_
      exact BX0_holdsIn_73 cx hK9 _ _ _ _ _ _ _ _ hw _ _ _ _ _ hR hS (lv_sub hl [0, 1, 2, 3, 4, 5, 6] rfl) hcb hsb
theorem LX0_holdsIn_9 {l : Launch} {p : Program} {e : Env} {s : State} {m : MethodId} {args : Array Value} {below : List Frame} {meth : Method} {c : Code} {E : xx_E} {Q : Int32 → XS → Prop} (cx : xx_X "StruckCounts" cX0_holdsIn 7 (some .int) E p s m args meth c) : ∀ (th : Nat) (x1 : Option Nat) (x2 : Int32) (x3 : Int32) (x4 : Int32) (x5 : Int32) (x6 : Int32) (σ : XS), lp8F (wX0_holdsIn_9 Q) th x1 x2 x3 x4 x5 x6 σ → x_T p l e ({ frames := 1, cells := 0, slots := 0, locals := 40 } : Room) s m args below meth c E (va_Qi Q (fun σ' t => xW E σ' t) (xA E)) 0 0 7 9 0 0 σ [(0, xv E (some th)), (1, xv E x1), (2, .int x2), (3, .int x3), (4, .int x4), (5, .int x5), (6, .int x6)] [] :=
  lp8F_of (fun K hK => BX0_holdsIn_9 cx hK)
def wX0_holdsIn (th : Nat) (x1 : Option Nat) (x2 : Int32) (x3 : Int32) (σ : XS) (Q : Int32 → XS → Prop) : Prop :=
  lp8F (wX0_holdsIn_9 Q) th x1 x2 x3 (0 : Int32) (1 : Int32) (0 : Int32) σ
set_option maxHeartbeats 4000000 in
theorem MX0_holdsIn (l : Launch) (E : xx_E) (th : Nat) (x1 : Option Nat) (x2 : Int32) (x3 : Int32) (σ : XS) (Q : Int32 → XS → Prop) (hw : wX0_holdsIn th x1 x2 x3 σ Q) : xx_Mi l yX0_holdsIn (ws_ yX0_holdsIn cX0_holdsIn 7 (some .int)) ({ frames := 1, cells := 0, slots := 0, locals := 40 } : Room) E [xv E (some th), xv E x1, .int x2, .int x3] σ Q 0 0 := by
  refine x_of (own := "StruckCounts") (by decide +kernel) rfl ?_
  intro p e s m args below meth c cx hR ha hnm
  refine x_entry [xv E (some th), xv E x1, .int x2, .int x3] 7 [(0, xv E (some th)), (1, xv E x1), (2, .int x2), (3, .int x3)] ha (by simp [lg_sl, xv_cat, vc_i, vc_j, vc_f]) (by simp [lv_args, xv_cat, vc_i, vc_j, vc_f]) (fun ls hl => ?_)
  have hS : va_S (xA E) s.heap s.heap [] := va_S.rf
  have hcb : 0 + 0 ≤ 0 := Nat.le_of_eq (Nat.zero_add _)
  have hsb : 0 + 0 ≤ 0 := Nat.le_of_eq (Nat.zero_add _)
  unfold wX0_holdsIn at hw
  obtain ⟨hx, hb, hml, hown, hts, hrt, hlk, hMK, hZ⟩ := id cx
  refine lv_iconst (v := (0 : Int32)) hx hb dX0_holdsIn_0 (by decide) ?_
  refine lv_istore (i := 4) (lv' := [(4, .int (0 : Int32)), (0, xv E (some th)), (1, xv E x1), (2, .int x2), (3, .int x3)]) hx hb dX0_holdsIn_1 hl (by decide) rfl (fun ls hl => ?_)
  refine lv_iconst (v := (1 : Int32)) hx hb dX0_holdsIn_3 (by decide) ?_
  refine lv_istore (i := 5) (lv' := [(5, .int (1 : Int32)), (4, .int (0 : Int32)), (0, xv E (some th)), (1, xv E x1), (2, .int x2), (3, .int x3)]) hx hb dX0_holdsIn_4 hl (by decide) rfl (fun ls hl => ?_)
  refine lv_iconst (v := (0 : Int32)) hx hb dX0_holdsIn_6 (by decide) ?_
  refine lv_istore (i := 6) (lv' := [(6, .int (0 : Int32)), (5, .int (1 : Int32)), (4, .int (0 : Int32)), (0, xv E (some th)), (1, xv E x1), (2, .int x2), (3, .int x3)]) hx hb dX0_holdsIn_7 hl (by decide) rfl (fun ls hl => ?_)
  exact LX0_holdsIn_9 cx _ _ _ _ _ _ _ _ hw _ _ _ _ _ hR hS (lv_sub hl [3, 4, 5, 6, 2, 1, 0] rfl) hcb hsb
-- X0_areSure
theorem xg_X0_175_13 {l : Launch} {p : Program} {e : Env} {R : Room} {s : State} {m : MethodId} {args : Array Value} {below : List Frame} {meth : Method} {c : Code} {H : Heap} {locs : List Loc} {cells slots : Nat} {Qz : State → Prop} {cc : ByteArray} {nL : Nat} {ret : Option FieldType} {E : xx_E} {σ : XS} {pc : Nat} {ls : Array Slot} {rest : List Value} (cx : xx_X "StruckCounts" cc nL ret E p s m args meth c) (hR : xR E σ H) {a : Nat} {r : Option Nat} (hr : r = some a) (hk : kd σ a = 13) (hdg : decode cc pc = .ok (.getfield 175, 3)) (kk : W p l e R s m args below meth c H locs cells slots Qz (F0 m (pc + 3) ls (xv E (fr σ a 1) :: rest))) : W p l e R s m args below meth c H locs cells slots Qz (F0 m pc ls (xv E r :: rest)) :=
  x_getN (ci := 12) cx hR hr hk (by decide) rfl in_X13 1 (by decide) (xx_nf_mem (i := 26) rfl) (fun _ h => h) (v := xv E (fr σ a 1)) rfl hdg kk
theorem CX0_holdsIn_X0_216 {l : Launch} {p : Program} {e : Env} {R : Room} {s : State} {m : MethodId} {args : Array Value} {below : List Frame} {meth : Method} {c : Code} {H : Heap} {locs : List Loc} {cells slots : Nat} {Qz : State → Prop} {cc : ByteArray} {nL : Nat} {ret : Option FieldType} {E : xx_E} {σ : XS} {pc : Nat} {ls : Array Slot} {rest : List Value} {th : Nat} {x1 : Option Nat} {x2 : Int32} {x3 : Int32} (cx : xx_X "StruckCounts" cc nL ret E p s m args meth c) (hR0 : xR E σ H) (hS0 : va_S (xA E) s.heap H locs) {r0 : Option Nat} (hr : r0 = some th) (hk : kd σ th = 1) {Qf : Int32 → XS → Prop} (hw : wX0_holdsIn th x1 x2 x3 σ Qf) (hR : (({ frames := 1, cells := 0, slots := 0, locals := 40 } : Room)).frames + 1 ≤ R.frames ∧ 8 + (7 + 11) + (({ frames := 1, cells := 0, slots := 0, locals := 40 } : Room)).locals ≤ R.locals) (hrest : rest.length ≤ 4) (hsize : ls.size = nL) (hf : cells + 0 ≤ R.cells ∧ slots + 0 ≤ R.slots) (hdg : decode cc pc = .ok (.invokevirtual 216, 3))
    (kk : ∀ (r : Int32) (σ1 : XS) (H1 : Heap) (locs1 : List Loc), Qf r σ1 → xR E σ1 H1 → va_S (xA E) s.heap H1 locs1 → W p l e R s m args below meth c H1 locs1 (cells + 0) (slots + 0) Qz (F0 m (pc + 3) ls (.int r :: rest))) : W p l e R s m args below meth c H locs cells slots Qz (F0 m pc ls (.int x3 :: .int x2 :: xv E x1 :: xv E r0 :: rest)) := by
  subst hr
  obtain ⟨hx, hb, hml, hown, hts, hrt, hlk, hK, hZ⟩ := id cx
  exact x_goi (va_runV (As := [xv E x1, .int x2, .int x3]) (rest := rest) (x_fix cx) (MX0_holdsIn l E th x1 x2 x3 σ Qf hw) (cwV 3 hts (lw_V q1966 q1968 qs44 q156 q1969) rfl rfl rfl (by decide +kernel) hR) (x_preV cx hR0 hS0 hk (by decide) (q := (RX0, TX0, 24)) rfl rfl [xv E x1, .int x2, .int x3]) rfl rfl hsize rfl (lv_room (xroom hrest)) hdg hf) hS0 kk
def wX0_areSure_3 (Q : Int32 → XS → Prop) (K3 : Nat → Option Nat → Int32 → Int32 → Int32 → XS → Prop) (th : Nat) (x1 : Option Nat) (x2 : Int32) (x3 : Int32) (x4 : Int32) (σ : XS) : Prop :=
  oc σ x1 16 (fun a2 => wJ7_size a2 σ (fun r1 s1 => if r1 ≤ x4 then (Q (1 : Int32) s1) else (oc s1 x1 16 (fun a4 => wJ7_get a4 x4 s1 (fun r3 s3 => xck [13] s3 r3 ∧ (oc s3 r3 13 (fun a5 => kd s3 th = 1 ∧ (wX0_holdsIn th (fr s3 a5 1) x2 x3 s3 (fun r6 s6 => if r6 = (1 : Int32) then (∀ v8 : Int32, v8 = x4 + (1 : Int32) → K3 th x1 x2 x3 v8 s6) else (Q (0 : Int32) s6))))))))))
set_option maxHeartbeats 4000000 in
theorem BX0_areSure_3 {l : Launch} {p : Program} {e : Env} {s : State} {m : MethodId} {args : Array Value} {below : List Frame} {meth : Method} {c : Code} {E : xx_E} {Q : Int32 → XS → Prop} {K3 : Nat → Option Nat → Int32 → Int32 → Int32 → XS → Prop} (cx : xx_X "StruckCounts" cX0_areSure 5 (some .boolean) E p s m args meth c) (hK3 : ∀ (th : Nat) (x1 : Option Nat) (x2 : Int32) (x3 : Int32) (x4 : Int32) (σ : XS), K3 th x1 x2 x3 x4 σ → x_T p l e ({ frames := 3, cells := 0, slots := 0, locals := 120 } : Room) s m args below meth c E (va_Qi Q (fun σ' t => xW E σ' t) (xA E)) 0 0 5 3 0 0 σ [(0, xv E (some th)), (1, xv E x1), (2, .int x2), (3, .int x3), (4, .int x4)] []) : ∀ (th : Nat) (x1 : Option Nat) (x2 : Int32) (x3 : Int32) (x4 : Int32) (σ : XS), wX0_areSure_3 Q K3 th x1 x2 x3 x4 σ → x_T p l e ({ frames := 3, cells := 0, slots := 0, locals := 120 } : Room) s m args below meth c E (va_Qi Q (fun σ' t => xW E σ' t) (xA E)) 0 0 5 3 0 0 σ [(0, xv E (some th)), (1, xv E x1), (2, .int x2), (3, .int x3), (4, .int x4)] [] := by
  intro th x1 x2 x3 x4 σ hw H locs ls cells slots hR hS hl hcb hsb
  unfold wX0_areSure_3 at hw
  obtain ⟨hx, hb, hml, hown, hts, hrt, hlk, hMK, hZ⟩ := id cx
  refine lv_iload hx hb dX0_areSure_3 (lv_at hl 4 rfl) ?_
  refine x_aload_n cx dX0_areSure_5 rfl (lv_at hl 1 rfl) ?_
  obtain ⟨a2, hr2, hk2, hw⟩ := hw
  refine CJ7_size_X0_159 cx hR hS hr2 hk2 hw ⟨Nat.le_of_ble_eq_true rfl, Nat.le_of_ble_eq_true rfl⟩ (Nat.le_of_ble_eq_true rfl) hl.1 ⟨by dsimp only; omega, by dsimp only; omega⟩ dX0_areSure_6 (fun r1 s1 H locs hw hR hS => ?_)
  refine lv_icmp_ge (tgt := 42) hx hb dX0_areSure_9 (by decide) (fun hc => ?_) (fun hc => ?_)
  · have hw := mm_ip hc hw
    refine lv_iconst (v := (1 : Int32)) hx hb dX0_areSure_42 (by decide) ?_
    exact x_nret cx hR hS (xle hcb) (xle hsb) (zb_nar (Or.inr rfl)) hw dX0_areSure_43
  · have hw := mm_in hc hw
    refine x_aload_n cx dX0_areSure_12 rfl (lv_at hl 0 rfl) ?_
    refine x_aload_n cx dX0_areSure_13 rfl (lv_at hl 1 rfl) ?_
    refine lv_iload hx hb dX0_areSure_14 (lv_at hl 4 rfl) ?_
    obtain ⟨a4, hr4, hk4, hw⟩ := hw
    refine CJ7_get_X0_167 cx hR hS hr4 hk4 hw ⟨Nat.le_of_ble_eq_true rfl, Nat.le_of_ble_eq_true rfl⟩ (Nat.le_of_ble_eq_true rfl) hl.1 ⟨by dsimp only; omega, by dsimp only; omega⟩ dX0_areSure_16 (fun r3 s3 H locs hw hR hS => ?_)
    obtain ⟨hv, hw⟩ := hw
    refine x_cast cx hR q1965 (xcc_1 hv) dX0_areSure_19 ?_
    obtain ⟨a5, hr5, hk5, hw⟩ := hw
    refine xg_X0_175_13 cx hR hr5 hk5 dX0_areSure_22 ?_
    refine lv_iload_n hx hb dX0_areSure_25 rfl (lv_at hl 2 rfl) ?_
    refine lv_iload_n hx hb dX0_areSure_26 rfl (lv_at hl 3 rfl) ?_
    obtain ⟨hk7, hw⟩ := hw
    refine CX0_holdsIn_X0_216 cx hR hS rfl hk7 hw ⟨Nat.le_of_ble_eq_true rfl, Nat.le_of_ble_eq_true rfl⟩ (Nat.le_of_ble_eq_true rfl) hl.1 ⟨by dsimp only; omega, by dsimp only; omega⟩ dX0_areSure_27 (fun r6 s6 H locs hw hR hS => ?_)
    refine lv_iconst (v := (1 : Int32)) hx hb dX0_areSure_30 (by decide) ?_
    refine lv_icmp_eq (tgt := 36) hx hb dX0_areSure_31 (by decide) (fun hc => ?_) (fun hc => ?_)
    · have hw := mm_ip hc hw
      obtain ⟨v8, hv8⟩ : ∃ v : Int32, v = x4 + (1 : Int32) := ⟨_, rfl⟩
      have hw := hw v8 hv8
      refine lv_iinc (v := v8) (lv' := [(4, .int v8), (0, xv E (some th)), (1, xv E x1), (2, .int x2), (3, .int x3)]) hx hb dX0_areSure_36 hl (k := 4) rfl (by rw [hv8]; rfl) (by decide) rfl (fun ls hl => ?_)
      refine lv_goto (tgt := 3) hx hb dX0_areSure_39 (by decide) ?_
      exact hK3 _ _ _ _ _ _ hw _ _ _ _ _ hR hS (lv_sub hl [1, 2, 3, 4, 0] rfl) hcb hsb
    · have hw := mm_in hc hw
      refine lv_iconst (v := (0 : Int32)) hx hb dX0_areSure_34 (by decide) ?_
      exact x_nret cx hR hS (xle hcb) (xle hsb) (zb_nar (Or.inl rfl)) hw dX0_areSure_35
theorem LX0_areSure_3 {l : Launch} {p : Program} {e : Env} {s : State} {m : MethodId} {args : Array Value} {below : List Frame} {meth : Method} {c : Code} {E : xx_E} {Q : Int32 → XS → Prop} (cx : xx_X "StruckCounts" cX0_areSure 5 (some .boolean) E p s m args meth c) : ∀ (th : Nat) (x1 : Option Nat) (x2 : Int32) (x3 : Int32) (x4 : Int32) (σ : XS), lp6F (wX0_areSure_3 Q) th x1 x2 x3 x4 σ → x_T p l e ({ frames := 3, cells := 0, slots := 0, locals := 120 } : Room) s m args below meth c E (va_Qi Q (fun σ' t => xW E σ' t) (xA E)) 0 0 5 3 0 0 σ [(0, xv E (some th)), (1, xv E x1), (2, .int x2), (3, .int x3), (4, .int x4)] [] :=
  lp6F_of (fun K hK => BX0_areSure_3 cx hK)
def wX0_areSure (th : Nat) (x1 : Option Nat) (x2 : Int32) (x3 : Int32) (σ : XS) (Q : Int32 → XS → Prop) : Prop :=
  lp6F (wX0_areSure_3 Q) th x1 x2 x3 (0 : Int32) σ
set_option maxHeartbeats 4000000 in
theorem MX0_areSure (l : Launch) (E : xx_E) (th : Nat) (x1 : Option Nat) (x2 : Int32) (x3 : Int32) (σ : XS) (Q : Int32 → XS → Prop) (hw : wX0_areSure th x1 x2 x3 σ Q) : xx_Mi l yX0_areSure (ws_ yX0_areSure cX0_areSure 5 (some .boolean)) ({ frames := 3, cells := 0, slots := 0, locals := 120 } : Room) E [xv E (some th), xv E x1, .int x2, .int x3] σ Q 0 0 := by
  refine x_of (own := "StruckCounts") (by decide +kernel) rfl ?_
  intro p e s m args below meth c cx hR ha hnm
  refine x_entry [xv E (some th), xv E x1, .int x2, .int x3] 5 [(0, xv E (some th)), (1, xv E x1), (2, .int x2), (3, .int x3)] ha (by simp [lg_sl, xv_cat, vc_i, vc_j, vc_f]) (by simp [lv_args, xv_cat, vc_i, vc_j, vc_f]) (fun ls hl => ?_)
  have hS : va_S (xA E) s.heap s.heap [] := va_S.rf
  have hcb : 0 + 0 ≤ 0 := Nat.le_of_eq (Nat.zero_add _)
  have hsb : 0 + 0 ≤ 0 := Nat.le_of_eq (Nat.zero_add _)
  unfold wX0_areSure at hw
  obtain ⟨hx, hb, hml, hown, hts, hrt, hlk, hMK, hZ⟩ := id cx
  refine lv_iconst (v := (0 : Int32)) hx hb dX0_areSure_0 (by decide) ?_
  refine lv_istore (i := 4) (lv' := [(4, .int (0 : Int32)), (0, xv E (some th)), (1, xv E x1), (2, .int x2), (3, .int x3)]) hx hb dX0_areSure_1 hl (by decide) rfl (fun ls hl => ?_)
  exact LX0_areSure_3 cx _ _ _ _ _ _ hw _ _ _ _ _ hR hS (lv_sub hl [1, 2, 3, 4, 0] rfl) hcb hsb
-- X0_isAway
def wX0_isAway_2 (Q : Int32 → XS → Prop) (K2 : Nat → Option Nat → Int32 → XS → Prop) (th : Nat) (x1 : Option Nat) (x2 : Int32) (σ : XS) : Prop :=
  oc σ x1 16 (fun a2 => wJ7_size a2 σ (fun r1 s1 => if r1 ≤ x2 then (Q (0 : Int32) s1) else (oc s1 x1 16 (fun a4 => wJ7_get a4 x2 s1 (fun r3 s3 => xck [13] s3 r3 ∧ (oc s3 r3 13 (fun a5 => kd s3 th = 1 ∧ (oc s3 (fr s3 th 6) 3 (fun a7 => wX0_holdsIn th (fr s3 a5 1) (fi s3 a7 7) (fi s3 a7 8) s3 (fun r8 s8 => if r8 = 0 then (Q (1 : Int32) s8) else (∀ v9 : Int32, v9 = x2 + (1 : Int32) → K2 th x1 v9 s8)))))))))))
set_option maxHeartbeats 4000000 in
theorem BX0_isAway_2 {l : Launch} {p : Program} {e : Env} {s : State} {m : MethodId} {args : Array Value} {below : List Frame} {meth : Method} {c : Code} {E : xx_E} {Q : Int32 → XS → Prop} {K2 : Nat → Option Nat → Int32 → XS → Prop} (cx : xx_X "StruckCounts" cX0_isAway 3 (some .boolean) E p s m args meth c) (hK2 : ∀ (th : Nat) (x1 : Option Nat) (x2 : Int32) (σ : XS), K2 th x1 x2 σ → x_T p l e ({ frames := 3, cells := 0, slots := 0, locals := 120 } : Room) s m args below meth c E (va_Qi Q (fun σ' t => xW E σ' t) (xA E)) 0 0 3 2 0 0 σ [(0, xv E (some th)), (1, xv E x1), (2, .int x2)] []) : ∀ (th : Nat) (x1 : Option Nat) (x2 : Int32) (σ : XS), wX0_isAway_2 Q K2 th x1 x2 σ → x_T p l e ({ frames := 3, cells := 0, slots := 0, locals := 120 } : Room) s m args below meth c E (va_Qi Q (fun σ' t => xW E σ' t) (xA E)) 0 0 3 2 0 0 σ [(0, xv E (some th)), (1, xv E x1), (2, .int x2)] [] := by
  intro th x1 x2 σ hw H locs ls cells slots hR hS hl hcb hsb
  unfold wX0_isAway_2 at hw
  obtain ⟨hx, hb, hml, hown, hts, hrt, hlk, hMK, hZ⟩ := id cx
  refine lv_iload_n hx hb dX0_isAway_2 rfl (lv_at hl 2 rfl) ?_
  refine x_aload_n cx dX0_isAway_3 rfl (lv_at hl 1 rfl) ?_
  obtain ⟨a2, hr2, hk2, hw⟩ := hw
  refine CJ7_size_X0_159 cx hR hS hr2 hk2 hw ⟨Nat.le_of_ble_eq_true rfl, Nat.le_of_ble_eq_true rfl⟩ (Nat.le_of_ble_eq_true rfl) hl.1 ⟨by dsimp only; omega, by dsimp only; omega⟩ dX0_isAway_4 (fun r1 s1 H locs hw hR hS => ?_)
  refine lv_icmp_ge (tgt := 50) hx hb dX0_isAway_7 (by decide) (fun hc => ?_) (fun hc => ?_)
  · have hw := mm_ip hc hw
    refine lv_iconst (v := (0 : Int32)) hx hb dX0_isAway_50 (by decide) ?_
    exact x_nret cx hR hS (xle hcb) (xle hsb) (zb_nar (Or.inl rfl)) hw dX0_isAway_51
  · have hw := mm_in hc hw
    refine x_aload_n cx dX0_isAway_10 rfl (lv_at hl 0 rfl) ?_
    refine x_aload_n cx dX0_isAway_11 rfl (lv_at hl 1 rfl) ?_
    refine lv_iload_n hx hb dX0_isAway_12 rfl (lv_at hl 2 rfl) ?_
    obtain ⟨a4, hr4, hk4, hw⟩ := hw
    refine CJ7_get_X0_167 cx hR hS hr4 hk4 hw ⟨Nat.le_of_ble_eq_true rfl, Nat.le_of_ble_eq_true rfl⟩ (Nat.le_of_ble_eq_true rfl) hl.1 ⟨by dsimp only; omega, by dsimp only; omega⟩ dX0_isAway_13 (fun r3 s3 H locs hw hR hS => ?_)
    obtain ⟨hv, hw⟩ := hw
    refine x_cast cx hR q1965 (xcc_1 hv) dX0_isAway_16 ?_
    obtain ⟨a5, hr5, hk5, hw⟩ := hw
    refine xg_X0_175_13 cx hR hr5 hk5 dX0_isAway_19 ?_
    refine x_aload_n cx dX0_isAway_22 rfl (lv_at hl 0 rfl) ?_
    obtain ⟨hk6, hw⟩ := hw
    refine xg_X0_31_1 cx hR rfl hk6 dX0_isAway_23 ?_
    obtain ⟨a7, hr7, hk7, hw⟩ := hw
    refine xg_X0_149_3 cx hR hr7 hk7 dX0_isAway_26 ?_
    refine x_aload_n cx dX0_isAway_29 rfl (lv_at hl 0 rfl) ?_
    refine xg_X0_31_1 cx hR rfl hk6 dX0_isAway_30 ?_
    refine xg_X0_152_3 cx hR hr7 hk7 dX0_isAway_33 ?_
    refine CX0_holdsIn_X0_216 cx hR hS rfl hk6 hw ⟨Nat.le_of_ble_eq_true rfl, Nat.le_of_ble_eq_true rfl⟩ (Nat.le_of_ble_eq_true rfl) hl.1 ⟨by dsimp only; omega, by dsimp only; omega⟩ dX0_isAway_36 (fun r8 s8 H locs hw hR hS => ?_)
    refine lv_if_ne (tgt := 44) hx hb dX0_isAway_39 (by decide) (fun hc => ?_) (fun hc => ?_)
    · have hw := mm_in hc hw
      obtain ⟨v9, hv9⟩ : ∃ v : Int32, v = x2 + (1 : Int32) := ⟨_, rfl⟩
      have hw := hw v9 hv9
      refine lv_iinc (v := v9) (lv' := [(2, .int v9), (0, xv E (some th)), (1, xv E x1)]) hx hb dX0_isAway_44 hl (k := 2) rfl (by rw [hv9]; rfl) (by decide) (by simp [xv_cat]) (fun ls hl => ?_)
      refine lv_goto (tgt := 2) hx hb dX0_isAway_47 (by decide) ?_
      exact hK2 _ _ _ _ hw _ _ _ _ _ hR hS (lv_sub hl [1, 2, 0] rfl) hcb hsb
    · have hw := mm_ip hc hw
      refine lv_iconst (v := (1 : Int32)) hx hb dX0_isAway_42 (by decide) ?_
      exact x_nret cx hR hS (xle hcb) (xle hsb) (zb_nar (Or.inr rfl)) hw dX0_isAway_43
theorem LX0_isAway_2 {l : Launch} {p : Program} {e : Env} {s : State} {m : MethodId} {args : Array Value} {below : List Frame} {meth : Method} {c : Code} {E : xx_E} {Q : Int32 → XS → Prop} (cx : xx_X "StruckCounts" cX0_isAway 3 (some .boolean) E p s m args meth c) : ∀ (th : Nat) (x1 : Option Nat) (x2 : Int32) (σ : XS), lp4F (wX0_isAway_2 Q) th x1 x2 σ → x_T p l e ({ frames := 3, cells := 0, slots := 0, locals := 120 } : Room) s m args below meth c E (va_Qi Q (fun σ' t => xW E σ' t) (xA E)) 0 0 3 2 0 0 σ [(0, xv E (some th)), (1, xv E x1), (2, .int x2)] [] :=
  lp4F_of (fun K hK => BX0_isAway_2 cx hK)
def wX0_isAway (th : Nat) (x1 : Option Nat) (σ : XS) (Q : Int32 → XS → Prop) : Prop :=
  lp4F (wX0_isAway_2 Q) th x1 (0 : Int32) σ
set_option maxHeartbeats 4000000 in
theorem MX0_isAway (l : Launch) (E : xx_E) (th : Nat) (x1 : Option Nat) (σ : XS) (Q : Int32 → XS → Prop) (hw : wX0_isAway th x1 σ Q) : xx_Mi l yX0_isAway (ws_ yX0_isAway cX0_isAway 3 (some .boolean)) ({ frames := 3, cells := 0, slots := 0, locals := 120 } : Room) E [xv E (some th), xv E x1] σ Q 0 0 := by
  refine x_of (own := "StruckCounts") (by decide +kernel) rfl ?_
  intro p e s m args below meth c cx hR ha hnm
  refine x_entry [xv E (some th), xv E x1] 3 [(0, xv E (some th)), (1, xv E x1)] ha (by simp [lg_sl, xv_cat, vc_i, vc_j, vc_f]) (by simp [lv_args, xv_cat, vc_i, vc_j, vc_f]) (fun ls hl => ?_)
  have hS : va_S (xA E) s.heap s.heap [] := va_S.rf
  have hcb : 0 + 0 ≤ 0 := Nat.le_of_eq (Nat.zero_add _)
  have hsb : 0 + 0 ≤ 0 := Nat.le_of_eq (Nat.zero_add _)
  unfold wX0_isAway at hw
  obtain ⟨hx, hb, hml, hown, hts, hrt, hlk, hMK, hZ⟩ := id cx
  refine lv_iconst (v := (0 : Int32)) hx hb dX0_isAway_0 (by decide) ?_
  refine lv_istore_n (i := 2) (lv' := [(2, .int (0 : Int32)), (0, xv E (some th)), (1, xv E x1)]) hx hb dX0_isAway_1 rfl hl (by decide) (by simp [xv_cat]) (fun ls hl => ?_)
  exact LX0_isAway_2 cx _ _ _ _ hw _ _ _ _ _ hR hS (lv_sub hl [1, 2, 0] rfl) hcb hsb
-- X0_isBarred
def wX0_isBarred_3 (Q : Int32 → XS → Prop) (K3 : Nat → Option Nat → Int32 → Int32 → Int32 → XS → Prop) (th : Nat) (x1 : Option Nat) (x2 : Int32) (x3 : Int32) (x4 : Int32) (σ : XS) : Prop :=
  oc σ x1 16 (fun a2 => wJ7_size a2 σ (fun r1 s1 => if r1 ≤ x4 then (Q (0 : Int32) s1) else (oc s1 x1 16 (fun a4 => wJ7_get a4 x4 s1 (fun r3 s3 => xck [13] s3 r3 ∧ (oc s3 r3 13 (fun a5 => kd s3 th = 1 ∧ (wX0_holdsIn th (fr s3 a5 1) x2 x3 s3 (fun r6 s6 => if r6 = (1 : Int32) then (Q (1 : Int32) s6) else (kd s6 th = 1 ∧ (oc s6 (fr s6 th 6) 3 (fun a9 => wX0_holdsIn th (fr s3 a5 1) (fi s6 a9 7) (fi s6 a9 8) s6 (fun r10 s10 => if r10 = (1 : Int32) then (Q (1 : Int32) s10) else (∀ v11 : Int32, v11 = x4 + (1 : Int32) → K3 th x1 x2 x3 v11 s10))))))))))))))
set_option maxHeartbeats 4000000 in
theorem BX0_isBarred_3 {l : Launch} {p : Program} {e : Env} {s : State} {m : MethodId} {args : Array Value} {below : List Frame} {meth : Method} {c : Code} {E : xx_E} {Q : Int32 → XS → Prop} {K3 : Nat → Option Nat → Int32 → Int32 → Int32 → XS → Prop} (cx : xx_X "StruckCounts" cX0_isBarred 6 (some .boolean) E p s m args meth c) (hK3 : ∀ (th : Nat) (x1 : Option Nat) (x2 : Int32) (x3 : Int32) (x4 : Int32) (σ : XS), K3 th x1 x2 x3 x4 σ → x_T p l e ({ frames := 3, cells := 0, slots := 0, locals := 120 } : Room) s m args below meth c E (va_Qi Q (fun σ' t => xW E σ' t) (xA E)) 0 0 6 3 0 0 σ [(0, xv E (some th)), (1, xv E x1), (2, .int x2), (3, .int x3), (4, .int x4)] []) : ∀ (th : Nat) (x1 : Option Nat) (x2 : Int32) (x3 : Int32) (x4 : Int32) (σ : XS), wX0_isBarred_3 Q K3 th x1 x2 x3 x4 σ → x_T p l e ({ frames := 3, cells := 0, slots := 0, locals := 120 } : Room) s m args below meth c E (va_Qi Q (fun σ' t => xW E σ' t) (xA E)) 0 0 6 3 0 0 σ [(0, xv E (some th)), (1, xv E x1), (2, .int x2), (3, .int x3), (4, .int x4)] [] := by
  intro th x1 x2 x3 x4 σ hw H locs ls cells slots hR hS hl hcb hsb
  unfold wX0_isBarred_3 at hw
  obtain ⟨hx, hb, hml, hown, hts, hrt, hlk, hMK, hZ⟩ := id cx
  refine lv_iload hx hb dX0_isBarred_3 (lv_at hl 4 rfl) ?_
  refine x_aload_n cx dX0_isBarred_5 rfl (lv_at hl 1 rfl) ?_
  obtain ⟨a2, hr2, hk2, hw⟩ := hw
  refine CJ7_size_X0_159 cx hR hS hr2 hk2 hw ⟨Nat.le_of_ble_eq_true rfl, Nat.le_of_ble_eq_true rfl⟩ (Nat.le_of_ble_eq_true rfl) hl.1 ⟨by dsimp only; omega, by dsimp only; omega⟩ dX0_isBarred_6 (fun r1 s1 H locs hw hR hS => ?_)
  refine lv_icmp_ge (tgt := 70) hx hb dX0_isBarred_9 (by decide) (fun hc => ?_) (fun hc => ?_)
  · have hw := mm_ip hc hw
    refine lv_iconst (v := (0 : Int32)) hx hb dX0_isBarred_70 (by decide) ?_
    exact x_nret cx hR hS (xle hcb) (xle hsb) (zb_nar (Or.inl rfl)) hw dX0_isBarred_71
  · have hw := mm_in hc hw
    refine x_aload_n cx dX0_isBarred_12 rfl (lv_at hl 1 rfl) ?_
    refine lv_iload hx hb dX0_isBarred_13 (lv_at hl 4 rfl) ?_
    obtain ⟨a4, hr4, hk4, hw⟩ := hw
    refine CJ7_get_X0_167 cx hR hS hr4 hk4 hw ⟨Nat.le_of_ble_eq_true rfl, Nat.le_of_ble_eq_true rfl⟩ (Nat.le_of_ble_eq_true rfl) hl.1 ⟨by dsimp only; omega, by dsimp only; omega⟩ dX0_isBarred_15 (fun r3 s3 H locs hw hR hS => ?_)
    obtain ⟨hv, hw⟩ := hw
    refine x_cast cx hR q1965 (xcc_1 hv) dX0_isBarred_18 ?_
    obtain ⟨a5, hr5, hk5, hw⟩ := hw
    refine xg_X0_175_13 cx hR hr5 hk5 dX0_isBarred_21 ?_
    refine x_astore (i := 5) (r := (fr s3 a5 1)) (lv' := [(5, xv E (fr s3 a5 1)), (0, xv E (some th)), (1, xv E x1), (2, .int x2), (3, .int x3), (4, .int x4)]) cx dX0_isBarred_24 hl (by decide) rfl (fun ls hl => ?_)
    refine x_aload_n cx dX0_isBarred_26 rfl (lv_at hl 1 rfl) ?_
    refine x_aload cx dX0_isBarred_27 (lv_at hl 0 rfl) ?_
    refine lv_iload_n hx hb dX0_isBarred_29 rfl (lv_at hl 3 rfl) ?_
    refine lv_iload_n hx hb dX0_isBarred_30 rfl (lv_at hl 4 rfl) ?_
    obtain ⟨hk7, hw⟩ := hw
    refine CX0_holdsIn_X0_216 cx hR hS rfl hk7 hw ⟨Nat.le_of_ble_eq_true rfl, Nat.le_of_ble_eq_true rfl⟩ (Nat.le_of_ble_eq_true rfl) hl.1 ⟨by dsimp only; omega, by dsimp only; omega⟩ dX0_isBarred_31 (fun r6 s6 H locs hw hR hS => ?_)
    refine lv_iconst (v := (1 : Int32)) hx hb dX0_isBarred_34 (by decide) ?_
    refine lv_icmp_eq (tgt := 62) hx hb dX0_isBarred_35 (by decide) (fun hc => ?_) (fun hc => ?_)
    · have hw := mm_ip hc hw
      refine lv_iconst (v := (1 : Int32)) hx hb dX0_isBarred_62 (by decide) ?_
      exact x_nret cx hR hS (xle hcb) (xle hsb) (zb_nar (Or.inr rfl)) hw dX0_isBarred_63
    · have hw := mm_in hc hw
      refine x_aload_n cx dX0_isBarred_38 rfl (lv_at hl 1 rfl) ?_
      refine x_aload cx dX0_isBarred_39 (lv_at hl 0 rfl) ?_
      refine x_aload_n cx dX0_isBarred_41 rfl (lv_at hl 1 rfl) ?_
      obtain ⟨hk8, hw⟩ := hw
      refine xg_X0_31_1 cx hR rfl hk8 dX0_isBarred_42 ?_
      obtain ⟨a9, hr9, hk9, hw⟩ := hw
      refine xg_X0_149_3 cx hR hr9 hk9 dX0_isBarred_45 ?_
      refine x_aload_n cx dX0_isBarred_48 rfl (lv_at hl 1 rfl) ?_
      refine xg_X0_31_1 cx hR rfl hk8 dX0_isBarred_49 ?_
      refine xg_X0_152_3 cx hR hr9 hk9 dX0_isBarred_52 ?_
      refine CX0_holdsIn_X0_216 cx hR hS rfl hk8 hw ⟨Nat.le_of_ble_eq_true rfl, Nat.le_of_ble_eq_true rfl⟩ (Nat.le_of_ble_eq_true rfl) hl.1 ⟨by dsimp only; omega, by dsimp only; omega⟩ dX0_isBarred_55 (fun r10 s10 H locs hw hR hS => ?_)
      refine lv_iconst (v := (1 : Int32)) hx hb dX0_isBarred_58 (by decide) ?_
      refine lv_icmp_ne (tgt := 64) hx hb dX0_isBarred_59 (by decide) (fun hc => ?_) (fun hc => ?_)
      · have hw := mm_in hc hw
        obtain ⟨v11, hv11⟩ : ∃ v : Int32, v = x4 + (1 : Int32) := ⟨_, rfl⟩
        have hw := hw v11 hv11
        refine lv_iinc (v := v11) (lv' := [(4, .int v11), (5, xv E (fr s3 a5 1)), (0, xv E (some th)), (1, xv E x1), (2, .int x2), (3, .int x3)]) hx hb dX0_isBarred_64 hl (k := 5) rfl (by rw [hv11]; rfl) (by decide) rfl (fun ls hl => ?_)
        refine lv_goto (tgt := 3) hx hb dX0_isBarred_67 (by decide) ?_
        exact hK3 _ _ _ _ _ _ hw _ _ _ _ _ hR hS (lv_sub hl [2, 3, 4, 5, 0] rfl) hcb hsb
      · have hw := mm_ip hc hw
        refine lv_iconst (v := (1 : Int32)) hx hb dX0_isBarred_62 (by decide) ?_
        exact x_nret cx hR hS (xle hcb) (xle hsb) (zb_nar (Or.inr rfl)) hw dX0_isBarred_63
theorem LX0_isBarred_3 {l : Launch} {p : Program} {e : Env} {s : State} {m : MethodId} {args : Array Value} {below : List Frame} {meth : Method} {c : Code} {E : xx_E} {Q : Int32 → XS → Prop} (cx : xx_X "StruckCounts" cX0_isBarred 6 (some .boolean) E p s m args meth c) : ∀ (th : Nat) (x1 : Option Nat) (x2 : Int32) (x3 : Int32) (x4 : Int32) (σ : XS), lp6F (wX0_isBarred_3 Q) th x1 x2 x3 x4 σ → x_T p l e ({ frames := 3, cells := 0, slots := 0, locals := 120 } : Room) s m args below meth c E (va_Qi Q (fun σ' t => xW E σ' t) (xA E)) 0 0 6 3 0 0 σ [(0, xv E (some th)), (1, xv E x1), (2, .int x2), (3, .int x3), (4, .int x4)] [] :=
  lp6F_of (fun K hK => BX0_isBarred_3 cx hK)
def wX0_isBarred (th : Nat) (x1 : Option Nat) (x2 : Int32) (x3 : Int32) (σ : XS) (Q : Int32 → XS → Prop) : Prop :=
  lp6F (wX0_isBarred_3 Q) th x1 x2 x3 (0 : Int32) σ
set_option maxHeartbeats 4000000 in
theorem MX0_isBarred (l : Launch) (E : xx_E) (th : Nat) (x1 : Option Nat) (x2 : Int32) (x3 : Int32) (σ : XS) (Q : Int32 → XS → Prop) (hw : wX0_isBarred th x1 x2 x3 σ Q) : xx_Mi l yX0_isBarred (ws_ yX0_isBarred cX0_isBarred 6 (some .boolean)) ({ frames := 3, cells := 0, slots := 0, locals := 120 } : Room) E [xv E (some th), xv E x1, .int x2, .int x3] σ Q 0 0 := by
  refine x_of (own := "StruckCounts") (by decide +kernel) rfl ?_
  intro p e s m args below meth c cx hR ha hnm
  refine x_entry [xv E (some th), xv E x1, .int x2, .int x3] 6 [(0, xv E (some th)), (1, xv E x1), (2, .int x2), (3, .int x3)] ha (by simp [lg_sl, xv_cat, vc_i, vc_j, vc_f]) (by simp [lv_args, xv_cat, vc_i, vc_j, vc_f]) (fun ls hl => ?_)
  have hS : va_S (xA E) s.heap s.heap [] := va_S.rf
  have hcb : 0 + 0 ≤ 0 := Nat.le_of_eq (Nat.zero_add _)
  have hsb : 0 + 0 ≤ 0 := Nat.le_of_eq (Nat.zero_add _)
  unfold wX0_isBarred at hw
  obtain ⟨hx, hb, hml, hown, hts, hrt, hlk, hMK, hZ⟩ := id cx
  refine lv_iconst (v := (0 : Int32)) hx hb dX0_isBarred_0 (by decide) ?_
  refine lv_istore (i := 4) (lv' := [(4, .int (0 : Int32)), (0, xv E (some th)), (1, xv E x1), (2, .int x2), (3, .int x3)]) hx hb dX0_isBarred_1 hl (by decide) rfl (fun ls hl => ?_)
  exact LX0_isBarred_3 cx _ _ _ _ _ _ hw _ _ _ _ _ hR hS (lv_sub hl [1, 2, 3, 4, 0] rfl) hcb hsb
-- J11_bitCount
def wJ11_bitCount (x0 : Int32) (σ : XS) (Q : Int32 → XS → Prop) : Prop :=
  ∀ v1 : Int32, v1 = (x0 - ((ushr x0 (1 : Int32)) &&& (1431655765 : Int32))) → ∀ v2 : Int32, v2 = ((v1 &&& (858993459 : Int32)) + ((ushr v1 (2 : Int32)) &&& (858993459 : Int32))) → ∀ v3 : Int32, v3 = ((v2 + (ushr v2 (4 : Int32))) &&& (252645135 : Int32)) → ∀ v4 : Int32, v4 = (v3 + (ushr v3 (8 : Int32))) → ∀ v5 : Int32, v5 = (v4 + (ushr v4 (16 : Int32))) → Q (v5 &&& (63 : Int32)) σ
set_option maxHeartbeats 4000000 in
theorem MJ11_bitCount (l : Launch) (E : xx_E) (x0 : Int32) (σ : XS) (Q : Int32 → XS → Prop) (hw : wJ11_bitCount x0 σ Q) : xx_Mi l yJ11_bitCount (ws_ yJ11_bitCount cJ11_bitCount 1 (some .int)) ({ frames := 0, cells := 0, slots := 0, locals := 0 } : Room) E [.int x0] σ Q 0 0 := by
  refine x_of (own := "java/lang/Integer") (by decide +kernel) rfl ?_
  intro p e s m args below meth c cx hR ha hnm
  refine x_entry [.int x0] 1 [(0, .int x0)] ha (Nat.le_of_ble_eq_true rfl) rfl (fun ls hl => ?_)
  have hS : va_S (xA E) s.heap s.heap [] := va_S.rf
  have hcb : 0 + 0 ≤ 0 := Nat.le_of_eq (Nat.zero_add _)
  have hsb : 0 + 0 ≤ 0 := Nat.le_of_eq (Nat.zero_add _)
  unfold wJ11_bitCount at hw
  obtain ⟨hx, hb, hml, hown, hts, hrt, hlk, hMK, hZ⟩ := id cx
  refine lv_iload_n hx hb dJ11_bitCount_0 rfl (lv_at hl 0 rfl) ?_
  refine lv_iload_n hx hb dJ11_bitCount_1 rfl (lv_at hl 0 rfl) ?_
  refine lv_iconst (v := (1 : Int32)) hx hb dJ11_bitCount_2 (by decide) ?_
  refine lv_iushr (v := (ushr x0 (1 : Int32))) hx hb dJ11_bitCount_3 rfl ?_
  refine lv_ldcw (v := (1431655765 : Int32)) hx hb hown (hts _ q1929) dJ11_bitCount_4 ?_
  refine lv_iand hx hb dJ11_bitCount_7 ?_
  refine lv_isub hx hb dJ11_bitCount_8 ?_
  refine lv_topi (fun v1 hv1 => ?_)
  have hw := hw v1 hv1
  refine lv_istore_n (i := 0) (lv' := [(0, .int v1)]) hx hb dJ11_bitCount_9 rfl hl (by decide) rfl (fun ls hl => ?_)
  refine lv_iload_n hx hb dJ11_bitCount_10 rfl (lv_at hl 0 rfl) ?_
  refine lv_ldcw (v := (858993459 : Int32)) hx hb hown (hts _ q1930) dJ11_bitCount_11 ?_
  refine lv_iand hx hb dJ11_bitCount_14 ?_
  refine lv_iload_n hx hb dJ11_bitCount_15 rfl (lv_at hl 0 rfl) ?_
  refine lv_iconst (v := (2 : Int32)) hx hb dJ11_bitCount_16 (by decide) ?_
  refine lv_iushr (v := (ushr v1 (2 : Int32))) hx hb dJ11_bitCount_17 rfl ?_
  refine lv_ldcw (v := (858993459 : Int32)) hx hb hown (hts _ q1930) dJ11_bitCount_18 ?_
  refine lv_iand hx hb dJ11_bitCount_21 ?_
  refine lv_iadd hx hb dJ11_bitCount_22 ?_
  refine lv_topi (fun v2 hv2 => ?_)
  have hw := hw v2 hv2
  refine lv_istore_n (i := 0) (lv' := [(0, .int v2)]) hx hb dJ11_bitCount_23 rfl hl (by decide) rfl (fun ls hl => ?_)
  refine lv_iload_n hx hb dJ11_bitCount_24 rfl (lv_at hl 0 rfl) ?_
  refine lv_iload_n hx hb dJ11_bitCount_25 rfl (lv_at hl 0 rfl) ?_
  refine lv_iconst (v := (4 : Int32)) hx hb dJ11_bitCount_26 (by decide) ?_
  refine lv_iushr (v := (ushr v2 (4 : Int32))) hx hb dJ11_bitCount_27 rfl ?_
  refine lv_iadd hx hb dJ11_bitCount_28 ?_
  refine lv_ldcw (v := (252645135 : Int32)) hx hb hown (hts _ q1931) dJ11_bitCount_29 ?_
  refine lv_iand hx hb dJ11_bitCount_32 ?_
  refine lv_topi (fun v3 hv3 => ?_)
  have hw := hw v3 hv3
  refine lv_istore_n (i := 0) (lv' := [(0, .int v3)]) hx hb dJ11_bitCount_33 rfl hl (by decide) rfl (fun ls hl => ?_)
  refine lv_iload_n hx hb dJ11_bitCount_34 rfl (lv_at hl 0 rfl) ?_
  refine lv_iload_n hx hb dJ11_bitCount_35 rfl (lv_at hl 0 rfl) ?_
  refine lv_bipush (v := (8 : Int32)) hx hb dJ11_bitCount_36 (by decide) ?_
  refine lv_iushr (v := (ushr v3 (8 : Int32))) hx hb dJ11_bitCount_38 rfl ?_
  refine lv_iadd hx hb dJ11_bitCount_39 ?_
  refine lv_topi (fun v4 hv4 => ?_)
  have hw := hw v4 hv4
  refine lv_istore_n (i := 0) (lv' := [(0, .int v4)]) hx hb dJ11_bitCount_40 rfl hl (by decide) rfl (fun ls hl => ?_)
  refine lv_iload_n hx hb dJ11_bitCount_41 rfl (lv_at hl 0 rfl) ?_
  refine lv_iload_n hx hb dJ11_bitCount_42 rfl (lv_at hl 0 rfl) ?_
  refine lv_bipush (v := (16 : Int32)) hx hb dJ11_bitCount_43 (by decide) ?_
  refine lv_iushr (v := (ushr v4 (16 : Int32))) hx hb dJ11_bitCount_45 rfl ?_
  refine lv_iadd hx hb dJ11_bitCount_46 ?_
  refine lv_topi (fun v5 hv5 => ?_)
  have hw := hw v5 hv5
  refine lv_istore_n (i := 0) (lv' := [(0, .int v5)]) hx hb dJ11_bitCount_47 rfl hl (by decide) rfl (fun ls hl => ?_)
  refine lv_iload_n hx hb dJ11_bitCount_48 rfl (lv_at hl 0 rfl) ?_
  refine lv_bipush (v := (63 : Int32)) hx hb dJ11_bitCount_49 (by decide) ?_
  refine lv_iand hx hb dJ11_bitCount_51 ?_
  exact x_iret cx hR hS (xle hcb) (xle hsb) hw dJ11_bitCount_52
-- X0_back
theorem xg_X0_192_3 {l : Launch} {p : Program} {e : Env} {R : Room} {s : State} {m : MethodId} {args : Array Value} {below : List Frame} {meth : Method} {c : Code} {H : Heap} {locs : List Loc} {cells slots : Nat} {Qz : State → Prop} {cc : ByteArray} {nL : Nat} {ret : Option FieldType} {E : xx_E} {σ : XS} {pc : Nat} {ls : Array Slot} {rest : List Value} (cx : xx_X "StruckCounts" cc nL ret E p s m args meth c) (hR : xR E σ H) {a : Nat} {r : Option Nat} (hr : r = some a) (hk : kd σ a = 3) (hdg : decode cc pc = .ok (.getfield 192, 3)) (kk : W p l e R s m args below meth c H locs cells slots Qz (F0 m (pc + 3) ls (xv E (fr σ a 4) :: rest))) : W p l e R s m args below meth c H locs cells slots Qz (F0 m pc ls (xv E r :: rest)) :=
  x_getN (ci := 2) cx hR hr hk (by decide) rfl in_X2 4 (by decide) (xx_nf_mem (i := 12) rfl) (fun _ h => h) (v := xv E (fr σ a 4)) rfl hdg kk
theorem CJ11_bitCount_X0_198 {l : Launch} {p : Program} {e : Env} {R : Room} {s : State} {m : MethodId} {args : Array Value} {below : List Frame} {meth : Method} {c : Code} {H : Heap} {locs : List Loc} {cells slots : Nat} {Qz : State → Prop} {cc : ByteArray} {nL : Nat} {ret : Option FieldType} {E : xx_E} {σ : XS} {pc : Nat} {ls : Array Slot} {rest : List Value} {x0 : Int32} (cx : xx_X "StruckCounts" cc nL ret E p s m args meth c) (hR0 : xR E σ H) (hS0 : va_S (xA E) s.heap H locs) {Qf : Int32 → XS → Prop} (hw : wJ11_bitCount x0 σ Qf) (hR : (({ frames := 0, cells := 0, slots := 0, locals := 0 } : Room)).frames + 1 ≤ R.frames ∧ 8 + (1 + 11) + (({ frames := 0, cells := 0, slots := 0, locals := 0 } : Room)).locals ≤ R.locals) (hrest : rest.length ≤ 4) (hsize : ls.size = nL) (hf : cells + 0 ≤ R.cells ∧ slots + 0 ≤ R.slots) (hdg : decode cc pc = .ok (.invokestatic 198, 3))
    (kk : ∀ (r : Int32) (σ1 : XS) (H1 : Heap) (locs1 : List Loc), Qf r σ1 → xR E σ1 H1 → va_S (xA E) s.heap H1 locs1 → W p l e R s m args below meth c H1 locs1 (cells + 0) (slots + 0) Qz (F0 m (pc + 3) ls (.int r :: rest))) : W p l e R s m args below meth c H locs cells slots Qz (F0 m pc ls (.int x0 :: rest)) := by
  obtain ⟨hx, hb, hml, hown, hts, hrt, hlk, hK, hZ⟩ := id cx
  exact x_goi (va_runS (As := [.int x0]) (rest := rest) (x_fix cx) (MJ11_bitCount l E x0 σ Qf hw) (va_cwS 1 hts (lw_S q1926 q1927 q171 q1928) rfl rfl rfl (by decide +kernel) hR) ⟨xblind, x_pre cx hR0 hS0 [.int x0]⟩ rfl rfl hsize rfl (lv_room (xroom hrest)) hdg hf) hS0 kk
theorem CX0_back_X0_204F {l : Launch} {p : Program} {e : Env} {R : Room} {s : State} {m : MethodId} {args : Array Value} {below : List Frame} {meth : Method} {c : Code} {H : Heap} {locs : List Loc} {cells slots : Nat} {Qz : State → Prop} {cc : ByteArray} {nL : Nat} {ret : Option FieldType} {E : xx_E} {σ : XS} {pc : Nat} {ls : Array Slot} {rest : List Value} {F : Nat → Int32 → Int32 → XS → (Int32 → XS → Prop) → Prop} (d : Nat) (hF : ∀ (th : Nat) (x1 : Int32) (x2 : Int32) (σ : XS) (Q : Int32 → XS → Prop), F th x1 x2 σ Q → xx_Mi l yX0_back (ws_ yX0_back cX0_back 5 (some .int)) ({ frames := (1 + 1 * d), cells := 0, slots := 0, locals := 40 * (1 + 1 * d) } : Room) E [xv E (some th), .int x1, .int x2] σ Q 0 0) {th : Nat} {x1 : Int32} {x2 : Int32} (cx : xx_X "StruckCounts" cc nL ret E p s m args meth c) (hR0 : xR E σ H) (hS0 : va_S (xA E) s.heap H locs) {r0 : Option Nat} (hr : r0 = some th) (hk : kd σ th = 1) {Qf : Int32 → XS → Prop} (hw : F th x1 x2 σ Qf) (hR : (({ frames := (1 + 1 * d), cells := 0, slots := 0, locals := 40 * (1 + 1 * d) } : Room)).frames + 1 ≤ R.frames ∧ 8 + (5 + 11) + (({ frames := (1 + 1 * d), cells := 0, slots := 0, locals := 40 * (1 + 1 * d) } : Room)).locals ≤ R.locals) (hrest : rest.length ≤ 4) (hsize : ls.size = nL) (hf : cells + 0 ≤ R.cells ∧ slots + 0 ≤ R.slots) (hdg : decode cc pc = .ok (.invokevirtual 204, 3))
    (kk : ∀ (r : Int32) (σ1 : XS) (H1 : Heap) (locs1 : List Loc), Qf r σ1 → xR E σ1 H1 → va_S (xA E) s.heap H1 locs1 → W p l e R s m args below meth c H1 locs1 (cells + 0) (slots + 0) Qz (F0 m (pc + 3) ls (.int r :: rest))) : W p l e R s m args below meth c H locs cells slots Qz (F0 m pc ls (.int x2 :: .int x1 :: xv E r0 :: rest)) := by
  subst hr
  obtain ⟨hx, hb, hml, hown, hts, hrt, hlk, hK, hZ⟩ := id cx
  exact x_goi (va_runV (As := [.int x1, .int x2]) (rest := rest) (x_fix cx) (hF th x1 x2 σ Qf hw) (cwV 2 hts (lw_V q1922 q1924 qs36 q156 q1925) rfl rfl rfl (by decide +kernel) hR) (x_preV cx hR0 hS0 hk (by decide) (q := (RX0, TX0, 24)) rfl rfl [.int x1, .int x2]) rfl rfl hsize rfl (lv_room (xroom hrest)) hdg hf) hS0 kk
def wX0_back_99 (F : Nat → Int32 → Int32 → XS → (Int32 → XS → Prop) → Prop) (Q : Int32 → XS → Prop) (K13 : Nat → Int32 → Int32 → Int32 → Int32 → XS → Prop) (th : Nat) (x1 : Int32) (x2 : Int32) (x3 : Int32) (x4 : Int32) (σ : XS) : Prop :=
  ∀ v1 : Int32, v1 = x4 + (1 : Int32) → K13 th x1 x2 x3 v1 σ
set_option maxHeartbeats 4000000 in
theorem BX0_back_99 {l : Launch} {p : Program} {e : Env} {s : State} {m : MethodId} {args : Array Value} {below : List Frame} {meth : Method} {c : Code} {E : xx_E} {F : Nat → Int32 → Int32 → XS → (Int32 → XS → Prop) → Prop} {Q : Int32 → XS → Prop} {K13 : Nat → Int32 → Int32 → Int32 → Int32 → XS → Prop} (d : Nat) (hF : ∀ (th : Nat) (x1 : Int32) (x2 : Int32) (σ : XS) (Q : Int32 → XS → Prop), F th x1 x2 σ Q → xx_Mi l yX0_back (ws_ yX0_back cX0_back 5 (some .int)) ({ frames := (1 + 1 * d), cells := 0, slots := 0, locals := 40 * (1 + 1 * d) } : Room) E [xv E (some th), .int x1, .int x2] σ Q 0 0) (cx : xx_X "StruckCounts" cX0_back 5 (some .int) E p s m args meth c) (hK13 : ∀ (th : Nat) (x1 : Int32) (x2 : Int32) (x3 : Int32) (x4 : Int32) (σ : XS), K13 th x1 x2 x3 x4 σ → x_T p l e ({ frames := (1 + 1 * (d + 1)), cells := 0, slots := 0, locals := 40 * (1 + 1 * (d + 1)) } : Room) s m args below meth c E (va_Qi Q (fun σ' t => xW E σ' t) (xA E)) 0 0 5 13 0 0 σ [(0, xv E (some th)), (1, .int x1), (2, .int x2), (3, .int x3), (4, .int x4)] []) : ∀ (th : Nat) (x1 : Int32) (x2 : Int32) (x3 : Int32) (x4 : Int32) (σ : XS), wX0_back_99 F Q K13 th x1 x2 x3 x4 σ → x_T p l e ({ frames := (1 + 1 * (d + 1)), cells := 0, slots := 0, locals := 40 * (1 + 1 * (d + 1)) } : Room) s m args below meth c E (va_Qi Q (fun σ' t => xW E σ' t) (xA E)) 0 0 5 99 0 0 σ [(0, xv E (some th)), (1, .int x1), (2, .int x2), (3, .int x3), (4, .int x4)] [] := by
  intro th x1 x2 x3 x4 σ hw H locs ls cells slots hR hS hl hcb hsb
  unfold wX0_back_99 at hw
  obtain ⟨hx, hb, hml, hown, hts, hrt, hlk, hMK, hZ⟩ := id cx
  obtain ⟨v1, hv1⟩ : ∃ v : Int32, v = x4 + (1 : Int32) := ⟨_, rfl⟩
  have hw := hw v1 hv1
  refine lv_iinc (v := v1) (lv' := [(4, .int v1), (0, xv E (some th)), (1, .int x1), (2, .int x2), (3, .int x3)]) hx hb dX0_back_99 hl (k := 4) rfl (by rw [hv1]; rfl) (by decide) rfl (fun ls hl => ?_)
  refine lv_goto (tgt := 13) hx hb dX0_back_102 (by decide) ?_
  exact hK13 _ _ _ _ _ _ hw _ _ _ _ _ hR hS (lv_sub hl [1, 2, 3, 4, 0] rfl) hcb hsb
def wX0_back_13 (F : Nat → Int32 → Int32 → XS → (Int32 → XS → Prop) → Prop) (Q : Int32 → XS → Prop) (K13 : Nat → Int32 → Int32 → Int32 → Int32 → XS → Prop) (th : Nat) (x1 : Int32) (x2 : Int32) (x3 : Int32) (x4 : Int32) (σ : XS) : Prop :=
  kd σ th = 1 ∧ (oc σ (fr σ th 6) 3 (fun a3 => if (fi σ a3 9) ≤ x4 then (Q x3 σ) else (if x2 = 0 then (Q x3 σ) else (oc σ (fr σ a3 4) 100 (fun a4 => vp_in x4 (ln σ a4) ∧ (vp_in x1 (ln σ a4) ∧ (if (ai σ a4 x4.toNatClampNeg) < (ai σ a4 x1.toNatClampNeg) then (oc σ (fr σ a3 5) 100 (fun a5 => vp_in x4 (ln σ a5) ∧ (wJ11_bitCount (x2 &&& (ai σ a5 x4.toNatClampNeg)) σ (fun r6 s6 => wJ11_bitCount x2 s6 (fun r7 s7 => if ((2 : Int32) * r6) < r7 then (wX0_back_99 F Q K13 th x1 x2 x3 x4 s7) else (kd s7 th = 1 ∧ (oc s7 (fr s7 th 6) 3 (fun a9 => oc s7 (fr s7 a9 5) 100 (fun a10 => vp_in x4 (ln s7 a10) ∧ (F th x4 (ai s7 a10 x4.toNatClampNeg) s7 (fun r11 s11 => ∀ v12 : Int32, v12 = (imin x3 r11) → wX0_back_99 F Q K13 th x1 x2 v12 x4 s11))))))))))) else (wX0_back_99 F Q K13 th x1 x2 x3 x4 σ))))))))
set_option maxHeartbeats 4000000 in
theorem BX0_back_13 {l : Launch} {p : Program} {e : Env} {s : State} {m : MethodId} {args : Array Value} {below : List Frame} {meth : Method} {c : Code} {E : xx_E} {F : Nat → Int32 → Int32 → XS → (Int32 → XS → Prop) → Prop} {Q : Int32 → XS → Prop} {K13 : Nat → Int32 → Int32 → Int32 → Int32 → XS → Prop} (d : Nat) (hF : ∀ (th : Nat) (x1 : Int32) (x2 : Int32) (σ : XS) (Q : Int32 → XS → Prop), F th x1 x2 σ Q → xx_Mi l yX0_back (ws_ yX0_back cX0_back 5 (some .int)) ({ frames := (1 + 1 * d), cells := 0, slots := 0, locals := 40 * (1 + 1 * d) } : Room) E [xv E (some th), .int x1, .int x2] σ Q 0 0) (cx : xx_X "StruckCounts" cX0_back 5 (some .int) E p s m args meth c) (hK13 : ∀ (th : Nat) (x1 : Int32) (x2 : Int32) (x3 : Int32) (x4 : Int32) (σ : XS), K13 th x1 x2 x3 x4 σ → x_T p l e ({ frames := (1 + 1 * (d + 1)), cells := 0, slots := 0, locals := 40 * (1 + 1 * (d + 1)) } : Room) s m args below meth c E (va_Qi Q (fun σ' t => xW E σ' t) (xA E)) 0 0 5 13 0 0 σ [(0, xv E (some th)), (1, .int x1), (2, .int x2), (3, .int x3), (4, .int x4)] []) : ∀ (th : Nat) (x1 : Int32) (x2 : Int32) (x3 : Int32) (x4 : Int32) (σ : XS), wX0_back_13 F Q K13 th x1 x2 x3 x4 σ → x_T p l e ({ frames := (1 + 1 * (d + 1)), cells := 0, slots := 0, locals := 40 * (1 + 1 * (d + 1)) } : Room) s m args below meth c E (va_Qi Q (fun σ' t => xW E σ' t) (xA E)) 0 0 5 13 0 0 σ [(0, xv E (some th)), (1, .int x1), (2, .int x2), (3, .int x3), (4, .int x4)] [] := by
  intro th x1 x2 x3 x4 σ hw H locs ls cells slots hR hS hl hcb hsb
  unfold wX0_back_13 at hw
  obtain ⟨hx, hb, hml, hown, hts, hrt, hlk, hMK, hZ⟩ := id cx
  refine lv_iload hx hb dX0_back_13 (lv_at hl 4 rfl) ?_
  refine x_aload_n cx dX0_back_15 rfl (lv_at hl 0 rfl) ?_
  obtain ⟨hk2, hw⟩ := hw
  refine xg_X0_31_1 cx hR rfl hk2 dX0_back_16 ?_
  obtain ⟨a3, hr3, hk3, hw⟩ := hw
  refine xg_X0_136_3 cx hR hr3 hk3 dX0_back_19 ?_
  refine lv_icmp_ge (tgt := 105) hx hb dX0_back_22 (by decide) (fun hc => ?_) (fun hc => ?_)
  · have hw := mm_ip hc hw
    refine lv_iload_n hx hb dX0_back_105 rfl (lv_at hl 3 rfl) ?_
    exact x_iret cx hR hS (xle hcb) (xle hsb) hw dX0_back_106
  · have hw := mm_in hc hw
    refine lv_iload_n hx hb dX0_back_25 rfl (lv_at hl 2 rfl) ?_
    refine lv_if_eq (tgt := 105) hx hb dX0_back_26 (by decide) (fun hc => ?_) (fun hc => ?_)
    · have hw := mm_ip hc hw
      refine lv_iload_n hx hb dX0_back_105 rfl (lv_at hl 3 rfl) ?_
      exact x_iret cx hR hS (xle hcb) (xle hsb) hw dX0_back_106
    · have hw := mm_in hc hw
      refine x_aload_n cx dX0_back_29 rfl (lv_at hl 0 rfl) ?_
      refine xg_X0_31_1 cx hR rfl hk2 dX0_back_30 ?_
      refine xg_X0_192_3 cx hR hr3 hk3 dX0_back_33 ?_
      refine lv_iload hx hb dX0_back_36 (lv_at hl 4 rfl) ?_
      obtain ⟨a4, hr4, hk4, hw⟩ := hw
      obtain ⟨hi, hw⟩ := hw
      refine x_iald cx hR hr4 hk4 (j := x4.toNatClampNeg) rfl hi dX0_back_38 ?_
      refine x_aload_n cx dX0_back_39 rfl (lv_at hl 0 rfl) ?_
      refine xg_X0_31_1 cx hR rfl hk2 dX0_back_40 ?_
      refine xg_X0_192_3 cx hR hr3 hk3 dX0_back_43 ?_
      refine lv_iload_n hx hb dX0_back_46 rfl (lv_at hl 1 rfl) ?_
      obtain ⟨hi, hw⟩ := hw
      refine x_iald cx hR hr4 hk4 (j := x1.toNatClampNeg) rfl hi dX0_back_47 ?_
      refine lv_icmp_lt (tgt := 54) hx hb dX0_back_48 (by decide) (fun hc => ?_) (fun hc => ?_)
      · have hw := mm_ip hc hw
        refine lv_iconst (v := (2 : Int32)) hx hb dX0_back_54 (by decide) ?_
        refine lv_iload_n hx hb dX0_back_55 rfl (lv_at hl 2 rfl) ?_
        refine x_aload_n cx dX0_back_56 rfl (lv_at hl 0 rfl) ?_
        refine xg_X0_31_1 cx hR rfl hk2 dX0_back_57 ?_
        refine xg_X0_195_3 cx hR hr3 hk3 dX0_back_60 ?_
        refine lv_iload hx hb dX0_back_63 (lv_at hl 4 rfl) ?_
        obtain ⟨a5, hr5, hk5, hw⟩ := hw
        obtain ⟨hi, hw⟩ := hw
        refine x_iald cx hR hr5 hk5 (j := x4.toNatClampNeg) rfl hi dX0_back_65 ?_
        refine lv_iand hx hb dX0_back_66 ?_
        refine CJ11_bitCount_X0_198 cx hR hS  hw (by constructor <;> dsimp only <;> omega) (Nat.le_of_ble_eq_true rfl) hl.1 ⟨by dsimp only; omega, by dsimp only; omega⟩ dX0_back_67 (fun r6 s6 H locs hw hR hS => ?_)
        refine lv_imul hx hb dX0_back_70 ?_
        refine lv_iload_n hx hb dX0_back_71 rfl (lv_at hl 2 rfl) ?_
        refine CJ11_bitCount_X0_198 cx hR hS  hw (by constructor <;> dsimp only <;> omega) (Nat.le_of_ble_eq_true rfl) hl.1 ⟨by dsimp only; omega, by dsimp only; omega⟩ dX0_back_72 (fun r7 s7 H locs hw hR hS => ?_)
        refine lv_icmp_lt (tgt := 99) hx hb dX0_back_75 (by decide) (fun hc => ?_) (fun hc => ?_)
        · have hw := mm_ip hc hw
          exact BX0_back_99 d hF cx hK13 _ _ _ _ _ _ hw _ _ _ _ _ hR hS (lv_sub hl [0, 1, 2, 3, 4] rfl) hcb hsb
        · have hw := mm_in hc hw
          refine lv_iload_n hx hb dX0_back_78 rfl (lv_at hl 3 rfl) ?_
          refine x_aload_n cx dX0_back_79 rfl (lv_at hl 0 rfl) ?_
          refine lv_iload hx hb dX0_back_80 (lv_at hl 4 rfl) ?_
          refine x_aload_n cx dX0_back_82 rfl (lv_at hl 0 rfl) ?_
          obtain ⟨hk8, hw⟩ := hw
          refine xg_X0_31_1 cx hR rfl hk8 dX0_back_83 ?_
          obtain ⟨a9, hr9, hk9, hw⟩ := hw
          refine xg_X0_195_3 cx hR hr9 hk9 dX0_back_86 ?_
          refine lv_iload hx hb dX0_back_89 (lv_at hl 4 rfl) ?_
          obtain ⟨a10, hr10, hk10, hw⟩ := hw
          obtain ⟨hi, hw⟩ := hw
          refine x_iald cx hR hr10 hk10 (j := x4.toNatClampNeg) rfl hi dX0_back_91 ?_
          refine CX0_back_X0_204F d hF cx hR hS rfl hk8 hw (by constructor <;> dsimp only <;> omega) (Nat.le_of_ble_eq_true rfl) hl.1 ⟨by dsimp only; omega, by dsimp only; omega⟩ dX0_back_92 (fun r11 s11 H locs hw hR hS => ?_)
          refine x_min cx hl.1 q1932 (by dsimp only; omega) (xroom13 (Nat.le_of_ble_eq_true rfl) (by dsimp only; omega)) (by dsimp only; omega) (by dsimp only; omega) dX0_back_95 ?_
          refine lv_topi (fun v12 hv12 => ?_)
          have hw := hw v12 hv12
          refine lv_istore_n (i := 3) (lv' := [(3, .int v12), (0, xv E (some th)), (1, .int x1), (2, .int x2), (4, .int x4)]) hx hb dX0_back_98 rfl hl (by decide) rfl (fun ls hl => ?_)
          exact BX0_back_99 d hF cx hK13 _ _ _ _ _ _ hw _ _ _ _ _ hR hS (lv_sub hl [1, 2, 3, 0, 4] rfl) hcb hsb
      · have hw := mm_in hc hw
        refine lv_goto (tgt := 99) hx hb dX0_back_51 (by decide) ?_
        exact BX0_back_99 d hF cx hK13 _ _ _ _ _ _ hw _ _ _ _ _ hR hS (lv_sub hl [0, 1, 2, 3, 4] rfl) hcb hsb
theorem LX0_back_13 {l : Launch} {p : Program} {e : Env} {s : State} {m : MethodId} {args : Array Value} {below : List Frame} {meth : Method} {c : Code} {E : xx_E} {F : Nat → Int32 → Int32 → XS → (Int32 → XS → Prop) → Prop} {Q : Int32 → XS → Prop} (d : Nat) (hF : ∀ (th : Nat) (x1 : Int32) (x2 : Int32) (σ : XS) (Q : Int32 → XS → Prop), F th x1 x2 σ Q → xx_Mi l yX0_back (ws_ yX0_back cX0_back 5 (some .int)) ({ frames := (1 + 1 * d), cells := 0, slots := 0, locals := 40 * (1 + 1 * d) } : Room) E [xv E (some th), .int x1, .int x2] σ Q 0 0) (cx : xx_X "StruckCounts" cX0_back 5 (some .int) E p s m args meth c) : ∀ (th : Nat) (x1 : Int32) (x2 : Int32) (x3 : Int32) (x4 : Int32) (σ : XS), lp6F (wX0_back_13 F Q) th x1 x2 x3 x4 σ → x_T p l e ({ frames := (1 + 1 * (d + 1)), cells := 0, slots := 0, locals := 40 * (1 + 1 * (d + 1)) } : Room) s m args below meth c E (va_Qi Q (fun σ' t => xW E σ' t) (xA E)) 0 0 5 13 0 0 σ [(0, xv E (some th)), (1, .int x1), (2, .int x2), (3, .int x3), (4, .int x4)] [] :=
  lp6F_of (fun K hK => BX0_back_13 d hF cx hK)
def wX0_back_body (F : Nat → Int32 → Int32 → XS → (Int32 → XS → Prop) → Prop) (th : Nat) (x1 : Int32) (x2 : Int32) (σ : XS) (Q : Int32 → XS → Prop) : Prop :=
  kd σ th = 1 ∧ (oc σ (fr σ th 6) 3 (fun a14 => oc σ (fr σ a14 4) 100 (fun a15 => vp_in x1 (ln σ a15) ∧ (∀ v16 : Int32, v16 = (ai σ a15 x1.toNatClampNeg) → lp6F (wX0_back_13 F Q) th x1 x2 v16 (0 : Int32) σ))))
set_option maxHeartbeats 4000000 in
theorem MX0_back_body (l : Launch) (E : xx_E) {F : Nat → Int32 → Int32 → XS → (Int32 → XS → Prop) → Prop} (d : Nat) (hF : ∀ (th : Nat) (x1 : Int32) (x2 : Int32) (σ : XS) (Q : Int32 → XS → Prop), F th x1 x2 σ Q → xx_Mi l yX0_back (ws_ yX0_back cX0_back 5 (some .int)) ({ frames := (1 + 1 * d), cells := 0, slots := 0, locals := 40 * (1 + 1 * d) } : Room) E [xv E (some th), .int x1, .int x2] σ Q 0 0) (th : Nat) (x1 : Int32) (x2 : Int32) (σ : XS) (Q : Int32 → XS → Prop) (hw : wX0_back_body F th x1 x2 σ Q) : xx_Mi l yX0_back (ws_ yX0_back cX0_back 5 (some .int)) ({ frames := (1 + 1 * (d + 1)), cells := 0, slots := 0, locals := 40 * (1 + 1 * (d + 1)) } : Room) E [xv E (some th), .int x1, .int x2] σ Q 0 0 := by
  refine x_of (own := "StruckCounts") (by decide +kernel) rfl ?_
  intro p e s m args below meth c cx hR ha hnm
  refine x_entry [xv E (some th), .int x1, .int x2] 5 [(0, xv E (some th)), (1, .int x1), (2, .int x2)] ha (by simp [lg_sl, xv_cat, vc_i, vc_j, vc_f]) (by simp [lv_args, xv_cat, vc_i, vc_j, vc_f]) (fun ls hl => ?_)
  have hS : va_S (xA E) s.heap s.heap [] := va_S.rf
  have hcb : 0 + 0 ≤ 0 := Nat.le_of_eq (Nat.zero_add _)
  have hsb : 0 + 0 ≤ 0 := Nat.le_of_eq (Nat.zero_add _)
  unfold wX0_back_body at hw
  obtain ⟨hx, hb, hml, hown, hts, hrt, hlk, hMK, hZ⟩ := id cx
  refine x_aload_n cx dX0_back_0 rfl (lv_at hl 0 rfl) ?_
  obtain ⟨hk13, hw⟩ := hw
  refine xg_X0_31_1 cx hR rfl hk13 dX0_back_1 ?_
  obtain ⟨a14, hr14, hk14, hw⟩ := hw
  refine xg_X0_192_3 cx hR hr14 hk14 dX0_back_4 ?_
  refine lv_iload_n hx hb dX0_back_7 rfl (lv_at hl 1 rfl) ?_
  obtain ⟨a15, hr15, hk15, hw⟩ := hw
  obtain ⟨hi, hw⟩ := hw
  refine x_iald cx hR hr15 hk15 (j := x1.toNatClampNeg) rfl hi dX0_back_8 ?_
  refine lv_topi (fun v16 hv16 => ?_)
  have hw := hw v16 hv16
  refine lv_istore_n (i := 3) (lv' := [(3, .int v16), (0, xv E (some th)), (1, .int x1), (2, .int x2)]) hx hb dX0_back_9 rfl hl (by decide) rfl (fun ls hl => ?_)
  refine lv_iconst (v := (0 : Int32)) hx hb dX0_back_10 (by decide) ?_
  refine lv_istore (i := 4) (lv' := [(4, .int (0 : Int32)), (3, .int v16), (0, xv E (some th)), (1, .int x1), (2, .int x2)]) hx hb dX0_back_11 hl (by decide) rfl (fun ls hl => ?_)
  exact LX0_back_13 d hF cx _ _ _ _ _ _ hw _ _ _ _ _ hR hS (lv_sub hl [2, 3, 4, 1, 0] rfl) hcb hsb
def wX0_back (d : Nat) : Nat → Int32 → Int32 → XS → (Int32 → XS → Prop) → Prop := Nat.rec (motive := fun _ => Nat → Int32 → Int32 → XS → (Int32 → XS → Prop) → Prop) (fun _ _ _ _ _ => False) (fun _ ih => wX0_back_body ih) d
theorem MX0_back (l : Launch) (E : xx_E) : ∀ (d : Nat), ∀ (th : Nat) (x1 : Int32) (x2 : Int32) (σ : XS) (Q : Int32 → XS → Prop), wX0_back d th x1 x2 σ Q → xx_Mi l yX0_back (ws_ yX0_back cX0_back 5 (some .int)) ({ frames := (1 + 1 * d), cells := 0, slots := 0, locals := 40 * (1 + 1 * d) } : Room) E [xv E (some th), .int x1, .int x2] σ Q 0 0 := by
  intro d
  induction d with
  | zero => exact fun th x1 x2 σ Q h => h.elim
  | succ d ih => exact fun th x1 x2 σ Q h => MX0_back_body l E d ih th x1 x2 σ Q h
-- X0_age
theorem xg_X0_213_3 {l : Launch} {p : Program} {e : Env} {R : Room} {s : State} {m : MethodId} {args : Array Value} {below : List Frame} {meth : Method} {c : Code} {H : Heap} {locs : List Loc} {cells slots : Nat} {Qz : State → Prop} {cc : ByteArray} {nL : Nat} {ret : Option FieldType} {E : xx_E} {σ : XS} {pc : Nat} {ls : Array Slot} {rest : List Value} (cx : xx_X "StruckCounts" cc nL ret E p s m args meth c) (hR : xR E σ H) {a : Nat} {r : Option Nat} (hr : r = some a) (hk : kd σ a = 3) (hdg : decode cc pc = .ok (.getfield 213, 3)) (kk : W p l e R s m args below meth c H locs cells slots Qz (F0 m (pc + 3) ls (xv E (fr σ a 3) :: rest))) : W p l e R s m args below meth c H locs cells slots Qz (F0 m pc ls (xv E r :: rest)) :=
  x_getN (ci := 2) cx hR hr hk (by decide) rfl in_X2 3 (by decide) (xx_nf_mem (i := 11) rfl) (fun _ h => h) (v := xv E (fr σ a 3)) rfl hdg kk
theorem CX0_back_X0_204 {l : Launch} {p : Program} {e : Env} {R : Room} {s : State} {m : MethodId} {args : Array Value} {below : List Frame} {meth : Method} {c : Code} {H : Heap} {locs : List Loc} {cells slots : Nat} {Qz : State → Prop} {cc : ByteArray} {nL : Nat} {ret : Option FieldType} {E : xx_E} {σ : XS} {pc : Nat} {ls : Array Slot} {rest : List Value} (d : Nat) {th : Nat} {x1 : Int32} {x2 : Int32} (cx : xx_X "StruckCounts" cc nL ret E p s m args meth c) (hR0 : xR E σ H) (hS0 : va_S (xA E) s.heap H locs) {r0 : Option Nat} (hr : r0 = some th) (hk : kd σ th = 1) {Qf : Int32 → XS → Prop} (hw : wX0_back d th x1 x2 σ Qf) (hR : (({ frames := (1 + 1 * d), cells := 0, slots := 0, locals := 40 * (1 + 1 * d) } : Room)).frames + 1 ≤ R.frames ∧ 8 + (5 + 11) + (({ frames := (1 + 1 * d), cells := 0, slots := 0, locals := 40 * (1 + 1 * d) } : Room)).locals ≤ R.locals) (hrest : rest.length ≤ 4) (hsize : ls.size = nL) (hf : cells + 0 ≤ R.cells ∧ slots + 0 ≤ R.slots) (hdg : decode cc pc = .ok (.invokevirtual 204, 3))
    (kk : ∀ (r : Int32) (σ1 : XS) (H1 : Heap) (locs1 : List Loc), Qf r σ1 → xR E σ1 H1 → va_S (xA E) s.heap H1 locs1 → W p l e R s m args below meth c H1 locs1 (cells + 0) (slots + 0) Qz (F0 m (pc + 3) ls (.int r :: rest))) : W p l e R s m args below meth c H locs cells slots Qz (F0 m pc ls (.int x2 :: .int x1 :: xv E r0 :: rest)) := by
  subst hr
  obtain ⟨hx, hb, hml, hown, hts, hrt, hlk, hK, hZ⟩ := id cx
  exact x_goi (va_runV (As := [.int x1, .int x2]) (rest := rest) (x_fix cx) (MX0_back l E d th x1 x2 σ Qf hw) (cwV 2 hts (lw_V q1922 q1924 qs36 q156 q1925) rfl rfl rfl (by decide +kernel) hR) (x_preV cx hR0 hS0 hk (by decide) (q := (RX0, TX0, 24)) rfl rfl [.int x1, .int x2]) rfl rfl hsize rfl (lv_room (xroom hrest)) hdg hf) hS0 kk
def wX0_age (d : Nat) (th : Nat) (x1 : Int32) (x2 : Int32) (σ : XS) (Q : Int32 → XS → Prop) : Prop :=
  kd σ th = 1 ∧ (oc σ (fr σ th 6) 3 (fun a2 => oc σ (fr σ a2 3) 100 (fun a3 => vp_in x1 (ln σ a3) ∧ (wX0_back d th x1 x2 σ (fun r4 s4 => Q ((ai σ a3 x1.toNatClampNeg) + r4) s4)))))
set_option maxHeartbeats 4000000 in
theorem MX0_age (l : Launch) (E : xx_E) (d : Nat) (th : Nat) (x1 : Int32) (x2 : Int32) (σ : XS) (Q : Int32 → XS → Prop) (hw : wX0_age d th x1 x2 σ Q) : xx_Mi l yX0_age (ws_ yX0_age cX0_age 3 (some .int)) ({ frames := (2 + 1 * d), cells := 0, slots := 0, locals := 40 * (2 + 1 * d) } : Room) E [xv E (some th), .int x1, .int x2] σ Q 0 0 := by
  refine x_of (own := "StruckCounts") (by decide +kernel) rfl ?_
  intro p e s m args below meth c cx hR ha hnm
  refine x_entry [xv E (some th), .int x1, .int x2] 3 [(0, xv E (some th)), (1, .int x1), (2, .int x2)] ha (by simp [lg_sl, xv_cat, vc_i, vc_j, vc_f]) (by simp [lv_args, xv_cat, vc_i, vc_j, vc_f]) (fun ls hl => ?_)
  have hS : va_S (xA E) s.heap s.heap [] := va_S.rf
  have hcb : 0 + 0 ≤ 0 := Nat.le_of_eq (Nat.zero_add _)
  have hsb : 0 + 0 ≤ 0 := Nat.le_of_eq (Nat.zero_add _)
  unfold wX0_age at hw
  obtain ⟨hx, hb, hml, hown, hts, hrt, hlk, hMK, hZ⟩ := id cx
  refine x_aload_n cx dX0_age_0 rfl (lv_at hl 0 rfl) ?_
  obtain ⟨hk1, hw⟩ := hw
  refine xg_X0_31_1 cx hR rfl hk1 dX0_age_1 ?_
  obtain ⟨a2, hr2, hk2, hw⟩ := hw
  refine xg_X0_213_3 cx hR hr2 hk2 dX0_age_4 ?_
  refine lv_iload_n hx hb dX0_age_7 rfl (lv_at hl 1 rfl) ?_
  obtain ⟨a3, hr3, hk3, hw⟩ := hw
  obtain ⟨hi, hw⟩ := hw
  refine x_iald cx hR hr3 hk3 (j := x1.toNatClampNeg) rfl hi dX0_age_8 ?_
  refine x_aload_n cx dX0_age_9 rfl (lv_at hl 0 rfl) ?_
  refine lv_iload_n hx hb dX0_age_10 rfl (lv_at hl 1 rfl) ?_
  refine lv_iload_n hx hb dX0_age_11 rfl (lv_at hl 2 rfl) ?_
  refine CX0_back_X0_204 d cx hR hS rfl hk1 hw (by constructor <;> dsimp only <;> omega) (Nat.le_of_ble_eq_true rfl) hl.1 ⟨by dsimp only; omega, by dsimp only; omega⟩ dX0_age_12 (fun r4 s4 H locs hw hR hS => ?_)
  refine lv_iadd hx hb dX0_age_15 ?_
  exact x_iret cx hR hS (xle hcb) (xle hsb) hw dX0_age_16
-- X0_failing_2
theorem xg_X0_220_3 {l : Launch} {p : Program} {e : Env} {R : Room} {s : State} {m : MethodId} {args : Array Value} {below : List Frame} {meth : Method} {c : Code} {H : Heap} {locs : List Loc} {cells slots : Nat} {Qz : State → Prop} {cc : ByteArray} {nL : Nat} {ret : Option FieldType} {E : xx_E} {σ : XS} {pc : Nat} {ls : Array Slot} {rest : List Value} (cx : xx_X "StruckCounts" cc nL ret E p s m args meth c) (hR : xR E σ H) {a : Nat} {r : Option Nat} (hr : r = some a) (hk : kd σ a = 3) (hdg : decode cc pc = .ok (.getfield 220, 3)) (kk : W p l e R s m args below meth c H locs cells slots Qz (F0 m (pc + 3) ls (.int (fi σ a 10) :: rest))) : W p l e R s m args below meth c H locs cells slots Qz (F0 m pc ls (xv E r :: rest)) :=
  x_getN (ci := 2) cx hR hr hk (by decide) rfl in_X2 10 (by decide) (xx_nf_mem (i := 18) rfl) (fun _ h => h) (v := .int (fi σ a 10)) rfl hdg kk
theorem xg_X0_182_12 {l : Launch} {p : Program} {e : Env} {R : Room} {s : State} {m : MethodId} {args : Array Value} {below : List Frame} {meth : Method} {c : Code} {H : Heap} {locs : List Loc} {cells slots : Nat} {Qz : State → Prop} {cc : ByteArray} {nL : Nat} {ret : Option FieldType} {E : xx_E} {σ : XS} {pc : Nat} {ls : Array Slot} {rest : List Value} (cx : xx_X "StruckCounts" cc nL ret E p s m args meth c) (hR : xR E σ H) {a : Nat} {r : Option Nat} (hr : r = some a) (hk : kd σ a = 12) (hdg : decode cc pc = .ok (.getfield 182, 3)) (kk : W p l e R s m args below meth c H locs cells slots Qz (F0 m (pc + 3) ls (xv E (fr σ a 2) :: rest))) : W p l e R s m args below meth c H locs cells slots Qz (F0 m pc ls (xv E r :: rest)) :=
  x_getN (ci := 11) cx hR hr hk (by decide) rfl in_X12 2 (by decide) (xx_nf_mem (i := 23) rfl) (fun _ h => h) (v := xv E (fr σ a 2)) rfl hdg kk
theorem xg_X0_185_12 {l : Launch} {p : Program} {e : Env} {R : Room} {s : State} {m : MethodId} {args : Array Value} {below : List Frame} {meth : Method} {c : Code} {H : Heap} {locs : List Loc} {cells slots : Nat} {Qz : State → Prop} {cc : ByteArray} {nL : Nat} {ret : Option FieldType} {E : xx_E} {σ : XS} {pc : Nat} {ls : Array Slot} {rest : List Value} (cx : xx_X "StruckCounts" cc nL ret E p s m args meth c) (hR : xR E σ H) {a : Nat} {r : Option Nat} (hr : r = some a) (hk : kd σ a = 12) (hdg : decode cc pc = .ok (.getfield 185, 3)) (kk : W p l e R s m args below meth c H locs cells slots Qz (F0 m (pc + 3) ls (xv E (fr σ a 3) :: rest))) : W p l e R s m args below meth c H locs cells slots Qz (F0 m pc ls (xv E r :: rest)) :=
  x_getN (ci := 11) cx hR hr hk (by decide) rfl in_X12 3 (by decide) (xx_nf_mem (i := 24) rfl) (fun _ h => h) (v := xv E (fr σ a 3)) rfl hdg kk
theorem xg_X0_244_2 {l : Launch} {p : Program} {e : Env} {R : Room} {s : State} {m : MethodId} {args : Array Value} {below : List Frame} {meth : Method} {c : Code} {H : Heap} {locs : List Loc} {cells slots : Nat} {Qz : State → Prop} {cc : ByteArray} {nL : Nat} {ret : Option FieldType} {E : xx_E} {σ : XS} {pc : Nat} {ls : Array Slot} {rest : List Value} (cx : xx_X "StruckCounts" cc nL ret E p s m args meth c) (hR : xR E σ H) {a : Nat} {r : Option Nat} (hr : r = some a) (hk : kd σ a = 2) (hdg : decode cc pc = .ok (.getfield 244, 3)) (kk : W p l e R s m args below meth c H locs cells slots Qz (F0 m (pc + 3) ls (.int (fi σ a 8) :: rest))) : W p l e R s m args below meth c H locs cells slots Qz (F0 m pc ls (xv E r :: rest)) :=
  x_getN (ci := 1) cx hR hr hk (by decide) rfl in_X1 8 (by decide) (xx_nf_mem (i := 5) rfl) (fun _ h => h) (v := .int (fi σ a 8)) rfl hdg kk
theorem CX0_told_X0_178 {l : Launch} {p : Program} {e : Env} {R : Room} {s : State} {m : MethodId} {args : Array Value} {below : List Frame} {meth : Method} {c : Code} {H : Heap} {locs : List Loc} {cells slots : Nat} {Qz : State → Prop} {cc : ByteArray} {nL : Nat} {ret : Option FieldType} {E : xx_E} {σ : XS} {pc : Nat} {ls : Array Slot} {rest : List Value} {th : Nat} {x1 : Int32} (cx : xx_X "StruckCounts" cc nL ret E p s m args meth c) (hR0 : xR E σ H) (hS0 : va_S (xA E) s.heap H locs) {r0 : Option Nat} (hr : r0 = some th) (hk : kd σ th = 1) {Qf : Option Nat → XS → Prop} (hw : wX0_told th x1 σ Qf) (hR : (({ frames := 3, cells := 0, slots := 0, locals := 120 } : Room)).frames + 1 ≤ R.frames ∧ 8 + (3 + 11) + (({ frames := 3, cells := 0, slots := 0, locals := 120 } : Room)).locals ≤ R.locals) (hrest : rest.length ≤ 4) (hsize : ls.size = nL) (hf : cells + 0 ≤ R.cells ∧ slots + 0 ≤ R.slots) (hdg : decode cc pc = .ok (.invokevirtual 178, 3))
    (kk : ∀ (r : Option Nat) (σ1 : XS) (H1 : Heap) (locs1 : List Loc), Qf r σ1 → xR E σ1 H1 → va_S (xA E) s.heap H1 locs1 → W p l e R s m args below meth c H1 locs1 (cells + 0) (slots + 0) Qz (F0 m (pc + 3) ls (xv E r :: rest))) : W p l e R s m args below meth c H locs cells slots Qz (F0 m pc ls (.int x1 :: xv E r0 :: rest)) := by
  subst hr
  obtain ⟨hx, hb, hml, hown, hts, hrt, hlk, hK, hZ⟩ := id cx
  exact x_gor (va_runV (As := [.int x1]) (rest := rest) (x_fix cx) (MX0_told l E th x1 σ Qf hw) (cwV 1 hts (lw_V q1937 q1939 qs38 q156 q1940) rfl rfl rfl (by decide +kernel) hR) (x_preV cx hR0 hS0 hk (by decide) (q := (RX0, TX0, 24)) rfl rfl [.int x1]) rfl rfl hsize rfl (lv_room (xroom hrest)) hdg hf) hS0 kk
theorem CX0_isLeft_X0_227 {l : Launch} {p : Program} {e : Env} {R : Room} {s : State} {m : MethodId} {args : Array Value} {below : List Frame} {meth : Method} {c : Code} {H : Heap} {locs : List Loc} {cells slots : Nat} {Qz : State → Prop} {cc : ByteArray} {nL : Nat} {ret : Option FieldType} {E : xx_E} {σ : XS} {pc : Nat} {ls : Array Slot} {rest : List Value} {th : Nat} {x1 : Int32} {x2 : Int32} (cx : xx_X "StruckCounts" cc nL ret E p s m args meth c) (hR0 : xR E σ H) (hS0 : va_S (xA E) s.heap H locs) {r0 : Option Nat} (hr : r0 = some th) (hk : kd σ th = 1) {Qf : Int32 → XS → Prop} (hw : wX0_isLeft th x1 x2 σ Qf) (hR : (({ frames := 1, cells := 0, slots := 0, locals := 40 } : Room)).frames + 1 ≤ R.frames ∧ 8 + (4 + 11) + (({ frames := 1, cells := 0, slots := 0, locals := 40 } : Room)).locals ≤ R.locals) (hrest : rest.length ≤ 4) (hsize : ls.size = nL) (hf : cells + 0 ≤ R.cells ∧ slots + 0 ≤ R.slots) (hdg : decode cc pc = .ok (.invokevirtual 227, 3))
    (kk : ∀ (r : Int32) (σ1 : XS) (H1 : Heap) (locs1 : List Loc), Qf r σ1 → xR E σ1 H1 → va_S (xA E) s.heap H1 locs1 → W p l e R s m args below meth c H1 locs1 (cells + 0) (slots + 0) Qz (F0 m (pc + 3) ls (.int r :: rest))) : W p l e R s m args below meth c H locs cells slots Qz (F0 m pc ls (.int x2 :: .int x1 :: xv E r0 :: rest)) := by
  subst hr
  obtain ⟨hx, hb, hml, hown, hts, hrt, hlk, hK, hZ⟩ := id cx
  exact x_goi (va_runV (As := [.int x1, .int x2]) (rest := rest) (x_fix cx) (MX0_isLeft l E th x1 x2 σ Qf hw) (cwV 2 hts (lw_V q1952 q1954 qs41 q156 q1955) rfl rfl rfl (by decide +kernel) hR) (x_preV cx hR0 hS0 hk (by decide) (q := (RX0, TX0, 24)) rfl rfl [.int x1, .int x2]) rfl rfl hsize rfl (lv_room (xroom hrest)) hdg hf) hS0 kk
theorem CX0_areSure_X0_230 {l : Launch} {p : Program} {e : Env} {R : Room} {s : State} {m : MethodId} {args : Array Value} {below : List Frame} {meth : Method} {c : Code} {H : Heap} {locs : List Loc} {cells slots : Nat} {Qz : State → Prop} {cc : ByteArray} {nL : Nat} {ret : Option FieldType} {E : xx_E} {σ : XS} {pc : Nat} {ls : Array Slot} {rest : List Value} {th : Nat} {x1 : Option Nat} {x2 : Int32} {x3 : Int32} (cx : xx_X "StruckCounts" cc nL ret E p s m args meth c) (hR0 : xR E σ H) (hS0 : va_S (xA E) s.heap H locs) {r0 : Option Nat} (hr : r0 = some th) (hk : kd σ th = 1) {Qf : Int32 → XS → Prop} (hw : wX0_areSure th x1 x2 x3 σ Qf) (hR : (({ frames := 3, cells := 0, slots := 0, locals := 120 } : Room)).frames + 1 ≤ R.frames ∧ 8 + (5 + 11) + (({ frames := 3, cells := 0, slots := 0, locals := 120 } : Room)).locals ≤ R.locals) (hrest : rest.length ≤ 4) (hsize : ls.size = nL) (hf : cells + 0 ≤ R.cells ∧ slots + 0 ≤ R.slots) (hdg : decode cc pc = .ok (.invokevirtual 230, 3))
    (kk : ∀ (r : Int32) (σ1 : XS) (H1 : Heap) (locs1 : List Loc), Qf r σ1 → xR E σ1 H1 → va_S (xA E) s.heap H1 locs1 → W p l e R s m args below meth c H1 locs1 (cells + 0) (slots + 0) Qz (F0 m (pc + 3) ls (.int r :: rest))) : W p l e R s m args below meth c H locs cells slots Qz (F0 m pc ls (.int x3 :: .int x2 :: xv E x1 :: xv E r0 :: rest)) := by
  subst hr
  obtain ⟨hx, hb, hml, hown, hts, hrt, hlk, hK, hZ⟩ := id cx
  exact x_goi (va_runV (As := [xv E x1, .int x2, .int x3]) (rest := rest) (x_fix cx) (MX0_areSure l E th x1 x2 x3 σ Qf hw) (cwV 3 hts (lw_V q1961 q1963 qs43 q156 q1964) rfl rfl rfl (by decide +kernel) hR) (x_preV cx hR0 hS0 hk (by decide) (q := (RX0, TX0, 24)) rfl rfl [xv E x1, .int x2, .int x3]) rfl rfl hsize rfl (lv_room (xroom hrest)) hdg hf) hS0 kk
theorem CX0_isAway_X0_234 {l : Launch} {p : Program} {e : Env} {R : Room} {s : State} {m : MethodId} {args : Array Value} {below : List Frame} {meth : Method} {c : Code} {H : Heap} {locs : List Loc} {cells slots : Nat} {Qz : State → Prop} {cc : ByteArray} {nL : Nat} {ret : Option FieldType} {E : xx_E} {σ : XS} {pc : Nat} {ls : Array Slot} {rest : List Value} {th : Nat} {x1 : Option Nat} (cx : xx_X "StruckCounts" cc nL ret E p s m args meth c) (hR0 : xR E σ H) (hS0 : va_S (xA E) s.heap H locs) {r0 : Option Nat} (hr : r0 = some th) (hk : kd σ th = 1) {Qf : Int32 → XS → Prop} (hw : wX0_isAway th x1 σ Qf) (hR : (({ frames := 3, cells := 0, slots := 0, locals := 120 } : Room)).frames + 1 ≤ R.frames ∧ 8 + (3 + 11) + (({ frames := 3, cells := 0, slots := 0, locals := 120 } : Room)).locals ≤ R.locals) (hrest : rest.length ≤ 4) (hsize : ls.size = nL) (hf : cells + 0 ≤ R.cells ∧ slots + 0 ≤ R.slots) (hdg : decode cc pc = .ok (.invokevirtual 234, 3))
    (kk : ∀ (r : Int32) (σ1 : XS) (H1 : Heap) (locs1 : List Loc), Qf r σ1 → xR E σ1 H1 → va_S (xA E) s.heap H1 locs1 → W p l e R s m args below meth c H1 locs1 (cells + 0) (slots + 0) Qz (F0 m (pc + 3) ls (.int r :: rest))) : W p l e R s m args below meth c H locs cells slots Qz (F0 m pc ls (xv E x1 :: xv E r0 :: rest)) := by
  subst hr
  obtain ⟨hx, hb, hml, hown, hts, hrt, hlk, hK, hZ⟩ := id cx
  exact x_goi (va_runV (As := [xv E x1]) (rest := rest) (x_fix cx) (MX0_isAway l E th x1 σ Qf hw) (cwV 1 hts (lw_V q1970 q1972 qs45 q156 q1973) rfl rfl rfl (by decide +kernel) hR) (x_preV cx hR0 hS0 hk (by decide) (q := (RX0, TX0, 24)) rfl rfl [xv E x1]) rfl rfl hsize rfl (lv_room (xroom hrest)) hdg hf) hS0 kk
theorem CX0_isBarred_X0_238 {l : Launch} {p : Program} {e : Env} {R : Room} {s : State} {m : MethodId} {args : Array Value} {below : List Frame} {meth : Method} {c : Code} {H : Heap} {locs : List Loc} {cells slots : Nat} {Qz : State → Prop} {cc : ByteArray} {nL : Nat} {ret : Option FieldType} {E : xx_E} {σ : XS} {pc : Nat} {ls : Array Slot} {rest : List Value} {th : Nat} {x1 : Option Nat} {x2 : Int32} {x3 : Int32} (cx : xx_X "StruckCounts" cc nL ret E p s m args meth c) (hR0 : xR E σ H) (hS0 : va_S (xA E) s.heap H locs) {r0 : Option Nat} (hr : r0 = some th) (hk : kd σ th = 1) {Qf : Int32 → XS → Prop} (hw : wX0_isBarred th x1 x2 x3 σ Qf) (hR : (({ frames := 3, cells := 0, slots := 0, locals := 120 } : Room)).frames + 1 ≤ R.frames ∧ 8 + (6 + 11) + (({ frames := 3, cells := 0, slots := 0, locals := 120 } : Room)).locals ≤ R.locals) (hrest : rest.length ≤ 4) (hsize : ls.size = nL) (hf : cells + 0 ≤ R.cells ∧ slots + 0 ≤ R.slots) (hdg : decode cc pc = .ok (.invokevirtual 238, 3))
    (kk : ∀ (r : Int32) (σ1 : XS) (H1 : Heap) (locs1 : List Loc), Qf r σ1 → xR E σ1 H1 → va_S (xA E) s.heap H1 locs1 → W p l e R s m args below meth c H1 locs1 (cells + 0) (slots + 0) Qz (F0 m (pc + 3) ls (.int r :: rest))) : W p l e R s m args below meth c H locs cells slots Qz (F0 m pc ls (.int x3 :: .int x2 :: xv E x1 :: xv E r0 :: rest)) := by
  subst hr
  obtain ⟨hx, hb, hml, hown, hts, hrt, hlk, hK, hZ⟩ := id cx
  exact x_goi (va_runV (As := [xv E x1, .int x2, .int x3]) (rest := rest) (x_fix cx) (MX0_isBarred l E th x1 x2 x3 σ Qf hw) (cwV 3 hts (lw_V q1974 q1976 qs46 q156 q1977) rfl rfl rfl (by decide +kernel) hR) (x_preV cx hR0 hS0 hk (by decide) (q := (RX0, TX0, 24)) rfl rfl [xv E x1, .int x2, .int x3]) rfl rfl hsize rfl (lv_room (xroom hrest)) hdg hf) hS0 kk
theorem CX0_age_X0_241 {l : Launch} {p : Program} {e : Env} {R : Room} {s : State} {m : MethodId} {args : Array Value} {below : List Frame} {meth : Method} {c : Code} {H : Heap} {locs : List Loc} {cells slots : Nat} {Qz : State → Prop} {cc : ByteArray} {nL : Nat} {ret : Option FieldType} {E : xx_E} {σ : XS} {pc : Nat} {ls : Array Slot} {rest : List Value} (d : Nat) {th : Nat} {x1 : Int32} {x2 : Int32} (cx : xx_X "StruckCounts" cc nL ret E p s m args meth c) (hR0 : xR E σ H) (hS0 : va_S (xA E) s.heap H locs) {r0 : Option Nat} (hr : r0 = some th) (hk : kd σ th = 1) {Qf : Int32 → XS → Prop} (hw : wX0_age d th x1 x2 σ Qf) (hR : (({ frames := (2 + 1 * d), cells := 0, slots := 0, locals := 40 * (2 + 1 * d) } : Room)).frames + 1 ≤ R.frames ∧ 8 + (3 + 11) + (({ frames := (2 + 1 * d), cells := 0, slots := 0, locals := 40 * (2 + 1 * d) } : Room)).locals ≤ R.locals) (hrest : rest.length ≤ 4) (hsize : ls.size = nL) (hf : cells + 0 ≤ R.cells ∧ slots + 0 ≤ R.slots) (hdg : decode cc pc = .ok (.invokevirtual 241, 3))
    (kk : ∀ (r : Int32) (σ1 : XS) (H1 : Heap) (locs1 : List Loc), Qf r σ1 → xR E σ1 H1 → va_S (xA E) s.heap H1 locs1 → W p l e R s m args below meth c H1 locs1 (cells + 0) (slots + 0) Qz (F0 m (pc + 3) ls (.int r :: rest))) : W p l e R s m args below meth c H locs cells slots Qz (F0 m pc ls (.int x2 :: .int x1 :: xv E r0 :: rest)) := by
  subst hr
  obtain ⟨hx, hb, hml, hown, hts, hrt, hlk, hK, hZ⟩ := id cx
  exact x_goi (va_runV (As := [.int x1, .int x2]) (rest := rest) (x_fix cx) (MX0_age l E d th x1 x2 σ Qf hw) (cwV 2 hts (lw_V q1933 q1935 qs37 q156 q1936) rfl rfl rfl (by decide +kernel) hR) (x_preV cx hR0 hS0 hk (by decide) (q := (RX0, TX0, 24)) rfl rfl [.int x1, .int x2]) rfl rfl hsize rfl (lv_room (xroom hrest)) hdg hf) hS0 kk
def wX0_failing_2 (d : Nat) (th : Nat) (x1 : Int32) (x2 : Int32) (x3 : Int32) (σ : XS) (Q : Int32 → XS → Prop) : Prop :=
  kd σ th = 1 ∧ (wX0_told th x1 σ (fun r1 s1 => kd s1 th = 1 ∧ (oc s1 (fr s1 th 6) 3 (fun a4 => wX0_has (fi s1 a4 10) x1 s1 (fun r5 s5 => if r5 = 0 then (kd s5 th = 1 ∧ (wX0_isLeft th x2 x3 s5 (fun r6 s6 => if r6 = 0 then (Q (2 : Int32) s6) else (oc s6 r1 12 (fun a8 => kd s6 th = 1 ∧ (wX0_areSure th (fr s6 a8 2) x2 x3 s6 (fun r9 s9 => if r9 = 0 then (Q (3 : Int32) s9) else (oc s9 r1 12 (fun a11 => kd s9 th = 1 ∧ (wX0_isAway th (fr s9 a11 2) s9 (fun r12 s12 => if r12 = 0 then (oc s12 r1 12 (fun a14 => kd s12 th = 1 ∧ (wX0_isBarred th (fr s12 a14 3) x2 x3 s12 (fun r15 s15 => if r15 = 0 then (kd s15 th = 1 ∧ (wX0_age d th x1 x2 s15 (fun r17 s17 => kd s17 th = 1 ∧ (oc s17 (fr s17 th 5) 2 (fun a20 => if r17 ≤ (fi s17 a20 8) then (Q (0 : Int32) s17) else (Q (6 : Int32) s17)))))) else (Q (5 : Int32) s15))))) else (Q (4 : Int32) s12)))))))))))) else (Q (1 : Int32) s5))))))
set_option maxHeartbeats 4000000 in
theorem MX0_failing_2 (l : Launch) (E : xx_E) (d : Nat) (th : Nat) (x1 : Int32) (x2 : Int32) (x3 : Int32) (σ : XS) (Q : Int32 → XS → Prop) (hw : wX0_failing_2 d th x1 x2 x3 σ Q) : xx_Mi l yX0_failing_2 (ws_ yX0_failing_2 cX0_failing_2 5 (some .int)) ({ frames := (4 + 1 * d), cells := 0, slots := 0, locals := 40 * (4 + 1 * d) } : Room) E [xv E (some th), .int x1, .int x2, .int x3] σ Q 0 0 := by
  refine x_of (own := "StruckCounts") (by decide +kernel) rfl ?_
  intro p e s m args below meth c cx hR ha hnm
  refine x_entry [xv E (some th), .int x1, .int x2, .int x3] 5 [(0, xv E (some th)), (1, .int x1), (2, .int x2), (3, .int x3)] ha (by simp [lg_sl, xv_cat, vc_i, vc_j, vc_f]) (by simp [lv_args, xv_cat, vc_i, vc_j, vc_f]) (fun ls hl => ?_)
  have hS : va_S (xA E) s.heap s.heap [] := va_S.rf
  have hcb : 0 + 0 ≤ 0 := Nat.le_of_eq (Nat.zero_add _)
  have hsb : 0 + 0 ≤ 0 := Nat.le_of_eq (Nat.zero_add _)
  unfold wX0_failing_2 at hw
  obtain ⟨hx, hb, hml, hown, hts, hrt, hlk, hMK, hZ⟩ := id cx
  refine x_aload_n cx dX0_failing_2_0 rfl (lv_at hl 0 rfl) ?_
  refine lv_iload_n hx hb dX0_failing_2_1 rfl (lv_at hl 1 rfl) ?_
  obtain ⟨hk2, hw⟩ := hw
  refine CX0_told_X0_178 cx hR hS rfl hk2 hw (by constructor <;> dsimp only <;> omega) (Nat.le_of_ble_eq_true rfl) hl.1 ⟨by dsimp only; omega, by dsimp only; omega⟩ dX0_failing_2_2 (fun r1 s1 H locs hw hR hS => ?_)
  refine x_astore (i := 4) (r := r1) (lv' := [(4, xv E r1), (0, xv E (some th)), (1, .int x1), (2, .int x2), (3, .int x3)]) cx dX0_failing_2_5 hl (by decide) rfl (fun ls hl => ?_)
  refine x_aload_n cx dX0_failing_2_7 rfl (lv_at hl 1 rfl) ?_
  obtain ⟨hk3, hw⟩ := hw
  refine xg_X0_31_1 cx hR rfl hk3 dX0_failing_2_8 ?_
  obtain ⟨a4, hr4, hk4, hw⟩ := hw
  refine xg_X0_220_3 cx hR hr4 hk4 dX0_failing_2_11 ?_
  refine lv_iload_n hx hb dX0_failing_2_14 rfl (lv_at hl 2 rfl) ?_
  refine CX0_has_X0_223 cx hR hS  hw (by constructor <;> dsimp only <;> omega) (Nat.le_of_ble_eq_true rfl) hl.1 ⟨by dsimp only; omega, by dsimp only; omega⟩ dX0_failing_2_15 (fun r5 s5 H locs hw hR hS => ?_)
  refine lv_if_eq (tgt := 23) hx hb dX0_failing_2_18 (by decide) (fun hc => ?_) (fun hc => ?_)
  · have hw := mm_ip hc hw
    refine x_aload_n cx dX0_failing_2_23 rfl (lv_at hl 1 rfl) ?_
    refine lv_iload_n hx hb dX0_failing_2_24 rfl (lv_at hl 3 rfl) ?_
    refine lv_iload_n hx hb dX0_failing_2_25 rfl (lv_at hl 4 rfl) ?_
    obtain ⟨hk7, hw⟩ := hw
    refine CX0_isLeft_X0_227 cx hR hS rfl hk7 hw (by constructor <;> dsimp only <;> omega) (Nat.le_of_ble_eq_true rfl) hl.1 ⟨by dsimp only; omega, by dsimp only; omega⟩ dX0_failing_2_26 (fun r6 s6 H locs hw hR hS => ?_)
    refine lv_if_ne (tgt := 34) hx hb dX0_failing_2_29 (by decide) (fun hc => ?_) (fun hc => ?_)
    · have hw := mm_in hc hw
      refine x_aload_n cx dX0_failing_2_34 rfl (lv_at hl 1 rfl) ?_
      refine x_aload cx dX0_failing_2_35 (lv_at hl 0 rfl) ?_
      obtain ⟨a8, hr8, hk8, hw⟩ := hw
      refine xg_X0_182_12 cx hR hr8 hk8 dX0_failing_2_37 ?_
      refine lv_iload_n hx hb dX0_failing_2_40 rfl (lv_at hl 3 rfl) ?_
      refine lv_iload_n hx hb dX0_failing_2_41 rfl (lv_at hl 4 rfl) ?_
      obtain ⟨hk10, hw⟩ := hw
      refine CX0_areSure_X0_230 cx hR hS rfl hk10 hw (by constructor <;> dsimp only <;> omega) (Nat.le_of_ble_eq_true rfl) hl.1 ⟨by dsimp only; omega, by dsimp only; omega⟩ dX0_failing_2_42 (fun r9 s9 H locs hw hR hS => ?_)
      refine lv_if_ne (tgt := 50) hx hb dX0_failing_2_45 (by decide) (fun hc => ?_) (fun hc => ?_)
      · have hw := mm_in hc hw
        refine x_aload_n cx dX0_failing_2_50 rfl (lv_at hl 1 rfl) ?_
        refine x_aload cx dX0_failing_2_51 (lv_at hl 0 rfl) ?_
        obtain ⟨a11, hr11, hk11, hw⟩ := hw
        refine xg_X0_182_12 cx hR hr11 hk11 dX0_failing_2_53 ?_
        obtain ⟨hk13, hw⟩ := hw
        refine CX0_isAway_X0_234 cx hR hS rfl hk13 hw (by constructor <;> dsimp only <;> omega) (Nat.le_of_ble_eq_true rfl) hl.1 ⟨by dsimp only; omega, by dsimp only; omega⟩ dX0_failing_2_56 (fun r12 s12 H locs hw hR hS => ?_)
        refine lv_if_eq (tgt := 64) hx hb dX0_failing_2_59 (by decide) (fun hc => ?_) (fun hc => ?_)
        · have hw := mm_ip hc hw
          refine x_aload_n cx dX0_failing_2_64 rfl (lv_at hl 1 rfl) ?_
          refine x_aload cx dX0_failing_2_65 (lv_at hl 0 rfl) ?_
          obtain ⟨a14, hr14, hk14, hw⟩ := hw
          refine xg_X0_185_12 cx hR hr14 hk14 dX0_failing_2_67 ?_
          refine lv_iload_n hx hb dX0_failing_2_70 rfl (lv_at hl 3 rfl) ?_
          refine lv_iload_n hx hb dX0_failing_2_71 rfl (lv_at hl 4 rfl) ?_
          obtain ⟨hk16, hw⟩ := hw
          refine CX0_isBarred_X0_238 cx hR hS rfl hk16 hw (by constructor <;> dsimp only <;> omega) (Nat.le_of_ble_eq_true rfl) hl.1 ⟨by dsimp only; omega, by dsimp only; omega⟩ dX0_failing_2_72 (fun r15 s15 H locs hw hR hS => ?_)
          refine lv_if_eq (tgt := 80) hx hb dX0_failing_2_75 (by decide) (fun hc => ?_) (fun hc => ?_)
          · have hw := mm_ip hc hw
            refine x_aload_n cx dX0_failing_2_80 rfl (lv_at hl 1 rfl) ?_
            refine lv_iload_n hx hb dX0_failing_2_81 rfl (lv_at hl 2 rfl) ?_
            refine lv_iload_n hx hb dX0_failing_2_82 rfl (lv_at hl 3 rfl) ?_
            obtain ⟨hk18, hw⟩ := hw
            refine CX0_age_X0_241 d cx hR hS rfl hk18 hw (by constructor <;> dsimp only <;> omega) (Nat.le_of_ble_eq_true rfl) hl.1 ⟨by dsimp only; omega, by dsimp only; omega⟩ dX0_failing_2_83 (fun r17 s17 H locs hw hR hS => ?_)
            refine x_aload_n cx dX0_failing_2_86 rfl (lv_at hl 1 rfl) ?_
            obtain ⟨hk19, hw⟩ := hw
            refine xg_X0_24_1 cx hR rfl hk19 dX0_failing_2_87 ?_
            obtain ⟨a20, hr20, hk20, hw⟩ := hw
            refine xg_X0_244_2 cx hR hr20 hk20 dX0_failing_2_90 ?_
            refine lv_icmp_le (tgt := 101) hx hb dX0_failing_2_93 (by decide) (fun hc => ?_) (fun hc => ?_)
            · have hw := mm_ip hc hw
              refine lv_iconst (v := (0 : Int32)) hx hb dX0_failing_2_101 (by decide) ?_
              exact x_iret cx hR hS (xle hcb) (xle hsb) hw dX0_failing_2_102
            · have hw := mm_in hc hw
              refine lv_bipush (v := (6 : Int32)) hx hb dX0_failing_2_96 (by decide) ?_
              refine lv_goto (tgt := 102) hx hb dX0_failing_2_98 (by decide) ?_
              exact x_iret cx hR hS (xle hcb) (xle hsb) hw dX0_failing_2_102
          · have hw := mm_in hc hw
            refine lv_iconst (v := (5 : Int32)) hx hb dX0_failing_2_78 (by decide) ?_
            exact x_iret cx hR hS (xle hcb) (xle hsb) hw dX0_failing_2_79
        · have hw := mm_in hc hw
          refine lv_iconst (v := (4 : Int32)) hx hb dX0_failing_2_62 (by decide) ?_
          exact x_iret cx hR hS (xle hcb) (xle hsb) hw dX0_failing_2_63
      · have hw := mm_ip hc hw
        refine lv_iconst (v := (3 : Int32)) hx hb dX0_failing_2_48 (by decide) ?_
        exact x_iret cx hR hS (xle hcb) (xle hsb) hw dX0_failing_2_49
    · have hw := mm_ip hc hw
      refine lv_iconst (v := (2 : Int32)) hx hb dX0_failing_2_32 (by decide) ?_
      exact x_iret cx hR hS (xle hcb) (xle hsb) hw dX0_failing_2_33
  · have hw := mm_in hc hw
    refine lv_iconst (v := (1 : Int32)) hx hb dX0_failing_2_21 (by decide) ?_
    exact x_iret cx hR hS (xle hcb) (xle hsb) hw dX0_failing_2_22
-- X0_failing
theorem xg_X0_247_3 {l : Launch} {p : Program} {e : Env} {R : Room} {s : State} {m : MethodId} {args : Array Value} {below : List Frame} {meth : Method} {c : Code} {H : Heap} {locs : List Loc} {cells slots : Nat} {Qz : State → Prop} {cc : ByteArray} {nL : Nat} {ret : Option FieldType} {E : xx_E} {σ : XS} {pc : Nat} {ls : Array Slot} {rest : List Value} (cx : xx_X "StruckCounts" cc nL ret E p s m args meth c) (hR : xR E σ H) {a : Nat} {r : Option Nat} (hr : r = some a) (hk : kd σ a = 3) (hdg : decode cc pc = .ok (.getfield 247, 3)) (kk : W p l e R s m args below meth c H locs cells slots Qz (F0 m (pc + 3) ls (xv E (fr σ a 6) :: rest))) : W p l e R s m args below meth c H locs cells slots Qz (F0 m pc ls (xv E r :: rest)) :=
  x_getN (ci := 2) cx hR hr hk (by decide) rfl in_X2 6 (by decide) (xx_nf_mem (i := 14) rfl) (fun _ h => h) (v := xv E (fr σ a 6)) rfl hdg kk
theorem CX0_failing_2_X0_250 {l : Launch} {p : Program} {e : Env} {R : Room} {s : State} {m : MethodId} {args : Array Value} {below : List Frame} {meth : Method} {c : Code} {H : Heap} {locs : List Loc} {cells slots : Nat} {Qz : State → Prop} {cc : ByteArray} {nL : Nat} {ret : Option FieldType} {E : xx_E} {σ : XS} {pc : Nat} {ls : Array Slot} {rest : List Value} (d : Nat) {th : Nat} {x1 : Int32} {x2 : Int32} {x3 : Int32} (cx : xx_X "StruckCounts" cc nL ret E p s m args meth c) (hR0 : xR E σ H) (hS0 : va_S (xA E) s.heap H locs) {r0 : Option Nat} (hr : r0 = some th) (hk : kd σ th = 1) {Qf : Int32 → XS → Prop} (hw : wX0_failing_2 d th x1 x2 x3 σ Qf) (hR : (({ frames := (4 + 1 * d), cells := 0, slots := 0, locals := 40 * (4 + 1 * d) } : Room)).frames + 1 ≤ R.frames ∧ 8 + (5 + 11) + (({ frames := (4 + 1 * d), cells := 0, slots := 0, locals := 40 * (4 + 1 * d) } : Room)).locals ≤ R.locals) (hrest : rest.length ≤ 4) (hsize : ls.size = nL) (hf : cells + 0 ≤ R.cells ∧ slots + 0 ≤ R.slots) (hdg : decode cc pc = .ok (.invokevirtual 250, 3))
    (kk : ∀ (r : Int32) (σ1 : XS) (H1 : Heap) (locs1 : List Loc), Qf r σ1 → xR E σ1 H1 → va_S (xA E) s.heap H1 locs1 → W p l e R s m args below meth c H1 locs1 (cells + 0) (slots + 0) Qz (F0 m (pc + 3) ls (.int r :: rest))) : W p l e R s m args below meth c H locs cells slots Qz (F0 m pc ls (.int x3 :: .int x2 :: .int x1 :: xv E r0 :: rest)) := by
  subst hr
  obtain ⟨hx, hb, hml, hown, hts, hrt, hlk, hK, hZ⟩ := id cx
  exact x_goi (va_runV (As := [.int x1, .int x2, .int x3]) (rest := rest) (x_fix cx) (MX0_failing_2 l E d th x1 x2 x3 σ Qf hw) (cwV 3 hts (lw_V q1948 q1950 qs40 q156 q1951) rfl rfl rfl (by decide +kernel) hR) (x_preV cx hR0 hS0 hk (by decide) (q := (RX0, TX0, 24)) rfl rfl [.int x1, .int x2, .int x3]) rfl rfl hsize rfl (lv_room (xroom hrest)) hdg hf) hS0 kk
def wX0_failing (d : Nat) (th : Nat) (x1 : Int32) (σ : XS) (Q : Int32 → XS → Prop) : Prop :=
  kd σ th = 1 ∧ (oc σ (fr σ th 6) 3 (fun a2 => oc σ (fr σ a2 5) 100 (fun a3 => vp_in x1 (ln σ a3) ∧ (oc σ (fr σ a2 6) 100 (fun a4 => vp_in x1 (ln σ a4) ∧ (wX0_failing_2 d th x1 (ai σ a3 x1.toNatClampNeg) (ai σ a4 x1.toNatClampNeg) σ (fun r5 s5 => Q r5 s5)))))))
set_option maxHeartbeats 4000000 in
theorem MX0_failing (l : Launch) (E : xx_E) (d : Nat) (th : Nat) (x1 : Int32) (σ : XS) (Q : Int32 → XS → Prop) (hw : wX0_failing d th x1 σ Q) : xx_Mi l yX0_failing (ws_ yX0_failing cX0_failing 2 (some .int)) ({ frames := (5 + 1 * d), cells := 0, slots := 0, locals := 40 * (5 + 1 * d) } : Room) E [xv E (some th), .int x1] σ Q 0 0 := by
  refine x_of (own := "StruckCounts") (by decide +kernel) rfl ?_
  intro p e s m args below meth c cx hR ha hnm
  refine x_entry [xv E (some th), .int x1] 2 [(0, xv E (some th)), (1, .int x1)] ha (by simp [lg_sl, xv_cat, vc_i, vc_j, vc_f]) (by simp [lv_args, xv_cat, vc_i, vc_j, vc_f]) (fun ls hl => ?_)
  have hS : va_S (xA E) s.heap s.heap [] := va_S.rf
  have hcb : 0 + 0 ≤ 0 := Nat.le_of_eq (Nat.zero_add _)
  have hsb : 0 + 0 ≤ 0 := Nat.le_of_eq (Nat.zero_add _)
  unfold wX0_failing at hw
  obtain ⟨hx, hb, hml, hown, hts, hrt, hlk, hMK, hZ⟩ := id cx
  refine x_aload_n cx dX0_failing_0 rfl (lv_at hl 0 rfl) ?_
  refine lv_iload_n hx hb dX0_failing_1 rfl (lv_at hl 1 rfl) ?_
  refine x_aload_n cx dX0_failing_2 rfl (lv_at hl 0 rfl) ?_
  obtain ⟨hk1, hw⟩ := hw
  refine xg_X0_31_1 cx hR rfl hk1 dX0_failing_3 ?_
  obtain ⟨a2, hr2, hk2, hw⟩ := hw
  refine xg_X0_195_3 cx hR hr2 hk2 dX0_failing_6 ?_
  refine lv_iload_n hx hb dX0_failing_9 rfl (lv_at hl 1 rfl) ?_
  obtain ⟨a3, hr3, hk3, hw⟩ := hw
  obtain ⟨hi, hw⟩ := hw
  refine x_iald cx hR hr3 hk3 (j := x1.toNatClampNeg) rfl hi dX0_failing_10 ?_
  refine x_aload_n cx dX0_failing_11 rfl (lv_at hl 0 rfl) ?_
  refine xg_X0_31_1 cx hR rfl hk1 dX0_failing_12 ?_
  refine xg_X0_247_3 cx hR hr2 hk2 dX0_failing_15 ?_
  refine lv_iload_n hx hb dX0_failing_18 rfl (lv_at hl 1 rfl) ?_
  obtain ⟨a4, hr4, hk4, hw⟩ := hw
  obtain ⟨hi, hw⟩ := hw
  refine x_iald cx hR hr4 hk4 (j := x1.toNatClampNeg) rfl hi dX0_failing_19 ?_
  refine CX0_failing_2_X0_250 d cx hR hS rfl hk1 hw (by constructor <;> dsimp only <;> omega) (Nat.le_of_ble_eq_true rfl) hl.1 ⟨by dsimp only; omega, by dsimp only; omega⟩ dX0_failing_20 (fun r5 s5 H locs hw hR hS => ?_)
  exact x_iret cx hR hS (xle hcb) (xle hsb) hw dX0_failing_23
-- X0_of
theorem xg_X0_293_3 {l : Launch} {p : Program} {e : Env} {R : Room} {s : State} {m : MethodId} {args : Array Value} {below : List Frame} {meth : Method} {c : Code} {H : Heap} {locs : List Loc} {cells slots : Nat} {Qz : State → Prop} {cc : ByteArray} {nL : Nat} {ret : Option FieldType} {E : xx_E} {σ : XS} {pc : Nat} {ls : Array Slot} {rest : List Value} (cx : xx_X "StruckCounts" cc nL ret E p s m args meth c) (hR : xR E σ H) {a : Nat} {r : Option Nat} (hr : r = some a) (hk : kd σ a = 3) (hdg : decode cc pc = .ok (.getfield 293, 3)) (kk : W p l e R s m args below meth c H locs cells slots Qz (F0 m (pc + 3) ls (xv E (fr σ a 2) :: rest))) : W p l e R s m args below meth c H locs cells slots Qz (F0 m pc ls (xv E r :: rest)) :=
  x_getN (ci := 2) cx hR hr hk (by decide) rfl in_X2 2 (by decide) (xx_nf_mem (i := 10) rfl) (fun _ h => h) (v := xv E (fr σ a 2)) rfl hdg kk
theorem CX0_isCount_X0_290 {l : Launch} {p : Program} {e : Env} {R : Room} {s : State} {m : MethodId} {args : Array Value} {below : List Frame} {meth : Method} {c : Code} {H : Heap} {locs : List Loc} {cells slots : Nat} {Qz : State → Prop} {cc : ByteArray} {nL : Nat} {ret : Option FieldType} {E : xx_E} {σ : XS} {pc : Nat} {ls : Array Slot} {rest : List Value} {th : Nat} {x1 : Int32} (cx : xx_X "StruckCounts" cc nL ret E p s m args meth c) (hR0 : xR E σ H) (hS0 : va_S (xA E) s.heap H locs) {r0 : Option Nat} (hr : r0 = some th) (hk : kd σ th = 1) {Qf : Int32 → XS → Prop} (hw : wX0_isCount th x1 σ Qf) (hR : (({ frames := 1, cells := 0, slots := 0, locals := 40 } : Room)).frames + 1 ≤ R.frames ∧ 8 + (2 + 11) + (({ frames := 1, cells := 0, slots := 0, locals := 40 } : Room)).locals ≤ R.locals) (hrest : rest.length ≤ 4) (hsize : ls.size = nL) (hf : cells + 0 ≤ R.cells ∧ slots + 0 ≤ R.slots) (hdg : decode cc pc = .ok (.invokevirtual 290, 3))
    (kk : ∀ (r : Int32) (σ1 : XS) (H1 : Heap) (locs1 : List Loc), Qf r σ1 → xR E σ1 H1 → va_S (xA E) s.heap H1 locs1 → W p l e R s m args below meth c H1 locs1 (cells + 0) (slots + 0) Qz (F0 m (pc + 3) ls (.int r :: rest))) : W p l e R s m args below meth c H locs cells slots Qz (F0 m pc ls (.int x1 :: xv E r0 :: rest)) := by
  subst hr
  obtain ⟨hx, hb, hml, hown, hts, hrt, hlk, hK, hZ⟩ := id cx
  exact x_goi (va_runV (As := [.int x1]) (rest := rest) (x_fix cx) (MX0_isCount l E th x1 σ Qf hw) (cwV 1 hts (lw_V q1918 q1920 qs35 q156 q1921) rfl rfl rfl (by decide +kernel) hR) (x_preV cx hR0 hS0 hk (by decide) (q := (RX0, TX0, 24)) rfl rfl [.int x1]) rfl rfl hsize rfl (lv_room (xroom hrest)) hdg hf) hS0 kk
theorem CX0_laysInjuries_X0_296 {l : Launch} {p : Program} {e : Env} {R : Room} {s : State} {m : MethodId} {args : Array Value} {below : List Frame} {meth : Method} {c : Code} {H : Heap} {locs : List Loc} {cells slots : Nat} {Qz : State → Prop} {cc : ByteArray} {nL : Nat} {ret : Option FieldType} {E : xx_E} {σ : XS} {pc : Nat} {ls : Array Slot} {rest : List Value} {th : Nat} {k n : Nat} (cx : xx_X "StruckCounts" cc nL ret E p s m args meth c) (hR0 : xR E σ H) (hS0 : va_S (xA E) s.heap H locs) {r0 : Option Nat} (hr : r0 = some th) (hk : kd σ th = 1) {Qf : XS → Prop} (hw : wX0_laysInjuries th k n σ Qf) (hR : (({ frames := 13, cells := k, slots := n, locals := 520 } : Room)).frames + 1 ≤ R.frames ∧ 8 + (5 + 11) + (({ frames := 13, cells := k, slots := n, locals := 520 } : Room)).locals ≤ R.locals) (hrest : rest.length ≤ 4) (hsize : ls.size = nL) (hf : cells + k ≤ R.cells ∧ slots + n ≤ R.slots) (hdg : decode cc pc = .ok (.invokevirtual 296, 3))
    (kk : ∀ (σ1 : XS) (H1 : Heap) (locs1 : List Loc), Qf σ1 → xR E σ1 H1 → va_S (xA E) s.heap H1 locs1 → W p l e R s m args below meth c H1 locs1 (cells + k) (slots + n) Qz (F0 m (pc + 3) ls rest)) : W p l e R s m args below meth c H locs cells slots Qz (F0 m pc ls (xv E r0 :: rest)) := by
  subst hr
  obtain ⟨hx, hb, hml, hown, hts, hrt, hlk, hK, hZ⟩ := id cx
  exact x_gov (va_runV (As := []) (rest := rest) (x_fix cx) (MX0_laysInjuries l E th k n σ Qf hw) (cwV 0 hts (lw_V q1978 q1980 qs47 q156 q1981) rfl rfl rfl (by decide +kernel) hR) (x_preV cx hR0 hS0 hk (by decide) (q := (RX0, TX0, 24)) rfl rfl []) rfl rfl hsize rfl (lv_room (xroom hrest)) hdg hf) hS0 kk
theorem CX0_failing_X0_254 {l : Launch} {p : Program} {e : Env} {R : Room} {s : State} {m : MethodId} {args : Array Value} {below : List Frame} {meth : Method} {c : Code} {H : Heap} {locs : List Loc} {cells slots : Nat} {Qz : State → Prop} {cc : ByteArray} {nL : Nat} {ret : Option FieldType} {E : xx_E} {σ : XS} {pc : Nat} {ls : Array Slot} {rest : List Value} (d : Nat) {th : Nat} {x1 : Int32} (cx : xx_X "StruckCounts" cc nL ret E p s m args meth c) (hR0 : xR E σ H) (hS0 : va_S (xA E) s.heap H locs) {r0 : Option Nat} (hr : r0 = some th) (hk : kd σ th = 1) {Qf : Int32 → XS → Prop} (hw : wX0_failing d th x1 σ Qf) (hR : (({ frames := (5 + 1 * d), cells := 0, slots := 0, locals := 40 * (5 + 1 * d) } : Room)).frames + 1 ≤ R.frames ∧ 8 + (2 + 11) + (({ frames := (5 + 1 * d), cells := 0, slots := 0, locals := 40 * (5 + 1 * d) } : Room)).locals ≤ R.locals) (hrest : rest.length ≤ 4) (hsize : ls.size = nL) (hf : cells + 0 ≤ R.cells ∧ slots + 0 ≤ R.slots) (hdg : decode cc pc = .ok (.invokevirtual 254, 3))
    (kk : ∀ (r : Int32) (σ1 : XS) (H1 : Heap) (locs1 : List Loc), Qf r σ1 → xR E σ1 H1 → va_S (xA E) s.heap H1 locs1 → W p l e R s m args below meth c H1 locs1 (cells + 0) (slots + 0) Qz (F0 m (pc + 3) ls (.int r :: rest))) : W p l e R s m args below meth c H locs cells slots Qz (F0 m pc ls (.int x1 :: xv E r0 :: rest)) := by
  subst hr
  obtain ⟨hx, hb, hml, hown, hts, hrt, hlk, hK, hZ⟩ := id cx
  exact x_goi (va_runV (As := [.int x1]) (rest := rest) (x_fix cx) (MX0_failing l E d th x1 σ Qf hw) (cwV 1 hts (lw_V q1944 q1946 qs39 q156 q1947) rfl rfl rfl (by decide +kernel) hR) (x_preV cx hR0 hS0 hk (by decide) (q := (RX0, TX0, 24)) rfl rfl [.int x1]) rfl rfl hsize rfl (lv_room (xroom hrest)) hdg hf) hS0 kk
def wX0_of (d : Nat) (th : Nat) (x1 : Int32) (x2 : Int32) (bc : Nat) (bs : Nat) (σ : XS) (Q : Int32 → XS → Prop) : Prop :=
  kd σ th = 1 ∧ (wX0_isCount th x1 σ (fun r1 s1 => if r1 = 0 then (Q (-1 : Int32) s1) else (if x2 = 0 then (kd s1 th = 1 ∧ (oc s1 (fr s1 th 6) 3 (fun a4 => oc s1 (fr s1 a4 2) 100 (fun a5 => vp_in x1 (ln s1 a5) ∧ (Q (ai s1 a5 x1.toNatClampNeg) s1))))) else (if x2 = 1 then (kd s1 th = 1 ∧ (oc s1 (fr s1 th 6) 3 (fun a7 => oc s1 (fr s1 a7 3) 100 (fun a8 => vp_in x1 (ln s1 a8) ∧ (Q (ai s1 a8 x1.toNatClampNeg) s1))))) else (if x2 = 2 then (kd s1 th = 1 ∧ (oc s1 (fr s1 th 6) 3 (fun a10 => oc s1 (fr s1 a10 4) 100 (fun a11 => vp_in x1 (ln s1 a11) ∧ (Q (ai s1 a11 x1.toNatClampNeg) s1))))) else (if x2 = 3 then (kd s1 th = 1 ∧ (oc s1 (fr s1 th 6) 3 (fun a13 => oc s1 (fr s1 a13 5) 100 (fun a14 => vp_in x1 (ln s1 a14) ∧ (wX0_back d th x1 (ai s1 a14 x1.toNatClampNeg) s1 (fun r15 s15 => Q r15 s15)))))) else (if x2 = 4 then (kd s1 th = 1 ∧ (oc s1 (fr s1 th 6) 3 (fun a17 => oc s1 (fr s1 a17 5) 100 (fun a18 => vp_in x1 (ln s1 a18) ∧ (wX0_age d th x1 (ai s1 a18 x1.toNatClampNeg) s1 (fun r19 s19 => Q r19 s19)))))) else (if x2 = 5 then (kd s1 th = 1 ∧ (wX0_told th x1 s1 (fun r20 s20 => oc s20 r20 12 (fun a22 => oc s20 (fr s20 a22 2) 16 (fun a24 => wJ7_size a24 s20 (fun r23 s23 => Q r23 s23)))))) else (if x2 = 6 then (kd s1 th = 1 ∧ (wX0_told th x1 s1 (fun r25 s25 => oc s25 r25 12 (fun a27 => oc s25 (fr s25 a27 3) 16 (fun a29 => wJ7_size a29 s25 (fun r28 s28 => Q r28 s28)))))) else (if x2 = 7 then (kd s1 th = 1 ∧ (oc s1 (fr s1 th 6) 3 (fun a31 => oc s1 (fr s1 a31 5) 100 (fun a32 => vp_in x1 (ln s1 a32) ∧ (Q (ai s1 a32 x1.toNatClampNeg) s1))))) else (if x2 = 8 then (kd s1 th = 1 ∧ (oc s1 (fr s1 th 6) 3 (fun a34 => oc s1 (fr s1 a34 6) 100 (fun a35 => vp_in x1 (ln s1 a35) ∧ (Q (ai s1 a35 x1.toNatClampNeg) s1))))) else (if x2 = 9 then (kd s1 th = 1 ∧ (wX0_failing d th x1 s1 (fun r36 s36 => Q r36 s36))) else (if x2 = 10 then (kd s1 th = 1 ∧ (∃ k40 n40 : Nat, k40 ≤ bc ∧ n40 ≤ bs ∧ (wX0_laysInjuries th k40 n40 s1 (fun s38 => kd s38 th = 1 ∧ (oc s38 (fr s38 th 12) 100 (fun a42 => vp_in x1 (ln s38 a42) ∧ (Q (ai s38 a42 x1.toNatClampNeg) s38))))))) else (Q (-1 : Int32) s1))))))))))))))
set_option maxHeartbeats 4000000 in
theorem MX0_of (l : Launch) (E : xx_E) (d : Nat) (th : Nat) (x1 : Int32) (x2 : Int32) (bc : Nat) (bs : Nat) (σ : XS) (Q : Int32 → XS → Prop) (hw : wX0_of d th x1 x2 bc bs σ Q) : xx_Mi l yX0_of (ws_ yX0_of cX0_of 3 (some .int)) ({ frames := (14 + 1 * d), cells := bc, slots := bs, locals := 40 * (14 + 1 * d) } : Room) E [xv E (some th), .int x1, .int x2] σ Q bc bs := by
  refine x_of (own := "StruckCounts") (by decide +kernel) rfl ?_
  intro p e s m args below meth c cx hR ha hnm
  refine x_entry [xv E (some th), .int x1, .int x2] 3 [(0, xv E (some th)), (1, .int x1), (2, .int x2)] ha (by simp [lg_sl, xv_cat, vc_i, vc_j, vc_f]) (by simp [lv_args, xv_cat, vc_i, vc_j, vc_f]) (fun ls hl => ?_)
  have hS : va_S (xA E) s.heap s.heap [] := va_S.rf
  have hcb : 0 + bc ≤ bc := Nat.le_of_eq (Nat.zero_add _)
  have hsb : 0 + bs ≤ bs := Nat.le_of_eq (Nat.zero_add _)
  unfold wX0_of at hw
  obtain ⟨hx, hb, hml, hown, hts, hrt, hlk, hMK, hZ⟩ := id cx
  refine x_aload_n cx dX0_of_0 rfl (lv_at hl 0 rfl) ?_
  refine lv_iload_n hx hb dX0_of_1 rfl (lv_at hl 1 rfl) ?_
  obtain ⟨hk2, hw⟩ := hw
  refine CX0_isCount_X0_290 cx hR hS rfl hk2 hw (by constructor <;> dsimp only <;> omega) (Nat.le_of_ble_eq_true rfl) hl.1 ⟨by dsimp only; omega, by dsimp only; omega⟩ dX0_of_2 (fun r1 s1 H locs hw hR hS => ?_)
  refine lv_if_ne (tgt := 10) hx hb dX0_of_5 (by decide) (fun hc => ?_) (fun hc => ?_)
  · have hw := mm_in hc hw
    refine lv_iload_n hx hb dX0_of_10 rfl (lv_at hl 2 rfl) ?_
    by_cases hc0 : x2 = 0
    · have hw := mm_ip hc0 hw
      refine lv_tableIn (off := 57) (tgt := 68) hx hb dX0_of_11 (by rw [hc0]; decide) (by rw [hc0]; decide) (by rw [hc0]; decide) (by decide) ?_
      refine x_aload_n cx dX0_of_68 rfl (lv_at hl 0 rfl) ?_
      obtain ⟨hk3, hw⟩ := hw
      refine xg_X0_31_1 cx hR rfl hk3 dX0_of_69 ?_
      obtain ⟨a4, hr4, hk4, hw⟩ := hw
      refine xg_X0_293_3 cx hR hr4 hk4 dX0_of_72 ?_
      refine lv_iload_n hx hb dX0_of_75 rfl (lv_at hl 1 rfl) ?_
      obtain ⟨a5, hr5, hk5, hw⟩ := hw
      obtain ⟨hi, hw⟩ := hw
      refine x_iald cx hR hr5 hk5 (j := x1.toNatClampNeg) rfl hi dX0_of_76 ?_
      exact x_iret cx hR hS (xle hcb) (xle hsb) hw dX0_of_77
    have hw := mm_in hc0 hw
    by_cases hc1 : x2 = 1
    · have hw := mm_ip hc1 hw
      refine lv_tableIn (off := 67) (tgt := 78) hx hb dX0_of_11 (by rw [hc1]; decide) (by rw [hc1]; decide) (by rw [hc1]; decide) (by decide) ?_
      refine x_aload_n cx dX0_of_78 rfl (lv_at hl 0 rfl) ?_
      obtain ⟨hk6, hw⟩ := hw
      refine xg_X0_31_1 cx hR rfl hk6 dX0_of_79 ?_
      obtain ⟨a7, hr7, hk7, hw⟩ := hw
      refine xg_X0_213_3 cx hR hr7 hk7 dX0_of_82 ?_
      refine lv_iload_n hx hb dX0_of_85 rfl (lv_at hl 1 rfl) ?_
      obtain ⟨a8, hr8, hk8, hw⟩ := hw
      obtain ⟨hi, hw⟩ := hw
      refine x_iald cx hR hr8 hk8 (j := x1.toNatClampNeg) rfl hi dX0_of_86 ?_
      exact x_iret cx hR hS (xle hcb) (xle hsb) hw dX0_of_87
    have hw := mm_in hc1 hw
    by_cases hc2 : x2 = 2
    · have hw := mm_ip hc2 hw
      refine lv_tableIn (off := 77) (tgt := 88) hx hb dX0_of_11 (by rw [hc2]; decide) (by rw [hc2]; decide) (by rw [hc2]; decide) (by decide) ?_
      refine x_aload_n cx dX0_of_88 rfl (lv_at hl 0 rfl) ?_
      obtain ⟨hk9, hw⟩ := hw
      refine xg_X0_31_1 cx hR rfl hk9 dX0_of_89 ?_
      obtain ⟨a10, hr10, hk10, hw⟩ := hw
      refine xg_X0_192_3 cx hR hr10 hk10 dX0_of_92 ?_
      refine lv_iload_n hx hb dX0_of_95 rfl (lv_at hl 1 rfl) ?_
      obtain ⟨a11, hr11, hk11, hw⟩ := hw
      obtain ⟨hi, hw⟩ := hw
      refine x_iald cx hR hr11 hk11 (j := x1.toNatClampNeg) rfl hi dX0_of_96 ?_
      exact x_iret cx hR hS (xle hcb) (xle hsb) hw dX0_of_97
    have hw := mm_in hc2 hw
    by_cases hc3 : x2 = 3
    · have hw := mm_ip hc3 hw
      refine lv_tableIn (off := 87) (tgt := 98) hx hb dX0_of_11 (by rw [hc3]; decide) (by rw [hc3]; decide) (by rw [hc3]; decide) (by decide) ?_
      refine x_aload_n cx dX0_of_98 rfl (lv_at hl 0 rfl) ?_
      refine lv_iload_n hx hb dX0_of_99 rfl (lv_at hl 1 rfl) ?_
      refine x_aload_n cx dX0_of_100 rfl (lv_at hl 0 rfl) ?_
      obtain ⟨hk12, hw⟩ := hw
      refine xg_X0_31_1 cx hR rfl hk12 dX0_of_101 ?_
      obtain ⟨a13, hr13, hk13, hw⟩ := hw
      refine xg_X0_195_3 cx hR hr13 hk13 dX0_of_104 ?_
      refine lv_iload_n hx hb dX0_of_107 rfl (lv_at hl 1 rfl) ?_
      obtain ⟨a14, hr14, hk14, hw⟩ := hw
      obtain ⟨hi, hw⟩ := hw
      refine x_iald cx hR hr14 hk14 (j := x1.toNatClampNeg) rfl hi dX0_of_108 ?_
      refine CX0_back_X0_204 d cx hR hS rfl hk12 hw (by constructor <;> dsimp only <;> omega) (Nat.le_of_ble_eq_true rfl) hl.1 ⟨by dsimp only; omega, by dsimp only; omega⟩ dX0_of_109 (fun r15 s15 H locs hw hR hS => ?_)
      exact x_iret cx hR hS (xle hcb) (xle hsb) hw dX0_of_112
    have hw := mm_in hc3 hw
    by_cases hc4 : x2 = 4
    · have hw := mm_ip hc4 hw
      refine lv_tableIn (off := 102) (tgt := 113) hx hb dX0_of_11 (by rw [hc4]; decide) (by rw [hc4]; decide) (by rw [hc4]; decide) (by decide) ?_
      refine x_aload_n cx dX0_of_113 rfl (lv_at hl 0 rfl) ?_
      refine lv_iload_n hx hb dX0_of_114 rfl (lv_at hl 1 rfl) ?_
      refine x_aload_n cx dX0_of_115 rfl (lv_at hl 0 rfl) ?_
      obtain ⟨hk16, hw⟩ := hw
      refine xg_X0_31_1 cx hR rfl hk16 dX0_of_116 ?_
      obtain ⟨a17, hr17, hk17, hw⟩ := hw
      refine xg_X0_195_3 cx hR hr17 hk17 dX0_of_119 ?_
      refine lv_iload_n hx hb dX0_of_122 rfl (lv_at hl 1 rfl) ?_
      obtain ⟨a18, hr18, hk18, hw⟩ := hw
      obtain ⟨hi, hw⟩ := hw
      refine x_iald cx hR hr18 hk18 (j := x1.toNatClampNeg) rfl hi dX0_of_123 ?_
      refine CX0_age_X0_241 d cx hR hS rfl hk16 hw (by constructor <;> dsimp only <;> omega) (Nat.le_of_ble_eq_true rfl) hl.1 ⟨by dsimp only; omega, by dsimp only; omega⟩ dX0_of_124 (fun r19 s19 H locs hw hR hS => ?_)
      exact x_iret cx hR hS (xle hcb) (xle hsb) hw dX0_of_127
    have hw := mm_in hc4 hw
    by_cases hc5 : x2 = 5
    · have hw := mm_ip hc5 hw
      refine lv_tableIn (off := 117) (tgt := 128) hx hb dX0_of_11 (by rw [hc5]; decide) (by rw [hc5]; decide) (by rw [hc5]; decide) (by decide) ?_
      refine x_aload_n cx dX0_of_128 rfl (lv_at hl 0 rfl) ?_
      refine lv_iload_n hx hb dX0_of_129 rfl (lv_at hl 1 rfl) ?_
      obtain ⟨hk21, hw⟩ := hw
      refine CX0_told_X0_178 cx hR hS rfl hk21 hw (by constructor <;> dsimp only <;> omega) (Nat.le_of_ble_eq_true rfl) hl.1 ⟨by dsimp only; omega, by dsimp only; omega⟩ dX0_of_130 (fun r20 s20 H locs hw hR hS => ?_)
      obtain ⟨a22, hr22, hk22, hw⟩ := hw
      refine xg_X0_182_12 cx hR hr22 hk22 dX0_of_133 ?_
      obtain ⟨a24, hr24, hk24, hw⟩ := hw
      refine CJ7_size_X0_159 cx hR hS hr24 hk24 hw (by constructor <;> dsimp only <;> omega) (Nat.le_of_ble_eq_true rfl) hl.1 ⟨by dsimp only; omega, by dsimp only; omega⟩ dX0_of_136 (fun r23 s23 H locs hw hR hS => ?_)
      exact x_iret cx hR hS (xle hcb) (xle hsb) hw dX0_of_139
    have hw := mm_in hc5 hw
    by_cases hc6 : x2 = 6
    · have hw := mm_ip hc6 hw
      refine lv_tableIn (off := 129) (tgt := 140) hx hb dX0_of_11 (by rw [hc6]; decide) (by rw [hc6]; decide) (by rw [hc6]; decide) (by decide) ?_
      refine x_aload_n cx dX0_of_140 rfl (lv_at hl 0 rfl) ?_
      refine lv_iload_n hx hb dX0_of_141 rfl (lv_at hl 1 rfl) ?_
      obtain ⟨hk26, hw⟩ := hw
      refine CX0_told_X0_178 cx hR hS rfl hk26 hw (by constructor <;> dsimp only <;> omega) (Nat.le_of_ble_eq_true rfl) hl.1 ⟨by dsimp only; omega, by dsimp only; omega⟩ dX0_of_142 (fun r25 s25 H locs hw hR hS => ?_)
      obtain ⟨a27, hr27, hk27, hw⟩ := hw
      refine xg_X0_185_12 cx hR hr27 hk27 dX0_of_145 ?_
      obtain ⟨a29, hr29, hk29, hw⟩ := hw
      refine CJ7_size_X0_159 cx hR hS hr29 hk29 hw (by constructor <;> dsimp only <;> omega) (Nat.le_of_ble_eq_true rfl) hl.1 ⟨by dsimp only; omega, by dsimp only; omega⟩ dX0_of_148 (fun r28 s28 H locs hw hR hS => ?_)
      exact x_iret cx hR hS (xle hcb) (xle hsb) hw dX0_of_151
    have hw := mm_in hc6 hw
    by_cases hc7 : x2 = 7
    · have hw := mm_ip hc7 hw
      refine lv_tableIn (off := 141) (tgt := 152) hx hb dX0_of_11 (by rw [hc7]; decide) (by rw [hc7]; decide) (by rw [hc7]; decide) (by decide) ?_
      refine x_aload_n cx dX0_of_152 rfl (lv_at hl 0 rfl) ?_
      obtain ⟨hk30, hw⟩ := hw
      refine xg_X0_31_1 cx hR rfl hk30 dX0_of_153 ?_
      obtain ⟨a31, hr31, hk31, hw⟩ := hw
      refine xg_X0_195_3 cx hR hr31 hk31 dX0_of_156 ?_
      refine lv_iload_n hx hb dX0_of_159 rfl (lv_at hl 1 rfl) ?_
      obtain ⟨a32, hr32, hk32, hw⟩ := hw
      obtain ⟨hi, hw⟩ := hw
      refine x_iald cx hR hr32 hk32 (j := x1.toNatClampNeg) rfl hi dX0_of_160 ?_
      exact x_iret cx hR hS (xle hcb) (xle hsb) hw dX0_of_161
    have hw := mm_in hc7 hw
    by_cases hc8 : x2 = 8
    · have hw := mm_ip hc8 hw
      refine lv_tableIn (off := 151) (tgt := 162) hx hb dX0_of_11 (by rw [hc8]; decide) (by rw [hc8]; decide) (by rw [hc8]; decide) (by decide) ?_
      refine x_aload_n cx dX0_of_162 rfl (lv_at hl 0 rfl) ?_
      obtain ⟨hk33, hw⟩ := hw
      refine xg_X0_31_1 cx hR rfl hk33 dX0_of_163 ?_
      obtain ⟨a34, hr34, hk34, hw⟩ := hw
      refine xg_X0_247_3 cx hR hr34 hk34 dX0_of_166 ?_
      refine lv_iload_n hx hb dX0_of_169 rfl (lv_at hl 1 rfl) ?_
      obtain ⟨a35, hr35, hk35, hw⟩ := hw
      obtain ⟨hi, hw⟩ := hw
      refine x_iald cx hR hr35 hk35 (j := x1.toNatClampNeg) rfl hi dX0_of_170 ?_
      exact x_iret cx hR hS (xle hcb) (xle hsb) hw dX0_of_171
    have hw := mm_in hc8 hw
    by_cases hc9 : x2 = 9
    · have hw := mm_ip hc9 hw
      refine lv_tableIn (off := 161) (tgt := 172) hx hb dX0_of_11 (by rw [hc9]; decide) (by rw [hc9]; decide) (by rw [hc9]; decide) (by decide) ?_
      refine x_aload_n cx dX0_of_172 rfl (lv_at hl 0 rfl) ?_
      refine lv_iload_n hx hb dX0_of_173 rfl (lv_at hl 1 rfl) ?_
      obtain ⟨hk37, hw⟩ := hw
      refine CX0_failing_X0_254 d cx hR hS rfl hk37 hw (by constructor <;> dsimp only <;> omega) (Nat.le_of_ble_eq_true rfl) hl.1 ⟨by dsimp only; omega, by dsimp only; omega⟩ dX0_of_174 (fun r36 s36 H locs hw hR hS => ?_)
      exact x_iret cx hR hS (xle hcb) (xle hsb) hw dX0_of_177
    have hw := mm_in hc9 hw
    by_cases hc10 : x2 = 10
    · have hw := mm_ip hc10 hw
      refine lv_tableIn (off := 167) (tgt := 178) hx hb dX0_of_11 (by rw [hc10]; decide) (by rw [hc10]; decide) (by rw [hc10]; decide) (by decide) ?_
      refine x_aload_n cx dX0_of_178 rfl (lv_at hl 0 rfl) ?_
      obtain ⟨hk39, hw⟩ := hw
      obtain ⟨k40, n40, hb1, hb2, hw⟩ := hw
      refine CX0_laysInjuries_X0_296 cx hR hS rfl hk39 hw (by constructor <;> dsimp only <;> omega) (Nat.le_of_ble_eq_true rfl) hl.1 ⟨by dsimp only; omega, by dsimp only; omega⟩ dX0_of_179 (fun s38 H locs hw hR hS => ?_)
      have hcb := xadd hb1 hcb
      have hsb := xadd hb2 hsb
      refine x_aload_n cx dX0_of_182 rfl (lv_at hl 0 rfl) ?_
      obtain ⟨hk41, hw⟩ := hw
      refine xg_X0_56_1 cx hR rfl hk41 dX0_of_183 ?_
      refine lv_iload_n hx hb dX0_of_186 rfl (lv_at hl 1 rfl) ?_
      obtain ⟨a42, hr42, hk42, hw⟩ := hw
      obtain ⟨hi, hw⟩ := hw
      refine x_iald cx hR hr42 hk42 (j := x1.toNatClampNeg) rfl hi dX0_of_187 ?_
      exact x_iret cx hR hS (xle hcb) (xle hsb) hw dX0_of_188
    have hw := mm_in hc10 hw
    refine lv_tableOut (tgt := 189) hx hb dX0_of_11 (sw_out 0 10 [(0 : Int32), (1 : Int32), (2 : Int32), (3 : Int32), (4 : Int32), (5 : Int32), (6 : Int32), (7 : Int32), (8 : Int32), (9 : Int32), (10 : Int32)] (by simp only [List.all_cons, List.all_nil, Bool.and_true, Bool.and_eq_true, decide_eq_true_eq]; exact ⟨hc0, hc1, hc2, hc3, hc4, hc5, hc6, hc7, hc8, hc9, hc10⟩) (by intro z h1 h2; exact sw_in11 z h1 h2)) (by decide) ?_
    refine lv_iconst (v := (-1 : Int32)) hx hb dX0_of_189 (by decide) ?_
    exact x_iret cx hR hS (xle hcb) (xle hsb) hw dX0_of_190
  · have hw := mm_ip hc hw
    refine lv_iconst (v := (-1 : Int32)) hx hb dX0_of_8 (by decide) ?_
    exact x_iret cx hR hS (xle hcb) (xle hsb) hw dX0_of_9
-- E_seen_
def XM_seen (l : Launch) (E : xx_E) (f a : Nat) (x : Int32) (y : Int32) (σ : XS) (Q : Int32 → XS → Prop) : Prop := (kd σ a = 10 ∧ ∃ rm : Room, rm.frames ≤ f ∧ rm.locals ≤ 40 * f ∧ rm.cells = 0 ∧ rm.slots = 0 ∧ xx_Mi l yX10_seen (ws_ yX10_seen cX10_seen 3 (some .int)) rm E [xv E (some a), .int x, .int y] σ Q 0 0) ∨ (kd σ a = 7 ∧ ∃ rm : Room, rm.frames ≤ f ∧ rm.locals ≤ 40 * f ∧ rm.cells = 0 ∧ rm.slots = 0 ∧ xx_Mi l yX7_seen (ws_ yX7_seen cX7_seen 3 (some .int)) rm E [xv E (some a), .int x, .int y] σ Q 0 0) ∨ ((kd σ a = 8 ∨ kd σ a = 9 ∨ kd σ a = 11) ∧ ∃ rm : Room, rm.frames ≤ f ∧ rm.locals ≤ 40 * f ∧ rm.cells = 0 ∧ rm.slots = 0 ∧ xx_Mi l yX8_seen (ws_ yX8_seen cX8_seen 6 (some .int)) rm E [xv E (some a), .int x, .int y] σ Q 0 0)
def XF_seen (l : Launch) (E : xx_E) (F : Nat → Int32 → Int32 → XS → (Int32 → XS → Prop) → Prop) (d : Nat) : Prop := ∀ (a : Nat) (x : Int32) (y : Int32) (σ : XS) (Q : Int32 → XS → Prop), F a x y σ Q → XM_seen l E (6 + 4 * d) a x y σ Q
-- X10_seen
def wX10_seen (th : Nat) (x1 : Int32) (x2 : Int32) (σ : XS) (Q : Int32 → XS → Prop) : Prop :=
  kd σ th = 10 ∧ (wX0_has x1 (fi σ th 0) σ (fun r2 s2 => if r2 = 0 then (Q (2 : Int32) s2) else (kd s2 th = 10 ∧ (wX0_has x2 (fi s2 th 0) s2 (fun r4 s4 => if r4 = 0 then (Q (0 : Int32) s4) else (Q (1 : Int32) s4))))))
set_option maxHeartbeats 4000000 in
theorem MX10_seen (l : Launch) (E : xx_E) (th : Nat) (x1 : Int32) (x2 : Int32) (σ : XS) (Q : Int32 → XS → Prop) (hw : wX10_seen th x1 x2 σ Q) : xx_Mi l yX10_seen (ws_ yX10_seen cX10_seen 3 (some .int)) ({ frames := 1, cells := 0, slots := 0, locals := 40 } : Room) E [xv E (some th), .int x1, .int x2] σ Q 0 0 := by
  refine x_of (own := "StruckCounts$Fact") (by decide +kernel) rfl ?_
  intro p e s m args below meth c cx hR ha hnm
  refine x_entry [xv E (some th), .int x1, .int x2] 3 [(0, xv E (some th)), (1, .int x1), (2, .int x2)] ha (by simp [lg_sl, xv_cat, vc_i, vc_j, vc_f]) (by simp [lv_args, xv_cat, vc_i, vc_j, vc_f]) (fun ls hl => ?_)
  have hS : va_S (xA E) s.heap s.heap [] := va_S.rf
  have hcb : 0 + 0 ≤ 0 := Nat.le_of_eq (Nat.zero_add _)
  have hsb : 0 + 0 ≤ 0 := Nat.le_of_eq (Nat.zero_add _)
  unfold wX10_seen at hw
  obtain ⟨hx, hb, hml, hown, hts, hrt, hlk, hMK, hZ⟩ := id cx
  refine lv_iload_n hx hb dX10_seen_0 rfl (lv_at hl 1 rfl) ?_
  refine x_aload_n cx dX10_seen_1 rfl (lv_at hl 0 rfl) ?_
  obtain ⟨hk1, hw⟩ := hw
  refine xg_X10_9_10 cx hR rfl hk1 dX10_seen_2 ?_
  refine CX0_has_X10_15 cx hR hS  hw ⟨Nat.le_of_ble_eq_true rfl, Nat.le_of_ble_eq_true rfl⟩ (Nat.le_of_ble_eq_true rfl) hl.1 ⟨by dsimp only; omega, by dsimp only; omega⟩ dX10_seen_5 (fun r2 s2 H locs hw hR hS => ?_)
  refine lv_if_ne (tgt := 15) hx hb dX10_seen_8 (by decide) (fun hc => ?_) (fun hc => ?_)
  · have hw := mm_in hc hw
    refine lv_iload_n hx hb dX10_seen_15 rfl (lv_at hl 2 rfl) ?_
    refine x_aload_n cx dX10_seen_16 rfl (lv_at hl 0 rfl) ?_
    obtain ⟨hk3, hw⟩ := hw
    refine xg_X10_9_10 cx hR rfl hk3 dX10_seen_17 ?_
    refine CX0_has_X10_15 cx hR hS  hw ⟨Nat.le_of_ble_eq_true rfl, Nat.le_of_ble_eq_true rfl⟩ (Nat.le_of_ble_eq_true rfl) hl.1 ⟨by dsimp only; omega, by dsimp only; omega⟩ dX10_seen_20 (fun r4 s4 H locs hw hR hS => ?_)
    refine lv_if_eq (tgt := 30) hx hb dX10_seen_23 (by decide) (fun hc => ?_) (fun hc => ?_)
    · have hw := mm_ip hc hw
      refine lv_iconst (v := (0 : Int32)) hx hb dX10_seen_30 (by decide) ?_
      exact x_iret cx hR hS (xle hcb) (xle hsb) hw dX10_seen_31
    · have hw := mm_in hc hw
      refine lv_iconst (v := (1 : Int32)) hx hb dX10_seen_26 (by decide) ?_
      refine lv_goto (tgt := 31) hx hb dX10_seen_27 (by decide) ?_
      exact x_iret cx hR hS (xle hcb) (xle hsb) hw dX10_seen_31
  · have hw := mm_ip hc hw
    refine lv_iconst (v := (2 : Int32)) hx hb dX10_seen_11 (by decide) ?_
    refine lv_goto (tgt := 31) hx hb dX10_seen_12 (by decide) ?_
    exact x_iret cx hR hS (xle hcb) (xle hsb) hw dX10_seen_31
-- X15_turned
def wX15_turned (x0 : Int32) (σ : XS) (Q : Int32 → XS → Prop) : Prop :=
  if x0 = (2 : Int32) then (Q (2 : Int32) σ) else (Q ((1 : Int32) - x0) σ)
set_option maxHeartbeats 4000000 in
theorem MX15_turned (l : Launch) (E : xx_E) (x0 : Int32) (σ : XS) (Q : Int32 → XS → Prop) (hw : wX15_turned x0 σ Q) : xx_Mi l yX15_turned (ws_ yX15_turned cX15_turned 1 (some .int)) ({ frames := 0, cells := 0, slots := 0, locals := 0 } : Room) E [.int x0] σ Q 0 0 := by
  refine x_of (own := "StruckCounts$Expr") (by decide +kernel) rfl ?_
  intro p e s m args below meth c cx hR ha hnm
  refine x_entry [.int x0] 1 [(0, .int x0)] ha (Nat.le_of_ble_eq_true rfl) rfl (fun ls hl => ?_)
  have hS : va_S (xA E) s.heap s.heap [] := va_S.rf
  have hcb : 0 + 0 ≤ 0 := Nat.le_of_eq (Nat.zero_add _)
  have hsb : 0 + 0 ≤ 0 := Nat.le_of_eq (Nat.zero_add _)
  unfold wX15_turned at hw
  obtain ⟨hx, hb, hml, hown, hts, hrt, hlk, hMK, hZ⟩ := id cx
  refine lv_iload_n hx hb dX15_turned_0 rfl (lv_at hl 0 rfl) ?_
  refine lv_iconst (v := (2 : Int32)) hx hb dX15_turned_1 (by decide) ?_
  refine lv_icmp_ne (tgt := 9) hx hb dX15_turned_2 (by decide) (fun hc => ?_) (fun hc => ?_)
  · have hw := mm_in hc hw
    refine lv_iconst (v := (1 : Int32)) hx hb dX15_turned_9 (by decide) ?_
    refine lv_iload_n hx hb dX15_turned_10 rfl (lv_at hl 0 rfl) ?_
    refine lv_isub hx hb dX15_turned_11 ?_
    exact x_iret cx hR hS (xle hcb) (xle hsb) hw dX15_turned_12
  · have hw := mm_ip hc hw
    refine lv_iconst (v := (2 : Int32)) hx hb dX15_turned_5 (by decide) ?_
    refine lv_goto (tgt := 12) hx hb dX15_turned_6 (by decide) ?_
    exact x_iret cx hR hS (xle hcb) (xle hsb) hw dX15_turned_12
-- X7_seen
theorem CE_seen_X7_19F {l : Launch} {p : Program} {e : Env} {R : Room} {s : State} {m : MethodId} {args : Array Value} {below : List Frame} {meth : Method} {c : Code} {H : Heap} {locs : List Loc} {cells slots : Nat} {Qz : State → Prop} {cc : ByteArray} {nL : Nat} {ret : Option FieldType} {E : xx_E} {σ : XS} {pc : Nat} {ls : Array Slot} {rest : List Value} {F : Nat → Int32 → Int32 → XS → (Int32 → XS → Prop) → Prop} (d : Nat) (hF : XF_seen l E F d) {th : Nat} {x1 : Int32} {x2 : Int32} (cx : xx_X "StruckCounts$Not" cc nL ret E p s m args meth c) (hR0 : xR E σ H) (hS0 : va_S (xA E) s.heap H locs) {r0 : Option Nat} (hr : r0 = some th) {Qf : Int32 → XS → Prop} (hw : F th x1 x2 σ Qf) (hR : (6 + 4 * d) + 1 ≤ R.frames ∧ 40 * ((6 + 4 * d) + 1) ≤ R.locals) (hrest : rest.length ≤ 4) (hsize : ls.size = nL) (hf : cells + 0 ≤ R.cells ∧ slots + 0 ≤ R.slots) (hdg : decode cc pc = .ok (.invokeinterface 19 3, 5))
    (kk : ∀ (r : Int32) (σ1 : XS) (H1 : Heap) (locs1 : List Loc), Qf r σ1 → xR E σ1 H1 → va_S (xA E) s.heap H1 locs1 → W p l e R s m args below meth c H1 locs1 (cells + 0) (slots + 0) Qz (F0 m (pc + 5) ls (.int r :: rest))) : W p l e R s m args below meth c H locs cells slots Qz (F0 m pc ls (.int x2 :: .int x1 :: xv E r0 :: rest)) := by
  subst hr
  obtain ⟨hx, hb, hml, hown, hts, hrt, hlk, hK, hZ⟩ := id cx
  rcases hF _ _ _ _ _ hw with ⟨hk, rm, h1, h2, hrc, hrs, met⟩ | ⟨hk, rm, h1, h2, hrc, hrs, met⟩ | ⟨hk, rm, h1, h2, hrc, hrs, met⟩
  · exact va_callFi (va_runF (C := "StruckCounts$Fact") (As := [.int x1, .int x2]) (rest := rest) ((x_K cx).1.1 9 _ rfl).2 (x_fix cx) met (va_cwF (C := "StruckCounts$Fact") (x := ⟨"StruckCounts$Expr", "seen", "(II)I"⟩) 2 hts (lw_app (xin4 q2020 q2009 q2011 q197) (lw_meth q2013)) rfl hrc hrs (hK.2.2.2.2.2.1 ("StruckCounts$Fact", ⟨"StruckCounts$Expr", "seen", "(II)I"⟩, ⟨"StruckCounts$Fact", "seen", "(II)I"⟩) (List.mem_of_getElem? (i := 1) rfl)) (by decide +kernel) ⟨by omega, by omega⟩) (x_preV cx hR0 hS0 hk (by decide) (q := (RX10, TX10, 1)) rfl rfl [.int x1, .int x2]) rfl rfl hsize rfl (lv_room (xroom hrest)) hdg hf) hS0 (fun q _ h => h) (fun q h => h) (fun r u t H1 locs1 ht hvm hw hB hz1 hk1 hS => kk r u H1 locs1 hw (x_after ht hB) hS)
  · exact va_callFi (va_runF (C := "StruckCounts$Not") (As := [.int x1, .int x2]) (rest := rest) ((x_K cx).1.1 6 _ rfl).2 (x_fix cx) met (va_cwF (C := "StruckCounts$Not") (x := ⟨"StruckCounts$Expr", "seen", "(II)I"⟩) 2 hts (lw_app (xin4 q2020 q2014 q2016 q194) (lw_meth q2018)) rfl hrc hrs (hK.2.2.2.2.2.1 ("StruckCounts$Not", ⟨"StruckCounts$Expr", "seen", "(II)I"⟩, ⟨"StruckCounts$Not", "seen", "(II)I"⟩) (List.mem_of_getElem? (i := 5) rfl)) (by decide +kernel) ⟨by omega, by omega⟩) (x_preV cx hR0 hS0 hk (by decide) (q := (RX7, TX7, 1)) rfl rfl [.int x1, .int x2]) rfl rfl hsize rfl (lv_room (xroom hrest)) hdg hf) hS0 (fun q _ h => h) (fun q h => h) (fun r u t H1 locs1 ht hvm hw hB hz1 hk1 hS => kk r u H1 locs1 hw (x_after ht hB) hS)
  · rcases hk with hk | hk | hk
    · exact va_callFi (va_runF (C := "StruckCounts$Some") (As := [.int x1, .int x2]) (rest := rest) ((x_K cx).1.1 7 _ rfl).2 (x_fix cx) met (va_cwF (C := "StruckCounts$Some") (x := ⟨"StruckCounts$Expr", "seen", "(II)I"⟩) 2 hts (lw_app (xin4 q2020 q2023 q2004 q195) (lw_meth q2006)) rfl hrc hrs (hK.2.2.2.2.2.1 ("StruckCounts$Some", ⟨"StruckCounts$Expr", "seen", "(II)I"⟩, ⟨"StruckCounts$Some", "seen", "(II)I"⟩) (List.mem_of_getElem? (i := 7) rfl)) (by decide +kernel) ⟨by omega, by omega⟩) (x_preV cx hR0 hS0 hk (by decide) (q := (RX8, TX8, 1)) rfl rfl [.int x1, .int x2]) rfl rfl hsize rfl (lv_room (xroom hrest)) hdg hf) hS0 (fun q _ h => h) (fun q h => h) (fun r u t H1 locs1 ht hvm hw hB hz1 hk1 hS => kk r u H1 locs1 hw (x_after ht hB) hS)
    · exact va_callFi (va_runF (C := "StruckCounts$SoMany") (As := [.int x1, .int x2]) (rest := rest) ((x_K cx).1.1 8 _ rfl).2 (x_fix cx) met (va_cwF (C := "StruckCounts$SoMany") (x := ⟨"StruckCounts$Expr", "seen", "(II)I"⟩) 2 hts (lw_app (xin4 q2020 q2021 q2004 q195) (lw_meth q2006)) rfl hrc hrs (hK.2.2.2.2.2.1 ("StruckCounts$SoMany", ⟨"StruckCounts$Expr", "seen", "(II)I"⟩, ⟨"StruckCounts$Some", "seen", "(II)I"⟩) (List.mem_of_getElem? (i := 9) rfl)) (by decide +kernel) ⟨by omega, by omega⟩) (x_preV cx hR0 hS0 hk (by decide) (q := (RX9, TX9, 2)) rfl rfl [.int x1, .int x2]) rfl rfl hsize rfl (lv_room (xroom hrest)) hdg hf) hS0 (fun q _ h => h) (fun q h => h) (fun r u t H1 locs1 ht hvm hw hB hz1 hk1 hS => kk r u H1 locs1 hw (x_after ht hB) hS)
    · exact va_callFi (va_runF (C := "StruckCounts$All") (As := [.int x1, .int x2]) (rest := rest) ((x_K cx).1.1 10 _ rfl).2 (x_fix cx) met (va_cwF (C := "StruckCounts$All") (x := ⟨"StruckCounts$Expr", "seen", "(II)I"⟩) 2 hts (lw_app (xin4 q2020 q2002 q2004 q195) (lw_meth q2006)) rfl hrc hrs (hK.2.2.2.2.2.1 ("StruckCounts$All", ⟨"StruckCounts$Expr", "seen", "(II)I"⟩, ⟨"StruckCounts$Some", "seen", "(II)I"⟩) (List.mem_of_getElem? (i := 3) rfl)) (by decide +kernel) ⟨by omega, by omega⟩) (x_preV cx hR0 hS0 hk (by decide) (q := (RX11, TX11, 1)) rfl rfl [.int x1, .int x2]) rfl rfl hsize rfl (lv_room (xroom hrest)) hdg hf) hS0 (fun q _ h => h) (fun q h => h) (fun r u t H1 locs1 ht hvm hw hB hz1 hk1 hS => kk r u H1 locs1 hw (x_after ht hB) hS)
theorem CX15_turned_X7_23 {l : Launch} {p : Program} {e : Env} {R : Room} {s : State} {m : MethodId} {args : Array Value} {below : List Frame} {meth : Method} {c : Code} {H : Heap} {locs : List Loc} {cells slots : Nat} {Qz : State → Prop} {cc : ByteArray} {nL : Nat} {ret : Option FieldType} {E : xx_E} {σ : XS} {pc : Nat} {ls : Array Slot} {rest : List Value} {x0 : Int32} (cx : xx_X "StruckCounts$Not" cc nL ret E p s m args meth c) (hR0 : xR E σ H) (hS0 : va_S (xA E) s.heap H locs) {Qf : Int32 → XS → Prop} (hw : wX15_turned x0 σ Qf) (hR : (({ frames := 0, cells := 0, slots := 0, locals := 0 } : Room)).frames + 1 ≤ R.frames ∧ 8 + (1 + 11) + (({ frames := 0, cells := 0, slots := 0, locals := 0 } : Room)).locals ≤ R.locals) (hrest : rest.length ≤ 4) (hsize : ls.size = nL) (hf : cells + 0 ≤ R.cells ∧ slots + 0 ≤ R.slots) (hdg : decode cc pc = .ok (.invokestatic 23, 3))
    (kk : ∀ (r : Int32) (σ1 : XS) (H1 : Heap) (locs1 : List Loc), Qf r σ1 → xR E σ1 H1 → va_S (xA E) s.heap H1 locs1 → W p l e R s m args below meth c H1 locs1 (cells + 0) (slots + 0) Qz (F0 m (pc + 3) ls (.int r :: rest))) : W p l e R s m args below meth c H locs cells slots Qz (F0 m pc ls (.int x0 :: rest)) := by
  obtain ⟨hx, hb, hml, hown, hts, hrt, hlk, hK, hZ⟩ := id cx
  exact x_goi (va_runS (As := [.int x0]) (rest := rest) (x_fix cx) (MX15_turned l E x0 σ Qf hw) (va_cwS 1 hts (lw_S q2025 q2026 q202 q2027) rfl rfl rfl (by decide +kernel) hR) ⟨xblind, x_pre cx hR0 hS0 [.int x0]⟩ rfl rfl hsize rfl (lv_room (xroom hrest)) hdg hf) hS0 kk
def wX7_seen (F : Nat → Int32 → Int32 → XS → (Int32 → XS → Prop) → Prop) (th : Nat) (x1 : Int32) (x2 : Int32) (σ : XS) (Q : Int32 → XS → Prop) : Prop :=
  kd σ th = 7 ∧ (oe (fr σ th 0) (fun a3 => F a3 x1 x2 σ (fun r2 s2 => wX15_turned r2 s2 (fun r4 s4 => Q r4 s4))))
set_option maxHeartbeats 4000000 in
theorem MX7_seen (l : Launch) (E : xx_E) {F : Nat → Int32 → Int32 → XS → (Int32 → XS → Prop) → Prop} (d : Nat) (hF : XF_seen l E F d) (th : Nat) (x1 : Int32) (x2 : Int32) (σ : XS) (Q : Int32 → XS → Prop) (hw : wX7_seen F th x1 x2 σ Q) : xx_Mi l yX7_seen (ws_ yX7_seen cX7_seen 3 (some .int)) ({ frames := (7 + 4 * d), cells := 0, slots := 0, locals := 40 * (7 + 4 * d) } : Room) E [xv E (some th), .int x1, .int x2] σ Q 0 0 := by
  refine x_of (own := "StruckCounts$Not") (by decide +kernel) rfl ?_
  intro p e s m args below meth c cx hR ha hnm
  refine x_entry [xv E (some th), .int x1, .int x2] 3 [(0, xv E (some th)), (1, .int x1), (2, .int x2)] ha (by simp [lg_sl, xv_cat, vc_i, vc_j, vc_f]) (by simp [lv_args, xv_cat, vc_i, vc_j, vc_f]) (fun ls hl => ?_)
  have hS : va_S (xA E) s.heap s.heap [] := va_S.rf
  have hcb : 0 + 0 ≤ 0 := Nat.le_of_eq (Nat.zero_add _)
  have hsb : 0 + 0 ≤ 0 := Nat.le_of_eq (Nat.zero_add _)
  unfold wX7_seen at hw
  obtain ⟨hx, hb, hml, hown, hts, hrt, hlk, hMK, hZ⟩ := id cx
  refine x_aload_n cx dX7_seen_0 rfl (lv_at hl 0 rfl) ?_
  obtain ⟨hk1, hw⟩ := hw
  refine xg_X7_7_7 cx hR rfl hk1 dX7_seen_1 ?_
  refine lv_iload_n hx hb dX7_seen_4 rfl (lv_at hl 1 rfl) ?_
  refine lv_iload_n hx hb dX7_seen_5 rfl (lv_at hl 2 rfl) ?_
  obtain ⟨a3, hr3, hw⟩ := hw
  refine CE_seen_X7_19F d hF cx hR hS hr3 hw (by constructor <;> dsimp only <;> omega) (Nat.le_of_ble_eq_true rfl) hl.1 ⟨by dsimp only; omega, by dsimp only; omega⟩ dX7_seen_6 (fun r2 s2 H locs hw hR hS => ?_)
  refine CX15_turned_X7_23 cx hR hS  hw (by constructor <;> dsimp only <;> omega) (Nat.le_of_ble_eq_true rfl) hl.1 ⟨by dsimp only; omega, by dsimp only; omega⟩ dX7_seen_11 (fun r4 s4 H locs hw hR hS => ?_)
  exact x_iret cx hR hS (xle hcb) (xle hsb) hw dX7_seen_14
-- X15_mayBeSeen
theorem CE_seen_X15_3F {l : Launch} {p : Program} {e : Env} {R : Room} {s : State} {m : MethodId} {args : Array Value} {below : List Frame} {meth : Method} {c : Code} {H : Heap} {locs : List Loc} {cells slots : Nat} {Qz : State → Prop} {cc : ByteArray} {nL : Nat} {ret : Option FieldType} {E : xx_E} {σ : XS} {pc : Nat} {ls : Array Slot} {rest : List Value} {F : Nat → Int32 → Int32 → XS → (Int32 → XS → Prop) → Prop} (d : Nat) (hF : XF_seen l E F d) {th : Nat} {x1 : Int32} {x2 : Int32} (cx : xx_X "StruckCounts$Expr" cc nL ret E p s m args meth c) (hR0 : xR E σ H) (hS0 : va_S (xA E) s.heap H locs) {r0 : Option Nat} (hr : r0 = some th) {Qf : Int32 → XS → Prop} (hw : F th x1 x2 σ Qf) (hR : (6 + 4 * d) + 1 ≤ R.frames ∧ 40 * ((6 + 4 * d) + 1) ≤ R.locals) (hrest : rest.length ≤ 4) (hsize : ls.size = nL) (hf : cells + 0 ≤ R.cells ∧ slots + 0 ≤ R.slots) (hdg : decode cc pc = .ok (.invokeinterface 3 3, 5))
    (kk : ∀ (r : Int32) (σ1 : XS) (H1 : Heap) (locs1 : List Loc), Qf r σ1 → xR E σ1 H1 → va_S (xA E) s.heap H1 locs1 → W p l e R s m args below meth c H1 locs1 (cells + 0) (slots + 0) Qz (F0 m (pc + 5) ls (.int r :: rest))) : W p l e R s m args below meth c H locs cells slots Qz (F0 m pc ls (.int x2 :: .int x1 :: xv E r0 :: rest)) := by
  subst hr
  obtain ⟨hx, hb, hml, hown, hts, hrt, hlk, hK, hZ⟩ := id cx
  rcases hF _ _ _ _ _ hw with ⟨hk, rm, h1, h2, hrc, hrs, met⟩ | ⟨hk, rm, h1, h2, hrc, hrs, met⟩ | ⟨hk, rm, h1, h2, hrc, hrs, met⟩
  · exact va_callFi (va_runF (C := "StruckCounts$Fact") (As := [.int x1, .int x2]) (rest := rest) ((x_K cx).1.1 9 _ rfl).2 (x_fix cx) met (va_cwF (C := "StruckCounts$Fact") (x := ⟨"StruckCounts$Expr", "seen", "(II)I"⟩) 2 hts (lw_app (xin4 q2037 q2009 q2011 q197) (lw_meth q2013)) rfl hrc hrs (hK.2.2.2.2.2.1 ("StruckCounts$Fact", ⟨"StruckCounts$Expr", "seen", "(II)I"⟩, ⟨"StruckCounts$Fact", "seen", "(II)I"⟩) (List.mem_of_getElem? (i := 1) rfl)) (by decide +kernel) ⟨by omega, by omega⟩) (x_preV cx hR0 hS0 hk (by decide) (q := (RX10, TX10, 1)) rfl rfl [.int x1, .int x2]) rfl rfl hsize rfl (lv_room (xroom hrest)) hdg hf) hS0 (fun q _ h => h) (fun q h => h) (fun r u t H1 locs1 ht hvm hw hB hz1 hk1 hS => kk r u H1 locs1 hw (x_after ht hB) hS)
  · exact va_callFi (va_runF (C := "StruckCounts$Not") (As := [.int x1, .int x2]) (rest := rest) ((x_K cx).1.1 6 _ rfl).2 (x_fix cx) met (va_cwF (C := "StruckCounts$Not") (x := ⟨"StruckCounts$Expr", "seen", "(II)I"⟩) 2 hts (lw_app (xin4 q2037 q2014 q2016 q194) (lw_meth q2018)) rfl hrc hrs (hK.2.2.2.2.2.1 ("StruckCounts$Not", ⟨"StruckCounts$Expr", "seen", "(II)I"⟩, ⟨"StruckCounts$Not", "seen", "(II)I"⟩) (List.mem_of_getElem? (i := 5) rfl)) (by decide +kernel) ⟨by omega, by omega⟩) (x_preV cx hR0 hS0 hk (by decide) (q := (RX7, TX7, 1)) rfl rfl [.int x1, .int x2]) rfl rfl hsize rfl (lv_room (xroom hrest)) hdg hf) hS0 (fun q _ h => h) (fun q h => h) (fun r u t H1 locs1 ht hvm hw hB hz1 hk1 hS => kk r u H1 locs1 hw (x_after ht hB) hS)
  · rcases hk with hk | hk | hk
    · exact va_callFi (va_runF (C := "StruckCounts$Some") (As := [.int x1, .int x2]) (rest := rest) ((x_K cx).1.1 7 _ rfl).2 (x_fix cx) met (va_cwF (C := "StruckCounts$Some") (x := ⟨"StruckCounts$Expr", "seen", "(II)I"⟩) 2 hts (lw_app (xin4 q2037 q2023 q2004 q195) (lw_meth q2006)) rfl hrc hrs (hK.2.2.2.2.2.1 ("StruckCounts$Some", ⟨"StruckCounts$Expr", "seen", "(II)I"⟩, ⟨"StruckCounts$Some", "seen", "(II)I"⟩) (List.mem_of_getElem? (i := 7) rfl)) (by decide +kernel) ⟨by omega, by omega⟩) (x_preV cx hR0 hS0 hk (by decide) (q := (RX8, TX8, 1)) rfl rfl [.int x1, .int x2]) rfl rfl hsize rfl (lv_room (xroom hrest)) hdg hf) hS0 (fun q _ h => h) (fun q h => h) (fun r u t H1 locs1 ht hvm hw hB hz1 hk1 hS => kk r u H1 locs1 hw (x_after ht hB) hS)
    · exact va_callFi (va_runF (C := "StruckCounts$SoMany") (As := [.int x1, .int x2]) (rest := rest) ((x_K cx).1.1 8 _ rfl).2 (x_fix cx) met (va_cwF (C := "StruckCounts$SoMany") (x := ⟨"StruckCounts$Expr", "seen", "(II)I"⟩) 2 hts (lw_app (xin4 q2037 q2021 q2004 q195) (lw_meth q2006)) rfl hrc hrs (hK.2.2.2.2.2.1 ("StruckCounts$SoMany", ⟨"StruckCounts$Expr", "seen", "(II)I"⟩, ⟨"StruckCounts$Some", "seen", "(II)I"⟩) (List.mem_of_getElem? (i := 9) rfl)) (by decide +kernel) ⟨by omega, by omega⟩) (x_preV cx hR0 hS0 hk (by decide) (q := (RX9, TX9, 2)) rfl rfl [.int x1, .int x2]) rfl rfl hsize rfl (lv_room (xroom hrest)) hdg hf) hS0 (fun q _ h => h) (fun q h => h) (fun r u t H1 locs1 ht hvm hw hB hz1 hk1 hS => kk r u H1 locs1 hw (x_after ht hB) hS)
    · exact va_callFi (va_runF (C := "StruckCounts$All") (As := [.int x1, .int x2]) (rest := rest) ((x_K cx).1.1 10 _ rfl).2 (x_fix cx) met (va_cwF (C := "StruckCounts$All") (x := ⟨"StruckCounts$Expr", "seen", "(II)I"⟩) 2 hts (lw_app (xin4 q2037 q2002 q2004 q195) (lw_meth q2006)) rfl hrc hrs (hK.2.2.2.2.2.1 ("StruckCounts$All", ⟨"StruckCounts$Expr", "seen", "(II)I"⟩, ⟨"StruckCounts$Some", "seen", "(II)I"⟩) (List.mem_of_getElem? (i := 3) rfl)) (by decide +kernel) ⟨by omega, by omega⟩) (x_preV cx hR0 hS0 hk (by decide) (q := (RX11, TX11, 1)) rfl rfl [.int x1, .int x2]) rfl rfl hsize rfl (lv_room (xroom hrest)) hdg hf) hS0 (fun q _ h => h) (fun q h => h) (fun r u t H1 locs1 ht hvm hw hB hz1 hk1 hS => kk r u H1 locs1 hw (x_after ht hB) hS)
def wX15_mayBeSeen (F : Nat → Int32 → Int32 → XS → (Int32 → XS → Prop) → Prop) (th : Nat) (x1 : Int32) (x2 : Int32) (σ : XS) (Q : Int32 → XS → Prop) : Prop :=
  F th x1 x2 σ (fun r1 s1 => if r1 = 0 then (Q (0 : Int32) s1) else (Q (1 : Int32) s1))
set_option maxHeartbeats 4000000 in
theorem MX15_mayBeSeen (l : Launch) (E : xx_E) {F : Nat → Int32 → Int32 → XS → (Int32 → XS → Prop) → Prop} (d : Nat) (hF : XF_seen l E F d) (th : Nat) (x1 : Int32) (x2 : Int32) (σ : XS) (Q : Int32 → XS → Prop) (hw : wX15_mayBeSeen F th x1 x2 σ Q) : xx_Mi l yX15_mayBeSeen (ws_ yX15_mayBeSeen cX15_mayBeSeen 3 (some .boolean)) ({ frames := (7 + 4 * d), cells := 0, slots := 0, locals := 40 * (7 + 4 * d) } : Room) E [xv E (some th), .int x1, .int x2] σ Q 0 0 := by
  refine x_of (own := "StruckCounts$Expr") (by decide +kernel) rfl ?_
  intro p e s m args below meth c cx hR ha hnm
  refine x_entry [xv E (some th), .int x1, .int x2] 3 [(0, xv E (some th)), (1, .int x1), (2, .int x2)] ha (by simp [lg_sl, xv_cat, vc_i, vc_j, vc_f]) (by simp [lv_args, xv_cat, vc_i, vc_j, vc_f]) (fun ls hl => ?_)
  have hS : va_S (xA E) s.heap s.heap [] := va_S.rf
  have hcb : 0 + 0 ≤ 0 := Nat.le_of_eq (Nat.zero_add _)
  have hsb : 0 + 0 ≤ 0 := Nat.le_of_eq (Nat.zero_add _)
  unfold wX15_mayBeSeen at hw
  obtain ⟨hx, hb, hml, hown, hts, hrt, hlk, hMK, hZ⟩ := id cx
  refine x_aload_n cx dX15_mayBeSeen_0 rfl (lv_at hl 0 rfl) ?_
  refine lv_iload_n hx hb dX15_mayBeSeen_1 rfl (lv_at hl 1 rfl) ?_
  refine lv_iload_n hx hb dX15_mayBeSeen_2 rfl (lv_at hl 2 rfl) ?_
  refine CE_seen_X15_3F d hF cx hR hS rfl hw (by constructor <;> dsimp only <;> omega) (Nat.le_of_ble_eq_true rfl) hl.1 ⟨by dsimp only; omega, by dsimp only; omega⟩ dX15_mayBeSeen_3 (fun r1 s1 H locs hw hR hS => ?_)
  refine lv_if_eq (tgt := 15) hx hb dX15_mayBeSeen_8 (by decide) (fun hc => ?_) (fun hc => ?_)
  · have hw := mm_ip hc hw
    refine lv_iconst (v := (0 : Int32)) hx hb dX15_mayBeSeen_15 (by decide) ?_
    exact x_nret cx hR hS (xle hcb) (xle hsb) (zb_nar (Or.inl rfl)) hw dX15_mayBeSeen_16
  · have hw := mm_in hc hw
    refine lv_iconst (v := (1 : Int32)) hx hb dX15_mayBeSeen_11 (by decide) ?_
    refine lv_goto (tgt := 16) hx hb dX15_mayBeSeen_12 (by decide) ?_
    exact x_nret cx hR hS (xle hcb) (xle hsb) (zb_nar (Or.inr rfl)) hw dX15_mayBeSeen_16
-- X8_seenS
theorem CE_seen_X8_34F {l : Launch} {p : Program} {e : Env} {R : Room} {s : State} {m : MethodId} {args : Array Value} {below : List Frame} {meth : Method} {c : Code} {H : Heap} {locs : List Loc} {cells slots : Nat} {Qz : State → Prop} {cc : ByteArray} {nL : Nat} {ret : Option FieldType} {E : xx_E} {σ : XS} {pc : Nat} {ls : Array Slot} {rest : List Value} {F : Nat → Int32 → Int32 → XS → (Int32 → XS → Prop) → Prop} (d : Nat) (hF : XF_seen l E F d) {th : Nat} {x1 : Int32} {x2 : Int32} (cx : xx_X "StruckCounts$Some" cc nL ret E p s m args meth c) (hR0 : xR E σ H) (hS0 : va_S (xA E) s.heap H locs) {r0 : Option Nat} (hr : r0 = some th) {Qf : Int32 → XS → Prop} (hw : F th x1 x2 σ Qf) (hR : (6 + 4 * d) + 1 ≤ R.frames ∧ 40 * ((6 + 4 * d) + 1) ≤ R.locals) (hrest : rest.length ≤ 4) (hsize : ls.size = nL) (hf : cells + 0 ≤ R.cells ∧ slots + 0 ≤ R.slots) (hdg : decode cc pc = .ok (.invokeinterface 34 3, 5))
    (kk : ∀ (r : Int32) (σ1 : XS) (H1 : Heap) (locs1 : List Loc), Qf r σ1 → xR E σ1 H1 → va_S (xA E) s.heap H1 locs1 → W p l e R s m args below meth c H1 locs1 (cells + 0) (slots + 0) Qz (F0 m (pc + 5) ls (.int r :: rest))) : W p l e R s m args below meth c H locs cells slots Qz (F0 m pc ls (.int x2 :: .int x1 :: xv E r0 :: rest)) := by
  subst hr
  obtain ⟨hx, hb, hml, hown, hts, hrt, hlk, hK, hZ⟩ := id cx
  rcases hF _ _ _ _ _ hw with ⟨hk, rm, h1, h2, hrc, hrs, met⟩ | ⟨hk, rm, h1, h2, hrc, hrs, met⟩ | ⟨hk, rm, h1, h2, hrc, hrs, met⟩
  · exact va_callFi (va_runF (C := "StruckCounts$Fact") (As := [.int x1, .int x2]) (rest := rest) ((x_K cx).1.1 9 _ rfl).2 (x_fix cx) met (va_cwF (C := "StruckCounts$Fact") (x := ⟨"StruckCounts$Expr", "seen", "(II)I"⟩) 2 hts (lw_app (xin4 q2008 q2009 q2011 q197) (lw_meth q2013)) rfl hrc hrs (hK.2.2.2.2.2.1 ("StruckCounts$Fact", ⟨"StruckCounts$Expr", "seen", "(II)I"⟩, ⟨"StruckCounts$Fact", "seen", "(II)I"⟩) (List.mem_of_getElem? (i := 1) rfl)) (by decide +kernel) ⟨by omega, by omega⟩) (x_preV cx hR0 hS0 hk (by decide) (q := (RX10, TX10, 1)) rfl rfl [.int x1, .int x2]) rfl rfl hsize rfl (lv_room (xroom hrest)) hdg hf) hS0 (fun q _ h => h) (fun q h => h) (fun r u t H1 locs1 ht hvm hw hB hz1 hk1 hS => kk r u H1 locs1 hw (x_after ht hB) hS)
  · exact va_callFi (va_runF (C := "StruckCounts$Not") (As := [.int x1, .int x2]) (rest := rest) ((x_K cx).1.1 6 _ rfl).2 (x_fix cx) met (va_cwF (C := "StruckCounts$Not") (x := ⟨"StruckCounts$Expr", "seen", "(II)I"⟩) 2 hts (lw_app (xin4 q2008 q2014 q2016 q194) (lw_meth q2018)) rfl hrc hrs (hK.2.2.2.2.2.1 ("StruckCounts$Not", ⟨"StruckCounts$Expr", "seen", "(II)I"⟩, ⟨"StruckCounts$Not", "seen", "(II)I"⟩) (List.mem_of_getElem? (i := 5) rfl)) (by decide +kernel) ⟨by omega, by omega⟩) (x_preV cx hR0 hS0 hk (by decide) (q := (RX7, TX7, 1)) rfl rfl [.int x1, .int x2]) rfl rfl hsize rfl (lv_room (xroom hrest)) hdg hf) hS0 (fun q _ h => h) (fun q h => h) (fun r u t H1 locs1 ht hvm hw hB hz1 hk1 hS => kk r u H1 locs1 hw (x_after ht hB) hS)
  · rcases hk with hk | hk | hk
    · exact va_callFi (va_runF (C := "StruckCounts$Some") (As := [.int x1, .int x2]) (rest := rest) ((x_K cx).1.1 7 _ rfl).2 (x_fix cx) met (va_cwF (C := "StruckCounts$Some") (x := ⟨"StruckCounts$Expr", "seen", "(II)I"⟩) 2 hts (lw_app (xin4 q2008 q2023 q2004 q195) (lw_meth q2006)) rfl hrc hrs (hK.2.2.2.2.2.1 ("StruckCounts$Some", ⟨"StruckCounts$Expr", "seen", "(II)I"⟩, ⟨"StruckCounts$Some", "seen", "(II)I"⟩) (List.mem_of_getElem? (i := 7) rfl)) (by decide +kernel) ⟨by omega, by omega⟩) (x_preV cx hR0 hS0 hk (by decide) (q := (RX8, TX8, 1)) rfl rfl [.int x1, .int x2]) rfl rfl hsize rfl (lv_room (xroom hrest)) hdg hf) hS0 (fun q _ h => h) (fun q h => h) (fun r u t H1 locs1 ht hvm hw hB hz1 hk1 hS => kk r u H1 locs1 hw (x_after ht hB) hS)
    · exact va_callFi (va_runF (C := "StruckCounts$SoMany") (As := [.int x1, .int x2]) (rest := rest) ((x_K cx).1.1 8 _ rfl).2 (x_fix cx) met (va_cwF (C := "StruckCounts$SoMany") (x := ⟨"StruckCounts$Expr", "seen", "(II)I"⟩) 2 hts (lw_app (xin4 q2008 q2021 q2004 q195) (lw_meth q2006)) rfl hrc hrs (hK.2.2.2.2.2.1 ("StruckCounts$SoMany", ⟨"StruckCounts$Expr", "seen", "(II)I"⟩, ⟨"StruckCounts$Some", "seen", "(II)I"⟩) (List.mem_of_getElem? (i := 9) rfl)) (by decide +kernel) ⟨by omega, by omega⟩) (x_preV cx hR0 hS0 hk (by decide) (q := (RX9, TX9, 2)) rfl rfl [.int x1, .int x2]) rfl rfl hsize rfl (lv_room (xroom hrest)) hdg hf) hS0 (fun q _ h => h) (fun q h => h) (fun r u t H1 locs1 ht hvm hw hB hz1 hk1 hS => kk r u H1 locs1 hw (x_after ht hB) hS)
    · exact va_callFi (va_runF (C := "StruckCounts$All") (As := [.int x1, .int x2]) (rest := rest) ((x_K cx).1.1 10 _ rfl).2 (x_fix cx) met (va_cwF (C := "StruckCounts$All") (x := ⟨"StruckCounts$Expr", "seen", "(II)I"⟩) 2 hts (lw_app (xin4 q2008 q2002 q2004 q195) (lw_meth q2006)) rfl hrc hrs (hK.2.2.2.2.2.1 ("StruckCounts$All", ⟨"StruckCounts$Expr", "seen", "(II)I"⟩, ⟨"StruckCounts$Some", "seen", "(II)I"⟩) (List.mem_of_getElem? (i := 3) rfl)) (by decide +kernel) ⟨by omega, by omega⟩) (x_preV cx hR0 hS0 hk (by decide) (q := (RX11, TX11, 1)) rfl rfl [.int x1, .int x2]) rfl rfl hsize rfl (lv_room (xroom hrest)) hdg hf) hS0 (fun q _ h => h) (fun q h => h) (fun r u t H1 locs1 ht hvm hw hB hz1 hk1 hS => kk r u H1 locs1 hw (x_after ht hB) hS)
theorem CE_mayBeSeen_X8_38F {l : Launch} {p : Program} {e : Env} {R : Room} {s : State} {m : MethodId} {args : Array Value} {below : List Frame} {meth : Method} {c : Code} {H : Heap} {locs : List Loc} {cells slots : Nat} {Qz : State → Prop} {cc : ByteArray} {nL : Nat} {ret : Option FieldType} {E : xx_E} {σ : XS} {th : Nat} {pc : Nat} {ls : Array Slot} {rest : List Value} {F : Nat → Int32 → Int32 → XS → (Int32 → XS → Prop) → Prop} (d : Nat) (hF : XF_seen l E F d) (hkk : [10, 7, 8, 9, 11].contains (kd σ th) = true)  {x1 : Int32} {x2 : Int32} (cx : xx_X "StruckCounts$Some" cc nL ret E p s m args meth c) (hR0 : xR E σ H) (hS0 : va_S (xA E) s.heap H locs) {r0 : Option Nat} (hr : r0 = some th) {Qf : Int32 → XS → Prop} (hw : wX15_mayBeSeen F th x1 x2 σ Qf) (hR : (7 + 4 * d) + 1 ≤ R.frames ∧ 40 * ((7 + 4 * d) + 1) ≤ R.locals) (hrest : rest.length ≤ 4) (hsize : ls.size = nL) (hf : cells + 0 ≤ R.cells ∧ slots + 0 ≤ R.slots) (hdg : decode cc pc = .ok (.invokeinterface 38 3, 5))
    (kk : ∀ (r : Int32) (σ1 : XS) (H1 : Heap) (locs1 : List Loc), Qf r σ1 → xR E σ1 H1 → va_S (xA E) s.heap H1 locs1 → W p l e R s m args below meth c H1 locs1 (cells + 0) (slots + 0) Qz (F0 m (pc + 5) ls (.int r :: rest))) : W p l e R s m args below meth c H locs cells slots Qz (F0 m pc ls (.int x2 :: .int x1 :: xv E r0 :: rest)) := by
  subst hr
  obtain ⟨hx, hb, hml, hown, hts, hrt, hlk, hK, hZ⟩ := id cx
  have hkk : kd σ th = 10 ∨ kd σ th = 7 ∨ kd σ th = 8 ∨ kd σ th = 9 ∨ kd σ th = 11 := by simpa using hkk
  rcases hkk with hk | hk | hk | hk | hk
  · exact va_callFi (va_runFD (C := "StruckCounts$Fact") (As := [.int x1, .int x2]) (rest := rest) (x := xx_mb) (y := xx_mb) ((x_K cx).1.1 9 _ rfl).2 (x_fix cx) (MX15_mayBeSeen l E d hF th x1 x2 σ Qf hw) (hts _ q2029) (hK.2.2.2.2.2.1 ("StruckCounts$Fact", xx_mb, xx_mb) (List.mem_of_getElem? (i := 10) rfl)) (hK.2.2.2.2.2.2.2.2.2.1 "StruckCounts$Fact" (List.mem_of_getElem? (i := 0) rfl)) (lw_meth q2035) hts (hts _ q2033) (hts _ q202) 2 (by decide +kernel) ⟨by dsimp only; omega, by dsimp only; omega⟩ (x_preV cx hR0 hS0 hk (by decide) (q := (RX10, TX10, 1)) rfl rfl [.int x1, .int x2]) rfl rfl hsize rfl (lv_room (xroom hrest)) hdg hf) hS0 (fun q _ h => h) (fun q h => h) (fun r u t H1 locs1 ht hvm hw hB hz1 hk1 hS => kk r u H1 locs1 hw (x_after ht hB) hS)
  · exact va_callFi (va_runFD (C := "StruckCounts$Not") (As := [.int x1, .int x2]) (rest := rest) (x := xx_mb) (y := xx_mb) ((x_K cx).1.1 6 _ rfl).2 (x_fix cx) (MX15_mayBeSeen l E d hF th x1 x2 σ Qf hw) (hts _ q2029) (hK.2.2.2.2.2.1 ("StruckCounts$Not", xx_mb, xx_mb) (List.mem_of_getElem? (i := 11) rfl)) (hK.2.2.2.2.2.2.2.2.2.1 "StruckCounts$Not" (List.mem_of_getElem? (i := 1) rfl)) (lw_meth q2035) hts (hts _ q2033) (hts _ q202) 2 (by decide +kernel) ⟨by dsimp only; omega, by dsimp only; omega⟩ (x_preV cx hR0 hS0 hk (by decide) (q := (RX7, TX7, 1)) rfl rfl [.int x1, .int x2]) rfl rfl hsize rfl (lv_room (xroom hrest)) hdg hf) hS0 (fun q _ h => h) (fun q h => h) (fun r u t H1 locs1 ht hvm hw hB hz1 hk1 hS => kk r u H1 locs1 hw (x_after ht hB) hS)
  · exact va_callFi (va_runFD (C := "StruckCounts$Some") (As := [.int x1, .int x2]) (rest := rest) (x := xx_mb) (y := xx_mb) ((x_K cx).1.1 7 _ rfl).2 (x_fix cx) (MX15_mayBeSeen l E d hF th x1 x2 σ Qf hw) (hts _ q2029) (hK.2.2.2.2.2.1 ("StruckCounts$Some", xx_mb, xx_mb) (List.mem_of_getElem? (i := 12) rfl)) (hK.2.2.2.2.2.2.2.2.2.1 "StruckCounts$Some" (List.mem_of_getElem? (i := 2) rfl)) (lw_meth q2035) hts (hts _ q2033) (hts _ q202) 2 (by decide +kernel) ⟨by dsimp only; omega, by dsimp only; omega⟩ (x_preV cx hR0 hS0 hk (by decide) (q := (RX8, TX8, 1)) rfl rfl [.int x1, .int x2]) rfl rfl hsize rfl (lv_room (xroom hrest)) hdg hf) hS0 (fun q _ h => h) (fun q h => h) (fun r u t H1 locs1 ht hvm hw hB hz1 hk1 hS => kk r u H1 locs1 hw (x_after ht hB) hS)
  · exact va_callFi (va_runFD (C := "StruckCounts$SoMany") (As := [.int x1, .int x2]) (rest := rest) (x := xx_mb) (y := xx_mb) ((x_K cx).1.1 8 _ rfl).2 (x_fix cx) (MX15_mayBeSeen l E d hF th x1 x2 σ Qf hw) (hts _ q2029) (hK.2.2.2.2.2.1 ("StruckCounts$SoMany", xx_mb, xx_mb) (List.mem_of_getElem? (i := 14) rfl)) (hK.2.2.2.2.2.2.2.2.2.1 "StruckCounts$SoMany" (List.mem_of_getElem? (i := 4) rfl)) (lw_meth q2035) hts (hts _ q2033) (hts _ q202) 2 (by decide +kernel) ⟨by dsimp only; omega, by dsimp only; omega⟩ (x_preV cx hR0 hS0 hk (by decide) (q := (RX9, TX9, 2)) rfl rfl [.int x1, .int x2]) rfl rfl hsize rfl (lv_room (xroom hrest)) hdg hf) hS0 (fun q _ h => h) (fun q h => h) (fun r u t H1 locs1 ht hvm hw hB hz1 hk1 hS => kk r u H1 locs1 hw (x_after ht hB) hS)
  · exact va_callFi (va_runFD (C := "StruckCounts$All") (As := [.int x1, .int x2]) (rest := rest) (x := xx_mb) (y := xx_mb) ((x_K cx).1.1 10 _ rfl).2 (x_fix cx) (MX15_mayBeSeen l E d hF th x1 x2 σ Qf hw) (hts _ q2029) (hK.2.2.2.2.2.1 ("StruckCounts$All", xx_mb, xx_mb) (List.mem_of_getElem? (i := 13) rfl)) (hK.2.2.2.2.2.2.2.2.2.1 "StruckCounts$All" (List.mem_of_getElem? (i := 3) rfl)) (lw_meth q2035) hts (hts _ q2033) (hts _ q202) 2 (by decide +kernel) ⟨by dsimp only; omega, by dsimp only; omega⟩ (x_preV cx hR0 hS0 hk (by decide) (q := (RX11, TX11, 1)) rfl rfl [.int x1, .int x2]) rfl rfl hsize rfl (lv_room (xroom hrest)) hdg hf) hS0 (fun q _ h => h) (fun q h => h) (fun r u t H1 locs1 ht hvm hw hB hz1 hk1 hS => kk r u H1 locs1 hw (x_after ht hB) hS)
def wX8_seenS_71 (F : Nat → Int32 → Int32 → XS → (Int32 → XS → Prop) → Prop) (Q : Int32 → XS → Prop) (K8 : Nat → Int32 → Int32 → Int32 → Int32 → Int32 → XS → Prop) (th : Nat) (x1 : Int32) (x2 : Int32) (x3 : Int32) (x4 : Int32) (x5 : Int32) (σ : XS) : Prop :=
  ∀ v1 : Int32, v1 = x5 + (1 : Int32) → K8 th x1 x2 x3 x4 v1 σ
set_option maxHeartbeats 4000000 in
theorem BX8_seenS_71 {l : Launch} {p : Program} {e : Env} {s : State} {m : MethodId} {args : Array Value} {below : List Frame} {meth : Method} {c : Code} {E : xx_E} {F : Nat → Int32 → Int32 → XS → (Int32 → XS → Prop) → Prop} {Q : Int32 → XS → Prop} {K8 : Nat → Int32 → Int32 → Int32 → Int32 → Int32 → XS → Prop} (d : Nat) (hF : XF_seen l E F d) (cx : xx_X "StruckCounts$Some" cX8_seen 6 (some .int) E p s m args meth c) (hK8 : ∀ (th : Nat) (x1 : Int32) (x2 : Int32) (x3 : Int32) (x4 : Int32) (x5 : Int32) (σ : XS), K8 th x1 x2 x3 x4 x5 σ → x_T p l e ({ frames := (8 + 4 * d), cells := 0, slots := 0, locals := 40 * (8 + 4 * d) } : Room) s m args below meth c E (va_Qi Q (fun σ' t => xW E σ' t) (xA E)) 0 0 6 8 0 0 σ [(0, xv E (some th)), (1, .int x1), (2, .int x2), (3, .int x3), (4, .int x4), (5, .int x5)] []) : ∀ (th : Nat) (x1 : Int32) (x2 : Int32) (x3 : Int32) (x4 : Int32) (x5 : Int32) (σ : XS), wX8_seenS_71 F Q K8 th x1 x2 x3 x4 x5 σ → x_T p l e ({ frames := (8 + 4 * d), cells := 0, slots := 0, locals := 40 * (8 + 4 * d) } : Room) s m args below meth c E (va_Qi Q (fun σ' t => xW E σ' t) (xA E)) 0 0 6 71 0 0 σ [(0, xv E (some th)), (1, .int x1), (2, .int x2), (3, .int x3), (4, .int x4), (5, .int x5)] [] := by
  intro th x1 x2 x3 x4 x5 σ hw H locs ls cells slots hR hS hl hcb hsb
  unfold wX8_seenS_71 at hw
  obtain ⟨hx, hb, hml, hown, hts, hrt, hlk, hMK, hZ⟩ := id cx
  obtain ⟨v1, hv1⟩ : ∃ v : Int32, v = x5 + (1 : Int32) := ⟨_, rfl⟩
  have hw := hw v1 hv1
  refine lv_iinc (v := v1) (lv' := [(5, .int v1), (0, xv E (some th)), (1, .int x1), (2, .int x2), (3, .int x3), (4, .int x4)]) hx hb dX8_seen_71 hl (k := 5) rfl (by rw [hv1]; rfl) (by decide) rfl (fun ls hl => ?_)
  refine lv_goto (tgt := 8) hx hb dX8_seen_74 (by decide) ?_
  exact hK8 _ _ _ _ _ _ _ hw _ _ _ _ _ hR hS (lv_sub hl [1, 2, 3, 4, 5, 0] rfl) hcb hsb
def wX8_seenS_46 (F : Nat → Int32 → Int32 → XS → (Int32 → XS → Prop) → Prop) (Q : Int32 → XS → Prop) (K8 : Nat → Int32 → Int32 → Int32 → Int32 → Int32 → XS → Prop) (th : Nat) (x1 : Int32) (x2 : Int32) (x3 : Int32) (x4 : Int32) (x5 : Int32) (σ : XS) : Prop :=
  kd σ th = 8 ∧ (oc σ (fr σ th 0) 16 (fun a4 => wJ7_get a4 x5 σ (fun r3 s3 => xck [10, 7, 8, 9, 11] s3 r3 ∧ (oe r3 (fun a6 => [10, 7, 8, 9, 11].contains (kd s3 a6) = true ∧ (wX15_mayBeSeen F a6 x1 x2 s3 (fun r5 s5 => if r5 = 0 then (wX8_seenS_71 F Q K8 th x1 x2 x3 x4 x5 s5) else (∀ v7 : Int32, v7 = x4 + (1 : Int32) → wX8_seenS_71 F Q K8 th x1 x2 x3 v7 x5 s5))))))))
set_option maxHeartbeats 4000000 in
theorem BX8_seenS_46 {l : Launch} {p : Program} {e : Env} {s : State} {m : MethodId} {args : Array Value} {below : List Frame} {meth : Method} {c : Code} {E : xx_E} {F : Nat → Int32 → Int32 → XS → (Int32 → XS → Prop) → Prop} {Q : Int32 → XS → Prop} {K8 : Nat → Int32 → Int32 → Int32 → Int32 → Int32 → XS → Prop} (d : Nat) (hF : XF_seen l E F d) (cx : xx_X "StruckCounts$Some" cX8_seen 6 (some .int) E p s m args meth c) (hK8 : ∀ (th : Nat) (x1 : Int32) (x2 : Int32) (x3 : Int32) (x4 : Int32) (x5 : Int32) (σ : XS), K8 th x1 x2 x3 x4 x5 σ → x_T p l e ({ frames := (8 + 4 * d), cells := 0, slots := 0, locals := 40 * (8 + 4 * d) } : Room) s m args below meth c E (va_Qi Q (fun σ' t => xW E σ' t) (xA E)) 0 0 6 8 0 0 σ [(0, xv E (some th)), (1, .int x1), (2, .int x2), (3, .int x3), (4, .int x4), (5, .int x5)] []) : ∀ (th : Nat) (x1 : Int32) (x2 : Int32) (x3 : Int32) (x4 : Int32) (x5 : Int32) (σ : XS), wX8_seenS_46 F Q K8 th x1 x2 x3 x4 x5 σ → x_T p l e ({ frames := (8 + 4 * d), cells := 0, slots := 0, locals := 40 * (8 + 4 * d) } : Room) s m args below meth c E (va_Qi Q (fun σ' t => xW E σ' t) (xA E)) 0 0 6 46 0 0 σ [(0, xv E (some th)), (1, .int x1), (2, .int x2), (3, .int x3), (4, .int x4), (5, .int x5)] [] := by
  intro th x1 x2 x3 x4 x5 σ hw H locs ls cells slots hR hS hl hcb hsb
  unfold wX8_seenS_46 at hw
  obtain ⟨hx, hb, hml, hown, hts, hrt, hlk, hMK, hZ⟩ := id cx
  refine x_aload_n cx dX8_seen_46 rfl (lv_at hl 0 rfl) ?_
  obtain ⟨hk2, hw⟩ := hw
  refine xg_X8_9_8 cx hR rfl hk2 dX8_seen_47 ?_
  refine lv_iload hx hb dX8_seen_50 (lv_at hl 5 rfl) ?_
  obtain ⟨a4, hr4, hk4, hw⟩ := hw
  refine CJ7_get_X8_21 cx hR hS hr4 hk4 hw (by constructor <;> dsimp only <;> omega) (Nat.le_of_ble_eq_true rfl) hl.1 ⟨by dsimp only; omega, by dsimp only; omega⟩ dX8_seen_52 (fun r3 s3 H locs hw hR hS => ?_)
  obtain ⟨hv, hw⟩ := hw
  refine x_cast cx hR q421 (xcc_0 hv) dX8_seen_55 ?_
  refine lv_iload_n hx hb dX8_seen_58 rfl (lv_at hl 1 rfl) ?_
  refine lv_iload_n hx hb dX8_seen_59 rfl (lv_at hl 2 rfl) ?_
  obtain ⟨a6, hr6, hw⟩ := hw
  obtain ⟨hkk, hw⟩ := hw
  refine CE_mayBeSeen_X8_38F d hF hkk cx hR hS hr6 hw (by constructor <;> dsimp only <;> omega) (Nat.le_of_ble_eq_true rfl) hl.1 ⟨by dsimp only; omega, by dsimp only; omega⟩ dX8_seen_60 (fun r5 s5 H locs hw hR hS => ?_)
  refine lv_if_eq (tgt := 71) hx hb dX8_seen_65 (by decide) (fun hc => ?_) (fun hc => ?_)
  · have hw := mm_ip hc hw
    exact BX8_seenS_71 d hF cx hK8 _ _ _ _ _ _ _ hw _ _ _ _ _ hR hS (lv_sub hl [0, 1, 2, 3, 4, 5] rfl) hcb hsb
  · have hw := mm_in hc hw
    obtain ⟨v7, hv7⟩ : ∃ v : Int32, v = x4 + (1 : Int32) := ⟨_, rfl⟩
    have hw := hw v7 hv7
    refine lv_iinc (v := v7) (lv' := [(4, .int v7), (0, xv E (some th)), (1, .int x1), (2, .int x2), (3, .int x3), (5, .int x5)]) hx hb dX8_seen_68 hl (k := 4) rfl (by rw [hv7]; rfl) (by decide) rfl (fun ls hl => ?_)
    exact BX8_seenS_71 d hF cx hK8 _ _ _ _ _ _ _ hw _ _ _ _ _ hR hS (lv_sub hl [1, 2, 3, 4, 0, 5] rfl) hcb hsb
def wX8_seenS_8 (F : Nat → Int32 → Int32 → XS → (Int32 → XS → Prop) → Prop) (Q : Int32 → XS → Prop) (K8 : Nat → Int32 → Int32 → Int32 → Int32 → Int32 → XS → Prop) (th : Nat) (x1 : Int32) (x2 : Int32) (x3 : Int32) (x4 : Int32) (x5 : Int32) (σ : XS) : Prop :=
  kd σ th = 8 ∧ (oc σ (fr σ th 0) 16 (fun a10 => wJ7_size a10 σ (fun r9 s9 => if r9 ≤ x5 then (kd s9 th = 8 ∧ (wX8_dueS th s9 (fun r11 s11 => if x3 < r11 then (kd s11 th = 8 ∧ (wX8_dueS th s11 (fun r13 s13 => if r13 ≤ x4 then (Q (2 : Int32) s13) else (Q (0 : Int32) s13)))) else (Q (1 : Int32) s11)))) else (kd s9 th = 8 ∧ (oc s9 (fr s9 th 0) 16 (fun a17 => wJ7_get a17 x5 s9 (fun r16 s16 => xck [10, 7, 8, 9, 11] s16 r16 ∧ (oe r16 (fun a19 => F a19 x1 x2 s16 (fun r18 s18 => if r18 = (1 : Int32) then (∀ v20 : Int32, v20 = x3 + (1 : Int32) → wX8_seenS_46 F Q K8 th x1 x2 v20 x4 x5 s18) else (wX8_seenS_46 F Q K8 th x1 x2 x3 x4 x5 s18)))))))))))
set_option maxHeartbeats 4000000 in
theorem BX8_seenS_8 {l : Launch} {p : Program} {e : Env} {s : State} {m : MethodId} {args : Array Value} {below : List Frame} {meth : Method} {c : Code} {E : xx_E} {F : Nat → Int32 → Int32 → XS → (Int32 → XS → Prop) → Prop} {Q : Int32 → XS → Prop} {K8 : Nat → Int32 → Int32 → Int32 → Int32 → Int32 → XS → Prop} (d : Nat) (hF : XF_seen l E F d) (cx : xx_X "StruckCounts$Some" cX8_seen 6 (some .int) E p s m args meth c) (hK8 : ∀ (th : Nat) (x1 : Int32) (x2 : Int32) (x3 : Int32) (x4 : Int32) (x5 : Int32) (σ : XS), K8 th x1 x2 x3 x4 x5 σ → x_T p l e ({ frames := (8 + 4 * d), cells := 0, slots := 0, locals := 40 * (8 + 4 * d) } : Room) s m args below meth c E (va_Qi Q (fun σ' t => xW E σ' t) (xA E)) 0 0 6 8 0 0 σ [(0, xv E (some th)), (1, .int x1), (2, .int x2), (3, .int x3), (4, .int x4), (5, .int x5)] []) : ∀ (th : Nat) (x1 : Int32) (x2 : Int32) (x3 : Int32) (x4 : Int32) (x5 : Int32) (σ : XS), wX8_seenS_8 F Q K8 th x1 x2 x3 x4 x5 σ → x_T p l e ({ frames := (8 + 4 * d), cells := 0, slots := 0, locals := 40 * (8 + 4 * d) } : Room) s m args below meth c E (va_Qi Q (fun σ' t => xW E σ' t) (xA E)) 0 0 6 8 0 0 σ [(0, xv E (some th)), (1, .int x1), (2, .int x2), (3, .int x3), (4, .int x4), (5, .int x5)] [] := by
  intro th x1 x2 x3 x4 x5 σ hw H locs ls cells slots hR hS hl hcb hsb
  unfold wX8_seenS_8 at hw
  obtain ⟨hx, hb, hml, hown, hts, hrt, hlk, hMK, hZ⟩ := id cx
  refine lv_iload hx hb dX8_seen_8 (lv_at hl 5 rfl) ?_
  refine x_aload_n cx dX8_seen_10 rfl (lv_at hl 0 rfl) ?_
  obtain ⟨hk8, hw⟩ := hw
  refine xg_X8_9_8 cx hR rfl hk8 dX8_seen_11 ?_
  obtain ⟨a10, hr10, hk10, hw⟩ := hw
  refine CJ7_size_X8_15 cx hR hS hr10 hk10 hw (by constructor <;> dsimp only <;> omega) (Nat.le_of_ble_eq_true rfl) hl.1 ⟨by dsimp only; omega, by dsimp only; omega⟩ dX8_seen_14 (fun r9 s9 H locs hw hR hS => ?_)
  refine lv_icmp_ge (tgt := 77) hx hb dX8_seen_17 (by decide) (fun hc => ?_) (fun hc => ?_)
  · have hw := mm_ip hc hw
    refine lv_iload_n hx hb dX8_seen_77 rfl (lv_at hl 3 rfl) ?_
    refine x_aload_n cx dX8_seen_78 rfl (lv_at hl 0 rfl) ?_
    obtain ⟨hk12, hw⟩ := hw
    refine CX8_dueS_X8_31 cx hR hS rfl hk12 hw (by constructor <;> dsimp only <;> omega) (Nat.le_of_ble_eq_true rfl) hl.1 ⟨by dsimp only; omega, by dsimp only; omega⟩ dX8_seen_79 (fun r11 s11 H locs hw hR hS => ?_)
    refine lv_icmp_lt (tgt := 89) hx hb dX8_seen_82 (by decide) (fun hc => ?_) (fun hc => ?_)
    · have hw := mm_ip hc hw
      refine lv_iload hx hb dX8_seen_89 (lv_at hl 4 rfl) ?_
      refine x_aload_n cx dX8_seen_91 rfl (lv_at hl 0 rfl) ?_
      obtain ⟨hk14, hw⟩ := hw
      refine CX8_dueS_X8_31 cx hR hS rfl hk14 hw (by constructor <;> dsimp only <;> omega) (Nat.le_of_ble_eq_true rfl) hl.1 ⟨by dsimp only; omega, by dsimp only; omega⟩ dX8_seen_92 (fun r13 s13 H locs hw hR hS => ?_)
      refine lv_icmp_ge (tgt := 102) hx hb dX8_seen_95 (by decide) (fun hc => ?_) (fun hc => ?_)
      · have hw := mm_ip hc hw
        refine lv_iconst (v := (2 : Int32)) hx hb dX8_seen_102 (by decide) ?_
        exact x_iret cx hR hS (xle hcb) (xle hsb) hw dX8_seen_103
      · have hw := mm_in hc hw
        refine lv_iconst (v := (0 : Int32)) hx hb dX8_seen_98 (by decide) ?_
        refine lv_goto (tgt := 103) hx hb dX8_seen_99 (by decide) ?_
        exact x_iret cx hR hS (xle hcb) (xle hsb) hw dX8_seen_103
    · have hw := mm_in hc hw
      refine lv_iconst (v := (1 : Int32)) hx hb dX8_seen_85 (by decide) ?_
      refine lv_goto (tgt := 103) hx hb dX8_seen_86 (by decide) ?_
      exact x_iret cx hR hS (xle hcb) (xle hsb) hw dX8_seen_103
  · have hw := mm_in hc hw
    refine x_aload_n cx dX8_seen_20 rfl (lv_at hl 0 rfl) ?_
    obtain ⟨hk15, hw⟩ := hw
    refine xg_X8_9_8 cx hR rfl hk15 dX8_seen_21 ?_
    refine lv_iload hx hb dX8_seen_24 (lv_at hl 5 rfl) ?_
    obtain ⟨a17, hr17, hk17, hw⟩ := hw
    refine CJ7_get_X8_21 cx hR hS hr17 hk17 hw (by constructor <;> dsimp only <;> omega) (Nat.le_of_ble_eq_true rfl) hl.1 ⟨by dsimp only; omega, by dsimp only; omega⟩ dX8_seen_26 (fun r16 s16 H locs hw hR hS => ?_)
    obtain ⟨hv, hw⟩ := hw
    refine x_cast cx hR q421 (xcc_0 hv) dX8_seen_29 ?_
    refine lv_iload_n hx hb dX8_seen_32 rfl (lv_at hl 1 rfl) ?_
    refine lv_iload_n hx hb dX8_seen_33 rfl (lv_at hl 2 rfl) ?_
    obtain ⟨a19, hr19, hw⟩ := hw
    refine CE_seen_X8_34F d hF cx hR hS hr19 hw (by constructor <;> dsimp only <;> omega) (Nat.le_of_ble_eq_true rfl) hl.1 ⟨by dsimp only; omega, by dsimp only; omega⟩ dX8_seen_34 (fun r18 s18 H locs hw hR hS => ?_)
    refine lv_iconst (v := (1 : Int32)) hx hb dX8_seen_39 (by decide) ?_
    refine lv_icmp_ne (tgt := 46) hx hb dX8_seen_40 (by decide) (fun hc => ?_) (fun hc => ?_)
    · have hw := mm_in hc hw
      exact BX8_seenS_46 d hF cx hK8 _ _ _ _ _ _ _ hw _ _ _ _ _ hR hS (lv_sub hl [0, 1, 2, 3, 4, 5] rfl) hcb hsb
    · have hw := mm_ip hc hw
      obtain ⟨v20, hv20⟩ : ∃ v : Int32, v = x3 + (1 : Int32) := ⟨_, rfl⟩
      have hw := hw v20 hv20
      refine lv_iinc (v := v20) (lv' := [(3, .int v20), (0, xv E (some th)), (1, .int x1), (2, .int x2), (4, .int x4), (5, .int x5)]) hx hb dX8_seen_43 hl (k := 3) rfl (by rw [hv20]; rfl) (by decide) rfl (fun ls hl => ?_)
      exact BX8_seenS_46 d hF cx hK8 _ _ _ _ _ _ _ hw _ _ _ _ _ hR hS (lv_sub hl [1, 2, 3, 0, 4, 5] rfl) hcb hsb
theorem LX8_seenS_8 {l : Launch} {p : Program} {e : Env} {s : State} {m : MethodId} {args : Array Value} {below : List Frame} {meth : Method} {c : Code} {E : xx_E} {F : Nat → Int32 → Int32 → XS → (Int32 → XS → Prop) → Prop} {Q : Int32 → XS → Prop} (d : Nat) (hF : XF_seen l E F d) (cx : xx_X "StruckCounts$Some" cX8_seen 6 (some .int) E p s m args meth c) : ∀ (th : Nat) (x1 : Int32) (x2 : Int32) (x3 : Int32) (x4 : Int32) (x5 : Int32) (σ : XS), lp7F (wX8_seenS_8 F Q) th x1 x2 x3 x4 x5 σ → x_T p l e ({ frames := (8 + 4 * d), cells := 0, slots := 0, locals := 40 * (8 + 4 * d) } : Room) s m args below meth c E (va_Qi Q (fun σ' t => xW E σ' t) (xA E)) 0 0 6 8 0 0 σ [(0, xv E (some th)), (1, .int x1), (2, .int x2), (3, .int x3), (4, .int x4), (5, .int x5)] [] :=
  lp7F_of (fun K hK => BX8_seenS_8 d hF cx hK)
def wX8_seenS (F : Nat → Int32 → Int32 → XS → (Int32 → XS → Prop) → Prop) (th : Nat) (x1 : Int32) (x2 : Int32) (σ : XS) (Q : Int32 → XS → Prop) : Prop :=
  lp7F (wX8_seenS_8 F Q) th x1 x2 (0 : Int32) (0 : Int32) (0 : Int32) σ
set_option maxHeartbeats 4000000 in
theorem MX8_seenS (l : Launch) (E : xx_E) {F : Nat → Int32 → Int32 → XS → (Int32 → XS → Prop) → Prop} (d : Nat) (hF : XF_seen l E F d) (th : Nat) (x1 : Int32) (x2 : Int32) (σ : XS) (Q : Int32 → XS → Prop) (hw : wX8_seenS F th x1 x2 σ Q) : xx_Mi l yX8_seen (ws_ yX8_seen cX8_seen 6 (some .int)) ({ frames := (8 + 4 * d), cells := 0, slots := 0, locals := 40 * (8 + 4 * d) } : Room) E [xv E (some th), .int x1, .int x2] σ Q 0 0 := by
  refine x_of (own := "StruckCounts$Some") (by decide +kernel) rfl ?_
  intro p e s m args below meth c cx hR ha hnm
  refine x_entry [xv E (some th), .int x1, .int x2] 6 [(0, xv E (some th)), (1, .int x1), (2, .int x2)] ha (by simp [lg_sl, xv_cat, vc_i, vc_j, vc_f]) (by simp [lv_args, xv_cat, vc_i, vc_j, vc_f]) (fun ls hl => ?_)
  have hS : va_S (xA E) s.heap s.heap [] := va_S.rf
  have hcb : 0 + 0 ≤ 0 := Nat.le_of_eq (Nat.zero_add _)
  have hsb : 0 + 0 ≤ 0 := Nat.le_of_eq (Nat.zero_add _)
  unfold wX8_seenS at hw
  obtain ⟨hx, hb, hml, hown, hts, hrt, hlk, hMK, hZ⟩ := id cx
  refine lv_iconst (v := (0 : Int32)) hx hb dX8_seen_0 (by decide) ?_
  refine lv_istore_n (i := 3) (lv' := [(3, .int (0 : Int32)), (0, xv E (some th)), (1, .int x1), (2, .int x2)]) hx hb dX8_seen_1 rfl hl (by decide) rfl (fun ls hl => ?_)
  refine lv_iconst (v := (0 : Int32)) hx hb dX8_seen_2 (by decide) ?_
  refine lv_istore (i := 4) (lv' := [(4, .int (0 : Int32)), (3, .int (0 : Int32)), (0, xv E (some th)), (1, .int x1), (2, .int x2)]) hx hb dX8_seen_3 hl (by decide) rfl (fun ls hl => ?_)
  refine lv_iconst (v := (0 : Int32)) hx hb dX8_seen_5 (by decide) ?_
  refine lv_istore (i := 5) (lv' := [(5, .int (0 : Int32)), (4, .int (0 : Int32)), (3, .int (0 : Int32)), (0, xv E (some th)), (1, .int x1), (2, .int x2)]) hx hb dX8_seen_6 hl (by decide) rfl (fun ls hl => ?_)
  exact LX8_seenS_8 d hF cx _ _ _ _ _ _ _ hw _ _ _ _ _ hR hS (lv_sub hl [3, 4, 5, 2, 1, 0] rfl) hcb hsb
-- X8_seenM
def wX8_seenM_71 (F : Nat → Int32 → Int32 → XS → (Int32 → XS → Prop) → Prop) (Q : Int32 → XS → Prop) (K8 : Nat → Int32 → Int32 → Int32 → Int32 → Int32 → XS → Prop) (th : Nat) (x1 : Int32) (x2 : Int32) (x3 : Int32) (x4 : Int32) (x5 : Int32) (σ : XS) : Prop :=
  ∀ v1 : Int32, v1 = x5 + (1 : Int32) → K8 th x1 x2 x3 x4 v1 σ
set_option maxHeartbeats 4000000 in
theorem BX8_seenM_71 {l : Launch} {p : Program} {e : Env} {s : State} {m : MethodId} {args : Array Value} {below : List Frame} {meth : Method} {c : Code} {E : xx_E} {F : Nat → Int32 → Int32 → XS → (Int32 → XS → Prop) → Prop} {Q : Int32 → XS → Prop} {K8 : Nat → Int32 → Int32 → Int32 → Int32 → Int32 → XS → Prop} (d : Nat) (hF : XF_seen l E F d) (cx : xx_X "StruckCounts$Some" cX8_seen 6 (some .int) E p s m args meth c) (hK8 : ∀ (th : Nat) (x1 : Int32) (x2 : Int32) (x3 : Int32) (x4 : Int32) (x5 : Int32) (σ : XS), K8 th x1 x2 x3 x4 x5 σ → x_T p l e ({ frames := (8 + 4 * d), cells := 0, slots := 0, locals := 40 * (8 + 4 * d) } : Room) s m args below meth c E (va_Qi Q (fun σ' t => xW E σ' t) (xA E)) 0 0 6 8 0 0 σ [(0, xv E (some th)), (1, .int x1), (2, .int x2), (3, .int x3), (4, .int x4), (5, .int x5)] []) : ∀ (th : Nat) (x1 : Int32) (x2 : Int32) (x3 : Int32) (x4 : Int32) (x5 : Int32) (σ : XS), wX8_seenM_71 F Q K8 th x1 x2 x3 x4 x5 σ → x_T p l e ({ frames := (8 + 4 * d), cells := 0, slots := 0, locals := 40 * (8 + 4 * d) } : Room) s m args below meth c E (va_Qi Q (fun σ' t => xW E σ' t) (xA E)) 0 0 6 71 0 0 σ [(0, xv E (some th)), (1, .int x1), (2, .int x2), (3, .int x3), (4, .int x4), (5, .int x5)] [] := by
  intro th x1 x2 x3 x4 x5 σ hw H locs ls cells slots hR hS hl hcb hsb
  unfold wX8_seenM_71 at hw
  obtain ⟨hx, hb, hml, hown, hts, hrt, hlk, hMK, hZ⟩ := id cx
  obtain ⟨v1, hv1⟩ : ∃ v : Int32, v = x5 + (1 : Int32) := ⟨_, rfl⟩
  have hw := hw v1 hv1
  refine lv_iinc (v := v1) (lv' := [(5, .int v1), (0, xv E (some th)), (1, .int x1), (2, .int x2), (3, .int x3), (4, .int x4)]) hx hb dX8_seen_71 hl (k := 5) rfl (by rw [hv1]; rfl) (by decide) rfl (fun ls hl => ?_)
  refine lv_goto (tgt := 8) hx hb dX8_seen_74 (by decide) ?_
  exact hK8 _ _ _ _ _ _ _ hw _ _ _ _ _ hR hS (lv_sub hl [1, 2, 3, 4, 5, 0] rfl) hcb hsb
def wX8_seenM_46 (F : Nat → Int32 → Int32 → XS → (Int32 → XS → Prop) → Prop) (Q : Int32 → XS → Prop) (K8 : Nat → Int32 → Int32 → Int32 → Int32 → Int32 → XS → Prop) (th : Nat) (x1 : Int32) (x2 : Int32) (x3 : Int32) (x4 : Int32) (x5 : Int32) (σ : XS) : Prop :=
  kd σ th = 9 ∧ (oc σ (fr σ th 0) 16 (fun a4 => wJ7_get a4 x5 σ (fun r3 s3 => xck [10, 7, 8, 9, 11] s3 r3 ∧ (oe r3 (fun a6 => [10, 7, 8, 9, 11].contains (kd s3 a6) = true ∧ (wX15_mayBeSeen F a6 x1 x2 s3 (fun r5 s5 => if r5 = 0 then (wX8_seenM_71 F Q K8 th x1 x2 x3 x4 x5 s5) else (∀ v7 : Int32, v7 = x4 + (1 : Int32) → wX8_seenM_71 F Q K8 th x1 x2 x3 v7 x5 s5))))))))
set_option maxHeartbeats 4000000 in
theorem BX8_seenM_46 {l : Launch} {p : Program} {e : Env} {s : State} {m : MethodId} {args : Array Value} {below : List Frame} {meth : Method} {c : Code} {E : xx_E} {F : Nat → Int32 → Int32 → XS → (Int32 → XS → Prop) → Prop} {Q : Int32 → XS → Prop} {K8 : Nat → Int32 → Int32 → Int32 → Int32 → Int32 → XS → Prop} (d : Nat) (hF : XF_seen l E F d) (cx : xx_X "StruckCounts$Some" cX8_seen 6 (some .int) E p s m args meth c) (hK8 : ∀ (th : Nat) (x1 : Int32) (x2 : Int32) (x3 : Int32) (x4 : Int32) (x5 : Int32) (σ : XS), K8 th x1 x2 x3 x4 x5 σ → x_T p l e ({ frames := (8 + 4 * d), cells := 0, slots := 0, locals := 40 * (8 + 4 * d) } : Room) s m args below meth c E (va_Qi Q (fun σ' t => xW E σ' t) (xA E)) 0 0 6 8 0 0 σ [(0, xv E (some th)), (1, .int x1), (2, .int x2), (3, .int x3), (4, .int x4), (5, .int x5)] []) : ∀ (th : Nat) (x1 : Int32) (x2 : Int32) (x3 : Int32) (x4 : Int32) (x5 : Int32) (σ : XS), wX8_seenM_46 F Q K8 th x1 x2 x3 x4 x5 σ → x_T p l e ({ frames := (8 + 4 * d), cells := 0, slots := 0, locals := 40 * (8 + 4 * d) } : Room) s m args below meth c E (va_Qi Q (fun σ' t => xW E σ' t) (xA E)) 0 0 6 46 0 0 σ [(0, xv E (some th)), (1, .int x1), (2, .int x2), (3, .int x3), (4, .int x4), (5, .int x5)] [] := by
  intro th x1 x2 x3 x4 x5 σ hw H locs ls cells slots hR hS hl hcb hsb
  unfold wX8_seenM_46 at hw
  obtain ⟨hx, hb, hml, hown, hts, hrt, hlk, hMK, hZ⟩ := id cx
  refine x_aload_n cx dX8_seen_46 rfl (lv_at hl 0 rfl) ?_
  obtain ⟨hk2, hw⟩ := hw
  refine xg_X8_9_9 cx hR rfl hk2 dX8_seen_47 ?_
  refine lv_iload hx hb dX8_seen_50 (lv_at hl 5 rfl) ?_
  obtain ⟨a4, hr4, hk4, hw⟩ := hw
  refine CJ7_get_X8_21 cx hR hS hr4 hk4 hw (by constructor <;> dsimp only <;> omega) (Nat.le_of_ble_eq_true rfl) hl.1 ⟨by dsimp only; omega, by dsimp only; omega⟩ dX8_seen_52 (fun r3 s3 H locs hw hR hS => ?_)
  obtain ⟨hv, hw⟩ := hw
  refine x_cast cx hR q421 (xcc_0 hv) dX8_seen_55 ?_
  refine lv_iload_n hx hb dX8_seen_58 rfl (lv_at hl 1 rfl) ?_
  refine lv_iload_n hx hb dX8_seen_59 rfl (lv_at hl 2 rfl) ?_
  obtain ⟨a6, hr6, hw⟩ := hw
  obtain ⟨hkk, hw⟩ := hw
  refine CE_mayBeSeen_X8_38F d hF hkk cx hR hS hr6 hw (by constructor <;> dsimp only <;> omega) (Nat.le_of_ble_eq_true rfl) hl.1 ⟨by dsimp only; omega, by dsimp only; omega⟩ dX8_seen_60 (fun r5 s5 H locs hw hR hS => ?_)
  refine lv_if_eq (tgt := 71) hx hb dX8_seen_65 (by decide) (fun hc => ?_) (fun hc => ?_)
  · have hw := mm_ip hc hw
    exact BX8_seenM_71 d hF cx hK8 _ _ _ _ _ _ _ hw _ _ _ _ _ hR hS (lv_sub hl [0, 1, 2, 3, 4, 5] rfl) hcb hsb
  · have hw := mm_in hc hw
    obtain ⟨v7, hv7⟩ : ∃ v : Int32, v = x4 + (1 : Int32) := ⟨_, rfl⟩
    have hw := hw v7 hv7
    refine lv_iinc (v := v7) (lv' := [(4, .int v7), (0, xv E (some th)), (1, .int x1), (2, .int x2), (3, .int x3), (5, .int x5)]) hx hb dX8_seen_68 hl (k := 4) rfl (by rw [hv7]; rfl) (by decide) rfl (fun ls hl => ?_)
    exact BX8_seenM_71 d hF cx hK8 _ _ _ _ _ _ _ hw _ _ _ _ _ hR hS (lv_sub hl [1, 2, 3, 4, 0, 5] rfl) hcb hsb
def wX8_seenM_8 (F : Nat → Int32 → Int32 → XS → (Int32 → XS → Prop) → Prop) (Q : Int32 → XS → Prop) (K8 : Nat → Int32 → Int32 → Int32 → Int32 → Int32 → XS → Prop) (th : Nat) (x1 : Int32) (x2 : Int32) (x3 : Int32) (x4 : Int32) (x5 : Int32) (σ : XS) : Prop :=
  kd σ th = 9 ∧ (oc σ (fr σ th 0) 16 (fun a10 => wJ7_size a10 σ (fun r9 s9 => if r9 ≤ x5 then (kd s9 th = 9 ∧ (wX9_due th s9 (fun r11 s11 => if x3 < r11 then (kd s11 th = 9 ∧ (wX9_due th s11 (fun r13 s13 => if r13 ≤ x4 then (Q (2 : Int32) s13) else (Q (0 : Int32) s13)))) else (Q (1 : Int32) s11)))) else (kd s9 th = 9 ∧ (oc s9 (fr s9 th 0) 16 (fun a17 => wJ7_get a17 x5 s9 (fun r16 s16 => xck [10, 7, 8, 9, 11] s16 r16 ∧ (oe r16 (fun a19 => F a19 x1 x2 s16 (fun r18 s18 => if r18 = (1 : Int32) then (∀ v20 : Int32, v20 = x3 + (1 : Int32) → wX8_seenM_46 F Q K8 th x1 x2 v20 x4 x5 s18) else (wX8_seenM_46 F Q K8 th x1 x2 x3 x4 x5 s18)))))))))))
set_option maxHeartbeats 4000000 in
theorem BX8_seenM_8 {l : Launch} {p : Program} {e : Env} {s : State} {m : MethodId} {args : Array Value} {below : List Frame} {meth : Method} {c : Code} {E : xx_E} {F : Nat → Int32 → Int32 → XS → (Int32 → XS → Prop) → Prop} {Q : Int32 → XS → Prop} {K8 : Nat → Int32 → Int32 → Int32 → Int32 → Int32 → XS → Prop} (d : Nat) (hF : XF_seen l E F d) (cx : xx_X "StruckCounts$Some" cX8_seen 6 (some .int) E p s m args meth c) (hK8 : ∀ (th : Nat) (x1 : Int32) (x2 : Int32) (x3 : Int32) (x4 : Int32) (x5 : Int32) (σ : XS), K8 th x1 x2 x3 x4 x5 σ → x_T p l e ({ frames := (8 + 4 * d), cells := 0, slots := 0, locals := 40 * (8 + 4 * d) } : Room) s m args below meth c E (va_Qi Q (fun σ' t => xW E σ' t) (xA E)) 0 0 6 8 0 0 σ [(0, xv E (some th)), (1, .int x1), (2, .int x2), (3, .int x3), (4, .int x4), (5, .int x5)] []) : ∀ (th : Nat) (x1 : Int32) (x2 : Int32) (x3 : Int32) (x4 : Int32) (x5 : Int32) (σ : XS), wX8_seenM_8 F Q K8 th x1 x2 x3 x4 x5 σ → x_T p l e ({ frames := (8 + 4 * d), cells := 0, slots := 0, locals := 40 * (8 + 4 * d) } : Room) s m args below meth c E (va_Qi Q (fun σ' t => xW E σ' t) (xA E)) 0 0 6 8 0 0 σ [(0, xv E (some th)), (1, .int x1), (2, .int x2), (3, .int x3), (4, .int x4), (5, .int x5)] [] := by
  intro th x1 x2 x3 x4 x5 σ hw H locs ls cells slots hR hS hl hcb hsb
  unfold wX8_seenM_8 at hw
  obtain ⟨hx, hb, hml, hown, hts, hrt, hlk, hMK, hZ⟩ := id cx
  refine lv_iload hx hb dX8_seen_8 (lv_at hl 5 rfl) ?_
  refine x_aload_n cx dX8_seen_10 rfl (lv_at hl 0 rfl) ?_
  obtain ⟨hk8, hw⟩ := hw
  refine xg_X8_9_9 cx hR rfl hk8 dX8_seen_11 ?_
  obtain ⟨a10, hr10, hk10, hw⟩ := hw
  refine CJ7_size_X8_15 cx hR hS hr10 hk10 hw (by constructor <;> dsimp only <;> omega) (Nat.le_of_ble_eq_true rfl) hl.1 ⟨by dsimp only; omega, by dsimp only; omega⟩ dX8_seen_14 (fun r9 s9 H locs hw hR hS => ?_)
  refine lv_icmp_ge (tgt := 77) hx hb dX8_seen_17 (by decide) (fun hc => ?_) (fun hc => ?_)
  · have hw := mm_ip hc hw
    refine lv_iload_n hx hb dX8_seen_77 rfl (lv_at hl 3 rfl) ?_
    refine x_aload_n cx dX8_seen_78 rfl (lv_at hl 0 rfl) ?_
    obtain ⟨hk12, hw⟩ := hw
    refine CX9_due_X8_31 cx hR hS rfl hk12 hw (by constructor <;> dsimp only <;> omega) (Nat.le_of_ble_eq_true rfl) hl.1 ⟨by dsimp only; omega, by dsimp only; omega⟩ dX8_seen_79 (fun r11 s11 H locs hw hR hS => ?_)
    refine lv_icmp_lt (tgt := 89) hx hb dX8_seen_82 (by decide) (fun hc => ?_) (fun hc => ?_)
    · have hw := mm_ip hc hw
      refine lv_iload hx hb dX8_seen_89 (lv_at hl 4 rfl) ?_
      refine x_aload_n cx dX8_seen_91 rfl (lv_at hl 0 rfl) ?_
      obtain ⟨hk14, hw⟩ := hw
      refine CX9_due_X8_31 cx hR hS rfl hk14 hw (by constructor <;> dsimp only <;> omega) (Nat.le_of_ble_eq_true rfl) hl.1 ⟨by dsimp only; omega, by dsimp only; omega⟩ dX8_seen_92 (fun r13 s13 H locs hw hR hS => ?_)
      refine lv_icmp_ge (tgt := 102) hx hb dX8_seen_95 (by decide) (fun hc => ?_) (fun hc => ?_)
      · have hw := mm_ip hc hw
        refine lv_iconst (v := (2 : Int32)) hx hb dX8_seen_102 (by decide) ?_
        exact x_iret cx hR hS (xle hcb) (xle hsb) hw dX8_seen_103
      · have hw := mm_in hc hw
        refine lv_iconst (v := (0 : Int32)) hx hb dX8_seen_98 (by decide) ?_
        refine lv_goto (tgt := 103) hx hb dX8_seen_99 (by decide) ?_
        exact x_iret cx hR hS (xle hcb) (xle hsb) hw dX8_seen_103
    · have hw := mm_in hc hw
      refine lv_iconst (v := (1 : Int32)) hx hb dX8_seen_85 (by decide) ?_
      refine lv_goto (tgt := 103) hx hb dX8_seen_86 (by decide) ?_
      exact x_iret cx hR hS (xle hcb) (xle hsb) hw dX8_seen_103
  · have hw := mm_in hc hw
    refine x_aload_n cx dX8_seen_20 rfl (lv_at hl 0 rfl) ?_
    obtain ⟨hk15, hw⟩ := hw
    refine xg_X8_9_9 cx hR rfl hk15 dX8_seen_21 ?_
    refine lv_iload hx hb dX8_seen_24 (lv_at hl 5 rfl) ?_
    obtain ⟨a17, hr17, hk17, hw⟩ := hw
    refine CJ7_get_X8_21 cx hR hS hr17 hk17 hw (by constructor <;> dsimp only <;> omega) (Nat.le_of_ble_eq_true rfl) hl.1 ⟨by dsimp only; omega, by dsimp only; omega⟩ dX8_seen_26 (fun r16 s16 H locs hw hR hS => ?_)
    obtain ⟨hv, hw⟩ := hw
    refine x_cast cx hR q421 (xcc_0 hv) dX8_seen_29 ?_
    refine lv_iload_n hx hb dX8_seen_32 rfl (lv_at hl 1 rfl) ?_
    refine lv_iload_n hx hb dX8_seen_33 rfl (lv_at hl 2 rfl) ?_
    obtain ⟨a19, hr19, hw⟩ := hw
    refine CE_seen_X8_34F d hF cx hR hS hr19 hw (by constructor <;> dsimp only <;> omega) (Nat.le_of_ble_eq_true rfl) hl.1 ⟨by dsimp only; omega, by dsimp only; omega⟩ dX8_seen_34 (fun r18 s18 H locs hw hR hS => ?_)
    refine lv_iconst (v := (1 : Int32)) hx hb dX8_seen_39 (by decide) ?_
    refine lv_icmp_ne (tgt := 46) hx hb dX8_seen_40 (by decide) (fun hc => ?_) (fun hc => ?_)
    · have hw := mm_in hc hw
      exact BX8_seenM_46 d hF cx hK8 _ _ _ _ _ _ _ hw _ _ _ _ _ hR hS (lv_sub hl [0, 1, 2, 3, 4, 5] rfl) hcb hsb
    · have hw := mm_ip hc hw
      obtain ⟨v20, hv20⟩ : ∃ v : Int32, v = x3 + (1 : Int32) := ⟨_, rfl⟩
      have hw := hw v20 hv20
      refine lv_iinc (v := v20) (lv' := [(3, .int v20), (0, xv E (some th)), (1, .int x1), (2, .int x2), (4, .int x4), (5, .int x5)]) hx hb dX8_seen_43 hl (k := 3) rfl (by rw [hv20]; rfl) (by decide) rfl (fun ls hl => ?_)
      exact BX8_seenM_46 d hF cx hK8 _ _ _ _ _ _ _ hw _ _ _ _ _ hR hS (lv_sub hl [1, 2, 3, 0, 4, 5] rfl) hcb hsb
theorem LX8_seenM_8 {l : Launch} {p : Program} {e : Env} {s : State} {m : MethodId} {args : Array Value} {below : List Frame} {meth : Method} {c : Code} {E : xx_E} {F : Nat → Int32 → Int32 → XS → (Int32 → XS → Prop) → Prop} {Q : Int32 → XS → Prop} (d : Nat) (hF : XF_seen l E F d) (cx : xx_X "StruckCounts$Some" cX8_seen 6 (some .int) E p s m args meth c) : ∀ (th : Nat) (x1 : Int32) (x2 : Int32) (x3 : Int32) (x4 : Int32) (x5 : Int32) (σ : XS), lp7F (wX8_seenM_8 F Q) th x1 x2 x3 x4 x5 σ → x_T p l e ({ frames := (8 + 4 * d), cells := 0, slots := 0, locals := 40 * (8 + 4 * d) } : Room) s m args below meth c E (va_Qi Q (fun σ' t => xW E σ' t) (xA E)) 0 0 6 8 0 0 σ [(0, xv E (some th)), (1, .int x1), (2, .int x2), (3, .int x3), (4, .int x4), (5, .int x5)] [] :=
  lp7F_of (fun K hK => BX8_seenM_8 d hF cx hK)
def wX8_seenM (F : Nat → Int32 → Int32 → XS → (Int32 → XS → Prop) → Prop) (th : Nat) (x1 : Int32) (x2 : Int32) (σ : XS) (Q : Int32 → XS → Prop) : Prop :=
  lp7F (wX8_seenM_8 F Q) th x1 x2 (0 : Int32) (0 : Int32) (0 : Int32) σ
set_option maxHeartbeats 4000000 in
theorem MX8_seenM (l : Launch) (E : xx_E) {F : Nat → Int32 → Int32 → XS → (Int32 → XS → Prop) → Prop} (d : Nat) (hF : XF_seen l E F d) (th : Nat) (x1 : Int32) (x2 : Int32) (σ : XS) (Q : Int32 → XS → Prop) (hw : wX8_seenM F th x1 x2 σ Q) : xx_Mi l yX8_seen (ws_ yX8_seen cX8_seen 6 (some .int)) ({ frames := (8 + 4 * d), cells := 0, slots := 0, locals := 40 * (8 + 4 * d) } : Room) E [xv E (some th), .int x1, .int x2] σ Q 0 0 := by
  refine x_of (own := "StruckCounts$Some") (by decide +kernel) rfl ?_
  intro p e s m args below meth c cx hR ha hnm
  refine x_entry [xv E (some th), .int x1, .int x2] 6 [(0, xv E (some th)), (1, .int x1), (2, .int x2)] ha (by simp [lg_sl, xv_cat, vc_i, vc_j, vc_f]) (by simp [lv_args, xv_cat, vc_i, vc_j, vc_f]) (fun ls hl => ?_)
  have hS : va_S (xA E) s.heap s.heap [] := va_S.rf
  have hcb : 0 + 0 ≤ 0 := Nat.le_of_eq (Nat.zero_add _)
  have hsb : 0 + 0 ≤ 0 := Nat.le_of_eq (Nat.zero_add _)
  unfold wX8_seenM at hw
  obtain ⟨hx, hb, hml, hown, hts, hrt, hlk, hMK, hZ⟩ := id cx
  refine lv_iconst (v := (0 : Int32)) hx hb dX8_seen_0 (by decide) ?_
  refine lv_istore_n (i := 3) (lv' := [(3, .int (0 : Int32)), (0, xv E (some th)), (1, .int x1), (2, .int x2)]) hx hb dX8_seen_1 rfl hl (by decide) rfl (fun ls hl => ?_)
  refine lv_iconst (v := (0 : Int32)) hx hb dX8_seen_2 (by decide) ?_
  refine lv_istore (i := 4) (lv' := [(4, .int (0 : Int32)), (3, .int (0 : Int32)), (0, xv E (some th)), (1, .int x1), (2, .int x2)]) hx hb dX8_seen_3 hl (by decide) rfl (fun ls hl => ?_)
  refine lv_iconst (v := (0 : Int32)) hx hb dX8_seen_5 (by decide) ?_
  refine lv_istore (i := 5) (lv' := [(5, .int (0 : Int32)), (4, .int (0 : Int32)), (3, .int (0 : Int32)), (0, xv E (some th)), (1, .int x1), (2, .int x2)]) hx hb dX8_seen_6 hl (by decide) rfl (fun ls hl => ?_)
  exact LX8_seenM_8 d hF cx _ _ _ _ _ _ _ hw _ _ _ _ _ hR hS (lv_sub hl [3, 4, 5, 2, 1, 0] rfl) hcb hsb
