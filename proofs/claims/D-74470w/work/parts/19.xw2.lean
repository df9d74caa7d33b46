set_option maxRecDepth 100000
-- X13_laid
theorem xg_X13_7_13 {l : Launch} {p : Program} {e : Env} {R : Room} {s : State} {m : MethodId} {args : Array Value} {below : List Frame} {meth : Method} {c : Code} {H : Heap} {locs : List Loc} {cells slots : Nat} {Qz : State → Prop} {cc : ByteArray} {nL : Nat} {ret : Option FieldType} {E : xx_E} {σ : XS} {pc : Nat} {ls : Array Slot} {rest : List Value} (cx : xx_X "StruckCounts$Rule" cc nL ret E p s m args meth c) (hR : xR E σ H) {a : Nat} {r : Option Nat} (hr : r = some a) (hk : kd σ a = 13) (hdg : decode cc pc = .ok (.getfield 7, 3)) (kk : W p l e R s m args below meth c H locs cells slots Qz (F0 m (pc + 3) ls (xv E (fr σ a 1) :: rest))) : W p l e R s m args below meth c H locs cells slots Qz (F0 m pc ls (xv E r :: rest)) :=
  x_get (ci := 12) cx hR hr hk (by decide) rfl in_X13 1 (by decide) q1843 (fun _ h => h) (v := xv E (fr σ a 1)) rfl hdg kk
theorem xg_X13_13_13 {l : Launch} {p : Program} {e : Env} {R : Room} {s : State} {m : MethodId} {args : Array Value} {below : List Frame} {meth : Method} {c : Code} {H : Heap} {locs : List Loc} {cells slots : Nat} {Qz : State → Prop} {cc : ByteArray} {nL : Nat} {ret : Option FieldType} {E : xx_E} {σ : XS} {pc : Nat} {ls : Array Slot} {rest : List Value} (cx : xx_X "StruckCounts$Rule" cc nL ret E p s m args meth c) (hR : xR E σ H) {a : Nat} {r : Option Nat} (hr : r = some a) (hk : kd σ a = 13) (hdg : decode cc pc = .ok (.getfield 13, 3)) (kk : W p l e R s m args below meth c H locs cells slots Qz (F0 m (pc + 3) ls (xv E (fr σ a 0) :: rest))) : W p l e R s m args below meth c H locs cells slots Qz (F0 m pc ls (xv E r :: rest)) :=
  x_get (ci := 12) cx hR hr hk (by decide) rfl in_X13 0 (by decide) q1841 (fun _ h => h) (v := xv E (fr σ a 0)) rfl hdg kk
theorem xp_X13_7_13 {l : Launch} {p : Program} {e : Env} {R : Room} {s : State} {m : MethodId} {args : Array Value} {below : List Frame} {meth : Method} {c : Code} {H : Heap} {locs : List Loc} {cells slots : Nat} {Qz : State → Prop} {cc : ByteArray} {nL : Nat} {ret : Option FieldType} {E : xx_E} {σ : XS} {pc : Nat} {ls : Array Slot} {rest : List Value} (cx : xx_X "StruckCounts$Rule" cc nL ret E p s m args meth c) (hR : xR E σ H) (hS0 : va_S (xA E) s.heap H locs) {a : Nat} {r : Option Nat} {v : Option Nat} (hr : r = some a) (ha : xK ≤ a) (hk : kd σ a = 13) (hdg : decode cc pc = .ok (.putfield 7, 3)) (kk : ∀ (H1 : Heap) (locs1 : List Loc), xR E (pfr σ a 1 v) H1 → va_S (xA E) s.heap H1 locs1 → W p l e R s m args below meth c H1 locs1 cells slots Qz (F0 m (pc + 3) ls rest)) : W p l e R s m args below meth c H locs cells slots Qz (F0 m pc ls (xv E v :: xv E r :: rest)) :=
  x_put (ci := 12) cx hR hS0 hr ha hk (by decide) rfl in_X13 tyX13 tyX13_ok nmX13 1 (by decide) (Or.inl ⟨q1843, rfl⟩) (fun _ h => h) (by cases v <;> rfl) (by cases v <;> rfl) (xput_r rfl) hdg kk
theorem CE_holds_X13_17F {l : Launch} {p : Program} {e : Env} {R : Room} {s : State} {m : MethodId} {args : Array Value} {below : List Frame} {meth : Method} {c : Code} {H : Heap} {locs : List Loc} {cells slots : Nat} {Qz : State → Prop} {cc : ByteArray} {nL : Nat} {ret : Option FieldType} {E : xx_E} {σ : XS} {pc : Nat} {ls : Array Slot} {rest : List Value} {F : Nat → Int32 → XS → (Int32 → XS → Prop) → Prop} (d : Nat) (hF : XF_holds l E F d) {th : Nat} {x1 : Int32} (cx : xx_X "StruckCounts$Rule" cc nL ret E p s m args meth c) (hR0 : xR E σ H) (hS0 : va_S (xA E) s.heap H locs) {r0 : Option Nat} (hr : r0 = some th) {Qf : Int32 → XS → Prop} (hw : F th x1 σ Qf) (hR : (4 + 3 * d) + 1 ≤ R.frames ∧ 40 * ((4 + 3 * d) + 1) ≤ R.locals) (hrest : rest.length ≤ 4) (hsize : ls.size = nL) (hf : cells + 0 ≤ R.cells ∧ slots + 0 ≤ R.slots) (hdg : decode cc pc = .ok (.invokeinterface 17 2, 5))
    (kk : ∀ (r : Int32) (σ1 : XS) (H1 : Heap) (locs1 : List Loc), Qf r σ1 → xR E σ1 H1 → va_S (xA E) s.heap H1 locs1 → W p l e R s m args below meth c H1 locs1 (cells + 0) (slots + 0) Qz (F0 m (pc + 5) ls (.int r :: rest))) : W p l e R s m args below meth c H locs cells slots Qz (F0 m pc ls (.int x1 :: xv E r0 :: rest)) := by
  subst hr
  obtain ⟨hx, hb, hml, hown, hts, hrt, hlk, hK, hZ⟩ := id cx
  rcases hF _ _ _ _ hw with ⟨hk, rm, h1, h2, hrc, hrs, met⟩ | ⟨hk, rm, h1, h2, hrc, hrs, met⟩ | ⟨hk, rm, h1, h2, hrc, hrs, met⟩
  · exact va_callFi (va_runF (C := "StruckCounts$Fact") (As := [.int x1]) (rest := rest) ((x_K cx).1.1 9 _ rfl).2 (x_fix cx) met (va_cwF (C := "StruckCounts$Fact") (x := ⟨"StruckCounts$Expr", "holds", "(I)Z"⟩) 1 hts (lw_app (xin4 q476 q425 q427 q197) (lw_meth q429)) rfl hrc hrs (hK.2.2.2.2.2.1 ("StruckCounts$Fact", ⟨"StruckCounts$Expr", "holds", "(I)Z"⟩, ⟨"StruckCounts$Fact", "holds", "(I)Z"⟩) (List.mem_of_getElem? (i := 0) rfl)) (by decide +kernel) ⟨by omega, by omega⟩) (x_preV cx hR0 hS0 hk (by decide) (q := (RX10, TX10, 1)) rfl rfl [.int x1]) rfl rfl hsize rfl (lv_room (xroom hrest)) hdg hf) hS0 (fun q _ h => h) (fun q h => h) (fun r u t H1 locs1 ht hvm hw hB hz1 hk1 hS => kk r u H1 locs1 hw (x_after ht hB) hS)
  · exact va_callFi (va_runF (C := "StruckCounts$Not") (As := [.int x1]) (rest := rest) ((x_K cx).1.1 6 _ rfl).2 (x_fix cx) met (va_cwF (C := "StruckCounts$Not") (x := ⟨"StruckCounts$Expr", "holds", "(I)Z"⟩) 1 hts (lw_app (xin4 q476 q434 q436 q194) (lw_meth q438)) rfl hrc hrs (hK.2.2.2.2.2.1 ("StruckCounts$Not", ⟨"StruckCounts$Expr", "holds", "(I)Z"⟩, ⟨"StruckCounts$Not", "holds", "(I)Z"⟩) (List.mem_of_getElem? (i := 4) rfl)) (by decide +kernel) ⟨by omega, by omega⟩) (x_preV cx hR0 hS0 hk (by decide) (q := (RX7, TX7, 1)) rfl rfl [.int x1]) rfl rfl hsize rfl (lv_room (xroom hrest)) hdg hf) hS0 (fun q _ h => h) (fun q h => h) (fun r u t H1 locs1 ht hvm hw hB hz1 hk1 hS => kk r u H1 locs1 hw (x_after ht hB) hS)
  · rcases hk with hk | hk | hk
    · exact va_callFi (va_runF (C := "StruckCounts$Some") (As := [.int x1]) (rest := rest) ((x_K cx).1.1 7 _ rfl).2 (x_fix cx) met (va_cwF (C := "StruckCounts$Some") (x := ⟨"StruckCounts$Expr", "holds", "(I)Z"⟩) 1 hts (lw_app (xin4 q476 q445 q416 q195) (lw_meth q418)) rfl hrc hrs (hK.2.2.2.2.2.1 ("StruckCounts$Some", ⟨"StruckCounts$Expr", "holds", "(I)Z"⟩, ⟨"StruckCounts$Some", "holds", "(I)Z"⟩) (List.mem_of_getElem? (i := 6) rfl)) (by decide +kernel) ⟨by omega, by omega⟩) (x_preV cx hR0 hS0 hk (by decide) (q := (RX8, TX8, 1)) rfl rfl [.int x1]) rfl rfl hsize rfl (lv_room (xroom hrest)) hdg hf) hS0 (fun q _ h => h) (fun q h => h) (fun r u t H1 locs1 ht hvm hw hB hz1 hk1 hS => kk r u H1 locs1 hw (x_after ht hB) hS)
    · exact va_callFi (va_runF (C := "StruckCounts$SoMany") (As := [.int x1]) (rest := rest) ((x_K cx).1.1 8 _ rfl).2 (x_fix cx) met (va_cwF (C := "StruckCounts$SoMany") (x := ⟨"StruckCounts$Expr", "holds", "(I)Z"⟩) 1 hts (lw_app (xin4 q476 q442 q416 q195) (lw_meth q418)) rfl hrc hrs (hK.2.2.2.2.2.1 ("StruckCounts$SoMany", ⟨"StruckCounts$Expr", "holds", "(I)Z"⟩, ⟨"StruckCounts$Some", "holds", "(I)Z"⟩) (List.mem_of_getElem? (i := 8) rfl)) (by decide +kernel) ⟨by omega, by omega⟩) (x_preV cx hR0 hS0 hk (by decide) (q := (RX9, TX9, 2)) rfl rfl [.int x1]) rfl rfl hsize rfl (lv_room (xroom hrest)) hdg hf) hS0 (fun q _ h => h) (fun q h => h) (fun r u t H1 locs1 ht hvm hw hB hz1 hk1 hS => kk r u H1 locs1 hw (x_after ht hB) hS)
    · exact va_callFi (va_runF (C := "StruckCounts$All") (As := [.int x1]) (rest := rest) ((x_K cx).1.1 10 _ rfl).2 (x_fix cx) met (va_cwF (C := "StruckCounts$All") (x := ⟨"StruckCounts$Expr", "holds", "(I)Z"⟩) 1 hts (lw_app (xin4 q476 q414 q416 q195) (lw_meth q418)) rfl hrc hrs (hK.2.2.2.2.2.1 ("StruckCounts$All", ⟨"StruckCounts$Expr", "holds", "(I)Z"⟩, ⟨"StruckCounts$Some", "holds", "(I)Z"⟩) (List.mem_of_getElem? (i := 2) rfl)) (by decide +kernel) ⟨by omega, by omega⟩) (x_preV cx hR0 hS0 hk (by decide) (q := (RX11, TX11, 1)) rfl rfl [.int x1]) rfl rfl hsize rfl (lv_room (xroom hrest)) hdg hf) hS0 (fun q _ h => h) (fun q h => h) (fun r u t H1 locs1 ht hvm hw hB hz1 hk1 hS => kk r u H1 locs1 hw (x_after ht hB) hS)
theorem CE_holds_X13_17 {l : Launch} {p : Program} {e : Env} {R : Room} {s : State} {m : MethodId} {args : Array Value} {below : List Frame} {meth : Method} {c : Code} {H : Heap} {locs : List Loc} {cells slots : Nat} {Qz : State → Prop} {cc : ByteArray} {nL : Nat} {ret : Option FieldType} {E : xx_E} {σ : XS} {pc : Nat} {ls : Array Slot} {rest : List Value} (d : Nat) {th : Nat} {x1 : Int32} (cx : xx_X "StruckCounts$Rule" cc nL ret E p s m args meth c) (hR0 : xR E σ H) (hS0 : va_S (xA E) s.heap H locs) {r0 : Option Nat} (hr : r0 = some th) {Qf : Int32 → XS → Prop} (hw : wE_holds d th x1 σ Qf) (hR : (4 + 3 * d) + 1 ≤ R.frames ∧ 40 * ((4 + 3 * d) + 1) ≤ R.locals) (hrest : rest.length ≤ 4) (hsize : ls.size = nL) (hf : cells + 0 ≤ R.cells ∧ slots + 0 ≤ R.slots) (hdg : decode cc pc = .ok (.invokeinterface 17 2, 5))
    (kk : ∀ (r : Int32) (σ1 : XS) (H1 : Heap) (locs1 : List Loc), Qf r σ1 → xR E σ1 H1 → va_S (xA E) s.heap H1 locs1 → W p l e R s m args below meth c H1 locs1 (cells + 0) (slots + 0) Qz (F0 m (pc + 5) ls (.int r :: rest))) : W p l e R s m args below meth c H locs cells slots Qz (F0 m pc ls (.int x1 :: xv E r0 :: rest)) :=
  CE_holds_X13_17F d (ME_holds l E d) cx hR0 hS0 hr hw hR hrest hsize hf hdg kk
def wX13_laid_11 (d : Nat) (Q : Option Nat → XS → Prop) (K11 : Nat → Int32 → Nat → Nat → XS → Prop) (th : Nat) (x2 : Int32) (bc : Nat) (bs : Nat) (σ : XS) : Prop :=
  kd σ th = 13 ∧ (oc σ (fr σ th 1) 101 (fun a2 => if (nI (ln σ a2)) ≤ x2 then (Q (some th) σ) else (oe (fr σ th 0) (fun a4 => wE_holds d a4 x2 σ (fun r3 s3 => oc s3 (fr σ th 1) 101 (fun a5 => xK ≤ a5 ∧ (vp_in x2 (ln s3 a5) ∧ (zb r3 ∧ (∀ v6 : Int32, v6 = x2 + (1 : Int32) → K11 th v6 bc bs (pai s3 a5 x2.toNatClampNeg r3))))))))))
set_option maxHeartbeats 4000000 in
theorem BX13_laid_11 {l : Launch} {p : Program} {e : Env} {s : State} {m : MethodId} {args : Array Value} {below : List Frame} {meth : Method} {c : Code} {E : xx_E} {mc ms : Nat} {Q : Option Nat → XS → Prop} {K11 : Nat → Int32 → Nat → Nat → XS → Prop} (d : Nat) (cx : xx_X "StruckCounts$Rule" cX13_laid 3 (some (.object "StruckCounts$Rule")) E p s m args meth c) (hK11 : ∀ (th : Nat) (x2 : Int32) (bc : Nat) (bs : Nat) (σ : XS), K11 th x2 bc bs σ → x_T p l e ({ frames := (5 + 3 * d), cells := mc, slots := ms, locals := 40 * (5 + 3 * d) } : Room) s m args below meth c E (va_Qe (xr E) Q (fun σ' t => xW E σ' t) (xA E)) mc ms 3 11 bc bs σ [(0, xv E (some th)), (2, .int x2)] []) : ∀ (th : Nat) (x2 : Int32) (bc : Nat) (bs : Nat) (σ : XS), wX13_laid_11 d Q K11 th x2 bc bs σ → x_T p l e ({ frames := (5 + 3 * d), cells := mc, slots := ms, locals := 40 * (5 + 3 * d) } : Room) s m args below meth c E (va_Qe (xr E) Q (fun σ' t => xW E σ' t) (xA E)) mc ms 3 11 bc bs σ [(0, xv E (some th)), (2, .int x2)] [] := by
  intro th x2 bc bs σ hw H locs ls cells slots hR hS hl hcb hsb
  unfold wX13_laid_11 at hw
  obtain ⟨hx, hb, hml, hown, hts, hrt, hlk, hMK, hZ⟩ := id cx
  refine lv_iload_n hx hb dX13_laid_11 rfl (lv_at hl 1 rfl) ?_
  refine x_aload_n cx dX13_laid_12 rfl (lv_at hl 0 rfl) ?_
  obtain ⟨hk1, hw⟩ := hw
  refine xg_X13_7_13 cx hR rfl hk1 dX13_laid_13 ?_
  obtain ⟨a2, hr2, hk2, hw⟩ := hw
  refine x_alen cx hR hr2 1 hk2 (by decide) dX13_laid_16 ?_
  refine lv_icmp_ge (tgt := 42) hx hb dX13_laid_17 (by decide) (fun hc => ?_) (fun hc => ?_)
  · have hw := mm_ip hc hw
    refine x_aload_n cx dX13_laid_42 rfl (lv_at hl 0 rfl) ?_
    exact x_aret cx (by first | exact Or.inl ⟨_, rfl⟩ | exact Or.inr ⟨_, rfl⟩) hR hS (xle hcb) (xle hsb) hw dX13_laid_43
  · have hw := mm_in hc hw
    refine x_aload_n cx dX13_laid_20 rfl (lv_at hl 0 rfl) ?_
    refine xg_X13_7_13 cx hR rfl hk1 dX13_laid_21 ?_
    refine lv_iload_n hx hb dX13_laid_24 rfl (lv_at hl 1 rfl) ?_
    refine x_aload_n cx dX13_laid_25 rfl (lv_at hl 0 rfl) ?_
    refine xg_X13_13_13 cx hR rfl hk1 dX13_laid_26 ?_
    refine lv_iload_n hx hb dX13_laid_29 rfl (lv_at hl 1 rfl) ?_
    obtain ⟨a4, hr4, hw⟩ := hw
    refine CE_holds_X13_17 d cx hR hS hr4 hw (by constructor <;> dsimp only <;> omega) (Nat.le_of_ble_eq_true rfl) hl.1 ⟨by dsimp only; omega, by dsimp only; omega⟩ dX13_laid_30 (fun r3 s3 H locs hw hR hS => ?_)
    obtain ⟨a5, hr5, hk5, hw⟩ := hw
    obtain ⟨hge_a5, hw⟩ := hw
    obtain ⟨hi, hw⟩ := hw
    obtain ⟨hz, hw⟩ := hw
    refine x_zast cx hR hS hr5 hge_a5 hk5 (j := x2.toNatClampNeg) rfl hi hz dX13_laid_35 (fun H locs hR hS => ?_)
    obtain ⟨v6, hv6⟩ : ∃ v : Int32, v = x2 + (1 : Int32) := ⟨_, rfl⟩
    have hw := hw v6 hv6
    refine lv_iinc (v := v6) (lv' := [(2, .int v6), (0, xv E (some th))]) hx hb dX13_laid_36 hl (k := 1) rfl (by rw [hv6]; rfl) (by decide) rfl (fun ls hl => ?_)
    refine lv_goto (tgt := 11) hx hb dX13_laid_39 (by decide) ?_
    exact hK11 _ _ _ _ _ hw _ _ _ _ _ hR hS (lv_sub hl [1, 0] rfl) hcb hsb
theorem LX13_laid_11 {l : Launch} {p : Program} {e : Env} {s : State} {m : MethodId} {args : Array Value} {below : List Frame} {meth : Method} {c : Code} {E : xx_E} {mc ms : Nat} {Q : Option Nat → XS → Prop} (d : Nat) (cx : xx_X "StruckCounts$Rule" cX13_laid 3 (some (.object "StruckCounts$Rule")) E p s m args meth c) : ∀ (th : Nat) (x2 : Int32) (bc : Nat) (bs : Nat) (σ : XS), lp5F (wX13_laid_11 d Q) th x2 bc bs σ → x_T p l e ({ frames := (5 + 3 * d), cells := mc, slots := ms, locals := 40 * (5 + 3 * d) } : Room) s m args below meth c E (va_Qe (xr E) Q (fun σ' t => xW E σ' t) (xA E)) mc ms 3 11 bc bs σ [(0, xv E (some th)), (2, .int x2)] [] :=
  lp5F_of (fun K hK => BX13_laid_11 d cx hK)
def wX13_laid (d : Nat) (th : Nat) (x1 : Int32) (bc : Nat) (bs : Nat) (σ : XS) (Q : Option Nat → XS → Prop) : Prop :=
  ¬ ((1 : Int32) <<< (x1 &&& 31)) < 0 ∧ ((1 : Int32) <<< (x1 &&& 31)).toNatClampNeg ≤ 67108864 ∧ (1 ≤ bc ∧ ((1 : Int32) <<< (x1 &&& 31)).toNatClampNeg ≤ bs ∧ (kd (xal σ 101 (((1 : Int32) <<< (x1 &&& 31)).toNatClampNeg)) th = 13 ∧ (xK ≤ th ∧ (lp5F (wX13_laid_11 d Q) th (0 : Int32) (bc - 1) (bs - ((1 : Int32) <<< (x1 &&& 31)).toNatClampNeg) (pfr (xal σ 101 (((1 : Int32) <<< (x1 &&& 31)).toNatClampNeg)) th 1 (some (xn σ)))))))
set_option maxHeartbeats 4000000 in
theorem MX13_laid (l : Launch) (E : xx_E) (d : Nat) (th : Nat) (x1 : Int32) (bc : Nat) (bs : Nat) (σ : XS) (Q : Option Nat → XS → Prop) (hw : wX13_laid d th x1 bc bs σ Q) : xx_Mr l yX13_laid (ws_ yX13_laid cX13_laid 3 (some (.object "StruckCounts$Rule"))) ({ frames := (5 + 3 * d), cells := bc, slots := bs, locals := 40 * (5 + 3 * d) } : Room) E [xv E (some th), .int x1] σ Q bc bs := by
  refine x_of (own := "StruckCounts$Rule") (by decide +kernel) rfl ?_
  intro p e s m args below meth c cx hR ha hnm
  refine x_entry [xv E (some th), .int x1] 3 [(0, xv E (some th)), (1, .int x1)] ha (by simp [lg_sl, xv_cat, vc_i, vc_j, vc_f]) (by simp [lv_args, xv_cat, vc_i, vc_j, vc_f]) (fun ls hl => ?_)
  have hS : va_S (xA E) s.heap s.heap [] := va_S.rf
  have hcb : 0 + bc ≤ bc := Nat.le_of_eq (Nat.zero_add _)
  have hsb : 0 + bs ≤ bs := Nat.le_of_eq (Nat.zero_add _)
  unfold wX13_laid at hw
  obtain ⟨hx, hb, hml, hown, hts, hrt, hlk, hMK, hZ⟩ := id cx
  refine x_aload_n cx dX13_laid_0 rfl (lv_at hl 0 rfl) ?_
  refine lv_iconst (v := (1 : Int32)) hx hb dX13_laid_1 (by decide) ?_
  refine lv_iload_n hx hb dX13_laid_2 rfl (lv_at hl 1 rfl) ?_
  refine lv_ishl hx hb dX13_laid_3 ?_
  obtain ⟨hn0, hn8, hw⟩ := hw
  obtain ⟨hb1, hb2, hw⟩ := hw
  refine x_newa (atype := .boolean) cx hR hS 1 (by decide) rfl q377 (fun _ => rfl) (fun h => absurd h (by decide)) (N := ((1 : Int32) <<< (x1 &&& 31)).toNatClampNeg) hn0 rfl (xbytes1 hn8) (by dsimp only; omega) (by dsimp only; omega) dX13_laid_4 (fun H hR hS => ?_)
  have hcb := xadd hb1 hcb
  have hsb := xadd hb2 hsb
  obtain ⟨hk7, hw⟩ := hw
  obtain ⟨hge_th, hw⟩ := hw
  refine xp_X13_7_13 (v := (some (xn σ))) cx hR hS rfl hge_th hk7 dX13_laid_6 (fun H locs hR hS => ?_)
  refine lv_iconst (v := (0 : Int32)) hx hb dX13_laid_9 (by decide) ?_
  refine lv_istore_n (i := 2) (lv' := [(2, .int (0 : Int32)), (0, xv E (some th)), (1, .int x1)]) hx hb dX13_laid_10 rfl hl (by decide) rfl (fun ls hl => ?_)
  exact LX13_laid_11 d cx _ _ _ _ _ hw _ _ _ _ _ hR hS (lv_sub hl [1, 0] rfl) hcb hsb
-- X1_laysAll
theorem xcc_1 {σ : XS} {r : Option Nat} (h : xck [13] σ r) : ∀ a, r = some a → xcl σ "StruckCounts$Rule" a := by
  intro a ha
  have h := h a ha
  have h : kd σ a = 13 := by simpa using h
  rcases h with h
  · exact ⟨12, _, h, by decide, rfl, by decide⟩
theorem CX13_laid_X1_93 {l : Launch} {p : Program} {e : Env} {R : Room} {s : State} {m : MethodId} {args : Array Value} {below : List Frame} {meth : Method} {c : Code} {H : Heap} {locs : List Loc} {cells slots : Nat} {Qz : State → Prop} {cc : ByteArray} {nL : Nat} {ret : Option FieldType} {E : xx_E} {σ : XS} {pc : Nat} {ls : Array Slot} {rest : List Value} (d : Nat) {th : Nat} {x1 : Int32} {k n : Nat} (cx : xx_X "StruckCounts$Suit" cc nL ret E p s m args meth c) (hR0 : xR E σ H) (hS0 : va_S (xA E) s.heap H locs) {r0 : Option Nat} (hr : r0 = some th) (hk : kd σ th = 13) {Qf : Option Nat → XS → Prop} (hw : wX13_laid d th x1 k n σ Qf) (hR : (({ frames := (5 + 3 * d), cells := k, slots := n, locals := 40 * (5 + 3 * d) } : Room)).frames + 1 ≤ R.frames ∧ 8 + (3 + 11) + (({ frames := (5 + 3 * d), cells := k, slots := n, locals := 40 * (5 + 3 * d) } : Room)).locals ≤ R.locals) (hrest : rest.length ≤ 4) (hsize : ls.size = nL) (hf : cells + k ≤ R.cells ∧ slots + n ≤ R.slots) (hdg : decode cc pc = .ok (.invokevirtual 93, 3))
    (kk : ∀ (r : Option Nat) (σ1 : XS) (H1 : Heap) (locs1 : List Loc), Qf r σ1 → xR E σ1 H1 → va_S (xA E) s.heap H1 locs1 → W p l e R s m args below meth c H1 locs1 (cells + k) (slots + n) Qz (F0 m (pc + 3) ls (xv E r :: rest))) : W p l e R s m args below meth c H locs cells slots Qz (F0 m pc ls (.int x1 :: xv E r0 :: rest)) := by
  subst hr
  obtain ⟨hx, hb, hml, hown, hts, hrt, hlk, hK, hZ⟩ := id cx
  exact x_gor (va_runV (As := [.int x1]) (rest := rest) (x_fix cx) (MX13_laid l E d th x1 k n σ Qf hw) (cwV 1 hts (lw_V q471 q472 q473 q200 q474) rfl rfl rfl (by decide +kernel) hR) (x_preV cx hR0 hS0 hk (by decide) (q := (RX13, TX13, 2)) rfl rfl [.int x1]) rfl rfl hsize rfl (lv_room (xroom hrest)) hdg hf) hS0 kk
def wX1_laysAll_2 (d : Nat) (Q : XS → Prop) (K2 : Nat → Option Nat → Int32 → Nat → Nat → XS → Prop) (th : Nat) (x1 : Option Nat) (x2 : Int32) (bc : Nat) (bs : Nat) (σ : XS) : Prop :=
  oc σ x1 16 (fun a2 => wJ7_size a2 σ (fun r1 s1 => if r1 ≤ x2 then (Q s1) else (oc s1 x1 16 (fun a4 => wJ7_get a4 x2 s1 (fun r3 s3 => xck [13] s3 r3 ∧ (kd s3 th = 2 ∧ (oc s3 r3 13 (fun a7 => ∃ k8 n8 : Nat, k8 ≤ bc ∧ n8 ≤ bs ∧ (wX13_laid d a7 (fi s3 th 5) k8 n8 s3 (fun r6 s6 => ∀ v9 : Int32, v9 = x2 + (1 : Int32) → K2 th x1 v9 (bc - k8) (bs - n8) s6))))))))))
set_option maxHeartbeats 4000000 in
theorem BX1_laysAll_2 {l : Launch} {p : Program} {e : Env} {s : State} {m : MethodId} {args : Array Value} {below : List Frame} {meth : Method} {c : Code} {E : xx_E} {mc ms : Nat} {Q : XS → Prop} {K2 : Nat → Option Nat → Int32 → Nat → Nat → XS → Prop} (d : Nat) (cx : xx_X "StruckCounts$Suit" cX1_laysAll 3 none E p s m args meth c) (hK2 : ∀ (th : Nat) (x1 : Option Nat) (x2 : Int32) (bc : Nat) (bs : Nat) (σ : XS), K2 th x1 x2 bc bs σ → x_T p l e ({ frames := (6 + 3 * d), cells := mc, slots := ms, locals := 40 * (6 + 3 * d) } : Room) s m args below meth c E (va_Qv Q (fun σ' t => xW E σ' t) (xA E)) mc ms 3 2 bc bs σ [(0, xv E (some th)), (1, xv E x1), (2, .int x2)] []) : ∀ (th : Nat) (x1 : Option Nat) (x2 : Int32) (bc : Nat) (bs : Nat) (σ : XS), wX1_laysAll_2 d Q K2 th x1 x2 bc bs σ → x_T p l e ({ frames := (6 + 3 * d), cells := mc, slots := ms, locals := 40 * (6 + 3 * d) } : Room) s m args below meth c E (va_Qv Q (fun σ' t => xW E σ' t) (xA E)) mc ms 3 2 bc bs σ [(0, xv E (some th)), (1, xv E x1), (2, .int x2)] [] := by
  intro th x1 x2 bc bs σ hw H locs ls cells slots hR hS hl hcb hsb
  unfold wX1_laysAll_2 at hw
  obtain ⟨hx, hb, hml, hown, hts, hrt, hlk, hMK, hZ⟩ := id cx
  refine lv_iload_n hx hb dX1_laysAll_2 rfl (lv_at hl 2 rfl) ?_
  refine x_aload_n cx dX1_laysAll_3 rfl (lv_at hl 1 rfl) ?_
  obtain ⟨a2, hr2, hk2, hw⟩ := hw
  refine CJ7_size_X1_55 cx hR hS hr2 hk2 hw (by constructor <;> dsimp only <;> omega) (Nat.le_of_ble_eq_true rfl) hl.1 ⟨by dsimp only; omega, by dsimp only; omega⟩ dX1_laysAll_4 (fun r1 s1 H locs hw hR hS => ?_)
  refine lv_icmp_ge (tgt := 32) hx hb dX1_laysAll_7 (by decide) (fun hc => ?_) (fun hc => ?_)
  · have hw := mm_ip hc hw
    exact x_vret cx hR hS (xle hcb) (xle hsb) hw dX1_laysAll_32
  · have hw := mm_in hc hw
    refine x_aload_n cx dX1_laysAll_10 rfl (lv_at hl 1 rfl) ?_
    refine lv_iload_n hx hb dX1_laysAll_11 rfl (lv_at hl 2 rfl) ?_
    obtain ⟨a4, hr4, hk4, hw⟩ := hw
    refine CJ7_get_X1_59 cx hR hS hr4 hk4 hw (by constructor <;> dsimp only <;> omega) (Nat.le_of_ble_eq_true rfl) hl.1 ⟨by dsimp only; omega, by dsimp only; omega⟩ dX1_laysAll_12 (fun r3 s3 H locs hw hR hS => ?_)
    obtain ⟨hv, hw⟩ := hw
    refine x_cast cx hR q470 (xcc_1 hv) dX1_laysAll_15 ?_
    refine x_aload_n cx dX1_laysAll_18 rfl (lv_at hl 0 rfl) ?_
    obtain ⟨hk5, hw⟩ := hw
    refine xg_X1_52_2 cx hR rfl hk5 dX1_laysAll_19 ?_
    obtain ⟨a7, hr7, hk7, hw⟩ := hw
    obtain ⟨k8, n8, hb1, hb2, hw⟩ := hw
    refine CX13_laid_X1_93 d cx hR hS hr7 hk7 hw (by constructor <;> dsimp only <;> omega) (Nat.le_of_ble_eq_true rfl) hl.1 ⟨by dsimp only; omega, by dsimp only; omega⟩ dX1_laysAll_22 (fun r6 s6 H locs hw hR hS => ?_)
    have hcb := xadd hb1 hcb
    have hsb := xadd hb2 hsb
    refine lv_pop hx hb dX1_laysAll_25 (xv_cat _ _) ?_
    obtain ⟨v9, hv9⟩ : ∃ v : Int32, v = x2 + (1 : Int32) := ⟨_, rfl⟩
    have hw := hw v9 hv9
    refine lv_iinc (v := v9) (lv' := [(2, .int v9), (0, xv E (some th)), (1, xv E x1)]) hx hb dX1_laysAll_26 hl (k := 2) rfl (by rw [hv9]; rfl) (by decide) (by simp [xv_cat]) (fun ls hl => ?_)
    refine lv_goto (tgt := 2) hx hb dX1_laysAll_29 (by decide) ?_
    exact hK2 _ _ _ _ _ _ hw _ _ _ _ _ hR hS (lv_sub hl [1, 2, 0] rfl) hcb hsb
theorem LX1_laysAll_2 {l : Launch} {p : Program} {e : Env} {s : State} {m : MethodId} {args : Array Value} {below : List Frame} {meth : Method} {c : Code} {E : xx_E} {mc ms : Nat} {Q : XS → Prop} (d : Nat) (cx : xx_X "StruckCounts$Suit" cX1_laysAll 3 none E p s m args meth c) : ∀ (th : Nat) (x1 : Option Nat) (x2 : Int32) (bc : Nat) (bs : Nat) (σ : XS), lp6F (wX1_laysAll_2 d Q) th x1 x2 bc bs σ → x_T p l e ({ frames := (6 + 3 * d), cells := mc, slots := ms, locals := 40 * (6 + 3 * d) } : Room) s m args below meth c E (va_Qv Q (fun σ' t => xW E σ' t) (xA E)) mc ms 3 2 bc bs σ [(0, xv E (some th)), (1, xv E x1), (2, .int x2)] [] :=
  lp6F_of (fun K hK => BX1_laysAll_2 d cx hK)
def wX1_laysAll (d : Nat) (th : Nat) (x1 : Option Nat) (bc : Nat) (bs : Nat) (σ : XS) (Q : XS → Prop) : Prop :=
  lp6F (wX1_laysAll_2 d Q) th x1 (0 : Int32) bc bs σ
set_option maxHeartbeats 4000000 in
theorem MX1_laysAll (l : Launch) (E : xx_E) (d : Nat) (th : Nat) (x1 : Option Nat) (bc : Nat) (bs : Nat) (σ : XS) (Q : XS → Prop) (hw : wX1_laysAll d th x1 bc bs σ Q) : xx_Mv l yX1_laysAll (ws_ yX1_laysAll cX1_laysAll 3 none) ({ frames := (6 + 3 * d), cells := bc, slots := bs, locals := 40 * (6 + 3 * d) } : Room) E [xv E (some th), xv E x1] σ Q bc bs := by
  refine x_of (own := "StruckCounts$Suit") (by decide +kernel) rfl ?_
  intro p e s m args below meth c cx hR ha hnm
  refine x_entry [xv E (some th), xv E x1] 3 [(0, xv E (some th)), (1, xv E x1)] ha (by simp [lg_sl, xv_cat, vc_i, vc_j, vc_f]) (by simp [lv_args, xv_cat, vc_i, vc_j, vc_f]) (fun ls hl => ?_)
  have hS : va_S (xA E) s.heap s.heap [] := va_S.rf
  have hcb : 0 + bc ≤ bc := Nat.le_of_eq (Nat.zero_add _)
  have hsb : 0 + bs ≤ bs := Nat.le_of_eq (Nat.zero_add _)
  unfold wX1_laysAll at hw
  obtain ⟨hx, hb, hml, hown, hts, hrt, hlk, hMK, hZ⟩ := id cx
  refine lv_iconst (v := (0 : Int32)) hx hb dX1_laysAll_0 (by decide) ?_
  refine lv_istore_n (i := 2) (lv' := [(2, .int (0 : Int32)), (0, xv E (some th)), (1, xv E x1)]) hx hb dX1_laysAll_1 rfl hl (by decide) (by simp [xv_cat]) (fun ls hl => ?_)
  exact LX1_laysAll_2 d cx _ _ _ _ _ _ hw _ _ _ _ _ hR hS (lv_sub hl [1, 2, 0] rfl) hcb hsb
-- X1_laid
theorem xg_X1_30_2 {l : Launch} {p : Program} {e : Env} {R : Room} {s : State} {m : MethodId} {args : Array Value} {below : List Frame} {meth : Method} {c : Code} {H : Heap} {locs : List Loc} {cells slots : Nat} {Qz : State → Prop} {cc : ByteArray} {nL : Nat} {ret : Option FieldType} {E : xx_E} {σ : XS} {pc : Nat} {ls : Array Slot} {rest : List Value} (cx : xx_X "StruckCounts$Suit" cc nL ret E p s m args meth c) (hR : xR E σ H) {a : Nat} {r : Option Nat} (hr : r = some a) (hk : kd σ a = 2) (hdg : decode cc pc = .ok (.getfield 30, 3)) (kk : W p l e R s m args below meth c H locs cells slots Qz (F0 m (pc + 3) ls (xv E (fr σ a 2) :: rest))) : W p l e R s m args below meth c H locs cells slots Qz (F0 m pc ls (xv E r :: rest)) :=
  x_get (ci := 1) cx hR hr hk (by decide) rfl in_X1 2 (by decide) q328 (fun _ h => h) (v := xv E (fr σ a 2)) rfl hdg kk
theorem xg_X1_81_12 {l : Launch} {p : Program} {e : Env} {R : Room} {s : State} {m : MethodId} {args : Array Value} {below : List Frame} {meth : Method} {c : Code} {H : Heap} {locs : List Loc} {cells slots : Nat} {Qz : State → Prop} {cc : ByteArray} {nL : Nat} {ret : Option FieldType} {E : xx_E} {σ : XS} {pc : Nat} {ls : Array Slot} {rest : List Value} (cx : xx_X "StruckCounts$Suit" cc nL ret E p s m args meth c) (hR : xR E σ H) {a : Nat} {r : Option Nat} (hr : r = some a) (hk : kd σ a = 12) (hdg : decode cc pc = .ok (.getfield 81, 3)) (kk : W p l e R s m args below meth c H locs cells slots Qz (F0 m (pc + 3) ls (xv E (fr σ a 2) :: rest))) : W p l e R s m args below meth c H locs cells slots Qz (F0 m pc ls (xv E r :: rest)) :=
  x_getN (ci := 11) cx hR hr hk (by decide) rfl in_X12 2 (by decide) (xx_nf_mem (i := 30) rfl) (fun _ h => h) (v := xv E (fr σ a 2)) rfl hdg kk
theorem xg_X1_88_12 {l : Launch} {p : Program} {e : Env} {R : Room} {s : State} {m : MethodId} {args : Array Value} {below : List Frame} {meth : Method} {c : Code} {H : Heap} {locs : List Loc} {cells slots : Nat} {Qz : State → Prop} {cc : ByteArray} {nL : Nat} {ret : Option FieldType} {E : xx_E} {σ : XS} {pc : Nat} {ls : Array Slot} {rest : List Value} (cx : xx_X "StruckCounts$Suit" cc nL ret E p s m args meth c) (hR : xR E σ H) {a : Nat} {r : Option Nat} (hr : r = some a) (hk : kd σ a = 12) (hdg : decode cc pc = .ok (.getfield 88, 3)) (kk : W p l e R s m args below meth c H locs cells slots Qz (F0 m (pc + 3) ls (xv E (fr σ a 3) :: rest))) : W p l e R s m args below meth c H locs cells slots Qz (F0 m pc ls (xv E r :: rest)) :=
  x_getN (ci := 11) cx hR hr hk (by decide) rfl in_X12 3 (by decide) (xx_nf_mem (i := 31) rfl) (fun _ h => h) (v := xv E (fr σ a 3)) rfl hdg kk
theorem xg_X1_49_2 {l : Launch} {p : Program} {e : Env} {R : Room} {s : State} {m : MethodId} {args : Array Value} {below : List Frame} {meth : Method} {c : Code} {H : Heap} {locs : List Loc} {cells slots : Nat} {Qz : State → Prop} {cc : ByteArray} {nL : Nat} {ret : Option FieldType} {E : xx_E} {σ : XS} {pc : Nat} {ls : Array Slot} {rest : List Value} (cx : xx_X "StruckCounts$Suit" cc nL ret E p s m args meth c) (hR : xR E σ H) {a : Nat} {r : Option Nat} (hr : r = some a) (hk : kd σ a = 2) (hdg : decode cc pc = .ok (.getfield 49, 3)) (kk : W p l e R s m args below meth c H locs cells slots Qz (F0 m (pc + 3) ls (xv E (fr σ a 11) :: rest))) : W p l e R s m args below meth c H locs cells slots Qz (F0 m pc ls (xv E r :: rest)) :=
  x_get (ci := 1) cx hR hr hk (by decide) rfl in_X1 11 (by decide) q349 (fun _ h => h) (v := xv E (fr σ a 11)) rfl hdg kk
theorem xg_X1_37_2 {l : Launch} {p : Program} {e : Env} {R : Room} {s : State} {m : MethodId} {args : Array Value} {below : List Frame} {meth : Method} {c : Code} {H : Heap} {locs : List Loc} {cells slots : Nat} {Qz : State → Prop} {cc : ByteArray} {nL : Nat} {ret : Option FieldType} {E : xx_E} {σ : XS} {pc : Nat} {ls : Array Slot} {rest : List Value} (cx : xx_X "StruckCounts$Suit" cc nL ret E p s m args meth c) (hR : xR E σ H) {a : Nat} {r : Option Nat} (hr : r = some a) (hk : kd σ a = 2) (hdg : decode cc pc = .ok (.getfield 37, 3)) (kk : W p l e R s m args below meth c H locs cells slots Qz (F0 m (pc + 3) ls (xv E (fr σ a 4) :: rest))) : W p l e R s m args below meth c H locs cells slots Qz (F0 m pc ls (xv E r :: rest)) :=
  x_get (ci := 1) cx hR hr hk (by decide) rfl in_X1 4 (by decide) q334 (fun _ h => h) (v := xv E (fr σ a 4)) rfl hdg kk
theorem xg_X1_45_2 {l : Launch} {p : Program} {e : Env} {R : Room} {s : State} {m : MethodId} {args : Array Value} {below : List Frame} {meth : Method} {c : Code} {H : Heap} {locs : List Loc} {cells slots : Nat} {Qz : State → Prop} {cc : ByteArray} {nL : Nat} {ret : Option FieldType} {E : xx_E} {σ : XS} {pc : Nat} {ls : Array Slot} {rest : List Value} (cx : xx_X "StruckCounts$Suit" cc nL ret E p s m args meth c) (hR : xR E σ H) {a : Nat} {r : Option Nat} (hr : r = some a) (hk : kd σ a = 2) (hdg : decode cc pc = .ok (.getfield 45, 3)) (kk : W p l e R s m args below meth c H locs cells slots Qz (F0 m (pc + 3) ls (xv E (fr σ a 10) :: rest))) : W p l e R s m args below meth c H locs cells slots Qz (F0 m pc ls (xv E r :: rest)) :=
  x_get (ci := 1) cx hR hr hk (by decide) rfl in_X1 10 (by decide) q347 (fun _ h => h) (v := xv E (fr σ a 10)) rfl hdg kk
theorem xcc_2 {σ : XS} {r : Option Nat} (h : xck [12] σ r) : ∀ a, r = some a → xcl σ "StruckCounts$Told" a := by
  intro a ha
  have h := h a ha
  have h : kd σ a = 12 := by simpa using h
  rcases h with h
  · exact ⟨11, _, h, by decide, rfl, by decide⟩
theorem CX1_sets_X1_69 {l : Launch} {p : Program} {e : Env} {R : Room} {s : State} {m : MethodId} {args : Array Value} {below : List Frame} {meth : Method} {c : Code} {H : Heap} {locs : List Loc} {cells slots : Nat} {Qz : State → Prop} {cc : ByteArray} {nL : Nat} {ret : Option FieldType} {E : xx_E} {σ : XS} {pc : Nat} {ls : Array Slot} {rest : List Value} {th : Nat} (cx : xx_X "StruckCounts$Suit" cc nL ret E p s m args meth c) (hR0 : xR E σ H) (hS0 : va_S (xA E) s.heap H locs) {r0 : Option Nat} (hr : r0 = some th) (hk : kd σ th = 2) {Qf : Int32 → XS → Prop} (hw : wX1_sets th σ Qf) (hR : (({ frames := 0, cells := 0, slots := 0, locals := 0 } : Room)).frames + 1 ≤ R.frames ∧ 8 + (1 + 11) + (({ frames := 0, cells := 0, slots := 0, locals := 0 } : Room)).locals ≤ R.locals) (hrest : rest.length ≤ 4) (hsize : ls.size = nL) (hf : cells + 0 ≤ R.cells ∧ slots + 0 ≤ R.slots) (hdg : decode cc pc = .ok (.invokevirtual 69, 3))
    (kk : ∀ (r : Int32) (σ1 : XS) (H1 : Heap) (locs1 : List Loc), Qf r σ1 → xR E σ1 H1 → va_S (xA E) s.heap H1 locs1 → W p l e R s m args below meth c H1 locs1 (cells + 0) (slots + 0) Qz (F0 m (pc + 3) ls (.int r :: rest))) : W p l e R s m args below meth c H locs cells slots Qz (F0 m pc ls (xv E r0 :: rest)) := by
  subst hr
  obtain ⟨hx, hb, hml, hown, hts, hrt, hlk, hK, hZ⟩ := id cx
  exact x_goi (va_runV (As := []) (rest := rest) (x_fix cx) (MX1_sets l E th σ Qf hw) (cwV 0 hts (lw_V q382 q383 q384 q157 q385) rfl rfl rfl (by decide +kernel) hR) (x_preV cx hR0 hS0 hk (by decide) (q := (RX1, TX1, 12)) rfl rfl []) rfl rfl hsize rfl (lv_room (xroom hrest)) hdg hf) hS0 kk
theorem CX1_mayBe_X1_72 {l : Launch} {p : Program} {e : Env} {R : Room} {s : State} {m : MethodId} {args : Array Value} {below : List Frame} {meth : Method} {c : Code} {H : Heap} {locs : List Loc} {cells slots : Nat} {Qz : State → Prop} {cc : ByteArray} {nL : Nat} {ret : Option FieldType} {E : xx_E} {σ : XS} {pc : Nat} {ls : Array Slot} {rest : List Value} (d : Nat) {th : Nat} {x1 : Int32} (cx : xx_X "StruckCounts$Suit" cc nL ret E p s m args meth c) (hR0 : xR E σ H) (hS0 : va_S (xA E) s.heap H locs) {r0 : Option Nat} (hr : r0 = some th) (hk : kd σ th = 2) {Qf : Int32 → XS → Prop} (hw : wX1_mayBe d th x1 σ Qf) (hR : (({ frames := (5 + 3 * d), cells := 0, slots := 0, locals := 40 * (5 + 3 * d) } : Room)).frames + 1 ≤ R.frames ∧ 8 + (3 + 11) + (({ frames := (5 + 3 * d), cells := 0, slots := 0, locals := 40 * (5 + 3 * d) } : Room)).locals ≤ R.locals) (hrest : rest.length ≤ 4) (hsize : ls.size = nL) (hf : cells + 0 ≤ R.cells ∧ slots + 0 ≤ R.slots) (hdg : decode cc pc = .ok (.invokevirtual 72, 3))
    (kk : ∀ (r : Int32) (σ1 : XS) (H1 : Heap) (locs1 : List Loc), Qf r σ1 → xR E σ1 H1 → va_S (xA E) s.heap H1 locs1 → W p l e R s m args below meth c H1 locs1 (cells + 0) (slots + 0) Qz (F0 m (pc + 3) ls (.int r :: rest))) : W p l e R s m args below meth c H locs cells slots Qz (F0 m pc ls (.int x1 :: xv E r0 :: rest)) := by
  subst hr
  obtain ⟨hx, hb, hml, hown, hts, hrt, hlk, hK, hZ⟩ := id cx
  exact x_goi (va_runV (As := [.int x1]) (rest := rest) (x_fix cx) (MX1_mayBe l E d th x1 σ Qf hw) (cwV 1 hts (lw_V q386 q387 q388 q157 q389) rfl rfl rfl (by decide +kernel) hR) (x_preV cx hR0 hS0 hk (by decide) (q := (RX1, TX1, 12)) rfl rfl [.int x1]) rfl rfl hsize rfl (lv_room (xroom hrest)) hdg hf) hS0 kk
theorem CX0_has_X1_75 {l : Launch} {p : Program} {e : Env} {R : Room} {s : State} {m : MethodId} {args : Array Value} {below : List Frame} {meth : Method} {c : Code} {H : Heap} {locs : List Loc} {cells slots : Nat} {Qz : State → Prop} {cc : ByteArray} {nL : Nat} {ret : Option FieldType} {E : xx_E} {σ : XS} {pc : Nat} {ls : Array Slot} {rest : List Value} {x0 : Int32} {x1 : Int32} (cx : xx_X "StruckCounts$Suit" cc nL ret E p s m args meth c) (hR0 : xR E σ H) (hS0 : va_S (xA E) s.heap H locs) {Qf : Int32 → XS → Prop} (hw : wX0_has x0 x1 σ Qf) (hR : (({ frames := 0, cells := 0, slots := 0, locals := 0 } : Room)).frames + 1 ≤ R.frames ∧ 8 + (2 + 11) + (({ frames := 0, cells := 0, slots := 0, locals := 0 } : Room)).locals ≤ R.locals) (hrest : rest.length ≤ 4) (hsize : ls.size = nL) (hf : cells + 0 ≤ R.cells ∧ slots + 0 ≤ R.slots) (hdg : decode cc pc = .ok (.invokestatic 75, 3))
    (kk : ∀ (r : Int32) (σ1 : XS) (H1 : Heap) (locs1 : List Loc), Qf r σ1 → xR E σ1 H1 → va_S (xA E) s.heap H1 locs1 → W p l e R s m args below meth c H1 locs1 (cells + 0) (slots + 0) Qz (F0 m (pc + 3) ls (.int r :: rest))) : W p l e R s m args below meth c H locs cells slots Qz (F0 m pc ls (.int x1 :: .int x0 :: rest)) := by
  obtain ⟨hx, hb, hml, hown, hts, hrt, hlk, hK, hZ⟩ := id cx
  exact x_goi (va_runSN (As := [.int x0, .int x1]) (rest := rest) (x_fix cx) (MX0_has l E x0 x1 σ Qf hw) ⟨va_cnB 2 hts (lw_meth q432) rfl rfl rfl (hK.2.2.2.1 _ (xx_nm_mem (i := 2) rfl)) (hts _ q156) (by decide +kernel) hR, hts _ q431, trivial⟩ ⟨xblind, x_pre cx hR0 hS0 [.int x0, .int x1]⟩ rfl rfl hsize rfl (lv_room (xroom hrest)) hdg hf) hS0 kk
theorem CX1_laysAll_X1_84 {l : Launch} {p : Program} {e : Env} {R : Room} {s : State} {m : MethodId} {args : Array Value} {below : List Frame} {meth : Method} {c : Code} {H : Heap} {locs : List Loc} {cells slots : Nat} {Qz : State → Prop} {cc : ByteArray} {nL : Nat} {ret : Option FieldType} {E : xx_E} {σ : XS} {pc : Nat} {ls : Array Slot} {rest : List Value} (d : Nat) {th : Nat} {x1 : Option Nat} {k n : Nat} (cx : xx_X "StruckCounts$Suit" cc nL ret E p s m args meth c) (hR0 : xR E σ H) (hS0 : va_S (xA E) s.heap H locs) {r0 : Option Nat} (hr : r0 = some th) (hk : kd σ th = 2) {Qf : XS → Prop} (hw : wX1_laysAll d th x1 k n σ Qf) (hR : (({ frames := (6 + 3 * d), cells := k, slots := n, locals := 40 * (6 + 3 * d) } : Room)).frames + 1 ≤ R.frames ∧ 8 + (3 + 11) + (({ frames := (6 + 3 * d), cells := k, slots := n, locals := 40 * (6 + 3 * d) } : Room)).locals ≤ R.locals) (hrest : rest.length ≤ 4) (hsize : ls.size = nL) (hf : cells + k ≤ R.cells ∧ slots + n ≤ R.slots) (hdg : decode cc pc = .ok (.invokevirtual 84, 3))
    (kk : ∀ (σ1 : XS) (H1 : Heap) (locs1 : List Loc), Qf σ1 → xR E σ1 H1 → va_S (xA E) s.heap H1 locs1 → W p l e R s m args below meth c H1 locs1 (cells + k) (slots + n) Qz (F0 m (pc + 3) ls rest)) : W p l e R s m args below meth c H locs cells slots Qz (F0 m pc ls (xv E x1 :: xv E r0 :: rest)) := by
  subst hr
  obtain ⟨hx, hb, hml, hown, hts, hrt, hlk, hK, hZ⟩ := id cx
  exact x_gov (va_runV (As := [xv E x1]) (rest := rest) (x_fix cx) (MX1_laysAll l E d th x1 k n σ Qf hw) (cwV 1 hts (lw_V q466 q468 qs0 q157 q469) rfl rfl rfl (by decide +kernel) hR) (x_preV cx hR0 hS0 hk (by decide) (q := (RX1, TX1, 12)) rfl rfl [xv E x1]) rfl rfl hsize rfl (lv_room (xroom hrest)) hdg hf) hS0 kk
def wX1_laid_107 (d : Nat) (Q : Option Nat → XS → Prop) (K107 : Nat → Int32 → Nat → Nat → XS → Prop) (th : Nat) (x1 : Int32) (bc : Nat) (bs : Nat) (σ : XS) : Prop :=
  kd σ th = 2 ∧ (oc σ (fr σ th 2) 16 (fun a3 => wJ7_size a3 σ (fun r2 s2 => if r2 ≤ x1 then (Q (some th) s2) else (kd s2 th = 2 ∧ (oc s2 (fr s2 th 2) 16 (fun a6 => wJ7_get a6 x1 s2 (fun r5 s5 => xck [12] s5 r5 ∧ (oc s5 r5 12 (fun a7 => kd s5 th = 2 ∧ (∃ k10 n10 : Nat, k10 ≤ bc ∧ n10 ≤ bs ∧ (wX1_laysAll d th (fr s5 a7 2) k10 n10 s5 (fun s8 => kd s8 th = 2 ∧ (oc s8 (fr s8 th 2) 16 (fun a13 => wJ7_get a13 x1 s8 (fun r12 s12 => xck [12] s12 r12 ∧ (oc s12 r12 12 (fun a14 => kd s12 th = 2 ∧ (∃ k17 n17 : Nat, k17 ≤ (bc - k10) ∧ n17 ≤ (bs - n10) ∧ (wX1_laysAll d th (fr s12 a14 3) k17 n17 s12 (fun s15 => ∀ v18 : Int32, v18 = x1 + (1 : Int32) → K107 th v18 ((bc - k10) - k17) ((bs - n10) - n17) s15))))))))))))))))))))
set_option maxHeartbeats 4000000 in
theorem BX1_laid_107 {l : Launch} {p : Program} {e : Env} {s : State} {m : MethodId} {args : Array Value} {below : List Frame} {meth : Method} {c : Code} {E : xx_E} {mc ms : Nat} {Q : Option Nat → XS → Prop} {K107 : Nat → Int32 → Nat → Nat → XS → Prop} (d : Nat) (cx : xx_X "StruckCounts$Suit" cX1_laid 3 (some (.object "StruckCounts$Suit")) E p s m args meth c) (hK107 : ∀ (th : Nat) (x1 : Int32) (bc : Nat) (bs : Nat) (σ : XS), K107 th x1 bc bs σ → x_T p l e ({ frames := (7 + 3 * d), cells := mc, slots := ms, locals := 40 * (7 + 3 * d) } : Room) s m args below meth c E (va_Qe (xr E) Q (fun σ' t => xW E σ' t) (xA E)) mc ms 3 107 bc bs σ [(0, xv E (some th)), (1, .int x1)] []) : ∀ (th : Nat) (x1 : Int32) (bc : Nat) (bs : Nat) (σ : XS), wX1_laid_107 d Q K107 th x1 bc bs σ → x_T p l e ({ frames := (7 + 3 * d), cells := mc, slots := ms, locals := 40 * (7 + 3 * d) } : Room) s m args below meth c E (va_Qe (xr E) Q (fun σ' t => xW E σ' t) (xA E)) mc ms 3 107 bc bs σ [(0, xv E (some th)), (1, .int x1)] [] := by
  intro th x1 bc bs σ hw H locs ls cells slots hR hS hl hcb hsb
  unfold wX1_laid_107 at hw
  obtain ⟨hx, hb, hml, hown, hts, hrt, hlk, hMK, hZ⟩ := id cx
  refine lv_iload_n hx hb dX1_laid_107 rfl (lv_at hl 1 rfl) ?_
  refine x_aload_n cx dX1_laid_108 rfl (lv_at hl 0 rfl) ?_
  obtain ⟨hk1, hw⟩ := hw
  refine xg_X1_30_2 cx hR rfl hk1 dX1_laid_109 ?_
  obtain ⟨a3, hr3, hk3, hw⟩ := hw
  refine CJ7_size_X1_55 cx hR hS hr3 hk3 hw (by constructor <;> dsimp only <;> omega) (Nat.le_of_ble_eq_true rfl) hl.1 ⟨by dsimp only; omega, by dsimp only; omega⟩ dX1_laid_112 (fun r2 s2 H locs hw hR hS => ?_)
  refine lv_icmp_ge (tgt := 160) hx hb dX1_laid_115 (by decide) (fun hc => ?_) (fun hc => ?_)
  · have hw := mm_ip hc hw
    refine x_aload_n cx dX1_laid_160 rfl (lv_at hl 0 rfl) ?_
    exact x_aret cx (by first | exact Or.inl ⟨_, rfl⟩ | exact Or.inr ⟨_, rfl⟩) hR hS (xle hcb) (xle hsb) hw dX1_laid_161
  · have hw := mm_in hc hw
    refine x_aload_n cx dX1_laid_118 rfl (lv_at hl 0 rfl) ?_
    refine x_aload_n cx dX1_laid_119 rfl (lv_at hl 0 rfl) ?_
    obtain ⟨hk4, hw⟩ := hw
    refine xg_X1_30_2 cx hR rfl hk4 dX1_laid_120 ?_
    refine lv_iload_n hx hb dX1_laid_123 rfl (lv_at hl 1 rfl) ?_
    obtain ⟨a6, hr6, hk6, hw⟩ := hw
    refine CJ7_get_X1_59 cx hR hS hr6 hk6 hw (by constructor <;> dsimp only <;> omega) (Nat.le_of_ble_eq_true rfl) hl.1 ⟨by dsimp only; omega, by dsimp only; omega⟩ dX1_laid_124 (fun r5 s5 H locs hw hR hS => ?_)
    obtain ⟨hv, hw⟩ := hw
    refine x_cast cx hR q465 (xcc_2 hv) dX1_laid_127 ?_
    obtain ⟨a7, hr7, hk7, hw⟩ := hw
    refine xg_X1_81_12 cx hR hr7 hk7 dX1_laid_130 ?_
    obtain ⟨hk9, hw⟩ := hw
    obtain ⟨k10, n10, hb1, hb2, hw⟩ := hw
    refine CX1_laysAll_X1_84 d cx hR hS rfl hk9 hw (by constructor <;> dsimp only <;> omega) (Nat.le_of_ble_eq_true rfl) hl.1 ⟨by dsimp only; omega, by dsimp only; omega⟩ dX1_laid_133 (fun s8 H locs hw hR hS => ?_)
    have hcb := xadd hb1 hcb
    have hsb := xadd hb2 hsb
    refine x_aload_n cx dX1_laid_136 rfl (lv_at hl 0 rfl) ?_
    refine x_aload_n cx dX1_laid_137 rfl (lv_at hl 0 rfl) ?_
    obtain ⟨hk11, hw⟩ := hw
    refine xg_X1_30_2 cx hR rfl hk11 dX1_laid_138 ?_
    refine lv_iload_n hx hb dX1_laid_141 rfl (lv_at hl 1 rfl) ?_
    obtain ⟨a13, hr13, hk13, hw⟩ := hw
    refine CJ7_get_X1_59 cx hR hS hr13 hk13 hw (by constructor <;> dsimp only <;> omega) (Nat.le_of_ble_eq_true rfl) hl.1 ⟨by dsimp only; omega, by dsimp only; omega⟩ dX1_laid_142 (fun r12 s12 H locs hw hR hS => ?_)
    obtain ⟨hv, hw⟩ := hw
    refine x_cast cx hR q465 (xcc_2 hv) dX1_laid_145 ?_
    obtain ⟨a14, hr14, hk14, hw⟩ := hw
    refine xg_X1_88_12 cx hR hr14 hk14 dX1_laid_148 ?_
    obtain ⟨hk16, hw⟩ := hw
    obtain ⟨k17, n17, hb1, hb2, hw⟩ := hw
    refine CX1_laysAll_X1_84 d cx hR hS rfl hk16 hw (by constructor <;> dsimp only <;> omega) (Nat.le_of_ble_eq_true rfl) hl.1 ⟨by dsimp only; omega, by dsimp only; omega⟩ dX1_laid_151 (fun s15 H locs hw hR hS => ?_)
    have hcb := xadd hb1 hcb
    have hsb := xadd hb2 hsb
    obtain ⟨v18, hv18⟩ : ∃ v : Int32, v = x1 + (1 : Int32) := ⟨_, rfl⟩
    have hw := hw v18 hv18
    refine lv_iinc (v := v18) (lv' := [(1, .int v18), (0, xv E (some th))]) hx hb dX1_laid_154 hl (k := 1) rfl (by rw [hv18]; rfl) (by decide) (by simp [xv_cat]) (fun ls hl => ?_)
    refine lv_goto (tgt := 107) hx hb dX1_laid_157 (by decide) ?_
    exact hK107 _ _ _ _ _ hw _ _ _ _ _ hR hS (lv_sub hl [1, 0] rfl) hcb hsb
theorem LX1_laid_107 {l : Launch} {p : Program} {e : Env} {s : State} {m : MethodId} {args : Array Value} {below : List Frame} {meth : Method} {c : Code} {E : xx_E} {mc ms : Nat} {Q : Option Nat → XS → Prop} (d : Nat) (cx : xx_X "StruckCounts$Suit" cX1_laid 3 (some (.object "StruckCounts$Suit")) E p s m args meth c) : ∀ (th : Nat) (x1 : Int32) (bc : Nat) (bs : Nat) (σ : XS), lp5F (wX1_laid_107 d Q) th x1 bc bs σ → x_T p l e ({ frames := (7 + 3 * d), cells := mc, slots := ms, locals := 40 * (7 + 3 * d) } : Room) s m args below meth c E (va_Qe (xr E) Q (fun σ' t => xW E σ' t) (xA E)) mc ms 3 107 bc bs σ [(0, xv E (some th)), (1, .int x1)] [] :=
  lp5F_of (fun K hK => BX1_laid_107 d cx hK)
def wX1_laid_91 (d : Nat) (Q : Option Nat → XS → Prop) (K22 : Nat → Int32 → Nat → Nat → XS → Prop) (K50 : Nat → Int32 → Int32 → Nat → Nat → XS → Prop) (th : Nat) (x1 : Int32) (x2 : Int32) (t0 : Option Nat) (t1 : Int32) (t2 : Int32) (t3 : Int32) (bc : Nat) (bs : Nat) (σ : XS) : Prop :=
  oc σ t0 100 (fun a19 => xK ≤ a19 ∧ (vp_in t1 (ln σ a19) ∧ (∀ v20 : Int32, v20 = x2 + (1 : Int32) → K50 th x1 v20 bc bs (pai σ a19 t1.toNatClampNeg (t2 * t3)))))
set_option maxHeartbeats 4000000 in
theorem BX1_laid_91 {l : Launch} {p : Program} {e : Env} {s : State} {m : MethodId} {args : Array Value} {below : List Frame} {meth : Method} {c : Code} {E : xx_E} {mc ms : Nat} {Q : Option Nat → XS → Prop} {K22 : Nat → Int32 → Nat → Nat → XS → Prop} {K50 : Nat → Int32 → Int32 → Nat → Nat → XS → Prop} (d : Nat) (cx : xx_X "StruckCounts$Suit" cX1_laid 3 (some (.object "StruckCounts$Suit")) E p s m args meth c) (hK22 : ∀ (th : Nat) (x1 : Int32) (bc : Nat) (bs : Nat) (σ : XS), K22 th x1 bc bs σ → x_T p l e ({ frames := (7 + 3 * d), cells := mc, slots := ms, locals := 40 * (7 + 3 * d) } : Room) s m args below meth c E (va_Qe (xr E) Q (fun σ' t => xW E σ' t) (xA E)) mc ms 3 22 bc bs σ [(0, xv E (some th)), (1, .int x1)] []) (hK50 : ∀ (th : Nat) (x1 : Int32) (x2 : Int32) (bc : Nat) (bs : Nat) (σ : XS), K50 th x1 x2 bc bs σ → x_T p l e ({ frames := (7 + 3 * d), cells := mc, slots := ms, locals := 40 * (7 + 3 * d) } : Room) s m args below meth c E (va_Qe (xr E) Q (fun σ' t => xW E σ' t) (xA E)) mc ms 3 50 bc bs σ [(0, xv E (some th)), (1, .int x1), (2, .int x2)] []) : ∀ (th : Nat) (x1 : Int32) (x2 : Int32) (t0 : Option Nat) (t1 : Int32) (t2 : Int32) (t3 : Int32) (bc : Nat) (bs : Nat) (σ : XS), wX1_laid_91 d Q K22 K50 th x1 x2 t0 t1 t2 t3 bc bs σ → x_T p l e ({ frames := (7 + 3 * d), cells := mc, slots := ms, locals := 40 * (7 + 3 * d) } : Room) s m args below meth c E (va_Qe (xr E) Q (fun σ' t => xW E σ' t) (xA E)) mc ms 3 91 bc bs σ [(0, xv E (some th)), (1, .int x1), (2, .int x2)] [.int t3, .int t2, .int t1, xv E t0] := by
  intro th x1 x2 t0 t1 t2 t3 bc bs σ hw H locs ls cells slots hR hS hl hcb hsb
  unfold wX1_laid_91 at hw
  obtain ⟨hx, hb, hml, hown, hts, hrt, hlk, hMK, hZ⟩ := id cx
  refine lv_imul hx hb dX1_laid_91 ?_
  obtain ⟨a19, hr19, hk19, hw⟩ := hw
  obtain ⟨hge_a19, hw⟩ := hw
  obtain ⟨hi, hw⟩ := hw
  refine x_iast cx hR hS hr19 hge_a19 hk19 (j := t1.toNatClampNeg) rfl hi dX1_laid_92 (fun H locs hR hS => ?_)
  obtain ⟨v20, hv20⟩ : ∃ v : Int32, v = x2 + (1 : Int32) := ⟨_, rfl⟩
  have hw := hw v20 hv20
  refine lv_iinc (v := v20) (lv' := [(2, .int v20), (0, xv E (some th)), (1, .int x1)]) hx hb dX1_laid_93 hl (k := 2) rfl (by rw [hv20]; rfl) (by decide) rfl (fun ls hl => ?_)
  refine lv_goto (tgt := 50) hx hb dX1_laid_96 (by decide) ?_
  exact hK50 _ _ _ _ _ _ hw _ _ _ _ _ hR hS (lv_sub hl [1, 2, 0] rfl) hcb hsb
def wX1_laid_50 (d : Nat) (Q : Option Nat → XS → Prop) (K22 : Nat → Int32 → Nat → Nat → XS → Prop) (K50 : Nat → Int32 → Int32 → Nat → Nat → XS → Prop) (th : Nat) (x1 : Int32) (x2 : Int32) (bc : Nat) (bs : Nat) (σ : XS) : Prop :=
  kd σ th = 2 ∧ (if (fi σ th 5) ≤ x2 then (∀ v22 : Int32, v22 = x1 + (1 : Int32) → K22 th v22 bc bs σ) else (oc σ (fr σ th 11) 100 (fun a23 => vp_in x1 (ln σ a23) ∧ (wX0_has x1 x2 σ (fun r24 s24 => if r24 = 0 then (kd s24 th = 2 ∧ (oc s24 (fr s24 th 4) 100 (fun a26 => vp_in x2 (ln s24 a26) ∧ (wX1_laid_91 d Q K22 K50 th x1 x2 (fr σ th 11) x1 (ai σ a23 x1.toNatClampNeg) ((10 : Int32) - (ai s24 a26 x2.toNatClampNeg)) bc bs s24)))) else (kd s24 th = 2 ∧ (oc s24 (fr s24 th 4) 100 (fun a28 => vp_in x2 (ln s24 a28) ∧ (wX1_laid_91 d Q K22 K50 th x1 x2 (fr σ th 11) x1 (ai σ a23 x1.toNatClampNeg) (ai s24 a28 x2.toNatClampNeg) bc bs s24)))))))))
set_option maxHeartbeats 4000000 in
theorem BX1_laid_50 {l : Launch} {p : Program} {e : Env} {s : State} {m : MethodId} {args : Array Value} {below : List Frame} {meth : Method} {c : Code} {E : xx_E} {mc ms : Nat} {Q : Option Nat → XS → Prop} {K22 : Nat → Int32 → Nat → Nat → XS → Prop} {K50 : Nat → Int32 → Int32 → Nat → Nat → XS → Prop} (d : Nat) (cx : xx_X "StruckCounts$Suit" cX1_laid 3 (some (.object "StruckCounts$Suit")) E p s m args meth c) (hK22 : ∀ (th : Nat) (x1 : Int32) (bc : Nat) (bs : Nat) (σ : XS), K22 th x1 bc bs σ → x_T p l e ({ frames := (7 + 3 * d), cells := mc, slots := ms, locals := 40 * (7 + 3 * d) } : Room) s m args below meth c E (va_Qe (xr E) Q (fun σ' t => xW E σ' t) (xA E)) mc ms 3 22 bc bs σ [(0, xv E (some th)), (1, .int x1)] []) (hK50 : ∀ (th : Nat) (x1 : Int32) (x2 : Int32) (bc : Nat) (bs : Nat) (σ : XS), K50 th x1 x2 bc bs σ → x_T p l e ({ frames := (7 + 3 * d), cells := mc, slots := ms, locals := 40 * (7 + 3 * d) } : Room) s m args below meth c E (va_Qe (xr E) Q (fun σ' t => xW E σ' t) (xA E)) mc ms 3 50 bc bs σ [(0, xv E (some th)), (1, .int x1), (2, .int x2)] []) : ∀ (th : Nat) (x1 : Int32) (x2 : Int32) (bc : Nat) (bs : Nat) (σ : XS), wX1_laid_50 d Q K22 K50 th x1 x2 bc bs σ → x_T p l e ({ frames := (7 + 3 * d), cells := mc, slots := ms, locals := 40 * (7 + 3 * d) } : Room) s m args below meth c E (va_Qe (xr E) Q (fun σ' t => xW E σ' t) (xA E)) mc ms 3 50 bc bs σ [(0, xv E (some th)), (1, .int x1), (2, .int x2)] [] := by
  intro th x1 x2 bc bs σ hw H locs ls cells slots hR hS hl hcb hsb
  unfold wX1_laid_50 at hw
  obtain ⟨hx, hb, hml, hown, hts, hrt, hlk, hMK, hZ⟩ := id cx
  refine lv_iload_n hx hb dX1_laid_50 rfl (lv_at hl 2 rfl) ?_
  refine x_aload_n cx dX1_laid_51 rfl (lv_at hl 0 rfl) ?_
  obtain ⟨hk21, hw⟩ := hw
  refine xg_X1_52_2 cx hR rfl hk21 dX1_laid_52 ?_
  refine lv_icmp_ge (tgt := 99) hx hb dX1_laid_55 (by decide) (fun hc => ?_) (fun hc => ?_)
  · have hw := mm_ip hc hw
    obtain ⟨v22, hv22⟩ : ∃ v : Int32, v = x1 + (1 : Int32) := ⟨_, rfl⟩
    have hw := hw v22 hv22
    refine lv_iinc (v := v22) (lv' := [(1, .int v22), (0, xv E (some th)), (2, .int x2)]) hx hb dX1_laid_99 hl (k := 1) rfl (by rw [hv22]; rfl) (by decide) (by simp [xv_cat]) (fun ls hl => ?_)
    refine lv_goto (tgt := 22) hx hb dX1_laid_102 (by decide) ?_
    exact hK22 _ _ _ _ _ hw _ _ _ _ _ hR hS (lv_sub hl [1, 0] rfl) hcb hsb
  · have hw := mm_in hc hw
    refine x_aload_n cx dX1_laid_58 rfl (lv_at hl 0 rfl) ?_
    refine xg_X1_49_2 cx hR rfl hk21 dX1_laid_59 ?_
    refine lv_iload_n hx hb dX1_laid_62 rfl (lv_at hl 1 rfl) ?_
    refine lv_dup2_11 hx hb dX1_laid_63 rfl (xv_cat _ _) ?_
    obtain ⟨a23, hr23, hk23, hw⟩ := hw
    obtain ⟨hi, hw⟩ := hw
    refine x_iald cx hR hr23 hk23 (j := x1.toNatClampNeg) rfl hi dX1_laid_64 ?_
    refine lv_iload_n hx hb dX1_laid_65 rfl (lv_at hl 1 rfl) ?_
    refine lv_iload_n hx hb dX1_laid_66 rfl (lv_at hl 2 rfl) ?_
    refine CX0_has_X1_75 cx hR hS  hw (by constructor <;> dsimp only <;> omega) (Nat.le_of_ble_eq_true rfl) hl.1 ⟨by dsimp only; omega, by dsimp only; omega⟩ dX1_laid_67 (fun r24 s24 H locs hw hR hS => ?_)
    refine lv_if_eq (tgt := 82) hx hb dX1_laid_70 (by decide) (fun hc => ?_) (fun hc => ?_)
    · have hw := mm_ip hc hw
      refine lv_bipush (v := (10 : Int32)) hx hb dX1_laid_82 (by decide) ?_
      refine x_aload_n cx dX1_laid_84 rfl (lv_at hl 0 rfl) ?_
      obtain ⟨hk25, hw⟩ := hw
      refine xg_X1_37_2 cx hR rfl hk25 dX1_laid_85 ?_
      refine lv_iload_n hx hb dX1_laid_88 rfl (lv_at hl 2 rfl) ?_
      obtain ⟨a26, hr26, hk26, hw⟩ := hw
      obtain ⟨hi, hw⟩ := hw
      refine x_iald cx hR hr26 hk26 (j := x2.toNatClampNeg) rfl hi dX1_laid_89 ?_
      refine lv_isub hx hb dX1_laid_90 ?_
      exact BX1_laid_91 d cx hK22 hK50 _ _ _ _ _ _ _ _ _ _ hw _ _ _ _ _ hR hS (lv_sub hl [0, 1, 2] rfl) hcb hsb
    · have hw := mm_in hc hw
      refine x_aload_n cx dX1_laid_73 rfl (lv_at hl 0 rfl) ?_
      obtain ⟨hk27, hw⟩ := hw
      refine xg_X1_37_2 cx hR rfl hk27 dX1_laid_74 ?_
      refine lv_iload_n hx hb dX1_laid_77 rfl (lv_at hl 2 rfl) ?_
      obtain ⟨a28, hr28, hk28, hw⟩ := hw
      obtain ⟨hi, hw⟩ := hw
      refine x_iald cx hR hr28 hk28 (j := x2.toNatClampNeg) rfl hi dX1_laid_78 ?_
      refine lv_goto (tgt := 91) hx hb dX1_laid_79 (by decide) ?_
      exact BX1_laid_91 d cx hK22 hK50 _ _ _ _ _ _ _ _ _ _ hw _ _ _ _ _ hR hS (lv_sub hl [0, 1, 2] rfl) hcb hsb
theorem LX1_laid_50 {l : Launch} {p : Program} {e : Env} {s : State} {m : MethodId} {args : Array Value} {below : List Frame} {meth : Method} {c : Code} {E : xx_E} {mc ms : Nat} {Q : Option Nat → XS → Prop} {K22 : Nat → Int32 → Nat → Nat → XS → Prop} (d : Nat) (cx : xx_X "StruckCounts$Suit" cX1_laid 3 (some (.object "StruckCounts$Suit")) E p s m args meth c) (hK22 : ∀ (th : Nat) (x1 : Int32) (bc : Nat) (bs : Nat) (σ : XS), K22 th x1 bc bs σ → x_T p l e ({ frames := (7 + 3 * d), cells := mc, slots := ms, locals := 40 * (7 + 3 * d) } : Room) s m args below meth c E (va_Qe (xr E) Q (fun σ' t => xW E σ' t) (xA E)) mc ms 3 22 bc bs σ [(0, xv E (some th)), (1, .int x1)] []) : ∀ (th : Nat) (x1 : Int32) (x2 : Int32) (bc : Nat) (bs : Nat) (σ : XS), lp6F (wX1_laid_50 d Q K22) th x1 x2 bc bs σ → x_T p l e ({ frames := (7 + 3 * d), cells := mc, slots := ms, locals := 40 * (7 + 3 * d) } : Room) s m args below meth c E (va_Qe (xr E) Q (fun σ' t => xW E σ' t) (xA E)) mc ms 3 50 bc bs σ [(0, xv E (some th)), (1, .int x1), (2, .int x2)] [] :=
  lp6F_of (fun K hK => BX1_laid_50 d cx hK22 hK)
def wX1_laid_22 (d : Nat) (Q : Option Nat → XS → Prop) (K22 : Nat → Int32 → Nat → Nat → XS → Prop) (th : Nat) (x1 : Int32) (bc : Nat) (bs : Nat) (σ : XS) : Prop :=
  kd σ th = 2 ∧ (wX1_sets th σ (fun r29 s29 => if r29 ≤ x1 then (lp5F (wX1_laid_107 d Q) th (0 : Int32) bc bs s29) else (kd s29 th = 2 ∧ (wX1_mayBe d th x1 s29 (fun r32 s32 => oc s32 (fr s29 th 10) 101 (fun a33 => xK ≤ a33 ∧ (vp_in x1 (ln s32 a33) ∧ (zb r32 ∧ (kd (pai s32 a33 x1.toNatClampNeg r32) th = 2 ∧ (oc (pai s32 a33 x1.toNatClampNeg r32) (fr (pai s32 a33 x1.toNatClampNeg r32) th 11) 100 (fun a35 => xK ≤ a35 ∧ (vp_in x1 (ln (pai s32 a33 x1.toNatClampNeg r32) a35) ∧ (lp6F (wX1_laid_50 d Q K22) th x1 (0 : Int32) bc bs (pai (pai s32 a33 x1.toNatClampNeg r32) a35 x1.toNatClampNeg (1 : Int32)))))))))))))))
set_option maxHeartbeats 4000000 in
theorem BX1_laid_22 {l : Launch} {p : Program} {e : Env} {s : State} {m : MethodId} {args : Array Value} {below : List Frame} {meth : Method} {c : Code} {E : xx_E} {mc ms : Nat} {Q : Option Nat → XS → Prop} {K22 : Nat → Int32 → Nat → Nat → XS → Prop} (d : Nat) (cx : xx_X "StruckCounts$Suit" cX1_laid 3 (some (.object "StruckCounts$Suit")) E p s m args meth c) (hK22 : ∀ (th : Nat) (x1 : Int32) (bc : Nat) (bs : Nat) (σ : XS), K22 th x1 bc bs σ → x_T p l e ({ frames := (7 + 3 * d), cells := mc, slots := ms, locals := 40 * (7 + 3 * d) } : Room) s m args below meth c E (va_Qe (xr E) Q (fun σ' t => xW E σ' t) (xA E)) mc ms 3 22 bc bs σ [(0, xv E (some th)), (1, .int x1)] []) : ∀ (th : Nat) (x1 : Int32) (bc : Nat) (bs : Nat) (σ : XS), wX1_laid_22 d Q K22 th x1 bc bs σ → x_T p l e ({ frames := (7 + 3 * d), cells := mc, slots := ms, locals := 40 * (7 + 3 * d) } : Room) s m args below meth c E (va_Qe (xr E) Q (fun σ' t => xW E σ' t) (xA E)) mc ms 3 22 bc bs σ [(0, xv E (some th)), (1, .int x1)] [] := by
  intro th x1 bc bs σ hw H locs ls cells slots hR hS hl hcb hsb
  unfold wX1_laid_22 at hw
  obtain ⟨hx, hb, hml, hown, hts, hrt, hlk, hMK, hZ⟩ := id cx
  refine lv_iload_n hx hb dX1_laid_22 rfl (lv_at hl 1 rfl) ?_
  refine x_aload_n cx dX1_laid_23 rfl (lv_at hl 0 rfl) ?_
  obtain ⟨hk30, hw⟩ := hw
  refine CX1_sets_X1_69 cx hR hS rfl hk30 hw (by constructor <;> dsimp only <;> omega) (Nat.le_of_ble_eq_true rfl) hl.1 ⟨by dsimp only; omega, by dsimp only; omega⟩ dX1_laid_24 (fun r29 s29 H locs hw hR hS => ?_)
  refine lv_icmp_ge (tgt := 105) hx hb dX1_laid_27 (by decide) (fun hc => ?_) (fun hc => ?_)
  · have hw := mm_ip hc hw
    refine lv_iconst (v := (0 : Int32)) hx hb dX1_laid_105 (by decide) ?_
    refine lv_istore_n (i := 1) (lv' := [(1, .int (0 : Int32)), (0, xv E (some th))]) hx hb dX1_laid_106 rfl hl (by decide) (by simp [xv_cat]) (fun ls hl => ?_)
    exact LX1_laid_107 d cx _ _ _ _ _ hw _ _ _ _ _ hR hS (lv_sub hl [1, 0] rfl) hcb hsb
  · have hw := mm_in hc hw
    refine x_aload_n cx dX1_laid_30 rfl (lv_at hl 0 rfl) ?_
    obtain ⟨hk31, hw⟩ := hw
    refine xg_X1_45_2 cx hR rfl hk31 dX1_laid_31 ?_
    refine lv_iload_n hx hb dX1_laid_34 rfl (lv_at hl 1 rfl) ?_
    refine x_aload_n cx dX1_laid_35 rfl (lv_at hl 0 rfl) ?_
    refine lv_iload_n hx hb dX1_laid_36 rfl (lv_at hl 1 rfl) ?_
    refine CX1_mayBe_X1_72 d cx hR hS rfl hk31 hw (by constructor <;> dsimp only <;> omega) (Nat.le_of_ble_eq_true rfl) hl.1 ⟨by dsimp only; omega, by dsimp only; omega⟩ dX1_laid_37 (fun r32 s32 H locs hw hR hS => ?_)
    obtain ⟨a33, hr33, hk33, hw⟩ := hw
    obtain ⟨hge_a33, hw⟩ := hw
    obtain ⟨hi, hw⟩ := hw
    obtain ⟨hz, hw⟩ := hw
    refine x_zast cx hR hS hr33 hge_a33 hk33 (j := x1.toNatClampNeg) rfl hi hz dX1_laid_40 (fun H locs hR hS => ?_)
    refine x_aload_n cx dX1_laid_41 rfl (lv_at hl 0 rfl) ?_
    obtain ⟨hk34, hw⟩ := hw
    refine xg_X1_49_2 cx hR rfl hk34 dX1_laid_42 ?_
    refine lv_iload_n hx hb dX1_laid_45 rfl (lv_at hl 1 rfl) ?_
    refine lv_iconst (v := (1 : Int32)) hx hb dX1_laid_46 (by decide) ?_
    obtain ⟨a35, hr35, hk35, hw⟩ := hw
    obtain ⟨hge_a35, hw⟩ := hw
    obtain ⟨hi, hw⟩ := hw
    refine x_iast cx hR hS hr35 hge_a35 hk35 (j := x1.toNatClampNeg) rfl hi dX1_laid_47 (fun H locs hR hS => ?_)
    refine lv_iconst (v := (0 : Int32)) hx hb dX1_laid_48 (by decide) ?_
    refine lv_istore_n (i := 2) (lv' := [(2, .int (0 : Int32)), (0, xv E (some th)), (1, .int x1)]) hx hb dX1_laid_49 rfl hl (by decide) rfl (fun ls hl => ?_)
    exact LX1_laid_50 d cx hK22 _ _ _ _ _ _ hw _ _ _ _ _ hR hS (lv_sub hl [1, 2, 0] rfl) hcb hsb
theorem LX1_laid_22 {l : Launch} {p : Program} {e : Env} {s : State} {m : MethodId} {args : Array Value} {below : List Frame} {meth : Method} {c : Code} {E : xx_E} {mc ms : Nat} {Q : Option Nat → XS → Prop} (d : Nat) (cx : xx_X "StruckCounts$Suit" cX1_laid 3 (some (.object "StruckCounts$Suit")) E p s m args meth c) : ∀ (th : Nat) (x1 : Int32) (bc : Nat) (bs : Nat) (σ : XS), lp5F (wX1_laid_22 d Q) th x1 bc bs σ → x_T p l e ({ frames := (7 + 3 * d), cells := mc, slots := ms, locals := 40 * (7 + 3 * d) } : Room) s m args below meth c E (va_Qe (xr E) Q (fun σ' t => xW E σ' t) (xA E)) mc ms 3 22 bc bs σ [(0, xv E (some th)), (1, .int x1)] [] :=
  lp5F_of (fun K hK => BX1_laid_22 d cx hK)
def wX1_laid (d : Nat) (th : Nat) (bc : Nat) (bs : Nat) (σ : XS) (Q : Option Nat → XS → Prop) : Prop :=
  kd σ th = 2 ∧ (wX1_sets th σ (fun r36 s36 => ¬ r36 < 0 ∧ r36.toNatClampNeg ≤ 67108864 ∧ (1 ≤ bc ∧ r36.toNatClampNeg ≤ bs ∧ (kd (xal s36 101 r36.toNatClampNeg) th = 2 ∧ (xK ≤ th ∧ (wX1_sets th (pfr (xal s36 101 r36.toNatClampNeg) th 10 (some (xn s36))) (fun r39 s39 => ¬ r39 < 0 ∧ r39.toNatClampNeg ≤ 67108864 ∧ (1 ≤ (bc - 1) ∧ r39.toNatClampNeg ≤ (bs - r36.toNatClampNeg) ∧ (kd (xal s39 100 r39.toNatClampNeg) th = 2 ∧ (lp5F (wX1_laid_22 d Q) th (0 : Int32) ((bc - 1) - 1) ((bs - r36.toNatClampNeg) - r39.toNatClampNeg) (pfr (xal s39 100 r39.toNatClampNeg) th 11 (some (xn s39)))))))))))))
set_option maxHeartbeats 4000000 in
theorem MX1_laid (l : Launch) (E : xx_E) (d : Nat) (th : Nat) (bc : Nat) (bs : Nat) (σ : XS) (Q : Option Nat → XS → Prop) (hw : wX1_laid d th bc bs σ Q) : xx_Mr l yX1_laid (ws_ yX1_laid cX1_laid 3 (some (.object "StruckCounts$Suit"))) ({ frames := (7 + 3 * d), cells := bc, slots := bs, locals := 40 * (7 + 3 * d) } : Room) E [xv E (some th)] σ Q bc bs := by
  refine x_of (own := "StruckCounts$Suit") (by decide +kernel) rfl ?_
  intro p e s m args below meth c cx hR ha hnm
  refine x_entry [xv E (some th)] 3 [(0, xv E (some th))] ha (by simp [lg_sl, xv_cat, vc_i, vc_j, vc_f]) (by simp [lv_args, xv_cat, vc_i, vc_j, vc_f]) (fun ls hl => ?_)
  have hS : va_S (xA E) s.heap s.heap [] := va_S.rf
  have hcb : 0 + bc ≤ bc := Nat.le_of_eq (Nat.zero_add _)
  have hsb : 0 + bs ≤ bs := Nat.le_of_eq (Nat.zero_add _)
  unfold wX1_laid at hw
  obtain ⟨hx, hb, hml, hown, hts, hrt, hlk, hMK, hZ⟩ := id cx
  refine x_aload_n cx dX1_laid_0 rfl (lv_at hl 0 rfl) ?_
  refine x_aload_n cx dX1_laid_1 rfl (lv_at hl 0 rfl) ?_
  obtain ⟨hk37, hw⟩ := hw
  refine CX1_sets_X1_69 cx hR hS rfl hk37 hw (by constructor <;> dsimp only <;> omega) (Nat.le_of_ble_eq_true rfl) hl.1 ⟨by dsimp only; omega, by dsimp only; omega⟩ dX1_laid_2 (fun r36 s36 H locs hw hR hS => ?_)
  obtain ⟨hn0, hn8, hw⟩ := hw
  obtain ⟨hb1, hb2, hw⟩ := hw
  refine x_newa (atype := .boolean) cx hR hS 1 (by decide) rfl q377 (fun _ => rfl) (fun h => absurd h (by decide)) (N := r36.toNatClampNeg) hn0 rfl (xbytes1 hn8) (by dsimp only; omega) (by dsimp only; omega) dX1_laid_5 (fun H hR hS => ?_)
  have hcb := xadd hb1 hcb
  have hsb := xadd hb2 hsb
  obtain ⟨hk38, hw⟩ := hw
  obtain ⟨hge_th, hw⟩ := hw
  refine xp_X1_45_2 (v := (some (xn s36))) cx hR hS rfl hge_th hk38 dX1_laid_7 (fun H locs hR hS => ?_)
  refine x_aload_n cx dX1_laid_10 rfl (lv_at hl 0 rfl) ?_
  refine x_aload_n cx dX1_laid_11 rfl (lv_at hl 0 rfl) ?_
  refine CX1_sets_X1_69 cx hR hS rfl hk38 hw (by constructor <;> dsimp only <;> omega) (Nat.le_of_ble_eq_true rfl) hl.1 ⟨by dsimp only; omega, by dsimp only; omega⟩ dX1_laid_12 (fun r39 s39 H locs hw hR hS => ?_)
  obtain ⟨hn0, hn8, hw⟩ := hw
  obtain ⟨hb1, hb2, hw⟩ := hw
  refine x_newa (atype := .int) cx hR hS 0 (by decide) rfl q376 (fun _ => rfl) (fun h => absurd h (by decide)) (N := r39.toNatClampNeg) hn0 rfl (xbytes4 hn8) (by dsimp only; omega) (by dsimp only; omega) dX1_laid_15 (fun H hR hS => ?_)
  have hcb := xadd hb1 hcb
  have hsb := xadd hb2 hsb
  obtain ⟨hk40, hw⟩ := hw
  refine xp_X1_49_2 (v := (some (xn s39))) cx hR hS rfl hge_th hk40 dX1_laid_17 (fun H locs hR hS => ?_)
  refine lv_iconst (v := (0 : Int32)) hx hb dX1_laid_20 (by decide) ?_
  refine lv_istore_n (i := 1) (lv' := [(1, .int (0 : Int32)), (0, xv E (some th))]) hx hb dX1_laid_21 rfl hl (by decide) (by simp [xv_cat]) (fun ls hl => ?_)
  exact LX1_laid_22 d cx _ _ _ _ _ hw _ _ _ _ _ hR hS (lv_sub hl [1, 0] rfl) hcb hsb
-- X2_init
theorem xp_X2_9_3 {l : Launch} {p : Program} {e : Env} {R : Room} {s : State} {m : MethodId} {args : Array Value} {below : List Frame} {meth : Method} {c : Code} {H : Heap} {locs : List Loc} {cells slots : Nat} {Qz : State → Prop} {cc : ByteArray} {nL : Nat} {ret : Option FieldType} {E : xx_E} {σ : XS} {pc : Nat} {ls : Array Slot} {rest : List Value} (cx : xx_X "StruckCounts$State" cc nL ret E p s m args meth c) (hR : xR E σ H) (hS0 : va_S (xA E) s.heap H locs) {a : Nat} {r : Option Nat} {v : Option Nat} (hr : r = some a) (ha : xK ≤ a) (hk : kd σ a = 3) (hini : meth.name = "<init>") (hdg : decode cc pc = .ok (.putfield 9, 3)) (kk : ∀ (H1 : Heap) (locs1 : List Loc), xR E (pfr σ a 0 v) H1 → va_S (xA E) s.heap H1 locs1 → W p l e R s m args below meth c H1 locs1 cells slots Qz (F0 m (pc + 3) ls rest)) : W p l e R s m args below meth c H locs cells slots Qz (F0 m pc ls (xv E v :: xv E r :: rest)) :=
  x_put (ci := 2) cx hR hS0 hr ha hk (by decide) rfl in_X2 tyX2 tyX2_ok nmX2 0 (by decide) (Or.inr (Or.inl ⟨q483, rfl, hini, rfl⟩)) (fun _ h => h) (by cases v <;> rfl) (by cases v <;> rfl) (xput_r rfl) hdg kk
theorem xp_X2_15_3 {l : Launch} {p : Program} {e : Env} {R : Room} {s : State} {m : MethodId} {args : Array Value} {below : List Frame} {meth : Method} {c : Code} {H : Heap} {locs : List Loc} {cells slots : Nat} {Qz : State → Prop} {cc : ByteArray} {nL : Nat} {ret : Option FieldType} {E : xx_E} {σ : XS} {pc : Nat} {ls : Array Slot} {rest : List Value} (cx : xx_X "StruckCounts$State" cc nL ret E p s m args meth c) (hR : xR E σ H) (hS0 : va_S (xA E) s.heap H locs) {a : Nat} {r : Option Nat} {v : Option Nat} (hr : r = some a) (ha : xK ≤ a) (hk : kd σ a = 3) (hini : meth.name = "<init>") (hdg : decode cc pc = .ok (.putfield 15, 3)) (kk : ∀ (H1 : Heap) (locs1 : List Loc), xR E (pfr σ a 1 v) H1 → va_S (xA E) s.heap H1 locs1 → W p l e R s m args below meth c H1 locs1 cells slots Qz (F0 m (pc + 3) ls rest)) : W p l e R s m args below meth c H locs cells slots Qz (F0 m pc ls (xv E v :: xv E r :: rest)) :=
  x_put (ci := 2) cx hR hS0 hr ha hk (by decide) rfl in_X2 tyX2 tyX2_ok nmX2 1 (by decide) (Or.inr (Or.inl ⟨q485, rfl, hini, rfl⟩)) (fun _ h => h) (by cases v <;> rfl) (by cases v <;> rfl) (xput_r rfl) hdg kk
theorem xp_X2_18_3 {l : Launch} {p : Program} {e : Env} {R : Room} {s : State} {m : MethodId} {args : Array Value} {below : List Frame} {meth : Method} {c : Code} {H : Heap} {locs : List Loc} {cells slots : Nat} {Qz : State → Prop} {cc : ByteArray} {nL : Nat} {ret : Option FieldType} {E : xx_E} {σ : XS} {pc : Nat} {ls : Array Slot} {rest : List Value} (cx : xx_X "StruckCounts$State" cc nL ret E p s m args meth c) (hR : xR E σ H) (hS0 : va_S (xA E) s.heap H locs) {a : Nat} {r : Option Nat} {v : Option Nat} (hr : r = some a) (ha : xK ≤ a) (hk : kd σ a = 3) (hini : meth.name = "<init>") (hdg : decode cc pc = .ok (.putfield 18, 3)) (kk : ∀ (H1 : Heap) (locs1 : List Loc), xR E (pfr σ a 2 v) H1 → va_S (xA E) s.heap H1 locs1 → W p l e R s m args below meth c H1 locs1 cells slots Qz (F0 m (pc + 3) ls rest)) : W p l e R s m args below meth c H locs cells slots Qz (F0 m pc ls (xv E v :: xv E r :: rest)) :=
  x_put (ci := 2) cx hR hS0 hr ha hk (by decide) rfl in_X2 tyX2 tyX2_ok nmX2 2 (by decide) (Or.inr (Or.inl ⟨q487, rfl, hini, rfl⟩)) (fun _ h => h) (by cases v <;> rfl) (by cases v <;> rfl) (xput_r rfl) hdg kk
theorem xp_X2_21_3 {l : Launch} {p : Program} {e : Env} {R : Room} {s : State} {m : MethodId} {args : Array Value} {below : List Frame} {meth : Method} {c : Code} {H : Heap} {locs : List Loc} {cells slots : Nat} {Qz : State → Prop} {cc : ByteArray} {nL : Nat} {ret : Option FieldType} {E : xx_E} {σ : XS} {pc : Nat} {ls : Array Slot} {rest : List Value} (cx : xx_X "StruckCounts$State" cc nL ret E p s m args meth c) (hR : xR E σ H) (hS0 : va_S (xA E) s.heap H locs) {a : Nat} {r : Option Nat} {v : Option Nat} (hr : r = some a) (ha : xK ≤ a) (hk : kd σ a = 3) (hini : meth.name = "<init>") (hdg : decode cc pc = .ok (.putfield 21, 3)) (kk : ∀ (H1 : Heap) (locs1 : List Loc), xR E (pfr σ a 3 v) H1 → va_S (xA E) s.heap H1 locs1 → W p l e R s m args below meth c H1 locs1 cells slots Qz (F0 m (pc + 3) ls rest)) : W p l e R s m args below meth c H locs cells slots Qz (F0 m pc ls (xv E v :: xv E r :: rest)) :=
  x_put (ci := 2) cx hR hS0 hr ha hk (by decide) rfl in_X2 tyX2 tyX2_ok nmX2 3 (by decide) (Or.inr (Or.inl ⟨q489, rfl, hini, rfl⟩)) (fun _ h => h) (by cases v <;> rfl) (by cases v <;> rfl) (xput_r rfl) hdg kk
theorem xp_X2_24_3 {l : Launch} {p : Program} {e : Env} {R : Room} {s : State} {m : MethodId} {args : Array Value} {below : List Frame} {meth : Method} {c : Code} {H : Heap} {locs : List Loc} {cells slots : Nat} {Qz : State → Prop} {cc : ByteArray} {nL : Nat} {ret : Option FieldType} {E : xx_E} {σ : XS} {pc : Nat} {ls : Array Slot} {rest : List Value} (cx : xx_X "StruckCounts$State" cc nL ret E p s m args meth c) (hR : xR E σ H) (hS0 : va_S (xA E) s.heap H locs) {a : Nat} {r : Option Nat} {v : Option Nat} (hr : r = some a) (ha : xK ≤ a) (hk : kd σ a = 3) (hini : meth.name = "<init>") (hdg : decode cc pc = .ok (.putfield 24, 3)) (kk : ∀ (H1 : Heap) (locs1 : List Loc), xR E (pfr σ a 4 v) H1 → va_S (xA E) s.heap H1 locs1 → W p l e R s m args below meth c H1 locs1 cells slots Qz (F0 m (pc + 3) ls rest)) : W p l e R s m args below meth c H locs cells slots Qz (F0 m pc ls (xv E v :: xv E r :: rest)) :=
  x_put (ci := 2) cx hR hS0 hr ha hk (by decide) rfl in_X2 tyX2 tyX2_ok nmX2 4 (by decide) (Or.inr (Or.inl ⟨q491, rfl, hini, rfl⟩)) (fun _ h => h) (by cases v <;> rfl) (by cases v <;> rfl) (xput_r rfl) hdg kk
theorem xp_X2_27_3 {l : Launch} {p : Program} {e : Env} {R : Room} {s : State} {m : MethodId} {args : Array Value} {below : List Frame} {meth : Method} {c : Code} {H : Heap} {locs : List Loc} {cells slots : Nat} {Qz : State → Prop} {cc : ByteArray} {nL : Nat} {ret : Option FieldType} {E : xx_E} {σ : XS} {pc : Nat} {ls : Array Slot} {rest : List Value} (cx : xx_X "StruckCounts$State" cc nL ret E p s m args meth c) (hR : xR E σ H) (hS0 : va_S (xA E) s.heap H locs) {a : Nat} {r : Option Nat} {v : Option Nat} (hr : r = some a) (ha : xK ≤ a) (hk : kd σ a = 3) (hini : meth.name = "<init>") (hdg : decode cc pc = .ok (.putfield 27, 3)) (kk : ∀ (H1 : Heap) (locs1 : List Loc), xR E (pfr σ a 5 v) H1 → va_S (xA E) s.heap H1 locs1 → W p l e R s m args below meth c H1 locs1 cells slots Qz (F0 m (pc + 3) ls rest)) : W p l e R s m args below meth c H locs cells slots Qz (F0 m pc ls (xv E v :: xv E r :: rest)) :=
  x_put (ci := 2) cx hR hS0 hr ha hk (by decide) rfl in_X2 tyX2 tyX2_ok nmX2 5 (by decide) (Or.inr (Or.inl ⟨q493, rfl, hini, rfl⟩)) (fun _ h => h) (by cases v <;> rfl) (by cases v <;> rfl) (xput_r rfl) hdg kk
theorem xp_X2_30_3 {l : Launch} {p : Program} {e : Env} {R : Room} {s : State} {m : MethodId} {args : Array Value} {below : List Frame} {meth : Method} {c : Code} {H : Heap} {locs : List Loc} {cells slots : Nat} {Qz : State → Prop} {cc : ByteArray} {nL : Nat} {ret : Option FieldType} {E : xx_E} {σ : XS} {pc : Nat} {ls : Array Slot} {rest : List Value} (cx : xx_X "StruckCounts$State" cc nL ret E p s m args meth c) (hR : xR E σ H) (hS0 : va_S (xA E) s.heap H locs) {a : Nat} {r : Option Nat} {v : Option Nat} (hr : r = some a) (ha : xK ≤ a) (hk : kd σ a = 3) (hini : meth.name = "<init>") (hdg : decode cc pc = .ok (.putfield 30, 3)) (kk : ∀ (H1 : Heap) (locs1 : List Loc), xR E (pfr σ a 6 v) H1 → va_S (xA E) s.heap H1 locs1 → W p l e R s m args below meth c H1 locs1 cells slots Qz (F0 m (pc + 3) ls rest)) : W p l e R s m args below meth c H locs cells slots Qz (F0 m pc ls (xv E v :: xv E r :: rest)) :=
  x_put (ci := 2) cx hR hS0 hr ha hk (by decide) rfl in_X2 tyX2 tyX2_ok nmX2 6 (by decide) (Or.inr (Or.inl ⟨q495, rfl, hini, rfl⟩)) (fun _ h => h) (by cases v <;> rfl) (by cases v <;> rfl) (xput_r rfl) hdg kk
def wX2_init (th : Nat) (bc : Nat) (bs : Nat) (σ : XS) (Q : XS → Prop) : Prop :=
  1 ≤ bc ∧ 8 ≤ bs ∧ (kd (xal σ 100 8) th = 3 ∧ (xK ≤ th ∧ (1 ≤ (bc - 1) ∧ 8 ≤ (bs - 8) ∧ (kd (xal (pfr (xal σ 100 8) th 0 (some (xn σ))) 100 8) th = 3 ∧ (1 ≤ ((bc - 1) - 1) ∧ 8 ≤ ((bs - 8) - 8) ∧ (kd (xal (pfr (xal (pfr (xal σ 100 8) th 0 (some (xn σ))) 100 8) th 1 (some (xn (pfr (xal σ 100 8) th 0 (some (xn σ)))))) 100 8) th = 3 ∧ (1 ≤ (((bc - 1) - 1) - 1) ∧ 8 ≤ (((bs - 8) - 8) - 8) ∧ (kd (xal (pfr (xal (pfr (xal (pfr (xal σ 100 8) th 0 (some (xn σ))) 100 8) th 1 (some (xn (pfr (xal σ 100 8) th 0 (some (xn σ)))))) 100 8) th 2 (some (xn (pfr (xal (pfr (xal σ 100 8) th 0 (some (xn σ))) 100 8) th 1 (some (xn (pfr (xal σ 100 8) th 0 (some (xn σ))))))))) 100 8) th = 3 ∧ (1 ≤ ((((bc - 1) - 1) - 1) - 1) ∧ 8 ≤ ((((bs - 8) - 8) - 8) - 8) ∧ (kd (xal (pfr (xal (pfr (xal (pfr (xal (pfr (xal σ 100 8) th 0 (some (xn σ))) 100 8) th 1 (some (xn (pfr (xal σ 100 8) th 0 (some (xn σ)))))) 100 8) th 2 (some (xn (pfr (xal (pfr (xal σ 100 8) th 0 (some (xn σ))) 100 8) th 1 (some (xn (pfr (xal σ 100 8) th 0 (some (xn σ))))))))) 100 8) th 3 (some (xn (pfr (xal (pfr (xal (pfr (xal σ 100 8) th 0 (some (xn σ))) 100 8) th 1 (some (xn (pfr (xal σ 100 8) th 0 (some (xn σ)))))) 100 8) th 2 (some (xn (pfr (xal (pfr (xal σ 100 8) th 0 (some (xn σ))) 100 8) th 1 (some (xn (pfr (xal σ 100 8) th 0 (some (xn σ)))))))))))) 100 8) th = 3 ∧ (1 ≤ (((((bc - 1) - 1) - 1) - 1) - 1) ∧ 8 ≤ (((((bs - 8) - 8) - 8) - 8) - 8) ∧ (kd (xal (pfr (xal (pfr (xal (pfr (xal (pfr (xal (pfr (xal σ 100 8) th 0 (some (xn σ))) 100 8) th 1 (some (xn (pfr (xal σ 100 8) th 0 (some (xn σ)))))) 100 8) th 2 (some (xn (pfr (xal (pfr (xal σ 100 8) th 0 (some (xn σ))) 100 8) th 1 (some (xn (pfr (xal σ 100 8) th 0 (some (xn σ))))))))) 100 8) th 3 (some (xn (pfr (xal (pfr (xal (pfr (xal σ 100 8) th 0 (some (xn σ))) 100 8) th 1 (some (xn (pfr (xal σ 100 8) th 0 (some (xn σ)))))) 100 8) th 2 (some (xn (pfr (xal (pfr (xal σ 100 8) th 0 (some (xn σ))) 100 8) th 1 (some (xn (pfr (xal σ 100 8) th 0 (some (xn σ)))))))))))) 100 8) th 4 (some (xn (pfr (xal (pfr (xal (pfr (xal (pfr (xal σ 100 8) th 0 (some (xn σ))) 100 8) th 1 (some (xn (pfr (xal σ 100 8) th 0 (some (xn σ)))))) 100 8) th 2 (some (xn (pfr (xal (pfr (xal σ 100 8) th 0 (some (xn σ))) 100 8) th 1 (some (xn (pfr (xal σ 100 8) th 0 (some (xn σ))))))))) 100 8) th 3 (some (xn (pfr (xal (pfr (xal (pfr (xal σ 100 8) th 0 (some (xn σ))) 100 8) th 1 (some (xn (pfr (xal σ 100 8) th 0 (some (xn σ)))))) 100 8) th 2 (some (xn (pfr (xal (pfr (xal σ 100 8) th 0 (some (xn σ))) 100 8) th 1 (some (xn (pfr (xal σ 100 8) th 0 (some (xn σ))))))))))))))) 100 8) th = 3 ∧ (1 ≤ ((((((bc - 1) - 1) - 1) - 1) - 1) - 1) ∧ 8 ≤ ((((((bs - 8) - 8) - 8) - 8) - 8) - 8) ∧ (kd (xal (pfr (xal (pfr (xal (pfr (xal (pfr (xal (pfr (xal (pfr (xal σ 100 8) th 0 (some (xn σ))) 100 8) th 1 (some (xn (pfr (xal σ 100 8) th 0 (some (xn σ)))))) 100 8) th 2 (some (xn (pfr (xal (pfr (xal σ 100 8) th 0 (some (xn σ))) 100 8) th 1 (some (xn (pfr (xal σ 100 8) th 0 (some (xn σ))))))))) 100 8) th 3 (some (xn (pfr (xal (pfr (xal (pfr (xal σ 100 8) th 0 (some (xn σ))) 100 8) th 1 (some (xn (pfr (xal σ 100 8) th 0 (some (xn σ)))))) 100 8) th 2 (some (xn (pfr (xal (pfr (xal σ 100 8) th 0 (some (xn σ))) 100 8) th 1 (some (xn (pfr (xal σ 100 8) th 0 (some (xn σ)))))))))))) 100 8) th 4 (some (xn (pfr (xal (pfr (xal (pfr (xal (pfr (xal σ 100 8) th 0 (some (xn σ))) 100 8) th 1 (some (xn (pfr (xal σ 100 8) th 0 (some (xn σ)))))) 100 8) th 2 (some (xn (pfr (xal (pfr (xal σ 100 8) th 0 (some (xn σ))) 100 8) th 1 (some (xn (pfr (xal σ 100 8) th 0 (some (xn σ))))))))) 100 8) th 3 (some (xn (pfr (xal (pfr (xal (pfr (xal σ 100 8) th 0 (some (xn σ))) 100 8) th 1 (some (xn (pfr (xal σ 100 8) th 0 (some (xn σ)))))) 100 8) th 2 (some (xn (pfr (xal (pfr (xal σ 100 8) th 0 (some (xn σ))) 100 8) th 1 (some (xn (pfr (xal σ 100 8) th 0 (some (xn σ))))))))))))))) 100 8) th 5 (some (xn (pfr (xal (pfr (xal (pfr (xal (pfr (xal (pfr (xal σ 100 8) th 0 (some (xn σ))) 100 8) th 1 (some (xn (pfr (xal σ 100 8) th 0 (some (xn σ)))))) 100 8) th 2 (some (xn (pfr (xal (pfr (xal σ 100 8) th 0 (some (xn σ))) 100 8) th 1 (some (xn (pfr (xal σ 100 8) th 0 (some (xn σ))))))))) 100 8) th 3 (some (xn (pfr (xal (pfr (xal (pfr (xal σ 100 8) th 0 (some (xn σ))) 100 8) th 1 (some (xn (pfr (xal σ 100 8) th 0 (some (xn σ)))))) 100 8) th 2 (some (xn (pfr (xal (pfr (xal σ 100 8) th 0 (some (xn σ))) 100 8) th 1 (some (xn (pfr (xal σ 100 8) th 0 (some (xn σ)))))))))))) 100 8) th 4 (some (xn (pfr (xal (pfr (xal (pfr (xal (pfr (xal σ 100 8) th 0 (some (xn σ))) 100 8) th 1 (some (xn (pfr (xal σ 100 8) th 0 (some (xn σ)))))) 100 8) th 2 (some (xn (pfr (xal (pfr (xal σ 100 8) th 0 (some (xn σ))) 100 8) th 1 (some (xn (pfr (xal σ 100 8) th 0 (some (xn σ))))))))) 100 8) th 3 (some (xn (pfr (xal (pfr (xal (pfr (xal σ 100 8) th 0 (some (xn σ))) 100 8) th 1 (some (xn (pfr (xal σ 100 8) th 0 (some (xn σ)))))) 100 8) th 2 (some (xn (pfr (xal (pfr (xal σ 100 8) th 0 (some (xn σ))) 100 8) th 1 (some (xn (pfr (xal σ 100 8) th 0 (some (xn σ)))))))))))))))))) 100 8) th = 3 ∧ (Q (pfr (xal (pfr (xal (pfr (xal (pfr (xal (pfr (xal (pfr (xal (pfr (xal σ 100 8) th 0 (some (xn σ))) 100 8) th 1 (some (xn (pfr (xal σ 100 8) th 0 (some (xn σ)))))) 100 8) th 2 (some (xn (pfr (xal (pfr (xal σ 100 8) th 0 (some (xn σ))) 100 8) th 1 (some (xn (pfr (xal σ 100 8) th 0 (some (xn σ))))))))) 100 8) th 3 (some (xn (pfr (xal (pfr (xal (pfr (xal σ 100 8) th 0 (some (xn σ))) 100 8) th 1 (some (xn (pfr (xal σ 100 8) th 0 (some (xn σ)))))) 100 8) th 2 (some (xn (pfr (xal (pfr (xal σ 100 8) th 0 (some (xn σ))) 100 8) th 1 (some (xn (pfr (xal σ 100 8) th 0 (some (xn σ)))))))))))) 100 8) th 4 (some (xn (pfr (xal (pfr (xal (pfr (xal (pfr (xal σ 100 8) th 0 (some (xn σ))) 100 8) th 1 (some (xn (pfr (xal σ 100 8) th 0 (some (xn σ)))))) 100 8) th 2 (some (xn (pfr (xal (pfr (xal σ 100 8) th 0 (some (xn σ))) 100 8) th 1 (some (xn (pfr (xal σ 100 8) th 0 (some (xn σ))))))))) 100 8) th 3 (some (xn (pfr (xal (pfr (xal (pfr (xal σ 100 8) th 0 (some (xn σ))) 100 8) th 1 (some (xn (pfr (xal σ 100 8) th 0 (some (xn σ)))))) 100 8) th 2 (some (xn (pfr (xal (pfr (xal σ 100 8) th 0 (some (xn σ))) 100 8) th 1 (some (xn (pfr (xal σ 100 8) th 0 (some (xn σ))))))))))))))) 100 8) th 5 (some (xn (pfr (xal (pfr (xal (pfr (xal (pfr (xal (pfr (xal σ 100 8) th 0 (some (xn σ))) 100 8) th 1 (some (xn (pfr (xal σ 100 8) th 0 (some (xn σ)))))) 100 8) th 2 (some (xn (pfr (xal (pfr (xal σ 100 8) th 0 (some (xn σ))) 100 8) th 1 (some (xn (pfr (xal σ 100 8) th 0 (some (xn σ))))))))) 100 8) th 3 (some (xn (pfr (xal (pfr (xal (pfr (xal σ 100 8) th 0 (some (xn σ))) 100 8) th 1 (some (xn (pfr (xal σ 100 8) th 0 (some (xn σ)))))) 100 8) th 2 (some (xn (pfr (xal (pfr (xal σ 100 8) th 0 (some (xn σ))) 100 8) th 1 (some (xn (pfr (xal σ 100 8) th 0 (some (xn σ)))))))))))) 100 8) th 4 (some (xn (pfr (xal (pfr (xal (pfr (xal (pfr (xal σ 100 8) th 0 (some (xn σ))) 100 8) th 1 (some (xn (pfr (xal σ 100 8) th 0 (some (xn σ)))))) 100 8) th 2 (some (xn (pfr (xal (pfr (xal σ 100 8) th 0 (some (xn σ))) 100 8) th 1 (some (xn (pfr (xal σ 100 8) th 0 (some (xn σ))))))))) 100 8) th 3 (some (xn (pfr (xal (pfr (xal (pfr (xal σ 100 8) th 0 (some (xn σ))) 100 8) th 1 (some (xn (pfr (xal σ 100 8) th 0 (some (xn σ)))))) 100 8) th 2 (some (xn (pfr (xal (pfr (xal σ 100 8) th 0 (some (xn σ))) 100 8) th 1 (some (xn (pfr (xal σ 100 8) th 0 (some (xn σ)))))))))))))))))) 100 8) th 6 (some (xn (pfr (xal (pfr (xal (pfr (xal (pfr (xal (pfr (xal (pfr (xal σ 100 8) th 0 (some (xn σ))) 100 8) th 1 (some (xn (pfr (xal σ 100 8) th 0 (some (xn σ)))))) 100 8) th 2 (some (xn (pfr (xal (pfr (xal σ 100 8) th 0 (some (xn σ))) 100 8) th 1 (some (xn (pfr (xal σ 100 8) th 0 (some (xn σ))))))))) 100 8) th 3 (some (xn (pfr (xal (pfr (xal (pfr (xal σ 100 8) th 0 (some (xn σ))) 100 8) th 1 (some (xn (pfr (xal σ 100 8) th 0 (some (xn σ)))))) 100 8) th 2 (some (xn (pfr (xal (pfr (xal σ 100 8) th 0 (some (xn σ))) 100 8) th 1 (some (xn (pfr (xal σ 100 8) th 0 (some (xn σ)))))))))))) 100 8) th 4 (some (xn (pfr (xal (pfr (xal (pfr (xal (pfr (xal σ 100 8) th 0 (some (xn σ))) 100 8) th 1 (some (xn (pfr (xal σ 100 8) th 0 (some (xn σ)))))) 100 8) th 2 (some (xn (pfr (xal (pfr (xal σ 100 8) th 0 (some (xn σ))) 100 8) th 1 (some (xn (pfr (xal σ 100 8) th 0 (some (xn σ))))))))) 100 8) th 3 (some (xn (pfr (xal (pfr (xal (pfr (xal σ 100 8) th 0 (some (xn σ))) 100 8) th 1 (some (xn (pfr (xal σ 100 8) th 0 (some (xn σ)))))) 100 8) th 2 (some (xn (pfr (xal (pfr (xal σ 100 8) th 0 (some (xn σ))) 100 8) th 1 (some (xn (pfr (xal σ 100 8) th 0 (some (xn σ))))))))))))))) 100 8) th 5 (some (xn (pfr (xal (pfr (xal (pfr (xal (pfr (xal (pfr (xal σ 100 8) th 0 (some (xn σ))) 100 8) th 1 (some (xn (pfr (xal σ 100 8) th 0 (some (xn σ)))))) 100 8) th 2 (some (xn (pfr (xal (pfr (xal σ 100 8) th 0 (some (xn σ))) 100 8) th 1 (some (xn (pfr (xal σ 100 8) th 0 (some (xn σ))))))))) 100 8) th 3 (some (xn (pfr (xal (pfr (xal (pfr (xal σ 100 8) th 0 (some (xn σ))) 100 8) th 1 (some (xn (pfr (xal σ 100 8) th 0 (some (xn σ)))))) 100 8) th 2 (some (xn (pfr (xal (pfr (xal σ 100 8) th 0 (some (xn σ))) 100 8) th 1 (some (xn (pfr (xal σ 100 8) th 0 (some (xn σ)))))))))))) 100 8) th 4 (some (xn (pfr (xal (pfr (xal (pfr (xal (pfr (xal σ 100 8) th 0 (some (xn σ))) 100 8) th 1 (some (xn (pfr (xal σ 100 8) th 0 (some (xn σ)))))) 100 8) th 2 (some (xn (pfr (xal (pfr (xal σ 100 8) th 0 (some (xn σ))) 100 8) th 1 (some (xn (pfr (xal σ 100 8) th 0 (some (xn σ))))))))) 100 8) th 3 (some (xn (pfr (xal (pfr (xal (pfr (xal σ 100 8) th 0 (some (xn σ))) 100 8) th 1 (some (xn (pfr (xal σ 100 8) th 0 (some (xn σ)))))) 100 8) th 2 (some (xn (pfr (xal (pfr (xal σ 100 8) th 0 (some (xn σ))) 100 8) th 1 (some (xn (pfr (xal σ 100 8) th 0 (some (xn σ))))))))))))))))))))))))))))))))))))
set_option maxHeartbeats 4000000 in
theorem MX2_init (l : Launch) (E : xx_E) (th : Nat) (bc : Nat) (bs : Nat) (σ : XS) (Q : XS → Prop) (hw : wX2_init th bc bs σ Q) : xx_Mv l yX2_init (ws_ yX2_init cX2_init 1 none) ({ frames := 1, cells := bc, slots := bs, locals := 40 } : Room) E [xv E (some th)] σ Q bc bs := by
  refine x_of (own := "StruckCounts$State") (by decide +kernel) rfl ?_
  intro p e s m args below meth c cx hR ha hnm
  refine x_entry [xv E (some th)] 1 [(0, xv E (some th))] ha (by simp [lg_sl, xv_cat, vc_i, vc_j, vc_f]) (by simp [lv_args, xv_cat, vc_i, vc_j, vc_f]) (fun ls hl => ?_)
  have hS : va_S (xA E) s.heap s.heap [] := va_S.rf
  have hcb : 0 + bc ≤ bc := Nat.le_of_eq (Nat.zero_add _)
  have hsb : 0 + bs ≤ bs := Nat.le_of_eq (Nat.zero_add _)
  have hini : meth.name = "<init>" := hnm
  unfold wX2_init at hw
  obtain ⟨hx, hb, hml, hown, hts, hrt, hlk, hMK, hZ⟩ := id cx
  refine x_aload_n cx dX2_init_0 rfl (lv_at hl 0 rfl) ?_
  refine x_objinit cx hl.1 rfl q482 (xroom12 (Nat.le_of_ble_eq_true rfl) (by dsimp only; omega)) (by dsimp only; omega) dX2_init_1 ?_
  refine x_aload_n cx dX2_init_4 rfl (lv_at hl 0 rfl) ?_
  refine lv_bipush (v := (8 : Int32)) hx hb dX2_init_5 (by decide) ?_
  obtain ⟨hb1, hb2, hw⟩ := hw
  refine x_newa (atype := .int) cx hR hS 0 (by decide) rfl q376 (fun _ => rfl) (fun h => absurd h (by decide)) (N := 8) (by decide) (by decide) (Nat.le_of_ble_eq_true rfl) (by dsimp only; omega) (by dsimp only; omega) dX2_init_7 (fun H hR hS => ?_)
  have hcb := xadd hb1 hcb
  have hsb := xadd hb2 hsb
  obtain ⟨hk1, hw⟩ := hw
  obtain ⟨hge_th, hw⟩ := hw
  refine xp_X2_9_3 (v := (some (xn σ))) cx hR hS rfl hge_th hk1 hini dX2_init_9 (fun H locs hR hS => ?_)
  refine x_aload_n cx dX2_init_12 rfl (lv_at hl 0 rfl) ?_
  refine lv_bipush (v := (8 : Int32)) hx hb dX2_init_13 (by decide) ?_
  obtain ⟨hb1, hb2, hw⟩ := hw
  refine x_newa (atype := .int) cx hR hS 0 (by decide) rfl q376 (fun _ => rfl) (fun h => absurd h (by decide)) (N := 8) (by decide) (by decide) (Nat.le_of_ble_eq_true rfl) (by dsimp only; omega) (by dsimp only; omega) dX2_init_15 (fun H hR hS => ?_)
  have hcb := xadd hb1 hcb
  have hsb := xadd hb2 hsb
  obtain ⟨hk2, hw⟩ := hw
  refine xp_X2_15_3 (v := (some (xn (pfr (xal σ 100 8) th 0 (some (xn σ)))))) cx hR hS rfl hge_th hk2 hini dX2_init_17 (fun H locs hR hS => ?_)
  refine x_aload_n cx dX2_init_20 rfl (lv_at hl 0 rfl) ?_
  refine lv_bipush (v := (8 : Int32)) hx hb dX2_init_21 (by decide) ?_
  obtain ⟨hb1, hb2, hw⟩ := hw
  refine x_newa (atype := .int) cx hR hS 0 (by decide) rfl q376 (fun _ => rfl) (fun h => absurd h (by decide)) (N := 8) (by decide) (by decide) (Nat.le_of_ble_eq_true rfl) (by dsimp only; omega) (by dsimp only; omega) dX2_init_23 (fun H hR hS => ?_)
  have hcb := xadd hb1 hcb
  have hsb := xadd hb2 hsb
  obtain ⟨hk3, hw⟩ := hw
  refine xp_X2_18_3 (v := (some (xn (pfr (xal (pfr (xal σ 100 8) th 0 (some (xn σ))) 100 8) th 1 (some (xn (pfr (xal σ 100 8) th 0 (some (xn σ))))))))) cx hR hS rfl hge_th hk3 hini dX2_init_25 (fun H locs hR hS => ?_)
  refine x_aload_n cx dX2_init_28 rfl (lv_at hl 0 rfl) ?_
  refine lv_bipush (v := (8 : Int32)) hx hb dX2_init_29 (by decide) ?_
  obtain ⟨hb1, hb2, hw⟩ := hw
  refine x_newa (atype := .int) cx hR hS 0 (by decide) rfl q376 (fun _ => rfl) (fun h => absurd h (by decide)) (N := 8) (by decide) (by decide) (Nat.le_of_ble_eq_true rfl) (by dsimp only; omega) (by dsimp only; omega) dX2_init_31 (fun H hR hS => ?_)
  have hcb := xadd hb1 hcb
  have hsb := xadd hb2 hsb
  obtain ⟨hk4, hw⟩ := hw
  refine xp_X2_21_3 (v := (some (xn (pfr (xal (pfr (xal (pfr (xal σ 100 8) th 0 (some (xn σ))) 100 8) th 1 (some (xn (pfr (xal σ 100 8) th 0 (some (xn σ)))))) 100 8) th 2 (some (xn (pfr (xal (pfr (xal σ 100 8) th 0 (some (xn σ))) 100 8) th 1 (some (xn (pfr (xal σ 100 8) th 0 (some (xn σ)))))))))))) cx hR hS rfl hge_th hk4 hini dX2_init_33 (fun H locs hR hS => ?_)
  refine x_aload_n cx dX2_init_36 rfl (lv_at hl 0 rfl) ?_
  refine lv_bipush (v := (8 : Int32)) hx hb dX2_init_37 (by decide) ?_
  obtain ⟨hb1, hb2, hw⟩ := hw
  refine x_newa (atype := .int) cx hR hS 0 (by decide) rfl q376 (fun _ => rfl) (fun h => absurd h (by decide)) (N := 8) (by decide) (by decide) (Nat.le_of_ble_eq_true rfl) (by dsimp only; omega) (by dsimp only; omega) dX2_init_39 (fun H hR hS => ?_)
  have hcb := xadd hb1 hcb
  have hsb := xadd hb2 hsb
  obtain ⟨hk5, hw⟩ := hw
  refine xp_X2_24_3 (v := (some (xn (pfr (xal (pfr (xal (pfr (xal (pfr (xal σ 100 8) th 0 (some (xn σ))) 100 8) th 1 (some (xn (pfr (xal σ 100 8) th 0 (some (xn σ)))))) 100 8) th 2 (some (xn (pfr (xal (pfr (xal σ 100 8) th 0 (some (xn σ))) 100 8) th 1 (some (xn (pfr (xal σ 100 8) th 0 (some (xn σ))))))))) 100 8) th 3 (some (xn (pfr (xal (pfr (xal (pfr (xal σ 100 8) th 0 (some (xn σ))) 100 8) th 1 (some (xn (pfr (xal σ 100 8) th 0 (some (xn σ)))))) 100 8) th 2 (some (xn (pfr (xal (pfr (xal σ 100 8) th 0 (some (xn σ))) 100 8) th 1 (some (xn (pfr (xal σ 100 8) th 0 (some (xn σ))))))))))))))) cx hR hS rfl hge_th hk5 hini dX2_init_41 (fun H locs hR hS => ?_)
  refine x_aload_n cx dX2_init_44 rfl (lv_at hl 0 rfl) ?_
  refine lv_bipush (v := (8 : Int32)) hx hb dX2_init_45 (by decide) ?_
  obtain ⟨hb1, hb2, hw⟩ := hw
  refine x_newa (atype := .int) cx hR hS 0 (by decide) rfl q376 (fun _ => rfl) (fun h => absurd h (by decide)) (N := 8) (by decide) (by decide) (Nat.le_of_ble_eq_true rfl) (by dsimp only; omega) (by dsimp only; omega) dX2_init_47 (fun H hR hS => ?_)
  have hcb := xadd hb1 hcb
  have hsb := xadd hb2 hsb
  obtain ⟨hk6, hw⟩ := hw
  refine xp_X2_27_3 (v := (some (xn (pfr (xal (pfr (xal (pfr (xal (pfr (xal (pfr (xal σ 100 8) th 0 (some (xn σ))) 100 8) th 1 (some (xn (pfr (xal σ 100 8) th 0 (some (xn σ)))))) 100 8) th 2 (some (xn (pfr (xal (pfr (xal σ 100 8) th 0 (some (xn σ))) 100 8) th 1 (some (xn (pfr (xal σ 100 8) th 0 (some (xn σ))))))))) 100 8) th 3 (some (xn (pfr (xal (pfr (xal (pfr (xal σ 100 8) th 0 (some (xn σ))) 100 8) th 1 (some (xn (pfr (xal σ 100 8) th 0 (some (xn σ)))))) 100 8) th 2 (some (xn (pfr (xal (pfr (xal σ 100 8) th 0 (some (xn σ))) 100 8) th 1 (some (xn (pfr (xal σ 100 8) th 0 (some (xn σ)))))))))))) 100 8) th 4 (some (xn (pfr (xal (pfr (xal (pfr (xal (pfr (xal σ 100 8) th 0 (some (xn σ))) 100 8) th 1 (some (xn (pfr (xal σ 100 8) th 0 (some (xn σ)))))) 100 8) th 2 (some (xn (pfr (xal (pfr (xal σ 100 8) th 0 (some (xn σ))) 100 8) th 1 (some (xn (pfr (xal σ 100 8) th 0 (some (xn σ))))))))) 100 8) th 3 (some (xn (pfr (xal (pfr (xal (pfr (xal σ 100 8) th 0 (some (xn σ))) 100 8) th 1 (some (xn (pfr (xal σ 100 8) th 0 (some (xn σ)))))) 100 8) th 2 (some (xn (pfr (xal (pfr (xal σ 100 8) th 0 (some (xn σ))) 100 8) th 1 (some (xn (pfr (xal σ 100 8) th 0 (some (xn σ)))))))))))))))))) cx hR hS rfl hge_th hk6 hini dX2_init_49 (fun H locs hR hS => ?_)
  refine x_aload_n cx dX2_init_52 rfl (lv_at hl 0 rfl) ?_
  refine lv_bipush (v := (8 : Int32)) hx hb dX2_init_53 (by decide) ?_
  obtain ⟨hb1, hb2, hw⟩ := hw
  refine x_newa (atype := .int) cx hR hS 0 (by decide) rfl q376 (fun _ => rfl) (fun h => absurd h (by decide)) (N := 8) (by decide) (by decide) (Nat.le_of_ble_eq_true rfl) (by dsimp only; omega) (by dsimp only; omega) dX2_init_55 (fun H hR hS => ?_)
  have hcb := xadd hb1 hcb
  have hsb := xadd hb2 hsb
  obtain ⟨hk7, hw⟩ := hw
  refine xp_X2_30_3 (v := (some (xn (pfr (xal (pfr (xal (pfr (xal (pfr (xal (pfr (xal (pfr (xal σ 100 8) th 0 (some (xn σ))) 100 8) th 1 (some (xn (pfr (xal σ 100 8) th 0 (some (xn σ)))))) 100 8) th 2 (some (xn (pfr (xal (pfr (xal σ 100 8) th 0 (some (xn σ))) 100 8) th 1 (some (xn (pfr (xal σ 100 8) th 0 (some (xn σ))))))))) 100 8) th 3 (some (xn (pfr (xal (pfr (xal (pfr (xal σ 100 8) th 0 (some (xn σ))) 100 8) th 1 (some (xn (pfr (xal σ 100 8) th 0 (some (xn σ)))))) 100 8) th 2 (some (xn (pfr (xal (pfr (xal σ 100 8) th 0 (some (xn σ))) 100 8) th 1 (some (xn (pfr (xal σ 100 8) th 0 (some (xn σ)))))))))))) 100 8) th 4 (some (xn (pfr (xal (pfr (xal (pfr (xal (pfr (xal σ 100 8) th 0 (some (xn σ))) 100 8) th 1 (some (xn (pfr (xal σ 100 8) th 0 (some (xn σ)))))) 100 8) th 2 (some (xn (pfr (xal (pfr (xal σ 100 8) th 0 (some (xn σ))) 100 8) th 1 (some (xn (pfr (xal σ 100 8) th 0 (some (xn σ))))))))) 100 8) th 3 (some (xn (pfr (xal (pfr (xal (pfr (xal σ 100 8) th 0 (some (xn σ))) 100 8) th 1 (some (xn (pfr (xal σ 100 8) th 0 (some (xn σ)))))) 100 8) th 2 (some (xn (pfr (xal (pfr (xal σ 100 8) th 0 (some (xn σ))) 100 8) th 1 (some (xn (pfr (xal σ 100 8) th 0 (some (xn σ))))))))))))))) 100 8) th 5 (some (xn (pfr (xal (pfr (xal (pfr (xal (pfr (xal (pfr (xal σ 100 8) th 0 (some (xn σ))) 100 8) th 1 (some (xn (pfr (xal σ 100 8) th 0 (some (xn σ)))))) 100 8) th 2 (some (xn (pfr (xal (pfr (xal σ 100 8) th 0 (some (xn σ))) 100 8) th 1 (some (xn (pfr (xal σ 100 8) th 0 (some (xn σ))))))))) 100 8) th 3 (some (xn (pfr (xal (pfr (xal (pfr (xal σ 100 8) th 0 (some (xn σ))) 100 8) th 1 (some (xn (pfr (xal σ 100 8) th 0 (some (xn σ)))))) 100 8) th 2 (some (xn (pfr (xal (pfr (xal σ 100 8) th 0 (some (xn σ))) 100 8) th 1 (some (xn (pfr (xal σ 100 8) th 0 (some (xn σ)))))))))))) 100 8) th 4 (some (xn (pfr (xal (pfr (xal (pfr (xal (pfr (xal σ 100 8) th 0 (some (xn σ))) 100 8) th 1 (some (xn (pfr (xal σ 100 8) th 0 (some (xn σ)))))) 100 8) th 2 (some (xn (pfr (xal (pfr (xal σ 100 8) th 0 (some (xn σ))) 100 8) th 1 (some (xn (pfr (xal σ 100 8) th 0 (some (xn σ))))))))) 100 8) th 3 (some (xn (pfr (xal (pfr (xal (pfr (xal σ 100 8) th 0 (some (xn σ))) 100 8) th 1 (some (xn (pfr (xal σ 100 8) th 0 (some (xn σ)))))) 100 8) th 2 (some (xn (pfr (xal (pfr (xal σ 100 8) th 0 (some (xn σ))) 100 8) th 1 (some (xn (pfr (xal σ 100 8) th 0 (some (xn σ))))))))))))))))))))) cx hR hS rfl hge_th hk7 hini dX2_init_57 (fun H locs hR hS => ?_)
  exact x_vret cx hR hS (xle hcb) (xle hsb) hw dX2_init_60
-- X2_lays
theorem xg_X2_15_3 {l : Launch} {p : Program} {e : Env} {R : Room} {s : State} {m : MethodId} {args : Array Value} {below : List Frame} {meth : Method} {c : Code} {H : Heap} {locs : List Loc} {cells slots : Nat} {Qz : State → Prop} {cc : ByteArray} {nL : Nat} {ret : Option FieldType} {E : xx_E} {σ : XS} {pc : Nat} {ls : Array Slot} {rest : List Value} (cx : xx_X "StruckCounts$State" cc nL ret E p s m args meth c) (hR : xR E σ H) {a : Nat} {r : Option Nat} (hr : r = some a) (hk : kd σ a = 3) (hdg : decode cc pc = .ok (.getfield 15, 3)) (kk : W p l e R s m args below meth c H locs cells slots Qz (F0 m (pc + 3) ls (xv E (fr σ a 1) :: rest))) : W p l e R s m args below meth c H locs cells slots Qz (F0 m pc ls (xv E r :: rest)) :=
  x_get (ci := 2) cx hR hr hk (by decide) rfl in_X2 1 (by decide) q485 (fun _ h => h) (v := xv E (fr σ a 1)) rfl hdg kk
theorem xg_X2_18_3 {l : Launch} {p : Program} {e : Env} {R : Room} {s : State} {m : MethodId} {args : Array Value} {below : List Frame} {meth : Method} {c : Code} {H : Heap} {locs : List Loc} {cells slots : Nat} {Qz : State → Prop} {cc : ByteArray} {nL : Nat} {ret : Option FieldType} {E : xx_E} {σ : XS} {pc : Nat} {ls : Array Slot} {rest : List Value} (cx : xx_X "StruckCounts$State" cc nL ret E p s m args meth c) (hR : xR E σ H) {a : Nat} {r : Option Nat} (hr : r = some a) (hk : kd σ a = 3) (hdg : decode cc pc = .ok (.getfield 18, 3)) (kk : W p l e R s m args below meth c H locs cells slots Qz (F0 m (pc + 3) ls (xv E (fr σ a 2) :: rest))) : W p l e R s m args below meth c H locs cells slots Qz (F0 m pc ls (xv E r :: rest)) :=
  x_get (ci := 2) cx hR hr hk (by decide) rfl in_X2 2 (by decide) q487 (fun _ h => h) (v := xv E (fr σ a 2)) rfl hdg kk
theorem xg_X2_21_3 {l : Launch} {p : Program} {e : Env} {R : Room} {s : State} {m : MethodId} {args : Array Value} {below : List Frame} {meth : Method} {c : Code} {H : Heap} {locs : List Loc} {cells slots : Nat} {Qz : State → Prop} {cc : ByteArray} {nL : Nat} {ret : Option FieldType} {E : xx_E} {σ : XS} {pc : Nat} {ls : Array Slot} {rest : List Value} (cx : xx_X "StruckCounts$State" cc nL ret E p s m args meth c) (hR : xR E σ H) {a : Nat} {r : Option Nat} (hr : r = some a) (hk : kd σ a = 3) (hdg : decode cc pc = .ok (.getfield 21, 3)) (kk : W p l e R s m args below meth c H locs cells slots Qz (F0 m (pc + 3) ls (xv E (fr σ a 3) :: rest))) : W p l e R s m args below meth c H locs cells slots Qz (F0 m pc ls (xv E r :: rest)) :=
  x_get (ci := 2) cx hR hr hk (by decide) rfl in_X2 3 (by decide) q489 (fun _ h => h) (v := xv E (fr σ a 3)) rfl hdg kk
theorem xg_X2_24_3 {l : Launch} {p : Program} {e : Env} {R : Room} {s : State} {m : MethodId} {args : Array Value} {below : List Frame} {meth : Method} {c : Code} {H : Heap} {locs : List Loc} {cells slots : Nat} {Qz : State → Prop} {cc : ByteArray} {nL : Nat} {ret : Option FieldType} {E : xx_E} {σ : XS} {pc : Nat} {ls : Array Slot} {rest : List Value} (cx : xx_X "StruckCounts$State" cc nL ret E p s m args meth c) (hR : xR E σ H) {a : Nat} {r : Option Nat} (hr : r = some a) (hk : kd σ a = 3) (hdg : decode cc pc = .ok (.getfield 24, 3)) (kk : W p l e R s m args below meth c H locs cells slots Qz (F0 m (pc + 3) ls (xv E (fr σ a 4) :: rest))) : W p l e R s m args below meth c H locs cells slots Qz (F0 m pc ls (xv E r :: rest)) :=
  x_get (ci := 2) cx hR hr hk (by decide) rfl in_X2 4 (by decide) q491 (fun _ h => h) (v := xv E (fr σ a 4)) rfl hdg kk
theorem xg_X2_27_3 {l : Launch} {p : Program} {e : Env} {R : Room} {s : State} {m : MethodId} {args : Array Value} {below : List Frame} {meth : Method} {c : Code} {H : Heap} {locs : List Loc} {cells slots : Nat} {Qz : State → Prop} {cc : ByteArray} {nL : Nat} {ret : Option FieldType} {E : xx_E} {σ : XS} {pc : Nat} {ls : Array Slot} {rest : List Value} (cx : xx_X "StruckCounts$State" cc nL ret E p s m args meth c) (hR : xR E σ H) {a : Nat} {r : Option Nat} (hr : r = some a) (hk : kd σ a = 3) (hdg : decode cc pc = .ok (.getfield 27, 3)) (kk : W p l e R s m args below meth c H locs cells slots Qz (F0 m (pc + 3) ls (xv E (fr σ a 5) :: rest))) : W p l e R s m args below meth c H locs cells slots Qz (F0 m pc ls (xv E r :: rest)) :=
  x_get (ci := 2) cx hR hr hk (by decide) rfl in_X2 5 (by decide) q493 (fun _ h => h) (v := xv E (fr σ a 5)) rfl hdg kk
theorem xg_X2_30_3 {l : Launch} {p : Program} {e : Env} {R : Room} {s : State} {m : MethodId} {args : Array Value} {below : List Frame} {meth : Method} {c : Code} {H : Heap} {locs : List Loc} {cells slots : Nat} {Qz : State → Prop} {cc : ByteArray} {nL : Nat} {ret : Option FieldType} {E : xx_E} {σ : XS} {pc : Nat} {ls : Array Slot} {rest : List Value} (cx : xx_X "StruckCounts$State" cc nL ret E p s m args meth c) (hR : xR E σ H) {a : Nat} {r : Option Nat} (hr : r = some a) (hk : kd σ a = 3) (hdg : decode cc pc = .ok (.getfield 30, 3)) (kk : W p l e R s m args below meth c H locs cells slots Qz (F0 m (pc + 3) ls (xv E (fr σ a 6) :: rest))) : W p l e R s m args below meth c H locs cells slots Qz (F0 m pc ls (xv E r :: rest)) :=
  x_get (ci := 2) cx hR hr hk (by decide) rfl in_X2 6 (by decide) q495 (fun _ h => h) (v := xv E (fr σ a 6)) rfl hdg kk
def wX2_lays (th : Nat) (x1 : Int32) (x2 : Int32) (x3 : Int32) (x4 : Int32) (x5 : Int32) (σ : XS) (Q : XS → Prop) : Prop :=
  kd σ th = 3 ∧ (oc σ (fr σ th 1) 100 (fun a2 => xK ≤ a2 ∧ (vp_in x1 (ln σ a2) ∧ (oc (pai σ a2 x1.toNatClampNeg x2) (fr (pai σ a2 x1.toNatClampNeg x2) th 2) 100 (fun a3 => xK ≤ a3 ∧ (vp_in x1 (ln (pai σ a2 x1.toNatClampNeg x2) a3) ∧ (oc (pai (pai σ a2 x1.toNatClampNeg x2) a3 x1.toNatClampNeg x3) (fr (pai (pai σ a2 x1.toNatClampNeg x2) a3 x1.toNatClampNeg x3) th 3) 100 (fun a4 => xK ≤ a4 ∧ (vp_in x1 (ln (pai (pai σ a2 x1.toNatClampNeg x2) a3 x1.toNatClampNeg x3) a4) ∧ (oc (pai (pai (pai σ a2 x1.toNatClampNeg x2) a3 x1.toNatClampNeg x3) a4 x1.toNatClampNeg x4) (fr (pai (pai (pai σ a2 x1.toNatClampNeg x2) a3 x1.toNatClampNeg x3) a4 x1.toNatClampNeg x4) th 4) 100 (fun a5 => xK ≤ a5 ∧ (vp_in x1 (ln (pai (pai (pai σ a2 x1.toNatClampNeg x2) a3 x1.toNatClampNeg x3) a4 x1.toNatClampNeg x4) a5) ∧ (oc (pai (pai (pai (pai σ a2 x1.toNatClampNeg x2) a3 x1.toNatClampNeg x3) a4 x1.toNatClampNeg x4) a5 x1.toNatClampNeg x5) (fr (pai (pai (pai (pai σ a2 x1.toNatClampNeg x2) a3 x1.toNatClampNeg x3) a4 x1.toNatClampNeg x4) a5 x1.toNatClampNeg x5) th 5) 100 (fun a6 => xK ≤ a6 ∧ (vp_in x1 (ln (pai (pai (pai (pai σ a2 x1.toNatClampNeg x2) a3 x1.toNatClampNeg x3) a4 x1.toNatClampNeg x4) a5 x1.toNatClampNeg x5) a6) ∧ (oc (pai (pai (pai (pai (pai σ a2 x1.toNatClampNeg x2) a3 x1.toNatClampNeg x3) a4 x1.toNatClampNeg x4) a5 x1.toNatClampNeg x5) a6 x1.toNatClampNeg (0 : Int32)) (fr (pai (pai (pai (pai (pai σ a2 x1.toNatClampNeg x2) a3 x1.toNatClampNeg x3) a4 x1.toNatClampNeg x4) a5 x1.toNatClampNeg x5) a6 x1.toNatClampNeg (0 : Int32)) th 6) 100 (fun a7 => xK ≤ a7 ∧ (vp_in x1 (ln (pai (pai (pai (pai (pai σ a2 x1.toNatClampNeg x2) a3 x1.toNatClampNeg x3) a4 x1.toNatClampNeg x4) a5 x1.toNatClampNeg x5) a6 x1.toNatClampNeg (0 : Int32)) a7) ∧ (Q (pai (pai (pai (pai (pai (pai σ a2 x1.toNatClampNeg x2) a3 x1.toNatClampNeg x3) a4 x1.toNatClampNeg x4) a5 x1.toNatClampNeg x5) a6 x1.toNatClampNeg (0 : Int32)) a7 x1.toNatClampNeg (0 : Int32)))))))))))))))))))))
set_option maxHeartbeats 4000000 in
theorem MX2_lays (l : Launch) (E : xx_E) (th : Nat) (x1 : Int32) (x2 : Int32) (x3 : Int32) (x4 : Int32) (x5 : Int32) (σ : XS) (Q : XS → Prop) (hw : wX2_lays th x1 x2 x3 x4 x5 σ Q) : xx_Mv l yX2_lays (ws_ yX2_lays cX2_lays 6 none) ({ frames := 0, cells := 0, slots := 0, locals := 0 } : Room) E [xv E (some th), .int x1, .int x2, .int x3, .int x4, .int x5] σ Q 0 0 := by
  refine x_of (own := "StruckCounts$State") (by decide +kernel) rfl ?_
  intro p e s m args below meth c cx hR ha hnm
  refine x_entry [xv E (some th), .int x1, .int x2, .int x3, .int x4, .int x5] 6 [(0, xv E (some th)), (1, .int x1), (2, .int x2), (3, .int x3), (4, .int x4), (5, .int x5)] ha (by simp [lg_sl, xv_cat, vc_i, vc_j, vc_f]) (by simp [lv_args, xv_cat, vc_i, vc_j, vc_f]) (fun ls hl => ?_)
  have hS : va_S (xA E) s.heap s.heap [] := va_S.rf
  have hcb : 0 + 0 ≤ 0 := Nat.le_of_eq (Nat.zero_add _)
  have hsb : 0 + 0 ≤ 0 := Nat.le_of_eq (Nat.zero_add _)
  unfold wX2_lays at hw
  obtain ⟨hx, hb, hml, hown, hts, hrt, hlk, hMK, hZ⟩ := id cx
  refine x_aload_n cx dX2_lays_0 rfl (lv_at hl 0 rfl) ?_
  obtain ⟨hk1, hw⟩ := hw
  refine xg_X2_15_3 cx hR rfl hk1 dX2_lays_1 ?_
  refine lv_iload_n hx hb dX2_lays_4 rfl (lv_at hl 1 rfl) ?_
  refine lv_iload_n hx hb dX2_lays_5 rfl (lv_at hl 2 rfl) ?_
  obtain ⟨a2, hr2, hk2, hw⟩ := hw
  obtain ⟨hge_a2, hw⟩ := hw
  obtain ⟨hi, hw⟩ := hw
  refine x_iast cx hR hS hr2 hge_a2 hk2 (j := x1.toNatClampNeg) rfl hi dX2_lays_6 (fun H locs hR hS => ?_)
  refine x_aload_n cx dX2_lays_7 rfl (lv_at hl 0 rfl) ?_
  refine xg_X2_18_3 cx hR rfl hk1 dX2_lays_8 ?_
  refine lv_iload_n hx hb dX2_lays_11 rfl (lv_at hl 1 rfl) ?_
  refine lv_iload_n hx hb dX2_lays_12 rfl (lv_at hl 3 rfl) ?_
  obtain ⟨a3, hr3, hk3, hw⟩ := hw
  obtain ⟨hge_a3, hw⟩ := hw
  obtain ⟨hi, hw⟩ := hw
  refine x_iast cx hR hS hr3 hge_a3 hk3 (j := x1.toNatClampNeg) rfl hi dX2_lays_13 (fun H locs hR hS => ?_)
  refine x_aload_n cx dX2_lays_14 rfl (lv_at hl 0 rfl) ?_
  refine xg_X2_21_3 cx hR rfl hk1 dX2_lays_15 ?_
  refine lv_iload_n hx hb dX2_lays_18 rfl (lv_at hl 1 rfl) ?_
  refine lv_iload hx hb dX2_lays_19 (lv_at hl 4 rfl) ?_
  obtain ⟨a4, hr4, hk4, hw⟩ := hw
  obtain ⟨hge_a4, hw⟩ := hw
  obtain ⟨hi, hw⟩ := hw
  refine x_iast cx hR hS hr4 hge_a4 hk4 (j := x1.toNatClampNeg) rfl hi dX2_lays_21 (fun H locs hR hS => ?_)
  refine x_aload_n cx dX2_lays_22 rfl (lv_at hl 0 rfl) ?_
  refine xg_X2_24_3 cx hR rfl hk1 dX2_lays_23 ?_
  refine lv_iload_n hx hb dX2_lays_26 rfl (lv_at hl 1 rfl) ?_
  refine lv_iload hx hb dX2_lays_27 (lv_at hl 5 rfl) ?_
  obtain ⟨a5, hr5, hk5, hw⟩ := hw
  obtain ⟨hge_a5, hw⟩ := hw
  obtain ⟨hi, hw⟩ := hw
  refine x_iast cx hR hS hr5 hge_a5 hk5 (j := x1.toNatClampNeg) rfl hi dX2_lays_29 (fun H locs hR hS => ?_)
  refine x_aload_n cx dX2_lays_30 rfl (lv_at hl 0 rfl) ?_
  refine xg_X2_27_3 cx hR rfl hk1 dX2_lays_31 ?_
  refine lv_iload_n hx hb dX2_lays_34 rfl (lv_at hl 1 rfl) ?_
  refine lv_iconst (v := (0 : Int32)) hx hb dX2_lays_35 (by decide) ?_
  obtain ⟨a6, hr6, hk6, hw⟩ := hw
  obtain ⟨hge_a6, hw⟩ := hw
  obtain ⟨hi, hw⟩ := hw
  refine x_iast cx hR hS hr6 hge_a6 hk6 (j := x1.toNatClampNeg) rfl hi dX2_lays_36 (fun H locs hR hS => ?_)
  refine x_aload_n cx dX2_lays_37 rfl (lv_at hl 0 rfl) ?_
  refine xg_X2_30_3 cx hR rfl hk1 dX2_lays_38 ?_
  refine lv_iload_n hx hb dX2_lays_41 rfl (lv_at hl 1 rfl) ?_
  refine lv_iconst (v := (0 : Int32)) hx hb dX2_lays_42 (by decide) ?_
  obtain ⟨a7, hr7, hk7, hw⟩ := hw
  obtain ⟨hge_a7, hw⟩ := hw
  obtain ⟨hi, hw⟩ := hw
  refine x_iast cx hR hS hr7 hge_a7 hk7 (j := x1.toNatClampNeg) rfl hi dX2_lays_43 (fun H locs hR hS => ?_)
  exact x_vret cx hR hS (xle hcb) (xle hsb) hw dX2_lays_44
-- X2_begins
theorem xg_X2_50_3 {l : Launch} {p : Program} {e : Env} {R : Room} {s : State} {m : MethodId} {args : Array Value} {below : List Frame} {meth : Method} {c : Code} {H : Heap} {locs : List Loc} {cells slots : Nat} {Qz : State → Prop} {cc : ByteArray} {nL : Nat} {ret : Option FieldType} {E : xx_E} {σ : XS} {pc : Nat} {ls : Array Slot} {rest : List Value} (cx : xx_X "StruckCounts$State" cc nL ret E p s m args meth c) (hR : xR E σ H) {a : Nat} {r : Option Nat} (hr : r = some a) (hk : kd σ a = 3) (hdg : decode cc pc = .ok (.getfield 50, 3)) (kk : W p l e R s m args below meth c H locs cells slots Qz (F0 m (pc + 3) ls (.int (fi σ a 9) :: rest))) : W p l e R s m args below meth c H locs cells slots Qz (F0 m pc ls (xv E r :: rest)) :=
  x_get (ci := 2) cx hR hr hk (by decide) rfl in_X2 9 (by decide) q501 (fun _ h => h) (v := .int (fi σ a 9)) rfl hdg kk
theorem xg_X2_63_2 {l : Launch} {p : Program} {e : Env} {R : Room} {s : State} {m : MethodId} {args : Array Value} {below : List Frame} {meth : Method} {c : Code} {H : Heap} {locs : List Loc} {cells slots : Nat} {Qz : State → Prop} {cc : ByteArray} {nL : Nat} {ret : Option FieldType} {E : xx_E} {σ : XS} {pc : Nat} {ls : Array Slot} {rest : List Value} (cx : xx_X "StruckCounts$State" cc nL ret E p s m args meth c) (hR : xR E σ H) {a : Nat} {r : Option Nat} (hr : r = some a) (hk : kd σ a = 2) (hdg : decode cc pc = .ok (.getfield 63, 3)) (kk : W p l e R s m args below meth c H locs cells slots Qz (F0 m (pc + 3) ls (xv E (fr σ a 2) :: rest))) : W p l e R s m args below meth c H locs cells slots Qz (F0 m pc ls (xv E r :: rest)) :=
  x_getN (ci := 1) cx hR hr hk (by decide) rfl in_X1 2 (by decide) (xx_nf_mem (i := 32) rfl) (fun _ h => h) (v := xv E (fr σ a 2)) rfl hdg kk
theorem xg_X2_81_12 {l : Launch} {p : Program} {e : Env} {R : Room} {s : State} {m : MethodId} {args : Array Value} {below : List Frame} {meth : Method} {c : Code} {H : Heap} {locs : List Loc} {cells slots : Nat} {Qz : State → Prop} {cc : ByteArray} {nL : Nat} {ret : Option FieldType} {E : xx_E} {σ : XS} {pc : Nat} {ls : Array Slot} {rest : List Value} (cx : xx_X "StruckCounts$State" cc nL ret E p s m args meth c) (hR : xR E σ H) {a : Nat} {r : Option Nat} (hr : r = some a) (hk : kd σ a = 12) (hdg : decode cc pc = .ok (.getfield 81, 3)) (kk : W p l e R s m args below meth c H locs cells slots Qz (F0 m (pc + 3) ls (.int (fi σ a 0) :: rest))) : W p l e R s m args below meth c H locs cells slots Qz (F0 m pc ls (xv E r :: rest)) :=
  x_getN (ci := 11) cx hR hr hk (by decide) rfl in_X12 0 (by decide) (xx_nf_mem (i := 33) rfl) (fun _ h => h) (v := .int (fi σ a 0)) rfl hdg kk
theorem xg_X2_83_12 {l : Launch} {p : Program} {e : Env} {R : Room} {s : State} {m : MethodId} {args : Array Value} {below : List Frame} {meth : Method} {c : Code} {H : Heap} {locs : List Loc} {cells slots : Nat} {Qz : State → Prop} {cc : ByteArray} {nL : Nat} {ret : Option FieldType} {E : xx_E} {σ : XS} {pc : Nat} {ls : Array Slot} {rest : List Value} (cx : xx_X "StruckCounts$State" cc nL ret E p s m args meth c) (hR : xR E σ H) {a : Nat} {r : Option Nat} (hr : r = some a) (hk : kd σ a = 12) (hdg : decode cc pc = .ok (.getfield 83, 3)) (kk : W p l e R s m args below meth c H locs cells slots Qz (F0 m (pc + 3) ls (.int (fi σ a 1) :: rest))) : W p l e R s m args below meth c H locs cells slots Qz (F0 m pc ls (xv E r :: rest)) :=
  x_getN (ci := 11) cx hR hr hk (by decide) rfl in_X12 1 (by decide) (xx_nf_mem (i := 34) rfl) (fun _ h => h) (v := .int (fi σ a 1)) rfl hdg kk
theorem xg_X2_89_12 {l : Launch} {p : Program} {e : Env} {R : Room} {s : State} {m : MethodId} {args : Array Value} {below : List Frame} {meth : Method} {c : Code} {H : Heap} {locs : List Loc} {cells slots : Nat} {Qz : State → Prop} {cc : ByteArray} {nL : Nat} {ret : Option FieldType} {E : xx_E} {σ : XS} {pc : Nat} {ls : Array Slot} {rest : List Value} (cx : xx_X "StruckCounts$State" cc nL ret E p s m args meth c) (hR : xR E σ H) {a : Nat} {r : Option Nat} (hr : r = some a) (hk : kd σ a = 12) (hdg : decode cc pc = .ok (.getfield 89, 3)) (kk : W p l e R s m args below meth c H locs cells slots Qz (F0 m (pc + 3) ls (.int (fi σ a 4) :: rest))) : W p l e R s m args below meth c H locs cells slots Qz (F0 m pc ls (xv E r :: rest)) :=
  x_getN (ci := 11) cx hR hr hk (by decide) rfl in_X12 4 (by decide) (xx_nf_mem (i := 35) rfl) (fun _ h => h) (v := .int (fi σ a 4)) rfl hdg kk
theorem xg_X2_91_12 {l : Launch} {p : Program} {e : Env} {R : Room} {s : State} {m : MethodId} {args : Array Value} {below : List Frame} {meth : Method} {c : Code} {H : Heap} {locs : List Loc} {cells slots : Nat} {Qz : State → Prop} {cc : ByteArray} {nL : Nat} {ret : Option FieldType} {E : xx_E} {σ : XS} {pc : Nat} {ls : Array Slot} {rest : List Value} (cx : xx_X "StruckCounts$State" cc nL ret E p s m args meth c) (hR : xR E σ H) {a : Nat} {r : Option Nat} (hr : r = some a) (hk : kd σ a = 12) (hdg : decode cc pc = .ok (.getfield 91, 3)) (kk : W p l e R s m args below meth c H locs cells slots Qz (F0 m (pc + 3) ls (.int (fi σ a 5) :: rest))) : W p l e R s m args below meth c H locs cells slots Qz (F0 m pc ls (xv E r :: rest)) :=
  x_getN (ci := 11) cx hR hr hk (by decide) rfl in_X12 5 (by decide) (xx_nf_mem (i := 36) rfl) (fun _ h => h) (v := .int (fi σ a 5)) rfl hdg kk
theorem xp_X2_43_3 {l : Launch} {p : Program} {e : Env} {R : Room} {s : State} {m : MethodId} {args : Array Value} {below : List Frame} {meth : Method} {c : Code} {H : Heap} {locs : List Loc} {cells slots : Nat} {Qz : State → Prop} {cc : ByteArray} {nL : Nat} {ret : Option FieldType} {E : xx_E} {σ : XS} {pc : Nat} {ls : Array Slot} {rest : List Value} (cx : xx_X "StruckCounts$State" cc nL ret E p s m args meth c) (hR : xR E σ H) (hS0 : va_S (xA E) s.heap H locs) {a : Nat} {r : Option Nat} {v : Int32} (hr : r = some a) (ha : xK ≤ a) (hk : kd σ a = 3) (hdg : decode cc pc = .ok (.putfield 43, 3)) (kk : ∀ (H1 : Heap) (locs1 : List Loc), xR E (pfi σ a 7 v) H1 → va_S (xA E) s.heap H1 locs1 → W p l e R s m args below meth c H1 locs1 cells slots Qz (F0 m (pc + 3) ls rest)) : W p l e R s m args below meth c H locs cells slots Qz (F0 m pc ls (.int v :: xv E r :: rest)) :=
  x_put (ci := 2) cx hR hS0 hr ha hk (by decide) rfl in_X2 tyX2 tyX2_ok nmX2 7 (by decide) (Or.inl ⟨q497, rfl⟩) (fun _ h => h) rfl rfl (xput_i rfl) hdg kk
theorem xp_X2_47_3 {l : Launch} {p : Program} {e : Env} {R : Room} {s : State} {m : MethodId} {args : Array Value} {below : List Frame} {meth : Method} {c : Code} {H : Heap} {locs : List Loc} {cells slots : Nat} {Qz : State → Prop} {cc : ByteArray} {nL : Nat} {ret : Option FieldType} {E : xx_E} {σ : XS} {pc : Nat} {ls : Array Slot} {rest : List Value} (cx : xx_X "StruckCounts$State" cc nL ret E p s m args meth c) (hR : xR E σ H) (hS0 : va_S (xA E) s.heap H locs) {a : Nat} {r : Option Nat} {v : Int32} (hr : r = some a) (ha : xK ≤ a) (hk : kd σ a = 3) (hdg : decode cc pc = .ok (.putfield 47, 3)) (kk : ∀ (H1 : Heap) (locs1 : List Loc), xR E (pfi σ a 8 v) H1 → va_S (xA E) s.heap H1 locs1 → W p l e R s m args below meth c H1 locs1 cells slots Qz (F0 m (pc + 3) ls rest)) : W p l e R s m args below meth c H locs cells slots Qz (F0 m pc ls (.int v :: xv E r :: rest)) :=
  x_put (ci := 2) cx hR hS0 hr ha hk (by decide) rfl in_X2 tyX2 tyX2_ok nmX2 8 (by decide) (Or.inl ⟨q499, rfl⟩) (fun _ h => h) rfl rfl (xput_i rfl) hdg kk
theorem xp_X2_53_3 {l : Launch} {p : Program} {e : Env} {R : Room} {s : State} {m : MethodId} {args : Array Value} {below : List Frame} {meth : Method} {c : Code} {H : Heap} {locs : List Loc} {cells slots : Nat} {Qz : State → Prop} {cc : ByteArray} {nL : Nat} {ret : Option FieldType} {E : xx_E} {σ : XS} {pc : Nat} {ls : Array Slot} {rest : List Value} (cx : xx_X "StruckCounts$State" cc nL ret E p s m args meth c) (hR : xR E σ H) (hS0 : va_S (xA E) s.heap H locs) {a : Nat} {r : Option Nat} {v : Int32} (hr : r = some a) (ha : xK ≤ a) (hk : kd σ a = 3) (hdg : decode cc pc = .ok (.putfield 53, 3)) (kk : ∀ (H1 : Heap) (locs1 : List Loc), xR E (pfi σ a 10 v) H1 → va_S (xA E) s.heap H1 locs1 → W p l e R s m args below meth c H1 locs1 cells slots Qz (F0 m (pc + 3) ls rest)) : W p l e R s m args below meth c H locs cells slots Qz (F0 m pc ls (.int v :: xv E r :: rest)) :=
  x_put (ci := 2) cx hR hS0 hr ha hk (by decide) rfl in_X2 tyX2 tyX2_ok nmX2 10 (by decide) (Or.inl ⟨q503, rfl⟩) (fun _ h => h) rfl rfl (xput_i rfl) hdg kk
theorem xp_X2_56_3 {l : Launch} {p : Program} {e : Env} {R : Room} {s : State} {m : MethodId} {args : Array Value} {below : List Frame} {meth : Method} {c : Code} {H : Heap} {locs : List Loc} {cells slots : Nat} {Qz : State → Prop} {cc : ByteArray} {nL : Nat} {ret : Option FieldType} {E : xx_E} {σ : XS} {pc : Nat} {ls : Array Slot} {rest : List Value} (cx : xx_X "StruckCounts$State" cc nL ret E p s m args meth c) (hR : xR E σ H) (hS0 : va_S (xA E) s.heap H locs) {a : Nat} {r : Option Nat} {v : Int32} (hr : r = some a) (ha : xK ≤ a) (hk : kd σ a = 3) (hdg : decode cc pc = .ok (.putfield 56, 3)) (kk : ∀ (H1 : Heap) (locs1 : List Loc), xR E (pfi σ a 11 v) H1 → va_S (xA E) s.heap H1 locs1 → W p l e R s m args below meth c H1 locs1 cells slots Qz (F0 m (pc + 3) ls rest)) : W p l e R s m args below meth c H locs cells slots Qz (F0 m pc ls (.int v :: xv E r :: rest)) :=
  x_put (ci := 2) cx hR hS0 hr ha hk (by decide) rfl in_X2 tyX2 tyX2_ok nmX2 11 (by decide) (Or.inl ⟨q505, rfl⟩) (fun _ h => h) rfl rfl (xput_i rfl) hdg kk
theorem xp_X2_59_3 {l : Launch} {p : Program} {e : Env} {R : Room} {s : State} {m : MethodId} {args : Array Value} {below : List Frame} {meth : Method} {c : Code} {H : Heap} {locs : List Loc} {cells slots : Nat} {Qz : State → Prop} {cc : ByteArray} {nL : Nat} {ret : Option FieldType} {E : xx_E} {σ : XS} {pc : Nat} {ls : Array Slot} {rest : List Value} (cx : xx_X "StruckCounts$State" cc nL ret E p s m args meth c) (hR : xR E σ H) (hS0 : va_S (xA E) s.heap H locs) {a : Nat} {r : Option Nat} {v : Int32} (hr : r = some a) (ha : xK ≤ a) (hk : kd σ a = 3) (hz : zb v) (hdg : decode cc pc = .ok (.putfield 59, 3)) (kk : ∀ (H1 : Heap) (locs1 : List Loc), xR E (pfi σ a 12 v) H1 → va_S (xA E) s.heap H1 locs1 → W p l e R s m args below meth c H1 locs1 cells slots Qz (F0 m (pc + 3) ls rest)) : W p l e R s m args below meth c H locs cells slots Qz (F0 m pc ls (.int v :: xv E r :: rest)) :=
  x_put (ci := 2) cx hR hS0 hr ha hk (by decide) rfl in_X2 tyX2 tyX2_ok nmX2 12 (by decide) (Or.inl ⟨q507, rfl⟩) (fun _ h => h) (zb_nar hz) (by rcases hz with rfl | rfl <;> rfl) (xput_i rfl) hdg kk
theorem xp_X2_50_3 {l : Launch} {p : Program} {e : Env} {R : Room} {s : State} {m : MethodId} {args : Array Value} {below : List Frame} {meth : Method} {c : Code} {H : Heap} {locs : List Loc} {cells slots : Nat} {Qz : State → Prop} {cc : ByteArray} {nL : Nat} {ret : Option FieldType} {E : xx_E} {σ : XS} {pc : Nat} {ls : Array Slot} {rest : List Value} (cx : xx_X "StruckCounts$State" cc nL ret E p s m args meth c) (hR : xR E σ H) (hS0 : va_S (xA E) s.heap H locs) {a : Nat} {r : Option Nat} {v : Int32} (hr : r = some a) (ha : xK ≤ a) (hk : kd σ a = 3) (hdg : decode cc pc = .ok (.putfield 50, 3)) (kk : ∀ (H1 : Heap) (locs1 : List Loc), xR E (pfi σ a 9 v) H1 → va_S (xA E) s.heap H1 locs1 → W p l e R s m args below meth c H1 locs1 cells slots Qz (F0 m (pc + 3) ls rest)) : W p l e R s m args below meth c H locs cells slots Qz (F0 m pc ls (.int v :: xv E r :: rest)) :=
  x_put (ci := 2) cx hR hS0 hr ha hk (by decide) rfl in_X2 tyX2 tyX2_ok nmX2 9 (by decide) (Or.inl ⟨q501, rfl⟩) (fun _ h => h) rfl rfl (xput_i rfl) hdg kk
theorem xg_X2_9_3 {l : Launch} {p : Program} {e : Env} {R : Room} {s : State} {m : MethodId} {args : Array Value} {below : List Frame} {meth : Method} {c : Code} {H : Heap} {locs : List Loc} {cells slots : Nat} {Qz : State → Prop} {cc : ByteArray} {nL : Nat} {ret : Option FieldType} {E : xx_E} {σ : XS} {pc : Nat} {ls : Array Slot} {rest : List Value} (cx : xx_X "StruckCounts$State" cc nL ret E p s m args meth c) (hR : xR E σ H) {a : Nat} {r : Option Nat} (hr : r = some a) (hk : kd σ a = 3) (hdg : decode cc pc = .ok (.getfield 9, 3)) (kk : W p l e R s m args below meth c H locs cells slots Qz (F0 m (pc + 3) ls (xv E (fr σ a 0) :: rest))) : W p l e R s m args below meth c H locs cells slots Qz (F0 m pc ls (xv E r :: rest)) :=
  x_get (ci := 2) cx hR hr hk (by decide) rfl in_X2 0 (by decide) q483 (fun _ h => h) (v := xv E (fr σ a 0)) rfl hdg kk
theorem CJ7_size_X2_69 {l : Launch} {p : Program} {e : Env} {R : Room} {s : State} {m : MethodId} {args : Array Value} {below : List Frame} {meth : Method} {c : Code} {H : Heap} {locs : List Loc} {cells slots : Nat} {Qz : State → Prop} {cc : ByteArray} {nL : Nat} {ret : Option FieldType} {E : xx_E} {σ : XS} {pc : Nat} {ls : Array Slot} {rest : List Value} {th : Nat} (cx : xx_X "StruckCounts$State" cc nL ret E p s m args meth c) (hR0 : xR E σ H) (hS0 : va_S (xA E) s.heap H locs) {r0 : Option Nat} (hr : r0 = some th) (hk : kd σ th = 16) {Qf : Int32 → XS → Prop} (hw : wJ7_size th σ Qf) (hR : (({ frames := 0, cells := 0, slots := 0, locals := 0 } : Room)).frames + 1 ≤ R.frames ∧ 8 + (1 + 11) + (({ frames := 0, cells := 0, slots := 0, locals := 0 } : Room)).locals ≤ R.locals) (hrest : rest.length ≤ 4) (hsize : ls.size = nL) (hf : cells + 0 ≤ R.cells ∧ slots + 0 ≤ R.slots) (hdg : decode cc pc = .ok (.invokevirtual 69, 3))
    (kk : ∀ (r : Int32) (σ1 : XS) (H1 : Heap) (locs1 : List Loc), Qf r σ1 → xR E σ1 H1 → va_S (xA E) s.heap H1 locs1 → W p l e R s m args below meth c H1 locs1 (cells + 0) (slots + 0) Qz (F0 m (pc + 3) ls (.int r :: rest))) : W p l e R s m args below meth c H locs cells slots Qz (F0 m pc ls (xv E r0 :: rest)) := by
  subst hr
  obtain ⟨hx, hb, hml, hown, hts, hrt, hlk, hK, hZ⟩ := id cx
  exact x_goi (va_runV (As := []) (rest := rest) (x_fix cx) (MJ7_size l E th σ Qf hw) (cwV 0 hts (lw_V q541 q391 q392 q165 q393) rfl rfl rfl (by decide +kernel) hR) (x_preV cx hR0 hS0 hk (by decide) (q := (RJ7, TJ7, 3)) rfl rfl []) rfl rfl hsize rfl (lv_room (xroom hrest)) hdg hf) hS0 kk
theorem CJ7_get_X2_75 {l : Launch} {p : Program} {e : Env} {R : Room} {s : State} {m : MethodId} {args : Array Value} {below : List Frame} {meth : Method} {c : Code} {H : Heap} {locs : List Loc} {cells slots : Nat} {Qz : State → Prop} {cc : ByteArray} {nL : Nat} {ret : Option FieldType} {E : xx_E} {σ : XS} {pc : Nat} {ls : Array Slot} {rest : List Value} {th : Nat} {x1 : Int32} (cx : xx_X "StruckCounts$State" cc nL ret E p s m args meth c) (hR0 : xR E σ H) (hS0 : va_S (xA E) s.heap H locs) {r0 : Option Nat} (hr : r0 = some th) (hk : kd σ th = 16) {Qf : Option Nat → XS → Prop} (hw : wJ7_get th x1 σ Qf) (hR : (({ frames := 2, cells := 0, slots := 0, locals := 80 } : Room)).frames + 1 ≤ R.frames ∧ 8 + (2 + 11) + (({ frames := 2, cells := 0, slots := 0, locals := 80 } : Room)).locals ≤ R.locals) (hrest : rest.length ≤ 4) (hsize : ls.size = nL) (hf : cells + 0 ≤ R.cells ∧ slots + 0 ≤ R.slots) (hdg : decode cc pc = .ok (.invokevirtual 75, 3))
    (kk : ∀ (r : Option Nat) (σ1 : XS) (H1 : Heap) (locs1 : List Loc), Qf r σ1 → xR E σ1 H1 → va_S (xA E) s.heap H1 locs1 → W p l e R s m args below meth c H1 locs1 (cells + 0) (slots + 0) Qz (F0 m (pc + 3) ls (xv E r :: rest))) : W p l e R s m args below meth c H locs cells slots Qz (F0 m pc ls (.int x1 :: xv E r0 :: rest)) := by
  subst hr
  obtain ⟨hx, hb, hml, hown, hts, hrt, hlk, hK, hZ⟩ := id cx
  exact x_gor (va_runV (As := [.int x1]) (rest := rest) (x_fix cx) (MJ7_get l E th x1 σ Qf hw) (cwV 1 hts (lw_V q542 q395 q396 q165 q397) rfl rfl rfl (by decide +kernel) hR) (x_preV cx hR0 hS0 hk (by decide) (q := (RJ7, TJ7, 3)) rfl rfl [.int x1]) rfl rfl hsize rfl (lv_room (xroom hrest)) hdg hf) hS0 kk
theorem CX2_lays_X2_85 {l : Launch} {p : Program} {e : Env} {R : Room} {s : State} {m : MethodId} {args : Array Value} {below : List Frame} {meth : Method} {c : Code} {H : Heap} {locs : List Loc} {cells slots : Nat} {Qz : State → Prop} {cc : ByteArray} {nL : Nat} {ret : Option FieldType} {E : xx_E} {σ : XS} {pc : Nat} {ls : Array Slot} {rest : List Value} {th : Nat} {x1 : Int32} {x2 : Int32} {x3 : Int32} {x4 : Int32} {x5 : Int32} (cx : xx_X "StruckCounts$State" cc nL ret E p s m args meth c) (hR0 : xR E σ H) (hS0 : va_S (xA E) s.heap H locs) {r0 : Option Nat} (hr : r0 = some th) (hk : kd σ th = 3) {Qf : XS → Prop} (hw : wX2_lays th x1 x2 x3 x4 x5 σ Qf) (hR : (({ frames := 0, cells := 0, slots := 0, locals := 0 } : Room)).frames + 1 ≤ R.frames ∧ 8 + (6 + 11) + (({ frames := 0, cells := 0, slots := 0, locals := 0 } : Room)).locals ≤ R.locals) (hrest : rest.length ≤ 4) (hsize : ls.size = nL) (hf : cells + 0 ≤ R.cells ∧ slots + 0 ≤ R.slots) (hdg : decode cc pc = .ok (.invokevirtual 85, 3))
    (kk : ∀ (σ1 : XS) (H1 : Heap) (locs1 : List Loc), Qf σ1 → xR E σ1 H1 → va_S (xA E) s.heap H1 locs1 → W p l e R s m args below meth c H1 locs1 (cells + 0) (slots + 0) Qz (F0 m (pc + 3) ls rest)) : W p l e R s m args below meth c H locs cells slots Qz (F0 m pc ls (.int x5 :: .int x4 :: .int x3 :: .int x2 :: .int x1 :: xv E r0 :: rest)) := by
  subst hr
  obtain ⟨hx, hb, hml, hown, hts, hrt, hlk, hK, hZ⟩ := id cx
  exact x_gov (va_runV (As := [.int x1, .int x2, .int x3, .int x4, .int x5]) (rest := rest) (x_fix cx) (MX2_lays l E th x1 x2 x3 x4 x5 σ Qf hw) (cwV 5 hts (lw_V q544 q545 q546 q168 q547) rfl rfl rfl (by decide +kernel) hR) (x_preV cx hR0 hS0 hk (by decide) (q := (RX2, TX2, 13)) rfl rfl [.int x1, .int x2, .int x3, .int x4, .int x5]) rfl rfl hsize rfl (lv_room (xroom hrest)) hdg hf) hS0 kk
def wX2_begins_59 (Q : Option Nat → XS → Prop) (K59 : Nat → Option Nat → Int32 → XS → Prop) (th : Nat) (x1 : Option Nat) (x2 : Int32) (σ : XS) : Prop :=
  kd σ th = 3 ∧ (if (fi σ th 9) ≤ x2 then (Q (some th) σ) else (oc σ x1 2 (fun a2 => oc σ (fr σ a2 2) 16 (fun a4 => wJ7_get a4 x2 σ (fun r3 s3 => xck [12] s3 r3 ∧ (oc s3 r3 12 (fun a5 => kd s3 th = 3 ∧ (wX2_lays th x2 x2 (fi s3 a5 0) (fi s3 a5 1) (0 : Int32) s3 (fun s6 => kd s6 th = 3 ∧ (oc s6 r3 12 (fun a9 => oc s6 (fr s6 th 5) 100 (fun a10 => xK ≤ a10 ∧ (vp_in x2 (ln s6 a10) ∧ (oc (pai s6 a10 x2.toNatClampNeg (fi s6 a9 4)) (fr (pai s6 a10 x2.toNatClampNeg (fi s6 a9 4)) th 6) 100 (fun a11 => xK ≤ a11 ∧ (vp_in x2 (ln (pai s6 a10 x2.toNatClampNeg (fi s6 a9 4)) a11) ∧ (∀ v12 : Int32, v12 = x2 + (1 : Int32) → K59 th x1 v12 (pai (pai s6 a10 x2.toNatClampNeg (fi s6 a9 4)) a11 x2.toNatClampNeg (fi (pai s6 a10 x2.toNatClampNeg (fi s6 a9 4)) a9 5)))))))))))))))))))
set_option maxHeartbeats 4000000 in
theorem BX2_begins_59 {l : Launch} {p : Program} {e : Env} {s : State} {m : MethodId} {args : Array Value} {below : List Frame} {meth : Method} {c : Code} {E : xx_E} {Q : Option Nat → XS → Prop} {K59 : Nat → Option Nat → Int32 → XS → Prop} (cx : xx_X "StruckCounts$State" cX2_begins 4 (some (.object "StruckCounts$State")) E p s m args meth c) (hK59 : ∀ (th : Nat) (x1 : Option Nat) (x2 : Int32) (σ : XS), K59 th x1 x2 σ → x_T p l e ({ frames := 3, cells := 0, slots := 0, locals := 120 } : Room) s m args below meth c E (va_Qe (xr E) Q (fun σ' t => xW E σ' t) (xA E)) 0 0 4 59 0 0 σ [(0, xv E (some th)), (1, xv E x1), (2, .int x2)] []) : ∀ (th : Nat) (x1 : Option Nat) (x2 : Int32) (σ : XS), wX2_begins_59 Q K59 th x1 x2 σ → x_T p l e ({ frames := 3, cells := 0, slots := 0, locals := 120 } : Room) s m args below meth c E (va_Qe (xr E) Q (fun σ' t => xW E σ' t) (xA E)) 0 0 4 59 0 0 σ [(0, xv E (some th)), (1, xv E x1), (2, .int x2)] [] := by
  intro th x1 x2 σ hw H locs ls cells slots hR hS hl hcb hsb
  unfold wX2_begins_59 at hw
  obtain ⟨hx, hb, hml, hown, hts, hrt, hlk, hMK, hZ⟩ := id cx
  refine lv_iload_n hx hb dX2_begins_59 rfl (lv_at hl 2 rfl) ?_
  refine x_aload_n cx dX2_begins_60 rfl (lv_at hl 0 rfl) ?_
  obtain ⟨hk1, hw⟩ := hw
  refine xg_X2_50_3 cx hR rfl hk1 dX2_begins_61 ?_
  refine lv_icmp_ge (tgt := 120) hx hb dX2_begins_64 (by decide) (fun hc => ?_) (fun hc => ?_)
  · have hw := mm_ip hc hw
    refine x_aload_n cx dX2_begins_120 rfl (lv_at hl 0 rfl) ?_
    exact x_aret cx (by first | exact Or.inl ⟨_, rfl⟩ | exact Or.inr ⟨_, rfl⟩) hR hS (xle hcb) (xle hsb) hw dX2_begins_121
  · have hw := mm_in hc hw
    refine x_aload_n cx dX2_begins_67 rfl (lv_at hl 1 rfl) ?_
    obtain ⟨a2, hr2, hk2, hw⟩ := hw
    refine xg_X2_63_2 cx hR hr2 hk2 dX2_begins_68 ?_
    refine lv_iload_n hx hb dX2_begins_71 rfl (lv_at hl 2 rfl) ?_
    obtain ⟨a4, hr4, hk4, hw⟩ := hw
    refine CJ7_get_X2_75 cx hR hS hr4 hk4 hw ⟨Nat.le_of_ble_eq_true rfl, Nat.le_of_ble_eq_true rfl⟩ (Nat.le_of_ble_eq_true rfl) hl.1 ⟨by dsimp only; omega, by dsimp only; omega⟩ dX2_begins_72 (fun r3 s3 H locs hw hR hS => ?_)
    obtain ⟨hv, hw⟩ := hw
    refine x_cast cx hR q543 (xcc_2 hv) dX2_begins_75 ?_
    refine x_astore_n (i := 3) (r := r3) (lv' := [(3, xv E r3), (0, xv E (some th)), (1, xv E x1), (2, .int x2)]) cx dX2_begins_78 rfl hl (by decide) rfl (fun ls hl => ?_)
    refine x_aload_n cx dX2_begins_79 rfl (lv_at hl 1 rfl) ?_
    refine lv_iload_n hx hb dX2_begins_80 rfl (lv_at hl 3 rfl) ?_
    refine lv_iload_n hx hb dX2_begins_81 rfl (lv_at hl 3 rfl) ?_
    refine x_aload_n cx dX2_begins_82 rfl (lv_at hl 0 rfl) ?_
    obtain ⟨a5, hr5, hk5, hw⟩ := hw
    refine xg_X2_81_12 cx hR hr5 hk5 dX2_begins_83 ?_
    refine x_aload_n cx dX2_begins_86 rfl (lv_at hl 0 rfl) ?_
    refine xg_X2_83_12 cx hR hr5 hk5 dX2_begins_87 ?_
    refine lv_iconst (v := (0 : Int32)) hx hb dX2_begins_90 (by decide) ?_
    obtain ⟨hk7, hw⟩ := hw
    refine CX2_lays_X2_85 cx hR hS rfl hk7 hw ⟨Nat.le_of_ble_eq_true rfl, Nat.le_of_ble_eq_true rfl⟩ (Nat.le_of_ble_eq_true rfl) hl.1 ⟨by dsimp only; omega, by dsimp only; omega⟩ dX2_begins_91 (fun s6 H locs hw hR hS => ?_)
    refine x_aload_n cx dX2_begins_94 rfl (lv_at hl 1 rfl) ?_
    obtain ⟨hk8, hw⟩ := hw
    refine xg_X2_27_3 cx hR rfl hk8 dX2_begins_95 ?_
    refine lv_iload_n hx hb dX2_begins_98 rfl (lv_at hl 3 rfl) ?_
    refine x_aload_n cx dX2_begins_99 rfl (lv_at hl 0 rfl) ?_
    obtain ⟨a9, hr9, hk9, hw⟩ := hw
    refine xg_X2_89_12 cx hR hr9 hk9 dX2_begins_100 ?_
    obtain ⟨a10, hr10, hk10, hw⟩ := hw
    obtain ⟨hge_a10, hw⟩ := hw
    obtain ⟨hi, hw⟩ := hw
    refine x_iast cx hR hS hr10 hge_a10 hk10 (j := x2.toNatClampNeg) rfl hi dX2_begins_103 (fun H locs hR hS => ?_)
    refine x_aload_n cx dX2_begins_104 rfl (lv_at hl 1 rfl) ?_
    refine xg_X2_30_3 cx hR rfl hk8 dX2_begins_105 ?_
    refine lv_iload_n hx hb dX2_begins_108 rfl (lv_at hl 3 rfl) ?_
    refine x_aload_n cx dX2_begins_109 rfl (lv_at hl 0 rfl) ?_
    refine xg_X2_91_12 cx hR hr9 hk9 dX2_begins_110 ?_
    obtain ⟨a11, hr11, hk11, hw⟩ := hw
    obtain ⟨hge_a11, hw⟩ := hw
    obtain ⟨hi, hw⟩ := hw
    refine x_iast cx hR hS hr11 hge_a11 hk11 (j := x2.toNatClampNeg) rfl hi dX2_begins_113 (fun H locs hR hS => ?_)
    obtain ⟨v12, hv12⟩ : ∃ v : Int32, v = x2 + (1 : Int32) := ⟨_, rfl⟩
    have hw := hw v12 hv12
    refine lv_iinc (v := v12) (lv' := [(2, .int v12), (3, xv E r3), (0, xv E (some th)), (1, xv E x1)]) hx hb dX2_begins_114 hl (k := 3) rfl (by rw [hv12]; rfl) (by decide) (by simp [xv_cat]) (fun ls hl => ?_)
    refine lv_goto (tgt := 59) hx hb dX2_begins_117 (by decide) ?_
    exact hK59 _ _ _ _ hw _ _ _ _ _ hR hS (lv_sub hl [2, 3, 0] rfl) hcb hsb
theorem LX2_begins_59 {l : Launch} {p : Program} {e : Env} {s : State} {m : MethodId} {args : Array Value} {below : List Frame} {meth : Method} {c : Code} {E : xx_E} {Q : Option Nat → XS → Prop} (cx : xx_X "StruckCounts$State" cX2_begins 4 (some (.object "StruckCounts$State")) E p s m args meth c) : ∀ (th : Nat) (x1 : Option Nat) (x2 : Int32) (σ : XS), lp4F (wX2_begins_59 Q) th x1 x2 σ → x_T p l e ({ frames := 3, cells := 0, slots := 0, locals := 120 } : Room) s m args below meth c E (va_Qe (xr E) Q (fun σ' t => xW E σ' t) (xA E)) 0 0 4 59 0 0 σ [(0, xv E (some th)), (1, xv E x1), (2, .int x2)] [] :=
  lp4F_of (fun K hK => BX2_begins_59 cx hK)
def wX2_begins_2 (Q : Option Nat → XS → Prop) (K2 : Nat → Option Nat → Int32 → XS → Prop) (th : Nat) (x1 : Option Nat) (x2 : Int32) (σ : XS) : Prop :=
  if (8 : Int32) ≤ x2 then (kd σ th = 3 ∧ (xK ≤ th ∧ (oc (pfi (pfi (pfi (pfi (pfi σ th 7 (0 : Int32)) th 8 (0 : Int32)) th 10 (0 : Int32)) th 11 (0 : Int32)) th 12 (0 : Int32)) x1 2 (fun a14 => oc (pfi (pfi (pfi (pfi (pfi σ th 7 (0 : Int32)) th 8 (0 : Int32)) th 10 (0 : Int32)) th 11 (0 : Int32)) th 12 (0 : Int32)) (fr (pfi (pfi (pfi (pfi (pfi σ th 7 (0 : Int32)) th 8 (0 : Int32)) th 10 (0 : Int32)) th 11 (0 : Int32)) th 12 (0 : Int32)) a14 2) 16 (fun a16 => wJ7_size a16 (pfi (pfi (pfi (pfi (pfi σ th 7 (0 : Int32)) th 8 (0 : Int32)) th 10 (0 : Int32)) th 11 (0 : Int32)) th 12 (0 : Int32)) (fun r15 s15 => kd s15 th = 3 ∧ (lp4F (wX2_begins_59 Q) th x1 (0 : Int32) (pfi s15 th 9 r15)))))))) else (kd σ th = 3 ∧ (oc σ (fr σ th 0) 100 (fun a19 => xK ≤ a19 ∧ (vp_in x2 (ln σ a19) ∧ (∀ v20 : Int32, v20 = x2 + (1 : Int32) → K2 th x1 v20 (pai σ a19 x2.toNatClampNeg (0 : Int32)))))))
set_option maxHeartbeats 4000000 in
theorem BX2_begins_2 {l : Launch} {p : Program} {e : Env} {s : State} {m : MethodId} {args : Array Value} {below : List Frame} {meth : Method} {c : Code} {E : xx_E} {Q : Option Nat → XS → Prop} {K2 : Nat → Option Nat → Int32 → XS → Prop} (cx : xx_X "StruckCounts$State" cX2_begins 4 (some (.object "StruckCounts$State")) E p s m args meth c) (hK2 : ∀ (th : Nat) (x1 : Option Nat) (x2 : Int32) (σ : XS), K2 th x1 x2 σ → x_T p l e ({ frames := 3, cells := 0, slots := 0, locals := 120 } : Room) s m args below meth c E (va_Qe (xr E) Q (fun σ' t => xW E σ' t) (xA E)) 0 0 4 2 0 0 σ [(0, xv E (some th)), (1, xv E x1), (2, .int x2)] []) : ∀ (th : Nat) (x1 : Option Nat) (x2 : Int32) (σ : XS), wX2_begins_2 Q K2 th x1 x2 σ → x_T p l e ({ frames := 3, cells := 0, slots := 0, locals := 120 } : Room) s m args below meth c E (va_Qe (xr E) Q (fun σ' t => xW E σ' t) (xA E)) 0 0 4 2 0 0 σ [(0, xv E (some th)), (1, xv E x1), (2, .int x2)] [] := by
  intro th x1 x2 σ hw H locs ls cells slots hR hS hl hcb hsb
  unfold wX2_begins_2 at hw
  obtain ⟨hx, hb, hml, hown, hts, hrt, hlk, hMK, hZ⟩ := id cx
  refine lv_iload_n hx hb dX2_begins_2 rfl (lv_at hl 2 rfl) ?_
  refine lv_bipush (v := (8 : Int32)) hx hb dX2_begins_3 (by decide) ?_
  refine lv_icmp_ge (tgt := 21) hx hb dX2_begins_5 (by decide) (fun hc => ?_) (fun hc => ?_)
  · have hw := mm_ip hc hw
    refine x_aload_n cx dX2_begins_21 rfl (lv_at hl 0 rfl) ?_
    refine lv_iconst (v := (0 : Int32)) hx hb dX2_begins_22 (by decide) ?_
    obtain ⟨hk13, hw⟩ := hw
    obtain ⟨hge_th, hw⟩ := hw
    refine xp_X2_43_3 (v := (0 : Int32)) cx hR hS rfl hge_th hk13 dX2_begins_23 (fun H locs hR hS => ?_)
    refine x_aload_n cx dX2_begins_26 rfl (lv_at hl 0 rfl) ?_
    refine lv_iconst (v := (0 : Int32)) hx hb dX2_begins_27 (by decide) ?_
    refine xp_X2_47_3 (v := (0 : Int32)) cx hR hS rfl hge_th hk13 dX2_begins_28 (fun H locs hR hS => ?_)
    refine x_aload_n cx dX2_begins_31 rfl (lv_at hl 0 rfl) ?_
    refine lv_iconst (v := (0 : Int32)) hx hb dX2_begins_32 (by decide) ?_
    refine xp_X2_53_3 (v := (0 : Int32)) cx hR hS rfl hge_th hk13 dX2_begins_33 (fun H locs hR hS => ?_)
    refine x_aload_n cx dX2_begins_36 rfl (lv_at hl 0 rfl) ?_
    refine lv_iconst (v := (0 : Int32)) hx hb dX2_begins_37 (by decide) ?_
    refine xp_X2_56_3 (v := (0 : Int32)) cx hR hS rfl hge_th hk13 dX2_begins_38 (fun H locs hR hS => ?_)
    refine x_aload_n cx dX2_begins_41 rfl (lv_at hl 0 rfl) ?_
    refine lv_iconst (v := (0 : Int32)) hx hb dX2_begins_42 (by decide) ?_
    refine xp_X2_59_3 (v := (0 : Int32)) cx hR hS rfl hge_th hk13 (Or.inl rfl) dX2_begins_43 (fun H locs hR hS => ?_)
    refine x_aload_n cx dX2_begins_46 rfl (lv_at hl 0 rfl) ?_
    refine x_aload_n cx dX2_begins_47 rfl (lv_at hl 1 rfl) ?_
    obtain ⟨a14, hr14, hk14, hw⟩ := hw
    refine xg_X2_63_2 cx hR hr14 hk14 dX2_begins_48 ?_
    obtain ⟨a16, hr16, hk16, hw⟩ := hw
    refine CJ7_size_X2_69 cx hR hS hr16 hk16 hw ⟨Nat.le_of_ble_eq_true rfl, Nat.le_of_ble_eq_true rfl⟩ (Nat.le_of_ble_eq_true rfl) hl.1 ⟨by dsimp only; omega, by dsimp only; omega⟩ dX2_begins_51 (fun r15 s15 H locs hw hR hS => ?_)
    obtain ⟨hk17, hw⟩ := hw
    refine xp_X2_50_3 (v := r15) cx hR hS rfl hge_th hk17 dX2_begins_54 (fun H locs hR hS => ?_)
    refine lv_iconst (v := (0 : Int32)) hx hb dX2_begins_57 (by decide) ?_
    refine lv_istore_n (i := 2) (lv' := [(2, .int (0 : Int32)), (0, xv E (some th)), (1, xv E x1)]) hx hb dX2_begins_58 rfl hl (by decide) (by simp [xv_cat]) (fun ls hl => ?_)
    exact LX2_begins_59 cx _ _ _ _ hw _ _ _ _ _ hR hS (lv_sub hl [1, 2, 0] rfl) hcb hsb
  · have hw := mm_in hc hw
    refine x_aload_n cx dX2_begins_8 rfl (lv_at hl 0 rfl) ?_
    obtain ⟨hk18, hw⟩ := hw
    refine xg_X2_9_3 cx hR rfl hk18 dX2_begins_9 ?_
    refine lv_iload_n hx hb dX2_begins_12 rfl (lv_at hl 2 rfl) ?_
    refine lv_iconst (v := (0 : Int32)) hx hb dX2_begins_13 (by decide) ?_
    obtain ⟨a19, hr19, hk19, hw⟩ := hw
    obtain ⟨hge_a19, hw⟩ := hw
    obtain ⟨hi, hw⟩ := hw
    refine x_iast cx hR hS hr19 hge_a19 hk19 (j := x2.toNatClampNeg) rfl hi dX2_begins_14 (fun H locs hR hS => ?_)
    obtain ⟨v20, hv20⟩ : ∃ v : Int32, v = x2 + (1 : Int32) := ⟨_, rfl⟩
    have hw := hw v20 hv20
    refine lv_iinc (v := v20) (lv' := [(2, .int v20), (0, xv E (some th)), (1, xv E x1)]) hx hb dX2_begins_15 hl (k := 2) rfl (by rw [hv20]; rfl) (by decide) (by simp [xv_cat]) (fun ls hl => ?_)
    refine lv_goto (tgt := 2) hx hb dX2_begins_18 (by decide) ?_
    exact hK2 _ _ _ _ hw _ _ _ _ _ hR hS (lv_sub hl [1, 2, 0] rfl) hcb hsb
theorem LX2_begins_2 {l : Launch} {p : Program} {e : Env} {s : State} {m : MethodId} {args : Array Value} {below : List Frame} {meth : Method} {c : Code} {E : xx_E} {Q : Option Nat → XS → Prop} (cx : xx_X "StruckCounts$State" cX2_begins 4 (some (.object "StruckCounts$State")) E p s m args meth c) : ∀ (th : Nat) (x1 : Option Nat) (x2 : Int32) (σ : XS), lp4F (wX2_begins_2 Q) th x1 x2 σ → x_T p l e ({ frames := 3, cells := 0, slots := 0, locals := 120 } : Room) s m args below meth c E (va_Qe (xr E) Q (fun σ' t => xW E σ' t) (xA E)) 0 0 4 2 0 0 σ [(0, xv E (some th)), (1, xv E x1), (2, .int x2)] [] :=
  lp4F_of (fun K hK => BX2_begins_2 cx hK)
def wX2_begins (th : Nat) (x1 : Option Nat) (σ : XS) (Q : Option Nat → XS → Prop) : Prop :=
  lp4F (wX2_begins_2 Q) th x1 (0 : Int32) σ
set_option maxHeartbeats 4000000 in
theorem MX2_begins (l : Launch) (E : xx_E) (th : Nat) (x1 : Option Nat) (σ : XS) (Q : Option Nat → XS → Prop) (hw : wX2_begins th x1 σ Q) : xx_Mr l yX2_begins (ws_ yX2_begins cX2_begins 4 (some (.object "StruckCounts$State"))) ({ frames := 3, cells := 0, slots := 0, locals := 120 } : Room) E [xv E (some th), xv E x1] σ Q 0 0 := by
  refine x_of (own := "StruckCounts$State") (by decide +kernel) rfl ?_
  intro p e s m args below meth c cx hR ha hnm
  refine x_entry [xv E (some th), xv E x1] 4 [(0, xv E (some th)), (1, xv E x1)] ha (by simp [lg_sl, xv_cat, vc_i, vc_j, vc_f]) (by simp [lv_args, xv_cat, vc_i, vc_j, vc_f]) (fun ls hl => ?_)
  have hS : va_S (xA E) s.heap s.heap [] := va_S.rf
  have hcb : 0 + 0 ≤ 0 := Nat.le_of_eq (Nat.zero_add _)
  have hsb : 0 + 0 ≤ 0 := Nat.le_of_eq (Nat.zero_add _)
  unfold wX2_begins at hw
  obtain ⟨hx, hb, hml, hown, hts, hrt, hlk, hMK, hZ⟩ := id cx
  refine lv_iconst (v := (0 : Int32)) hx hb dX2_begins_0 (by decide) ?_
  refine lv_istore_n (i := 2) (lv' := [(2, .int (0 : Int32)), (0, xv E (some th)), (1, xv E x1)]) hx hb dX2_begins_1 rfl hl (by decide) (by simp [xv_cat]) (fun ls hl => ?_)
  exact LX2_begins_2 cx _ _ _ _ hw _ _ _ _ _ hR hS (lv_sub hl [1, 2, 0] rfl) hcb hsb
-- J10_isNaN
def wJ10_isNaN (x0 : UInt32) (σ : XS) (Q : Int32 → XS → Prop) : Prop :=
  if (Op.cmpValue (FP.fcmp x0 x0) .l) = 0 then (Q (0 : Int32) σ) else (Q (1 : Int32) σ)
set_option maxHeartbeats 4000000 in
theorem MJ10_isNaN (l : Launch) (E : xx_E) (x0 : UInt32) (σ : XS) (Q : Int32 → XS → Prop) (hw : wJ10_isNaN x0 σ Q) : xx_Mi l yJ10_isNaN (ws_ yJ10_isNaN cJ10_isNaN 1 (some .boolean)) ({ frames := 0, cells := 0, slots := 0, locals := 0 } : Room) E [.float x0] σ Q 0 0 := by
  refine x_of (own := "java/lang/Float") (by decide +kernel) rfl ?_
  intro p e s m args below meth c cx hR ha hnm
  refine x_entry [.float x0] 1 [(0, .float x0)] ha (Nat.le_of_ble_eq_true rfl) rfl (fun ls hl => ?_)
  have hS : va_S (xA E) s.heap s.heap [] := va_S.rf
  have hcb : 0 + 0 ≤ 0 := Nat.le_of_eq (Nat.zero_add _)
  have hsb : 0 + 0 ≤ 0 := Nat.le_of_eq (Nat.zero_add _)
  unfold wJ10_isNaN at hw
  obtain ⟨hx, hb, hml, hown, hts, hrt, hlk, hMK, hZ⟩ := id cx
  refine lv_fload_n hx hb dJ10_isNaN_0 rfl (lv_at hl 0 rfl) ?_
  refine lv_fload_n hx hb dJ10_isNaN_1 rfl (lv_at hl 0 rfl) ?_
  refine lv_fcmp hx hb dJ10_isNaN_2 ?_
  refine lv_if_eq (tgt := 10) hx hb dJ10_isNaN_3 (by decide) (fun hc => ?_) (fun hc => ?_)
  · have hw := mm_ip hc hw
    refine lv_iconst (v := (0 : Int32)) hx hb dJ10_isNaN_10 (by decide) ?_
    exact x_nret cx hR hS (xle hcb) (xle hsb) (zb_nar (Or.inl rfl)) hw dJ10_isNaN_11
  · have hw := mm_in hc hw
    refine lv_iconst (v := (1 : Int32)) hx hb dJ10_isNaN_6 (by decide) ?_
    refine lv_goto (tgt := 11) hx hb dJ10_isNaN_7 (by decide) ?_
    exact x_nret cx hR hS (xle hcb) (xle hsb) (zb_nar (Or.inr rfl)) hw dJ10_isNaN_11
-- J11_numberOfLeadingZeros
def wJ11_numberOfLeadingZeros_73 (Q : Int32 → XS → Prop) (x0 : Int32) (x1 : Int32) (σ : XS) : Prop :=
  Q (x1 - (ushr x0 (1 : Int32))) σ
set_option maxHeartbeats 4000000 in
theorem BJ11_numberOfLeadingZeros_73 {l : Launch} {p : Program} {e : Env} {s : State} {m : MethodId} {args : Array Value} {below : List Frame} {meth : Method} {c : Code} {E : xx_E} {Q : Int32 → XS → Prop} (cx : xx_X "java/lang/Integer" cJ11_numberOfLeadingZeros 2 (some .int) E p s m args meth c) : ∀ (x0 : Int32) (x1 : Int32) (σ : XS), wJ11_numberOfLeadingZeros_73 Q x0 x1 σ → x_T p l e ({ frames := 0, cells := 0, slots := 0, locals := 0 } : Room) s m args below meth c E (va_Qi Q (fun σ' t => xW E σ' t) (xA E)) 0 0 2 73 0 0 σ [(0, .int x0), (1, .int x1)] [] := by
  intro x0 x1 σ hw H locs ls cells slots hR hS hl hcb hsb
  unfold wJ11_numberOfLeadingZeros_73 at hw
  obtain ⟨hx, hb, hml, hown, hts, hrt, hlk, hMK, hZ⟩ := id cx
  refine lv_iload_n hx hb dJ11_numberOfLeadingZeros_73 rfl (lv_at hl 1 rfl) ?_
  refine lv_iload_n hx hb dJ11_numberOfLeadingZeros_74 rfl (lv_at hl 0 rfl) ?_
  refine lv_iconst (v := (1 : Int32)) hx hb dJ11_numberOfLeadingZeros_75 (by decide) ?_
  refine lv_iushr (v := (ushr x0 (1 : Int32))) hx hb dJ11_numberOfLeadingZeros_76 rfl ?_
  refine lv_isub hx hb dJ11_numberOfLeadingZeros_77 ?_
  exact x_iret cx hR hS (xle hcb) (xle hsb) hw dJ11_numberOfLeadingZeros_78
def wJ11_numberOfLeadingZeros_61 (Q : Int32 → XS → Prop) (x0 : Int32) (x1 : Int32) (σ : XS) : Prop :=
  if x0 < (4 : Int32) then (wJ11_numberOfLeadingZeros_73 Q x0 x1 σ) else (∀ v1 : Int32, v1 = x1 + (-2 : Int32) → ∀ v2 : Int32, v2 = (ushr x0 (2 : Int32)) → wJ11_numberOfLeadingZeros_73 Q v2 v1 σ)
set_option maxHeartbeats 4000000 in
theorem BJ11_numberOfLeadingZeros_61 {l : Launch} {p : Program} {e : Env} {s : State} {m : MethodId} {args : Array Value} {below : List Frame} {meth : Method} {c : Code} {E : xx_E} {Q : Int32 → XS → Prop} (cx : xx_X "java/lang/Integer" cJ11_numberOfLeadingZeros 2 (some .int) E p s m args meth c) : ∀ (x0 : Int32) (x1 : Int32) (σ : XS), wJ11_numberOfLeadingZeros_61 Q x0 x1 σ → x_T p l e ({ frames := 0, cells := 0, slots := 0, locals := 0 } : Room) s m args below meth c E (va_Qi Q (fun σ' t => xW E σ' t) (xA E)) 0 0 2 61 0 0 σ [(0, .int x0), (1, .int x1)] [] := by
  intro x0 x1 σ hw H locs ls cells slots hR hS hl hcb hsb
  unfold wJ11_numberOfLeadingZeros_61 at hw
  obtain ⟨hx, hb, hml, hown, hts, hrt, hlk, hMK, hZ⟩ := id cx
  refine lv_iload_n hx hb dJ11_numberOfLeadingZeros_61 rfl (lv_at hl 0 rfl) ?_
  refine lv_iconst (v := (4 : Int32)) hx hb dJ11_numberOfLeadingZeros_62 (by decide) ?_
  refine lv_icmp_lt (tgt := 73) hx hb dJ11_numberOfLeadingZeros_63 (by decide) (fun hc => ?_) (fun hc => ?_)
  · have hw := mm_ip hc hw
    exact BJ11_numberOfLeadingZeros_73 cx _ _ _ hw _ _ _ _ _ hR hS (lv_sub hl [0, 1] rfl) hcb hsb
  · have hw := mm_in hc hw
    obtain ⟨v1, hv1⟩ : ∃ v : Int32, v = x1 + (-2 : Int32) := ⟨_, rfl⟩
    have hw := hw v1 hv1
    refine lv_iinc (v := v1) (lv' := [(1, .int v1), (0, .int x0)]) hx hb dJ11_numberOfLeadingZeros_66 hl (k := 1) rfl (by rw [hv1]; rfl) (by decide) rfl (fun ls hl => ?_)
    refine lv_iload_n hx hb dJ11_numberOfLeadingZeros_69 rfl (lv_at hl 1 rfl) ?_
    refine lv_iconst (v := (2 : Int32)) hx hb dJ11_numberOfLeadingZeros_70 (by decide) ?_
    refine lv_iushr (v := (ushr x0 (2 : Int32))) hx hb dJ11_numberOfLeadingZeros_71 rfl ?_
    refine lv_topi (fun v2 hv2 => ?_)
    have hw := hw v2 hv2
    refine lv_istore_n (i := 0) (lv' := [(0, .int v2), (1, .int v1)]) hx hb dJ11_numberOfLeadingZeros_72 rfl hl (by decide) rfl (fun ls hl => ?_)
    exact BJ11_numberOfLeadingZeros_73 cx _ _ _ hw _ _ _ _ _ hR hS (lv_sub hl [0, 1] rfl) hcb hsb
def wJ11_numberOfLeadingZeros_48 (Q : Int32 → XS → Prop) (x0 : Int32) (x1 : Int32) (σ : XS) : Prop :=
  if x0 < (16 : Int32) then (wJ11_numberOfLeadingZeros_61 Q x0 x1 σ) else (∀ v3 : Int32, v3 = x1 + (-4 : Int32) → ∀ v4 : Int32, v4 = (ushr x0 (4 : Int32)) → wJ11_numberOfLeadingZeros_61 Q v4 v3 σ)
set_option maxHeartbeats 4000000 in
theorem BJ11_numberOfLeadingZeros_48 {l : Launch} {p : Program} {e : Env} {s : State} {m : MethodId} {args : Array Value} {below : List Frame} {meth : Method} {c : Code} {E : xx_E} {Q : Int32 → XS → Prop} (cx : xx_X "java/lang/Integer" cJ11_numberOfLeadingZeros 2 (some .int) E p s m args meth c) : ∀ (x0 : Int32) (x1 : Int32) (σ : XS), wJ11_numberOfLeadingZeros_48 Q x0 x1 σ → x_T p l e ({ frames := 0, cells := 0, slots := 0, locals := 0 } : Room) s m args below meth c E (va_Qi Q (fun σ' t => xW E σ' t) (xA E)) 0 0 2 48 0 0 σ [(0, .int x0), (1, .int x1)] [] := by
  intro x0 x1 σ hw H locs ls cells slots hR hS hl hcb hsb
  unfold wJ11_numberOfLeadingZeros_48 at hw
  obtain ⟨hx, hb, hml, hown, hts, hrt, hlk, hMK, hZ⟩ := id cx
  refine lv_iload_n hx hb dJ11_numberOfLeadingZeros_48 rfl (lv_at hl 0 rfl) ?_
  refine lv_bipush (v := (16 : Int32)) hx hb dJ11_numberOfLeadingZeros_49 (by decide) ?_
  refine lv_icmp_lt (tgt := 61) hx hb dJ11_numberOfLeadingZeros_51 (by decide) (fun hc => ?_) (fun hc => ?_)
  · have hw := mm_ip hc hw
    exact BJ11_numberOfLeadingZeros_61 cx _ _ _ hw _ _ _ _ _ hR hS (lv_sub hl [0, 1] rfl) hcb hsb
  · have hw := mm_in hc hw
    obtain ⟨v3, hv3⟩ : ∃ v : Int32, v = x1 + (-4 : Int32) := ⟨_, rfl⟩
    have hw := hw v3 hv3
    refine lv_iinc (v := v3) (lv' := [(1, .int v3), (0, .int x0)]) hx hb dJ11_numberOfLeadingZeros_54 hl (k := 1) rfl (by rw [hv3]; rfl) (by decide) rfl (fun ls hl => ?_)
    refine lv_iload_n hx hb dJ11_numberOfLeadingZeros_57 rfl (lv_at hl 1 rfl) ?_
    refine lv_iconst (v := (4 : Int32)) hx hb dJ11_numberOfLeadingZeros_58 (by decide) ?_
    refine lv_iushr (v := (ushr x0 (4 : Int32))) hx hb dJ11_numberOfLeadingZeros_59 rfl ?_
    refine lv_topi (fun v4 hv4 => ?_)
    have hw := hw v4 hv4
    refine lv_istore_n (i := 0) (lv' := [(0, .int v4), (1, .int v3)]) hx hb dJ11_numberOfLeadingZeros_60 rfl hl (by decide) rfl (fun ls hl => ?_)
    exact BJ11_numberOfLeadingZeros_61 cx _ _ _ hw _ _ _ _ _ hR hS (lv_sub hl [0, 1] rfl) hcb hsb
def wJ11_numberOfLeadingZeros_33 (Q : Int32 → XS → Prop) (x0 : Int32) (x1 : Int32) (σ : XS) : Prop :=
  if x0 < (256 : Int32) then (wJ11_numberOfLeadingZeros_48 Q x0 x1 σ) else (∀ v5 : Int32, v5 = x1 + (-8 : Int32) → ∀ v6 : Int32, v6 = (ushr x0 (8 : Int32)) → wJ11_numberOfLeadingZeros_48 Q v6 v5 σ)
set_option maxHeartbeats 4000000 in
theorem BJ11_numberOfLeadingZeros_33 {l : Launch} {p : Program} {e : Env} {s : State} {m : MethodId} {args : Array Value} {below : List Frame} {meth : Method} {c : Code} {E : xx_E} {Q : Int32 → XS → Prop} (cx : xx_X "java/lang/Integer" cJ11_numberOfLeadingZeros 2 (some .int) E p s m args meth c) : ∀ (x0 : Int32) (x1 : Int32) (σ : XS), wJ11_numberOfLeadingZeros_33 Q x0 x1 σ → x_T p l e ({ frames := 0, cells := 0, slots := 0, locals := 0 } : Room) s m args below meth c E (va_Qi Q (fun σ' t => xW E σ' t) (xA E)) 0 0 2 33 0 0 σ [(0, .int x0), (1, .int x1)] [] := by
  intro x0 x1 σ hw H locs ls cells slots hR hS hl hcb hsb
  unfold wJ11_numberOfLeadingZeros_33 at hw
  obtain ⟨hx, hb, hml, hown, hts, hrt, hlk, hMK, hZ⟩ := id cx
  refine lv_iload_n hx hb dJ11_numberOfLeadingZeros_33 rfl (lv_at hl 0 rfl) ?_
  refine lv_sipush (v := (256 : Int32)) hx hb dJ11_numberOfLeadingZeros_34 (by decide) ?_
  refine lv_icmp_lt (tgt := 48) hx hb dJ11_numberOfLeadingZeros_37 (by decide) (fun hc => ?_) (fun hc => ?_)
  · have hw := mm_ip hc hw
    exact BJ11_numberOfLeadingZeros_48 cx _ _ _ hw _ _ _ _ _ hR hS (lv_sub hl [0, 1] rfl) hcb hsb
  · have hw := mm_in hc hw
    obtain ⟨v5, hv5⟩ : ∃ v : Int32, v = x1 + (-8 : Int32) := ⟨_, rfl⟩
    have hw := hw v5 hv5
    refine lv_iinc (v := v5) (lv' := [(1, .int v5), (0, .int x0)]) hx hb dJ11_numberOfLeadingZeros_40 hl (k := 1) rfl (by rw [hv5]; rfl) (by decide) rfl (fun ls hl => ?_)
    refine lv_iload_n hx hb dJ11_numberOfLeadingZeros_43 rfl (lv_at hl 1 rfl) ?_
    refine lv_bipush (v := (8 : Int32)) hx hb dJ11_numberOfLeadingZeros_44 (by decide) ?_
    refine lv_iushr (v := (ushr x0 (8 : Int32))) hx hb dJ11_numberOfLeadingZeros_46 rfl ?_
    refine lv_topi (fun v6 hv6 => ?_)
    have hw := hw v6 hv6
    refine lv_istore_n (i := 0) (lv' := [(0, .int v6), (1, .int v5)]) hx hb dJ11_numberOfLeadingZeros_47 rfl hl (by decide) rfl (fun ls hl => ?_)
    exact BJ11_numberOfLeadingZeros_48 cx _ _ _ hw _ _ _ _ _ hR hS (lv_sub hl [0, 1] rfl) hcb hsb
def wJ11_numberOfLeadingZeros (x0 : Int32) (σ : XS) (Q : Int32 → XS → Prop) : Prop :=
  if 0 < x0 then (if x0 < (65536 : Int32) then (wJ11_numberOfLeadingZeros_33 Q x0 (31 : Int32) σ) else (∀ v7 : Int32, v7 = (31 : Int32) + (-16 : Int32) → ∀ v8 : Int32, v8 = (ushr x0 (16 : Int32)) → wJ11_numberOfLeadingZeros_33 Q v8 v7 σ)) else (if x0 = 0 then (Q (32 : Int32) σ) else (Q (0 : Int32) σ))
set_option maxHeartbeats 4000000 in
theorem MJ11_numberOfLeadingZeros (l : Launch) (E : xx_E) (x0 : Int32) (σ : XS) (Q : Int32 → XS → Prop) (hw : wJ11_numberOfLeadingZeros x0 σ Q) : xx_Mi l yJ11_numberOfLeadingZeros (ws_ yJ11_numberOfLeadingZeros cJ11_numberOfLeadingZeros 2 (some .int)) ({ frames := 0, cells := 0, slots := 0, locals := 0 } : Room) E [.int x0] σ Q 0 0 := by
  refine x_of (own := "java/lang/Integer") (by decide +kernel) rfl ?_
  intro p e s m args below meth c cx hR ha hnm
  refine x_entry [.int x0] 2 [(0, .int x0)] ha (Nat.le_of_ble_eq_true rfl) rfl (fun ls hl => ?_)
  have hS : va_S (xA E) s.heap s.heap [] := va_S.rf
  have hcb : 0 + 0 ≤ 0 := Nat.le_of_eq (Nat.zero_add _)
  have hsb : 0 + 0 ≤ 0 := Nat.le_of_eq (Nat.zero_add _)
  unfold wJ11_numberOfLeadingZeros at hw
  obtain ⟨hx, hb, hml, hown, hts, hrt, hlk, hMK, hZ⟩ := id cx
  refine lv_iload_n hx hb dJ11_numberOfLeadingZeros_0 rfl (lv_at hl 0 rfl) ?_
  refine lv_if_gt (tgt := 15) hx hb dJ11_numberOfLeadingZeros_1 (by decide) (fun hc => ?_) (fun hc => ?_)
  · have hw := mm_ip hc hw
    refine lv_bipush (v := (31 : Int32)) hx hb dJ11_numberOfLeadingZeros_15 (by decide) ?_
    refine lv_istore_n (i := 1) (lv' := [(1, .int (31 : Int32)), (0, .int x0)]) hx hb dJ11_numberOfLeadingZeros_17 rfl hl (by decide) rfl (fun ls hl => ?_)
    refine lv_iload_n hx hb dJ11_numberOfLeadingZeros_18 rfl (lv_at hl 1 rfl) ?_
    refine lv_ldcw (v := (65536 : Int32)) hx hb hown (hts _ q568) dJ11_numberOfLeadingZeros_19 ?_
    refine lv_icmp_lt (tgt := 33) hx hb dJ11_numberOfLeadingZeros_22 (by decide) (fun hc => ?_) (fun hc => ?_)
    · have hw := mm_ip hc hw
      exact BJ11_numberOfLeadingZeros_33 cx _ _ _ hw _ _ _ _ _ hR hS (lv_sub hl [1, 0] rfl) hcb hsb
    · have hw := mm_in hc hw
      obtain ⟨v7, hv7⟩ : ∃ v : Int32, v = (31 : Int32) + (-16 : Int32) := ⟨_, rfl⟩
      have hw := hw v7 hv7
      refine lv_iinc (v := v7) (lv' := [(1, .int v7), (0, .int x0)]) hx hb dJ11_numberOfLeadingZeros_25 hl (k := 0) rfl (by rw [hv7]; rfl) (by decide) rfl (fun ls hl => ?_)
      refine lv_iload_n hx hb dJ11_numberOfLeadingZeros_28 rfl (lv_at hl 1 rfl) ?_
      refine lv_bipush (v := (16 : Int32)) hx hb dJ11_numberOfLeadingZeros_29 (by decide) ?_
      refine lv_iushr (v := (ushr x0 (16 : Int32))) hx hb dJ11_numberOfLeadingZeros_31 rfl ?_
      refine lv_topi (fun v8 hv8 => ?_)
      have hw := hw v8 hv8
      refine lv_istore_n (i := 0) (lv' := [(0, .int v8), (1, .int v7)]) hx hb dJ11_numberOfLeadingZeros_32 rfl hl (by decide) rfl (fun ls hl => ?_)
      exact BJ11_numberOfLeadingZeros_33 cx _ _ _ hw _ _ _ _ _ hR hS (lv_sub hl [0, 1] rfl) hcb hsb
  · have hw := mm_in hc hw
    refine lv_iload_n hx hb dJ11_numberOfLeadingZeros_4 rfl (lv_at hl 0 rfl) ?_
    refine lv_if_ne (tgt := 13) hx hb dJ11_numberOfLeadingZeros_5 (by decide) (fun hc => ?_) (fun hc => ?_)
    · have hw := mm_in hc hw
      refine lv_iconst (v := (0 : Int32)) hx hb dJ11_numberOfLeadingZeros_13 (by decide) ?_
      exact x_iret cx hR hS (xle hcb) (xle hsb) hw dJ11_numberOfLeadingZeros_14
    · have hw := mm_ip hc hw
      refine lv_bipush (v := (32 : Int32)) hx hb dJ11_numberOfLeadingZeros_8 (by decide) ?_
      refine lv_goto (tgt := 14) hx hb dJ11_numberOfLeadingZeros_10 (by decide) ?_
      exact x_iret cx hR hS (xle hcb) (xle hsb) hw dJ11_numberOfLeadingZeros_14
-- J1_tableSizeFor
theorem CJ11_numberOfLeadingZeros_J1_34 {l : Launch} {p : Program} {e : Env} {R : Room} {s : State} {m : MethodId} {args : Array Value} {below : List Frame} {meth : Method} {c : Code} {H : Heap} {locs : List Loc} {cells slots : Nat} {Qz : State → Prop} {cc : ByteArray} {nL : Nat} {ret : Option FieldType} {E : xx_E} {σ : XS} {pc : Nat} {ls : Array Slot} {rest : List Value} {x0 : Int32} (cx : xx_X "java/util/HashMap" cc nL ret E p s m args meth c) (hR0 : xR E σ H) (hS0 : va_S (xA E) s.heap H locs) {Qf : Int32 → XS → Prop} (hw : wJ11_numberOfLeadingZeros x0 σ Qf) (hR : (({ frames := 0, cells := 0, slots := 0, locals := 0 } : Room)).frames + 1 ≤ R.frames ∧ 8 + (2 + 11) + (({ frames := 0, cells := 0, slots := 0, locals := 0 } : Room)).locals ≤ R.locals) (hrest : rest.length ≤ 4) (hsize : ls.size = nL) (hf : cells + 0 ≤ R.cells ∧ slots + 0 ≤ R.slots) (hdg : decode cc pc = .ok (.invokestatic 34, 3))
    (kk : ∀ (r : Int32) (σ1 : XS) (H1 : Heap) (locs1 : List Loc), Qf r σ1 → xR E σ1 H1 → va_S (xA E) s.heap H1 locs1 → W p l e R s m args below meth c H1 locs1 (cells + 0) (slots + 0) Qz (F0 m (pc + 3) ls (.int r :: rest))) : W p l e R s m args below meth c H locs cells slots Qz (F0 m pc ls (.int x0 :: rest)) := by
  obtain ⟨hx, hb, hml, hown, hts, hrt, hlk, hK, hZ⟩ := id cx
  exact x_goi (va_runS (As := [.int x0]) (rest := rest) (x_fix cx) (MJ11_numberOfLeadingZeros l E x0 σ Qf hw) (va_cwS 1 hts (lw_S q565 q566 q171 q567) rfl rfl rfl (by decide +kernel) hR) ⟨xblind, x_pre cx hR0 hS0 [.int x0]⟩ rfl rfl hsize rfl (lv_room (xroom hrest)) hdg hf) hS0 kk
def wJ1_tableSizeFor (x0 : Int32) (σ : XS) (Q : Int32 → XS → Prop) : Prop :=
  wJ11_numberOfLeadingZeros (x0 - (1 : Int32)) σ (fun r1 s1 => ∀ v2 : Int32, v2 = (ushr (-1 : Int32) r1) → if 0 ≤ v2 then (if v2 < (1073741824 : Int32) then (Q (v2 + (1 : Int32)) s1) else (Q (1073741824 : Int32) s1)) else (Q (1 : Int32) s1))
set_option maxHeartbeats 4000000 in
theorem MJ1_tableSizeFor (l : Launch) (E : xx_E) (x0 : Int32) (σ : XS) (Q : Int32 → XS → Prop) (hw : wJ1_tableSizeFor x0 σ Q) : xx_Mi l yJ1_tableSizeFor (ws_ yJ1_tableSizeFor cJ1_tableSizeFor 2 (some .int)) ({ frames := 1, cells := 0, slots := 0, locals := 40 } : Room) E [.int x0] σ Q 0 0 := by
  refine x_of (own := "java/util/HashMap") (by decide +kernel) rfl ?_
  intro p e s m args below meth c cx hR ha hnm
  refine x_entry [.int x0] 2 [(0, .int x0)] ha (Nat.le_of_ble_eq_true rfl) rfl (fun ls hl => ?_)
  have hS : va_S (xA E) s.heap s.heap [] := va_S.rf
  have hcb : 0 + 0 ≤ 0 := Nat.le_of_eq (Nat.zero_add _)
  have hsb : 0 + 0 ≤ 0 := Nat.le_of_eq (Nat.zero_add _)
  unfold wJ1_tableSizeFor at hw
  obtain ⟨hx, hb, hml, hown, hts, hrt, hlk, hMK, hZ⟩ := id cx
  refine lv_iconst (v := (-1 : Int32)) hx hb dJ1_tableSizeFor_0 (by decide) ?_
  refine lv_iload_n hx hb dJ1_tableSizeFor_1 rfl (lv_at hl 0 rfl) ?_
  refine lv_iconst (v := (1 : Int32)) hx hb dJ1_tableSizeFor_2 (by decide) ?_
  refine lv_isub hx hb dJ1_tableSizeFor_3 ?_
  refine CJ11_numberOfLeadingZeros_J1_34 cx hR hS  hw ⟨Nat.le_of_ble_eq_true rfl, Nat.le_of_ble_eq_true rfl⟩ (Nat.le_of_ble_eq_true rfl) hl.1 ⟨by dsimp only; omega, by dsimp only; omega⟩ dJ1_tableSizeFor_4 (fun r1 s1 H locs hw hR hS => ?_)
  refine lv_iushr (v := (ushr (-1 : Int32) r1)) hx hb dJ1_tableSizeFor_7 rfl ?_
  refine lv_topi (fun v2 hv2 => ?_)
  have hw := hw v2 hv2
  refine lv_istore_n (i := 1) (lv' := [(1, .int v2), (0, .int x0)]) hx hb dJ1_tableSizeFor_8 rfl hl (by decide) rfl (fun ls hl => ?_)
  refine lv_iload_n hx hb dJ1_tableSizeFor_9 rfl (lv_at hl 0 rfl) ?_
  refine lv_if_ge (tgt := 17) hx hb dJ1_tableSizeFor_10 (by decide) (fun hc => ?_) (fun hc => ?_)
  · have hw := mm_ip hc hw
    refine lv_iload_n hx hb dJ1_tableSizeFor_17 rfl (lv_at hl 0 rfl) ?_
    refine lv_ldc (v := (1073741824 : Int32)) hx hb hown (hts _ q558) dJ1_tableSizeFor_18 ?_
    refine lv_icmp_lt (tgt := 28) hx hb dJ1_tableSizeFor_20 (by decide) (fun hc => ?_) (fun hc => ?_)
    · have hw := mm_ip hc hw
      refine lv_iload_n hx hb dJ1_tableSizeFor_28 rfl (lv_at hl 0 rfl) ?_
      refine lv_iconst (v := (1 : Int32)) hx hb dJ1_tableSizeFor_29 (by decide) ?_
      refine lv_iadd hx hb dJ1_tableSizeFor_30 ?_
      exact x_iret cx hR hS (xle hcb) (xle hsb) hw dJ1_tableSizeFor_31
    · have hw := mm_in hc hw
      refine lv_ldc (v := (1073741824 : Int32)) hx hb hown (hts _ q558) dJ1_tableSizeFor_23 ?_
      refine lv_goto (tgt := 31) hx hb dJ1_tableSizeFor_25 (by decide) ?_
      exact x_iret cx hR hS (xle hcb) (xle hsb) hw dJ1_tableSizeFor_31
  · have hw := mm_in hc hw
    refine lv_iconst (v := (1 : Int32)) hx hb dJ1_tableSizeFor_13 (by decide) ?_
    refine lv_goto (tgt := 31) hx hb dJ1_tableSizeFor_14 (by decide) ?_
    exact x_iret cx hR hS (xle hcb) (xle hsb) hw dJ1_tableSizeFor_31
-- J1_init_3L
theorem xp_J1_88_18 {l : Launch} {p : Program} {e : Env} {R : Room} {s : State} {m : MethodId} {args : Array Value} {below : List Frame} {meth : Method} {c : Code} {H : Heap} {locs : List Loc} {cells slots : Nat} {Qz : State → Prop} {cc : ByteArray} {nL : Nat} {ret : Option FieldType} {E : xx_E} {σ : XS} {pc : Nat} {ls : Array Slot} {rest : List Value} (cx : xx_X "java/util/HashMap" cc nL ret E p s m args meth c) (hR : xR E σ H) (hS0 : va_S (xA E) s.heap H locs) {a : Nat} {r : Option Nat} {v : Int32} (hr : r = some a) (ha : xK ≤ a) (hk : kd σ a = 18) (hdg : decode cc pc = .ok (.putfield 88, 3)) (kk : ∀ (H1 : Heap) (locs1 : List Loc), xR E (pfi σ a 6 v) H1 → va_S (xA E) s.heap H1 locs1 → W p l e R s m args below meth c H1 locs1 cells slots Qz (F0 m (pc + 3) ls rest)) : W p l e R s m args below meth c H locs cells slots Qz (F0 m pc ls (.int v :: xv E r :: rest)) :=
  x_put (ci := 17) cx hR hS0 hr ha hk (by decide) rfl in_J2 tyJ2 tyJ2_ok nmJ2 6 (by decide) (Or.inl ⟨q242, rfl⟩) (fun _ h => h) rfl rfl (xput_i rfl) hdg kk
theorem CJ10_isNaN_J1_70 {l : Launch} {p : Program} {e : Env} {R : Room} {s : State} {m : MethodId} {args : Array Value} {below : List Frame} {meth : Method} {c : Code} {H : Heap} {locs : List Loc} {cells slots : Nat} {Qz : State → Prop} {cc : ByteArray} {nL : Nat} {ret : Option FieldType} {E : xx_E} {σ : XS} {pc : Nat} {ls : Array Slot} {rest : List Value} {x0 : UInt32} (cx : xx_X "java/util/HashMap" cc nL ret E p s m args meth c) (hR0 : xR E σ H) (hS0 : va_S (xA E) s.heap H locs) {Qf : Int32 → XS → Prop} (hw : wJ10_isNaN x0 σ Qf) (hR : (({ frames := 0, cells := 0, slots := 0, locals := 0 } : Room)).frames + 1 ≤ R.frames ∧ 8 + (1 + 11) + (({ frames := 0, cells := 0, slots := 0, locals := 0 } : Room)).locals ≤ R.locals) (hrest : rest.length ≤ 4) (hsize : ls.size = nL) (hf : cells + 0 ≤ R.cells ∧ slots + 0 ≤ R.slots) (hdg : decode cc pc = .ok (.invokestatic 70, 3))
    (kk : ∀ (r : Int32) (σ1 : XS) (H1 : Heap) (locs1 : List Loc), Qf r σ1 → xR E σ1 H1 → va_S (xA E) s.heap H1 locs1 → W p l e R s m args below meth c H1 locs1 (cells + 0) (slots + 0) Qz (F0 m (pc + 3) ls (.int r :: rest))) : W p l e R s m args below meth c H locs cells slots Qz (F0 m pc ls (.float x0 :: rest)) := by
  obtain ⟨hx, hb, hml, hown, hts, hrt, hlk, hK, hZ⟩ := id cx
  exact x_goi (va_runS (As := [.float x0]) (rest := rest) (x_fix cx) (MJ10_isNaN l E x0 σ Qf hw) (va_cwS 1 hts (lw_S q559 q560 q170 q561) rfl rfl rfl (by decide +kernel) hR) ⟨xblind, x_pre cx hR0 hS0 [.float x0]⟩ rfl rfl hsize rfl (lv_room (xroom hrest)) hdg hf) hS0 kk
theorem CJ1_tableSizeFor_J1_85 {l : Launch} {p : Program} {e : Env} {R : Room} {s : State} {m : MethodId} {args : Array Value} {below : List Frame} {meth : Method} {c : Code} {H : Heap} {locs : List Loc} {cells slots : Nat} {Qz : State → Prop} {cc : ByteArray} {nL : Nat} {ret : Option FieldType} {E : xx_E} {σ : XS} {pc : Nat} {ls : Array Slot} {rest : List Value} {x0 : Int32} (cx : xx_X "java/util/HashMap" cc nL ret E p s m args meth c) (hR0 : xR E σ H) (hS0 : va_S (xA E) s.heap H locs) {Qf : Int32 → XS → Prop} (hw : wJ1_tableSizeFor x0 σ Qf) (hR : (({ frames := 1, cells := 0, slots := 0, locals := 40 } : Room)).frames + 1 ≤ R.frames ∧ 8 + (2 + 11) + (({ frames := 1, cells := 0, slots := 0, locals := 40 } : Room)).locals ≤ R.locals) (hrest : rest.length ≤ 4) (hsize : ls.size = nL) (hf : cells + 0 ≤ R.cells ∧ slots + 0 ≤ R.slots) (hdg : decode cc pc = .ok (.invokestatic 85, 3))
    (kk : ∀ (r : Int32) (σ1 : XS) (H1 : Heap) (locs1 : List Loc), Qf r σ1 → xR E σ1 H1 → va_S (xA E) s.heap H1 locs1 → W p l e R s m args below meth c H1 locs1 (cells + 0) (slots + 0) Qz (F0 m (pc + 3) ls (.int r :: rest))) : W p l e R s m args below meth c H locs cells slots Qz (F0 m pc ls (.int x0 :: rest)) := by
  obtain ⟨hx, hb, hml, hown, hts, hrt, hlk, hK, hZ⟩ := id cx
  exact x_goi (va_runS (As := [.int x0]) (rest := rest) (x_fix cx) (MJ1_tableSizeFor l E x0 σ Qf hw) (va_cwS 1 hts (lw_S q562 q563 q159 q564) rfl rfl rfl (by decide +kernel) hR) ⟨xblind, x_pre cx hR0 hS0 [.int x0]⟩ rfl rfl hsize rfl (lv_room (xroom hrest)) hdg hf) hS0 kk
def wJ1_init_3L_44 (Q : XS → Prop) (th : Nat) (x1 : Int32) (x2 : UInt32) (σ : XS) : Prop :=
  if (Op.cmpValue (FP.fcmp x2 FP.fconst0) .g) ≤ 0 then False else (wJ10_isNaN x2 σ (fun r1 s1 => if r1 = 0 then (kd s1 th = 18 ∧ (xK ≤ th ∧ (wJ1_tableSizeFor x1 (pff s1 th 7 x2) (fun r3 s3 => kd s3 th = 18 ∧ (Q (pfi s3 th 6 r3)))))) else False))
set_option maxHeartbeats 4000000 in
theorem BJ1_init_3L_44 {l : Launch} {p : Program} {e : Env} {s : State} {m : MethodId} {args : Array Value} {below : List Frame} {meth : Method} {c : Code} {E : xx_E} {Q : XS → Prop} (cx : xx_X "java/util/HashMap" cJ1_init_3 3 none E p s m args meth c) (hini : meth.name = "<init>") : ∀ (th : Nat) (x1 : Int32) (x2 : UInt32) (σ : XS), wJ1_init_3L_44 Q th x1 x2 σ → x_T p l e ({ frames := 2, cells := 0, slots := 0, locals := 80 } : Room) s m args below meth c E (va_Qv Q (fun σ' t => xW E σ' t) (xA E)) 0 0 3 44 0 0 σ [(0, xv E (some th)), (1, .int x1), (2, .float x2)] [] := by
  intro th x1 x2 σ hw H locs ls cells slots hR hS hl hcb hsb
  unfold wJ1_init_3L_44 at hw
  obtain ⟨hx, hb, hml, hown, hts, hrt, hlk, hMK, hZ⟩ := id cx
  refine lv_fload_n hx hb dJ1_init_3_44 rfl (lv_at hl 2 rfl) ?_
  refine lv_fconst0 hx hb dJ1_init_3_45 ?_
  refine lv_fcmp hx hb dJ1_init_3_46 ?_
  refine lv_if_le (tgt := 57) hx hb dJ1_init_3_47 (by decide) (fun hc => ?_) (fun hc => ?_)
  · have hw := mm_ip hc hw
    exact hw.elim
  · have hw := mm_in hc hw
    refine lv_fload_n hx hb dJ1_init_3_50 rfl (lv_at hl 2 rfl) ?_
    refine CJ10_isNaN_J1_70 cx hR hS  hw ⟨Nat.le_of_ble_eq_true rfl, Nat.le_of_ble_eq_true rfl⟩ (Nat.le_of_ble_eq_true rfl) hl.1 ⟨by dsimp only; omega, by dsimp only; omega⟩ dJ1_init_3_51 (fun r1 s1 H locs hw hR hS => ?_)
    refine lv_if_eq (tgt := 84) hx hb dJ1_init_3_54 (by decide) (fun hc => ?_) (fun hc => ?_)
    · have hw := mm_ip hc hw
      refine x_aload_n cx dJ1_init_3_84 rfl (lv_at hl 0 rfl) ?_
      refine lv_fload_n hx hb dJ1_init_3_85 rfl (lv_at hl 2 rfl) ?_
      obtain ⟨hk2, hw⟩ := hw
      obtain ⟨hge_th, hw⟩ := hw
      refine xp_J1_81_18 (v := x2) cx hR hS rfl hge_th hk2 hini dJ1_init_3_86 (fun H locs hR hS => ?_)
      refine x_aload_n cx dJ1_init_3_89 rfl (lv_at hl 0 rfl) ?_
      refine lv_iload_n hx hb dJ1_init_3_90 rfl (lv_at hl 1 rfl) ?_
      refine CJ1_tableSizeFor_J1_85 cx hR hS  hw ⟨Nat.le_of_ble_eq_true rfl, Nat.le_of_ble_eq_true rfl⟩ (Nat.le_of_ble_eq_true rfl) hl.1 ⟨by dsimp only; omega, by dsimp only; omega⟩ dJ1_init_3_91 (fun r3 s3 H locs hw hR hS => ?_)
      obtain ⟨hk4, hw⟩ := hw
      refine xp_J1_88_18 (v := r3) cx hR hS rfl hge_th hk4 dJ1_init_3_94 (fun H locs hR hS => ?_)
      exact x_vret cx hR hS (xle hcb) (xle hsb) hw dJ1_init_3_97
    · have hw := mm_in hc hw
      exact hw.elim
def wJ1_init_3L (th : Nat) (x1 : Int32) (x2 : UInt32) (σ : XS) (Q : XS → Prop) : Prop :=
  kd σ th = 18 ∧ (wJ0_initL th σ (fun s5 => if 0 ≤ x1 then (if x1 ≤ (1073741824 : Int32) then (wJ1_init_3L_44 Q th x1 x2 s5) else (wJ1_init_3L_44 Q th (1073741824 : Int32) x2 s5)) else False))
set_option maxHeartbeats 4000000 in
theorem MJ1_init_3L (l : Launch) (E : xx_E) (th : Nat) (x1 : Int32) (x2 : UInt32) (σ : XS) (Q : XS → Prop) (hw : wJ1_init_3L th x1 x2 σ Q) : xx_Mv l yJ1_init_3 (ws_ yJ1_init_3 cJ1_init_3 3 none) ({ frames := 2, cells := 0, slots := 0, locals := 80 } : Room) E [xv E (some th), .int x1, .float x2] σ Q 0 0 := by
  refine x_of (own := "java/util/HashMap") (by decide +kernel) rfl ?_
  intro p e s m args below meth c cx hR ha hnm
  refine x_entry [xv E (some th), .int x1, .float x2] 3 [(0, xv E (some th)), (1, .int x1), (2, .float x2)] ha (by simp [lg_sl, xv_cat, vc_i, vc_j, vc_f]) (by simp [lv_args, xv_cat, vc_i, vc_j, vc_f]) (fun ls hl => ?_)
  have hS : va_S (xA E) s.heap s.heap [] := va_S.rf
  have hcb : 0 + 0 ≤ 0 := Nat.le_of_eq (Nat.zero_add _)
  have hsb : 0 + 0 ≤ 0 := Nat.le_of_eq (Nat.zero_add _)
  have hini : meth.name = "<init>" := hnm
  unfold wJ1_init_3L at hw
  obtain ⟨hx, hb, hml, hown, hts, hrt, hlk, hMK, hZ⟩ := id cx
  refine x_aload_n cx dJ1_init_3_0 rfl (lv_at hl 0 rfl) ?_
  obtain ⟨hk6, hw⟩ := hw
  refine CJ0_initL_J1_43 cx hR hS rfl hk6 hw ⟨Nat.le_of_ble_eq_true rfl, Nat.le_of_ble_eq_true rfl⟩ (Nat.le_of_ble_eq_true rfl) hl.1 ⟨by dsimp only; omega, by dsimp only; omega⟩ dJ1_init_3_1 (fun s5 H locs hw hR hS => ?_)
  refine lv_iload_n hx hb dJ1_init_3_4 rfl (lv_at hl 1 rfl) ?_
  refine lv_if_ge (tgt := 35) hx hb dJ1_init_3_5 (by decide) (fun hc => ?_) (fun hc => ?_)
  · have hw := mm_ip hc hw
    refine lv_iload_n hx hb dJ1_init_3_35 rfl (lv_at hl 1 rfl) ?_
    refine lv_ldc (v := (1073741824 : Int32)) hx hb hown (hts _ q558) dJ1_init_3_36 ?_
    refine lv_icmp_le (tgt := 44) hx hb dJ1_init_3_38 (by decide) (fun hc => ?_) (fun hc => ?_)
    · have hw := mm_ip hc hw
      exact BJ1_init_3L_44 cx hini _ _ _ _ hw _ _ _ _ _ hR hS (lv_sub hl [0, 1, 2] rfl) hcb hsb
    · have hw := mm_in hc hw
      refine lv_ldc (v := (1073741824 : Int32)) hx hb hown (hts _ q558) dJ1_init_3_41 ?_
      refine lv_istore_n (i := 1) (lv' := [(1, .int (1073741824 : Int32)), (0, xv E (some th)), (2, .float x2)]) hx hb dJ1_init_3_43 rfl hl (by decide) (by simp [xv_cat]) (fun ls hl => ?_)
      exact BJ1_init_3L_44 cx hini _ _ _ _ hw _ _ _ _ _ hR hS (lv_sub hl [1, 0, 2] rfl) hcb hsb
  · have hw := mm_in hc hw
    exact hw.elim
-- J1_init_2L
theorem CJ1_init_3L_J1_93 {l : Launch} {p : Program} {e : Env} {R : Room} {s : State} {m : MethodId} {args : Array Value} {below : List Frame} {meth : Method} {c : Code} {H : Heap} {locs : List Loc} {cells slots : Nat} {Qz : State → Prop} {cc : ByteArray} {nL : Nat} {ret : Option FieldType} {E : xx_E} {σ : XS} {pc : Nat} {ls : Array Slot} {rest : List Value} {th : Nat} {x1 : Int32} {x2 : UInt32} (cx : xx_X "java/util/HashMap" cc nL ret E p s m args meth c) (hR0 : xR E σ H) (hS0 : va_S (xA E) s.heap H locs) {r0 : Option Nat} (hr : r0 = some th) (hk : kd σ th = 18) {Qf : XS → Prop} (hw : wJ1_init_3L th x1 x2 σ Qf) (hR : (({ frames := 2, cells := 0, slots := 0, locals := 80 } : Room)).frames + 1 ≤ R.frames ∧ 8 + (3 + 11) + (({ frames := 2, cells := 0, slots := 0, locals := 80 } : Room)).locals ≤ R.locals) (hrest : rest.length ≤ 4) (hsize : ls.size = nL) (hf : cells + 0 ≤ R.cells ∧ slots + 0 ≤ R.slots) (hdg : decode cc pc = .ok (.invokespecial 93, 3))
    (kk : ∀ (σ1 : XS) (H1 : Heap) (locs1 : List Loc), Qf σ1 → xR E σ1 H1 → va_S (xA E) s.heap H1 locs1 → W p l e R s m args below meth c H1 locs1 (cells + 0) (slots + 0) Qz (F0 m (pc + 3) ls rest)) : W p l e R s m args below meth c H locs cells slots Qz (F0 m pc ls (.float x2 :: .int x1 :: xv E r0 :: rest)) := by
  subst hr
  obtain ⟨hx, hb, hml, hown, hts, hrt, hlk, hK, hZ⟩ := id cx
  exact x_gov (va_runI (As := [.int x1, .float x2]) (rest := rest) (x_fix cx) (MJ1_init_3L l E th x1 x2 σ Qf hw) (cwI 2 hts (lw_meth q557) rfl rfl rfl (hts _ q159) (hts _ q555) (hts _ q556) rfl (by decide +kernel) hR) ⟨xblind, x_pre cx hR0 hS0 (.ref (xr E th) :: [.int x1, .float x2])⟩ rfl rfl hsize rfl (lv_room (xroom hrest)) hdg hf) hS0 kk
def wJ1_init_2L (th : Nat) (x1 : Int32) (σ : XS) (Q : XS → Prop) : Prop :=
  kd σ th = 18 ∧ (wJ1_init_3L th x1 (1061158912 : UInt32) σ (fun s1 => Q s1))
set_option maxHeartbeats 4000000 in
theorem MJ1_init_2L (l : Launch) (E : xx_E) (th : Nat) (x1 : Int32) (σ : XS) (Q : XS → Prop) (hw : wJ1_init_2L th x1 σ Q) : xx_Mv l yJ1_init_2 (ws_ yJ1_init_2 cJ1_init_2 2 none) ({ frames := 3, cells := 0, slots := 0, locals := 120 } : Room) E [xv E (some th), .int x1] σ Q 0 0 := by
  refine x_of (own := "java/util/HashMap") (by decide +kernel) rfl ?_
  intro p e s m args below meth c cx hR ha hnm
  refine x_entry [xv E (some th), .int x1] 2 [(0, xv E (some th)), (1, .int x1)] ha (by simp [lg_sl, xv_cat, vc_i, vc_j, vc_f]) (by simp [lv_args, xv_cat, vc_i, vc_j, vc_f]) (fun ls hl => ?_)
  have hS : va_S (xA E) s.heap s.heap [] := va_S.rf
  have hcb : 0 + 0 ≤ 0 := Nat.le_of_eq (Nat.zero_add _)
  have hsb : 0 + 0 ≤ 0 := Nat.le_of_eq (Nat.zero_add _)
  have hini : meth.name = "<init>" := hnm
  unfold wJ1_init_2L at hw
  obtain ⟨hx, hb, hml, hown, hts, hrt, hlk, hMK, hZ⟩ := id cx
  refine x_aload_n cx dJ1_init_2_0 rfl (lv_at hl 0 rfl) ?_
  refine lv_iload_n hx hb dJ1_init_2_1 rfl (lv_at hl 1 rfl) ?_
  refine lv_ldcf (v := 1061158912) hx hb hown (hts _ q232) dJ1_init_2_2 ?_
  obtain ⟨hk2, hw⟩ := hw
  refine CJ1_init_3L_J1_93 cx hR hS rfl hk2 hw ⟨Nat.le_of_ble_eq_true rfl, Nat.le_of_ble_eq_true rfl⟩ (Nat.le_of_ble_eq_true rfl) hl.1 ⟨by dsimp only; omega, by dsimp only; omega⟩ dJ1_init_2_4 (fun s1 H locs hw hR hS => ?_)
  exact x_vret cx hR hS (xle hcb) (xle hsb) hw dJ1_init_2_7
-- J2_init_2L
theorem CJ1_init_2L_J2_84 {l : Launch} {p : Program} {e : Env} {R : Room} {s : State} {m : MethodId} {args : Array Value} {below : List Frame} {meth : Method} {c : Code} {H : Heap} {locs : List Loc} {cells slots : Nat} {Qz : State → Prop} {cc : ByteArray} {nL : Nat} {ret : Option FieldType} {E : xx_E} {σ : XS} {pc : Nat} {ls : Array Slot} {rest : List Value} {th : Nat} {x1 : Int32} (cx : xx_X "java/util/LinkedHashMap" cc nL ret E p s m args meth c) (hR0 : xR E σ H) (hS0 : va_S (xA E) s.heap H locs) {r0 : Option Nat} (hr : r0 = some th) (hk : kd σ th = 18) {Qf : XS → Prop} (hw : wJ1_init_2L th x1 σ Qf) (hR : (({ frames := 3, cells := 0, slots := 0, locals := 120 } : Room)).frames + 1 ≤ R.frames ∧ 8 + (2 + 11) + (({ frames := 3, cells := 0, slots := 0, locals := 120 } : Room)).locals ≤ R.locals) (hrest : rest.length ≤ 4) (hsize : ls.size = nL) (hf : cells + 0 ≤ R.cells ∧ slots + 0 ≤ R.slots) (hdg : decode cc pc = .ok (.invokespecial 84, 3))
    (kk : ∀ (σ1 : XS) (H1 : Heap) (locs1 : List Loc), Qf σ1 → xR E σ1 H1 → va_S (xA E) s.heap H1 locs1 → W p l e R s m args below meth c H1 locs1 (cells + 0) (slots + 0) Qz (F0 m (pc + 3) ls rest)) : W p l e R s m args below meth c H locs cells slots Qz (F0 m pc ls (.int x1 :: xv E r0 :: rest)) := by
  subst hr
  obtain ⟨hx, hb, hml, hown, hts, hrt, hlk, hK, hZ⟩ := id cx
  exact x_gov (va_runI (As := [.int x1]) (rest := rest) (x_fix cx) (MJ1_init_2L l E th x1 σ Qf hw) (cwI 1 hts (lw_meth q554) rfl rfl rfl (hts _ q159) (hts _ q552) (hts _ q553) rfl (by decide +kernel) hR) ⟨xblind, x_pre cx hR0 hS0 (.ref (xr E th) :: [.int x1])⟩ rfl rfl hsize rfl (lv_room (xroom hrest)) hdg hf) hS0 kk
def wJ2_init_2L (th : Nat) (x1 : Int32) (σ : XS) (Q : XS → Prop) : Prop :=
  kd σ th = 18 ∧ (wJ1_init_2L th x1 σ (fun s1 => kd s1 th = 18 ∧ (xK ≤ th ∧ (Q (pfi (pfi s1 th 11 (0 : Int32)) th 10 (0 : Int32))))))
set_option maxHeartbeats 4000000 in
theorem MJ2_init_2L (l : Launch) (E : xx_E) (th : Nat) (x1 : Int32) (σ : XS) (Q : XS → Prop) (hw : wJ2_init_2L th x1 σ Q) : xx_Mv l yJ2_init_2 (ws_ yJ2_init_2 cJ2_init_2 2 none) ({ frames := 4, cells := 0, slots := 0, locals := 160 } : Room) E [xv E (some th), .int x1] σ Q 0 0 := by
  refine x_of (own := "java/util/LinkedHashMap") (by decide +kernel) rfl ?_
  intro p e s m args below meth c cx hR ha hnm
  refine x_entry [xv E (some th), .int x1] 2 [(0, xv E (some th)), (1, .int x1)] ha (by simp [lg_sl, xv_cat, vc_i, vc_j, vc_f]) (by simp [lv_args, xv_cat, vc_i, vc_j, vc_f]) (fun ls hl => ?_)
  have hS : va_S (xA E) s.heap s.heap [] := va_S.rf
  have hcb : 0 + 0 ≤ 0 := Nat.le_of_eq (Nat.zero_add _)
  have hsb : 0 + 0 ≤ 0 := Nat.le_of_eq (Nat.zero_add _)
  have hini : meth.name = "<init>" := hnm
  unfold wJ2_init_2L at hw
  obtain ⟨hx, hb, hml, hown, hts, hrt, hlk, hMK, hZ⟩ := id cx
  refine x_aload_n cx dJ2_init_2_0 rfl (lv_at hl 0 rfl) ?_
  refine lv_iload_n hx hb dJ2_init_2_1 rfl (lv_at hl 1 rfl) ?_
  obtain ⟨hk2, hw⟩ := hw
  refine CJ1_init_2L_J2_84 cx hR hS rfl hk2 hw ⟨Nat.le_of_ble_eq_true rfl, Nat.le_of_ble_eq_true rfl⟩ (Nat.le_of_ble_eq_true rfl) hl.1 ⟨by dsimp only; omega, by dsimp only; omega⟩ dJ2_init_2_2 (fun s1 H locs hw hR hS => ?_)
  refine x_aload_n cx dJ2_init_2_5 rfl (lv_at hl 0 rfl) ?_
  refine lv_iconst (v := (0 : Int32)) hx hb dJ2_init_2_6 (by decide) ?_
  obtain ⟨hk3, hw⟩ := hw
  obtain ⟨hge_th, hw⟩ := hw
  refine xp_J2_1_18 (v := (0 : Int32)) cx hR hS rfl hge_th hk3 dJ2_init_2_7 (fun H locs hR hS => ?_)
  refine x_aload_n cx dJ2_init_2_10 rfl (lv_at hl 0 rfl) ?_
  refine lv_iconst (v := (0 : Int32)) hx hb dJ2_init_2_11 (by decide) ?_
  refine xp_J2_64_18 (v := (0 : Int32)) cx hR hS rfl hge_th hk3 hini (Or.inl rfl) dJ2_init_2_12 (fun H locs hR hS => ?_)
  exact x_vret cx hR hS (xle hcb) (xle hsb) hw dJ2_init_2_15
-- X0_init
theorem xg_X0_31_1 {l : Launch} {p : Program} {e : Env} {R : Room} {s : State} {m : MethodId} {args : Array Value} {below : List Frame} {meth : Method} {c : Code} {H : Heap} {locs : List Loc} {cells slots : Nat} {Qz : State → Prop} {cc : ByteArray} {nL : Nat} {ret : Option FieldType} {E : xx_E} {σ : XS} {pc : Nat} {ls : Array Slot} {rest : List Value} (cx : xx_X "StruckCounts" cc nL ret E p s m args meth c) (hR : xR E σ H) {a : Nat} {r : Option Nat} (hr : r = some a) (hk : kd σ a = 1) (hdg : decode cc pc = .ok (.getfield 31, 3)) (kk : W p l e R s m args below meth c H locs cells slots Qz (F0 m (pc + 3) ls (xv E (fr σ a 6) :: rest))) : W p l e R s m args below meth c H locs cells slots Qz (F0 m pc ls (xv E r :: rest)) :=
  x_get (ci := 0) cx hR hr hk (by decide) rfl in_X0 6 (by decide) q577 (fun _ h => h) (v := xv E (fr σ a 6)) rfl hdg kk
theorem xg_X0_24_1 {l : Launch} {p : Program} {e : Env} {R : Room} {s : State} {m : MethodId} {args : Array Value} {below : List Frame} {meth : Method} {c : Code} {H : Heap} {locs : List Loc} {cells slots : Nat} {Qz : State → Prop} {cc : ByteArray} {nL : Nat} {ret : Option FieldType} {E : xx_E} {σ : XS} {pc : Nat} {ls : Array Slot} {rest : List Value} (cx : xx_X "StruckCounts" cc nL ret E p s m args meth c) (hR : xR E σ H) {a : Nat} {r : Option Nat} (hr : r = some a) (hk : kd σ a = 1) (hdg : decode cc pc = .ok (.getfield 24, 3)) (kk : W p l e R s m args below meth c H locs cells slots Qz (F0 m (pc + 3) ls (xv E (fr σ a 5) :: rest))) : W p l e R s m args below meth c H locs cells slots Qz (F0 m pc ls (xv E r :: rest)) :=
  x_get (ci := 0) cx hR hr hk (by decide) rfl in_X0 5 (by decide) q576 (fun _ h => h) (v := xv E (fr σ a 5)) rfl hdg kk
theorem xp_X0_56_1 {l : Launch} {p : Program} {e : Env} {R : Room} {s : State} {m : MethodId} {args : Array Value} {below : List Frame} {meth : Method} {c : Code} {H : Heap} {locs : List Loc} {cells slots : Nat} {Qz : State → Prop} {cc : ByteArray} {nL : Nat} {ret : Option FieldType} {E : xx_E} {σ : XS} {pc : Nat} {ls : Array Slot} {rest : List Value} (cx : xx_X "StruckCounts" cc nL ret E p s m args meth c) (hR : xR E σ H) (hS0 : va_S (xA E) s.heap H locs) {a : Nat} {r : Option Nat} {v : Option Nat} (hr : r = some a) (ha : xK ≤ a) (hk : kd σ a = 1) (hini : meth.name = "<init>") (hdg : decode cc pc = .ok (.putfield 56, 3)) (kk : ∀ (H1 : Heap) (locs1 : List Loc), xR E (pfr σ a 12 v) H1 → va_S (xA E) s.heap H1 locs1 → W p l e R s m args below meth c H1 locs1 cells slots Qz (F0 m (pc + 3) ls rest)) : W p l e R s m args below meth c H locs cells slots Qz (F0 m pc ls (xv E v :: xv E r :: rest)) :=
  x_put (ci := 0) cx hR hS0 hr ha hk (by decide) rfl in_X0 tyX0 tyX0_ok nmX0 12 (by decide) (Or.inr (Or.inl ⟨q583, rfl, hini, rfl⟩)) (fun _ h => h) (by cases v <;> rfl) (by cases v <;> rfl) (xput_r rfl) hdg kk
theorem xp_X0_60_1 {l : Launch} {p : Program} {e : Env} {R : Room} {s : State} {m : MethodId} {args : Array Value} {below : List Frame} {meth : Method} {c : Code} {H : Heap} {locs : List Loc} {cells slots : Nat} {Qz : State → Prop} {cc : ByteArray} {nL : Nat} {ret : Option FieldType} {E : xx_E} {σ : XS} {pc : Nat} {ls : Array Slot} {rest : List Value} (cx : xx_X "StruckCounts" cc nL ret E p s m args meth c) (hR : xR E σ H) (hS0 : va_S (xA E) s.heap H locs) {a : Nat} {r : Option Nat} {v : Option Nat} (hr : r = some a) (ha : xK ≤ a) (hk : kd σ a = 1) (hini : meth.name = "<init>") (hdg : decode cc pc = .ok (.putfield 60, 3)) (kk : ∀ (H1 : Heap) (locs1 : List Loc), xR E (pfr σ a 15 v) H1 → va_S (xA E) s.heap H1 locs1 → W p l e R s m args below meth c H1 locs1 cells slots Qz (F0 m (pc + 3) ls rest)) : W p l e R s m args below meth c H locs cells slots Qz (F0 m pc ls (xv E v :: xv E r :: rest)) :=
  x_put (ci := 0) cx hR hS0 hr ha hk (by decide) rfl in_X0 tyX0 tyX0_ok nmX0 15 (by decide) (Or.inr (Or.inl ⟨q586, rfl, hini, rfl⟩)) (fun _ h => h) (by cases v <;> rfl) (by cases v <;> rfl) (xput_r rfl) hdg kk
theorem xp_X0_63_1 {l : Launch} {p : Program} {e : Env} {R : Room} {s : State} {m : MethodId} {args : Array Value} {below : List Frame} {meth : Method} {c : Code} {H : Heap} {locs : List Loc} {cells slots : Nat} {Qz : State → Prop} {cc : ByteArray} {nL : Nat} {ret : Option FieldType} {E : xx_E} {σ : XS} {pc : Nat} {ls : Array Slot} {rest : List Value} (cx : xx_X "StruckCounts" cc nL ret E p s m args meth c) (hR : xR E σ H) (hS0 : va_S (xA E) s.heap H locs) {a : Nat} {r : Option Nat} {v : Option Nat} (hr : r = some a) (ha : xK ≤ a) (hk : kd σ a = 1) (hini : meth.name = "<init>") (hdg : decode cc pc = .ok (.putfield 63, 3)) (kk : ∀ (H1 : Heap) (locs1 : List Loc), xR E (pfr σ a 16 v) H1 → va_S (xA E) s.heap H1 locs1 → W p l e R s m args below meth c H1 locs1 cells slots Qz (F0 m (pc + 3) ls rest)) : W p l e R s m args below meth c H locs cells slots Qz (F0 m pc ls (xv E v :: xv E r :: rest)) :=
  x_put (ci := 0) cx hR hS0 hr ha hk (by decide) rfl in_X0 tyX0 tyX0_ok nmX0 16 (by decide) (Or.inr (Or.inl ⟨q587, rfl, hini, rfl⟩)) (fun _ h => h) (by cases v <;> rfl) (by cases v <;> rfl) (xput_r rfl) hdg kk
theorem xp_X0_66_1 {l : Launch} {p : Program} {e : Env} {R : Room} {s : State} {m : MethodId} {args : Array Value} {below : List Frame} {meth : Method} {c : Code} {H : Heap} {locs : List Loc} {cells slots : Nat} {Qz : State → Prop} {cc : ByteArray} {nL : Nat} {ret : Option FieldType} {E : xx_E} {σ : XS} {pc : Nat} {ls : Array Slot} {rest : List Value} (cx : xx_X "StruckCounts" cc nL ret E p s m args meth c) (hR : xR E σ H) (hS0 : va_S (xA E) s.heap H locs) {a : Nat} {r : Option Nat} {v : Option Nat} (hr : r = some a) (ha : xK ≤ a) (hk : kd σ a = 1) (hini : meth.name = "<init>") (hdg : decode cc pc = .ok (.putfield 66, 3)) (kk : ∀ (H1 : Heap) (locs1 : List Loc), xR E (pfr σ a 17 v) H1 → va_S (xA E) s.heap H1 locs1 → W p l e R s m args below meth c H1 locs1 cells slots Qz (F0 m (pc + 3) ls rest)) : W p l e R s m args below meth c H locs cells slots Qz (F0 m pc ls (xv E v :: xv E r :: rest)) :=
  x_put (ci := 0) cx hR hS0 hr ha hk (by decide) rfl in_X0 tyX0 tyX0_ok nmX0 17 (by decide) (Or.inr (Or.inl ⟨q588, rfl, hini, rfl⟩)) (fun _ h => h) (by cases v <;> rfl) (by cases v <;> rfl) (xput_r rfl) hdg kk
theorem xp_X0_69_1 {l : Launch} {p : Program} {e : Env} {R : Room} {s : State} {m : MethodId} {args : Array Value} {below : List Frame} {meth : Method} {c : Code} {H : Heap} {locs : List Loc} {cells slots : Nat} {Qz : State → Prop} {cc : ByteArray} {nL : Nat} {ret : Option FieldType} {E : xx_E} {σ : XS} {pc : Nat} {ls : Array Slot} {rest : List Value} (cx : xx_X "StruckCounts" cc nL ret E p s m args meth c) (hR : xR E σ H) (hS0 : va_S (xA E) s.heap H locs) {a : Nat} {r : Option Nat} {v : Option Nat} (hr : r = some a) (ha : xK ≤ a) (hk : kd σ a = 1) (hini : meth.name = "<init>") (hdg : decode cc pc = .ok (.putfield 69, 3)) (kk : ∀ (H1 : Heap) (locs1 : List Loc), xR E (pfr σ a 18 v) H1 → va_S (xA E) s.heap H1 locs1 → W p l e R s m args below meth c H1 locs1 cells slots Qz (F0 m (pc + 3) ls rest)) : W p l e R s m args below meth c H locs cells slots Qz (F0 m pc ls (xv E v :: xv E r :: rest)) :=
  x_put (ci := 0) cx hR hS0 hr ha hk (by decide) rfl in_X0 tyX0 tyX0_ok nmX0 18 (by decide) (Or.inr (Or.inl ⟨q589, rfl, hini, rfl⟩)) (fun _ h => h) (by cases v <;> rfl) (by cases v <;> rfl) (xput_r rfl) hdg kk
theorem xp_X0_77_1 {l : Launch} {p : Program} {e : Env} {R : Room} {s : State} {m : MethodId} {args : Array Value} {below : List Frame} {meth : Method} {c : Code} {H : Heap} {locs : List Loc} {cells slots : Nat} {Qz : State → Prop} {cc : ByteArray} {nL : Nat} {ret : Option FieldType} {E : xx_E} {σ : XS} {pc : Nat} {ls : Array Slot} {rest : List Value} (cx : xx_X "StruckCounts" cc nL ret E p s m args meth c) (hR : xR E σ H) (hS0 : va_S (xA E) s.heap H locs) {a : Nat} {r : Option Nat} {v : Option Nat} (hr : r = some a) (ha : xK ≤ a) (hk : kd σ a = 1) (hini : meth.name = "<init>") (hdg : decode cc pc = .ok (.putfield 77, 3)) (kk : ∀ (H1 : Heap) (locs1 : List Loc), xR E (pfr σ a 19 v) H1 → va_S (xA E) s.heap H1 locs1 → W p l e R s m args below meth c H1 locs1 cells slots Qz (F0 m (pc + 3) ls rest)) : W p l e R s m args below meth c H locs cells slots Qz (F0 m pc ls (xv E v :: xv E r :: rest)) :=
  x_put (ci := 0) cx hR hS0 hr ha hk (by decide) rfl in_X0 tyX0 tyX0_ok nmX0 19 (by decide) (Or.inr (Or.inl ⟨q590, rfl, hini, rfl⟩)) (fun _ h => h) (by cases v <;> rfl) (by cases v <;> rfl) (xput_r rfl) hdg kk
theorem xp_X0_83_1 {l : Launch} {p : Program} {e : Env} {R : Room} {s : State} {m : MethodId} {args : Array Value} {below : List Frame} {meth : Method} {c : Code} {H : Heap} {locs : List Loc} {cells slots : Nat} {Qz : State → Prop} {cc : ByteArray} {nL : Nat} {ret : Option FieldType} {E : xx_E} {σ : XS} {pc : Nat} {ls : Array Slot} {rest : List Value} (cx : xx_X "StruckCounts" cc nL ret E p s m args meth c) (hR : xR E σ H) (hS0 : va_S (xA E) s.heap H locs) {a : Nat} {r : Option Nat} {v : Option Nat} (hr : r = some a) (ha : xK ≤ a) (hk : kd σ a = 1) (hini : meth.name = "<init>") (hdg : decode cc pc = .ok (.putfield 83, 3)) (kk : ∀ (H1 : Heap) (locs1 : List Loc), xR E (pfr σ a 20 v) H1 → va_S (xA E) s.heap H1 locs1 → W p l e R s m args below meth c H1 locs1 cells slots Qz (F0 m (pc + 3) ls rest)) : W p l e R s m args below meth c H locs cells slots Qz (F0 m pc ls (xv E v :: xv E r :: rest)) :=
  x_put (ci := 0) cx hR hS0 hr ha hk (by decide) rfl in_X0 tyX0 tyX0_ok nmX0 20 (by decide) (Or.inr (Or.inl ⟨q591, rfl, hini, rfl⟩)) (fun _ h => h) (by cases v <;> rfl) (by cases v <;> rfl) (xput_r rfl) hdg kk
theorem xp_X0_87_1 {l : Launch} {p : Program} {e : Env} {R : Room} {s : State} {m : MethodId} {args : Array Value} {below : List Frame} {meth : Method} {c : Code} {H : Heap} {locs : List Loc} {cells slots : Nat} {Qz : State → Prop} {cc : ByteArray} {nL : Nat} {ret : Option FieldType} {E : xx_E} {σ : XS} {pc : Nat} {ls : Array Slot} {rest : List Value} (cx : xx_X "StruckCounts" cc nL ret E p s m args meth c) (hR : xR E σ H) (hS0 : va_S (xA E) s.heap H locs) {a : Nat} {r : Option Nat} {v : Option Nat} (hr : r = some a) (ha : xK ≤ a) (hk : kd σ a = 1) (hini : meth.name = "<init>") (hdg : decode cc pc = .ok (.putfield 87, 3)) (kk : ∀ (H1 : Heap) (locs1 : List Loc), xR E (pfr σ a 21 v) H1 → va_S (xA E) s.heap H1 locs1 → W p l e R s m args below meth c H1 locs1 cells slots Qz (F0 m (pc + 3) ls rest)) : W p l e R s m args below meth c H locs cells slots Qz (F0 m pc ls (xv E v :: xv E r :: rest)) :=
  x_put (ci := 0) cx hR hS0 hr ha hk (by decide) rfl in_X0 tyX0 tyX0_ok nmX0 21 (by decide) (Or.inr (Or.inl ⟨q592, rfl, hini, rfl⟩)) (fun _ h => h) (by cases v <;> rfl) (by cases v <;> rfl) (xput_r rfl) hdg kk
theorem xp_X0_90_1 {l : Launch} {p : Program} {e : Env} {R : Room} {s : State} {m : MethodId} {args : Array Value} {below : List Frame} {meth : Method} {c : Code} {H : Heap} {locs : List Loc} {cells slots : Nat} {Qz : State → Prop} {cc : ByteArray} {nL : Nat} {ret : Option FieldType} {E : xx_E} {σ : XS} {pc : Nat} {ls : Array Slot} {rest : List Value} (cx : xx_X "StruckCounts" cc nL ret E p s m args meth c) (hR : xR E σ H) (hS0 : va_S (xA E) s.heap H locs) {a : Nat} {r : Option Nat} {v : Option Nat} (hr : r = some a) (ha : xK ≤ a) (hk : kd σ a = 1) (hini : meth.name = "<init>") (hdg : decode cc pc = .ok (.putfield 90, 3)) (kk : ∀ (H1 : Heap) (locs1 : List Loc), xR E (pfr σ a 22 v) H1 → va_S (xA E) s.heap H1 locs1 → W p l e R s m args below meth c H1 locs1 cells slots Qz (F0 m (pc + 3) ls rest)) : W p l e R s m args below meth c H locs cells slots Qz (F0 m pc ls (xv E v :: xv E r :: rest)) :=
  x_put (ci := 0) cx hR hS0 hr ha hk (by decide) rfl in_X0 tyX0 tyX0_ok nmX0 22 (by decide) (Or.inr (Or.inl ⟨q593, rfl, hini, rfl⟩)) (fun _ h => h) (by cases v <;> rfl) (by cases v <;> rfl) (xput_r rfl) hdg kk
theorem xg_X0_39_1 {l : Launch} {p : Program} {e : Env} {R : Room} {s : State} {m : MethodId} {args : Array Value} {below : List Frame} {meth : Method} {c : Code} {H : Heap} {locs : List Loc} {cells slots : Nat} {Qz : State → Prop} {cc : ByteArray} {nL : Nat} {ret : Option FieldType} {E : xx_E} {σ : XS} {pc : Nat} {ls : Array Slot} {rest : List Value} (cx : xx_X "StruckCounts" cc nL ret E p s m args meth c) (hR : xR E σ H) {a : Nat} {r : Option Nat} (hr : r = some a) (hk : kd σ a = 1) (hdg : decode cc pc = .ok (.getfield 39, 3)) (kk : W p l e R s m args below meth c H locs cells slots Qz (F0 m (pc + 3) ls (xv E (fr σ a 8) :: rest))) : W p l e R s m args below meth c H locs cells slots Qz (F0 m pc ls (xv E r :: rest)) :=
  x_get (ci := 0) cx hR hr hk (by decide) rfl in_X0 8 (by decide) q579 (fun _ h => h) (v := xv E (fr σ a 8)) rfl hdg kk
theorem xg_X0_35_1 {l : Launch} {p : Program} {e : Env} {R : Room} {s : State} {m : MethodId} {args : Array Value} {below : List Frame} {meth : Method} {c : Code} {H : Heap} {locs : List Loc} {cells slots : Nat} {Qz : State → Prop} {cc : ByteArray} {nL : Nat} {ret : Option FieldType} {E : xx_E} {σ : XS} {pc : Nat} {ls : Array Slot} {rest : List Value} (cx : xx_X "StruckCounts" cc nL ret E p s m args meth c) (hR : xR E σ H) {a : Nat} {r : Option Nat} (hr : r = some a) (hk : kd σ a = 1) (hdg : decode cc pc = .ok (.getfield 35, 3)) (kk : W p l e R s m args below meth c H locs cells slots Qz (F0 m (pc + 3) ls (xv E (fr σ a 7) :: rest))) : W p l e R s m args below meth c H locs cells slots Qz (F0 m pc ls (xv E r :: rest)) :=
  x_get (ci := 0) cx hR hr hk (by decide) rfl in_X0 7 (by decide) q578 (fun _ h => h) (v := xv E (fr σ a 7)) rfl hdg kk
theorem xp_X0_9_1 {l : Launch} {p : Program} {e : Env} {R : Room} {s : State} {m : MethodId} {args : Array Value} {below : List Frame} {meth : Method} {c : Code} {H : Heap} {locs : List Loc} {cells slots : Nat} {Qz : State → Prop} {cc : ByteArray} {nL : Nat} {ret : Option FieldType} {E : xx_E} {σ : XS} {pc : Nat} {ls : Array Slot} {rest : List Value} (cx : xx_X "StruckCounts" cc nL ret E p s m args meth c) (hR : xR E σ H) (hS0 : va_S (xA E) s.heap H locs) {a : Nat} {r : Option Nat} {v : Option Nat} (hr : r = some a) (ha : xK ≤ a) (hk : kd σ a = 1) (hini : meth.name = "<init>") (hdg : decode cc pc = .ok (.putfield 9, 3)) (kk : ∀ (H1 : Heap) (locs1 : List Loc), xR E (pfr σ a 0 v) H1 → va_S (xA E) s.heap H1 locs1 → W p l e R s m args below meth c H1 locs1 cells slots Qz (F0 m (pc + 3) ls rest)) : W p l e R s m args below meth c H locs cells slots Qz (F0 m pc ls (xv E v :: xv E r :: rest)) :=
  x_put (ci := 0) cx hR hS0 hr ha hk (by decide) rfl in_X0 tyX0 tyX0_ok nmX0 0 (by decide) (Or.inr (Or.inl ⟨q571, rfl, hini, rfl⟩)) (fun _ h => h) (by cases v <;> rfl) (by cases v <;> rfl) (xput_r rfl) hdg kk
theorem xp_X0_13_1 {l : Launch} {p : Program} {e : Env} {R : Room} {s : State} {m : MethodId} {args : Array Value} {below : List Frame} {meth : Method} {c : Code} {H : Heap} {locs : List Loc} {cells slots : Nat} {Qz : State → Prop} {cc : ByteArray} {nL : Nat} {ret : Option FieldType} {E : xx_E} {σ : XS} {pc : Nat} {ls : Array Slot} {rest : List Value} (cx : xx_X "StruckCounts" cc nL ret E p s m args meth c) (hR : xR E σ H) (hS0 : va_S (xA E) s.heap H locs) {a : Nat} {r : Option Nat} {v : Int32} (hr : r = some a) (ha : xK ≤ a) (hk : kd σ a = 1) (hdg : decode cc pc = .ok (.putfield 13, 3)) (kk : ∀ (H1 : Heap) (locs1 : List Loc), xR E (pfi σ a 3 v) H1 → va_S (xA E) s.heap H1 locs1 → W p l e R s m args below meth c H1 locs1 cells slots Qz (F0 m (pc + 3) ls rest)) : W p l e R s m args below meth c H locs cells slots Qz (F0 m pc ls (.int v :: xv E r :: rest)) :=
  x_put (ci := 0) cx hR hS0 hr ha hk (by decide) rfl in_X0 tyX0 tyX0_ok nmX0 3 (by decide) (Or.inl ⟨q574, rfl⟩) (fun _ h => h) rfl rfl (xput_i rfl) hdg kk
theorem xp_X0_24_1 {l : Launch} {p : Program} {e : Env} {R : Room} {s : State} {m : MethodId} {args : Array Value} {below : List Frame} {meth : Method} {c : Code} {H : Heap} {locs : List Loc} {cells slots : Nat} {Qz : State → Prop} {cc : ByteArray} {nL : Nat} {ret : Option FieldType} {E : xx_E} {σ : XS} {pc : Nat} {ls : Array Slot} {rest : List Value} (cx : xx_X "StruckCounts" cc nL ret E p s m args meth c) (hR : xR E σ H) (hS0 : va_S (xA E) s.heap H locs) {a : Nat} {r : Option Nat} {v : Option Nat} (hr : r = some a) (ha : xK ≤ a) (hk : kd σ a = 1) (hdg : decode cc pc = .ok (.putfield 24, 3)) (kk : ∀ (H1 : Heap) (locs1 : List Loc), xR E (pfr σ a 5 v) H1 → va_S (xA E) s.heap H1 locs1 → W p l e R s m args below meth c H1 locs1 cells slots Qz (F0 m (pc + 3) ls rest)) : W p l e R s m args below meth c H locs cells slots Qz (F0 m pc ls (xv E v :: xv E r :: rest)) :=
  x_put (ci := 0) cx hR hS0 hr ha hk (by decide) rfl in_X0 tyX0 tyX0_ok nmX0 5 (by decide) (Or.inl ⟨q576, rfl⟩) (fun _ h => h) (by cases v <;> rfl) (by cases v <;> rfl) (xput_r rfl) hdg kk
theorem xp_X0_31_1 {l : Launch} {p : Program} {e : Env} {R : Room} {s : State} {m : MethodId} {args : Array Value} {below : List Frame} {meth : Method} {c : Code} {H : Heap} {locs : List Loc} {cells slots : Nat} {Qz : State → Prop} {cc : ByteArray} {nL : Nat} {ret : Option FieldType} {E : xx_E} {σ : XS} {pc : Nat} {ls : Array Slot} {rest : List Value} (cx : xx_X "StruckCounts" cc nL ret E p s m args meth c) (hR : xR E σ H) (hS0 : va_S (xA E) s.heap H locs) {a : Nat} {r : Option Nat} {v : Option Nat} (hr : r = some a) (ha : xK ≤ a) (hk : kd σ a = 1) (hini : meth.name = "<init>") (hdg : decode cc pc = .ok (.putfield 31, 3)) (kk : ∀ (H1 : Heap) (locs1 : List Loc), xR E (pfr σ a 6 v) H1 → va_S (xA E) s.heap H1 locs1 → W p l e R s m args below meth c H1 locs1 cells slots Qz (F0 m (pc + 3) ls rest)) : W p l e R s m args below meth c H locs cells slots Qz (F0 m pc ls (xv E v :: xv E r :: rest)) :=
  x_put (ci := 0) cx hR hS0 hr ha hk (by decide) rfl in_X0 tyX0 tyX0_ok nmX0 6 (by decide) (Or.inr (Or.inl ⟨q577, rfl, hini, rfl⟩)) (fun _ h => h) (by cases v <;> rfl) (by cases v <;> rfl) (xput_r rfl) hdg kk
theorem xp_X0_35_1 {l : Launch} {p : Program} {e : Env} {R : Room} {s : State} {m : MethodId} {args : Array Value} {below : List Frame} {meth : Method} {c : Code} {H : Heap} {locs : List Loc} {cells slots : Nat} {Qz : State → Prop} {cc : ByteArray} {nL : Nat} {ret : Option FieldType} {E : xx_E} {σ : XS} {pc : Nat} {ls : Array Slot} {rest : List Value} (cx : xx_X "StruckCounts" cc nL ret E p s m args meth c) (hR : xR E σ H) (hS0 : va_S (xA E) s.heap H locs) {a : Nat} {r : Option Nat} {v : Option Nat} (hr : r = some a) (ha : xK ≤ a) (hk : kd σ a = 1) (hini : meth.name = "<init>") (hdg : decode cc pc = .ok (.putfield 35, 3)) (kk : ∀ (H1 : Heap) (locs1 : List Loc), xR E (pfr σ a 7 v) H1 → va_S (xA E) s.heap H1 locs1 → W p l e R s m args below meth c H1 locs1 cells slots Qz (F0 m (pc + 3) ls rest)) : W p l e R s m args below meth c H locs cells slots Qz (F0 m pc ls (xv E v :: xv E r :: rest)) :=
  x_put (ci := 0) cx hR hS0 hr ha hk (by decide) rfl in_X0 tyX0 tyX0_ok nmX0 7 (by decide) (Or.inr (Or.inl ⟨q578, rfl, hini, rfl⟩)) (fun _ h => h) (by cases v <;> rfl) (by cases v <;> rfl) (xput_r rfl) hdg kk
theorem xp_X0_39_1 {l : Launch} {p : Program} {e : Env} {R : Room} {s : State} {m : MethodId} {args : Array Value} {below : List Frame} {meth : Method} {c : Code} {H : Heap} {locs : List Loc} {cells slots : Nat} {Qz : State → Prop} {cc : ByteArray} {nL : Nat} {ret : Option FieldType} {E : xx_E} {σ : XS} {pc : Nat} {ls : Array Slot} {rest : List Value} (cx : xx_X "StruckCounts" cc nL ret E p s m args meth c) (hR : xR E σ H) (hS0 : va_S (xA E) s.heap H locs) {a : Nat} {r : Option Nat} {v : Option Nat} (hr : r = some a) (ha : xK ≤ a) (hk : kd σ a = 1) (hini : meth.name = "<init>") (hdg : decode cc pc = .ok (.putfield 39, 3)) (kk : ∀ (H1 : Heap) (locs1 : List Loc), xR E (pfr σ a 8 v) H1 → va_S (xA E) s.heap H1 locs1 → W p l e R s m args below meth c H1 locs1 cells slots Qz (F0 m (pc + 3) ls rest)) : W p l e R s m args below meth c H locs cells slots Qz (F0 m pc ls (xv E v :: xv E r :: rest)) :=
  x_put (ci := 0) cx hR hS0 hr ha hk (by decide) rfl in_X0 tyX0 tyX0_ok nmX0 8 (by decide) (Or.inr (Or.inl ⟨q579, rfl, hini, rfl⟩)) (fun _ h => h) (by cases v <;> rfl) (by cases v <;> rfl) (xput_r rfl) hdg kk
theorem xp_X0_42_1 {l : Launch} {p : Program} {e : Env} {R : Room} {s : State} {m : MethodId} {args : Array Value} {below : List Frame} {meth : Method} {c : Code} {H : Heap} {locs : List Loc} {cells slots : Nat} {Qz : State → Prop} {cc : ByteArray} {nL : Nat} {ret : Option FieldType} {E : xx_E} {σ : XS} {pc : Nat} {ls : Array Slot} {rest : List Value} (cx : xx_X "StruckCounts" cc nL ret E p s m args meth c) (hR : xR E σ H) (hS0 : va_S (xA E) s.heap H locs) {a : Nat} {r : Option Nat} {v : Option Nat} (hr : r = some a) (ha : xK ≤ a) (hk : kd σ a = 1) (hini : meth.name = "<init>") (hdg : decode cc pc = .ok (.putfield 42, 3)) (kk : ∀ (H1 : Heap) (locs1 : List Loc), xR E (pfr σ a 9 v) H1 → va_S (xA E) s.heap H1 locs1 → W p l e R s m args below meth c H1 locs1 cells slots Qz (F0 m (pc + 3) ls rest)) : W p l e R s m args below meth c H locs cells slots Qz (F0 m pc ls (xv E v :: xv E r :: rest)) :=
  x_put (ci := 0) cx hR hS0 hr ha hk (by decide) rfl in_X0 tyX0 tyX0_ok nmX0 9 (by decide) (Or.inr (Or.inl ⟨q580, rfl, hini, rfl⟩)) (fun _ h => h) (by cases v <;> rfl) (by cases v <;> rfl) (xput_r rfl) hdg kk
theorem xp_X0_46_1 {l : Launch} {p : Program} {e : Env} {R : Room} {s : State} {m : MethodId} {args : Array Value} {below : List Frame} {meth : Method} {c : Code} {H : Heap} {locs : List Loc} {cells slots : Nat} {Qz : State → Prop} {cc : ByteArray} {nL : Nat} {ret : Option FieldType} {E : xx_E} {σ : XS} {pc : Nat} {ls : Array Slot} {rest : List Value} (cx : xx_X "StruckCounts" cc nL ret E p s m args meth c) (hR : xR E σ H) (hS0 : va_S (xA E) s.heap H locs) {a : Nat} {r : Option Nat} {v : Int32} (hr : r = some a) (ha : xK ≤ a) (hk : kd σ a = 1) (hdg : decode cc pc = .ok (.putfield 46, 3)) (kk : ∀ (H1 : Heap) (locs1 : List Loc), xR E (pfi σ a 10 v) H1 → va_S (xA E) s.heap H1 locs1 → W p l e R s m args below meth c H1 locs1 cells slots Qz (F0 m (pc + 3) ls rest)) : W p l e R s m args below meth c H locs cells slots Qz (F0 m pc ls (.int v :: xv E r :: rest)) :=
  x_put (ci := 0) cx hR hS0 hr ha hk (by decide) rfl in_X0 tyX0 tyX0_ok nmX0 10 (by decide) (Or.inl ⟨q581, rfl⟩) (fun _ h => h) rfl rfl (xput_i rfl) hdg kk
theorem xp_X0_49_1 {l : Launch} {p : Program} {e : Env} {R : Room} {s : State} {m : MethodId} {args : Array Value} {below : List Frame} {meth : Method} {c : Code} {H : Heap} {locs : List Loc} {cells slots : Nat} {Qz : State → Prop} {cc : ByteArray} {nL : Nat} {ret : Option FieldType} {E : xx_E} {σ : XS} {pc : Nat} {ls : Array Slot} {rest : List Value} (cx : xx_X "StruckCounts" cc nL ret E p s m args meth c) (hR : xR E σ H) (hS0 : va_S (xA E) s.heap H locs) {a : Nat} {r : Option Nat} {v : Int32} (hr : r = some a) (ha : xK ≤ a) (hk : kd σ a = 1) (hdg : decode cc pc = .ok (.putfield 49, 3)) (kk : ∀ (H1 : Heap) (locs1 : List Loc), xR E (pfi σ a 11 v) H1 → va_S (xA E) s.heap H1 locs1 → W p l e R s m args below meth c H1 locs1 cells slots Qz (F0 m (pc + 3) ls rest)) : W p l e R s m args below meth c H locs cells slots Qz (F0 m pc ls (.int v :: xv E r :: rest)) :=
  x_put (ci := 0) cx hR hS0 hr ha hk (by decide) rfl in_X0 tyX0 tyX0_ok nmX0 11 (by decide) (Or.inl ⟨q582, rfl⟩) (fun _ h => h) rfl rfl (xput_i rfl) hdg kk
theorem xn_X0_17 {l : Launch} {p : Program} {e : Env} {R : Room} {s : State} {m : MethodId} {args : Array Value} {below : List Frame} {meth : Method} {c : Code} {H : Heap} {locs : List Loc} {cells slots : Nat} {Qz : State → Prop} {cc : ByteArray} {nL : Nat} {ret : Option FieldType} {E : xx_E} {σ : XS} {pc : Nat} {ls : Array Slot} {rest : List Value} (cx : xx_X "StruckCounts" cc nL ret E p s m args meth c) (hR : xR E σ H) (hS0 : va_S (xA E) s.heap H locs) (hcells : cells + 1 ≤ R.cells) (hslots : slots + 12 ≤ R.slots) (hdg : decode cc pc = .ok (.new 17, 3)) (kk : ∀ (H1 : Heap), xR E (xal σ 2 0) H1 → va_S (xA E) s.heap H1 locs → W p l e R s m args below meth c H1 locs (cells + 1) (slots + 12) Qz (F0 m (pc + 3) ls (xv E (some (xn σ)) :: rest))) : W p l e R s m args below meth c H locs cells slots Qz (F0 m pc ls rest) :=
  x_new cx hR hS0 1 (by decide) rfl in_X1 tyX1 tyX1_ok q214 q215 q157 (fun j hj => by
    match j, hj with
    | 0, _ => exact xnew_r rfl
    | 1, _ => exact xnew_r rfl
    | 2, _ => exact xnew_r rfl
    | 3, _ => exact xnew_r rfl
    | 4, _ => exact xnew_r rfl
    | 5, _ => exact xnew_i rfl
    | 6, _ => exact xnew_i rfl
    | 7, _ => exact xnew_i rfl
    | 8, _ => exact xnew_i rfl
    | 9, _ => exact xnew_i rfl
    | 10, _ => exact xnew_r rfl
    | 11, _ => exact xnew_r rfl) hcells hslots hdg kk
theorem xn_X0_28 {l : Launch} {p : Program} {e : Env} {R : Room} {s : State} {m : MethodId} {args : Array Value} {below : List Frame} {meth : Method} {c : Code} {H : Heap} {locs : List Loc} {cells slots : Nat} {Qz : State → Prop} {cc : ByteArray} {nL : Nat} {ret : Option FieldType} {E : xx_E} {σ : XS} {pc : Nat} {ls : Array Slot} {rest : List Value} (cx : xx_X "StruckCounts" cc nL ret E p s m args meth c) (hR : xR E σ H) (hS0 : va_S (xA E) s.heap H locs) (hcells : cells + 1 ≤ R.cells) (hslots : slots + 13 ≤ R.slots) (hdg : decode cc pc = .ok (.new 28, 3)) (kk : ∀ (H1 : Heap), xR E (xal σ 3 0) H1 → va_S (xA E) s.heap H1 locs → W p l e R s m args below meth c H1 locs (cells + 1) (slots + 13) Qz (F0 m (pc + 3) ls (xv E (some (xn σ)) :: rest))) : W p l e R s m args below meth c H locs cells slots Qz (F0 m pc ls rest) :=
  x_new cx hR hS0 2 (by decide) rfl in_X2 tyX2 tyX2_ok q477 q478 q168 (fun j hj => by
    match j, hj with
    | 0, _ => exact xnew_r rfl
    | 1, _ => exact xnew_r rfl
    | 2, _ => exact xnew_r rfl
    | 3, _ => exact xnew_r rfl
    | 4, _ => exact xnew_r rfl
    | 5, _ => exact xnew_r rfl
    | 6, _ => exact xnew_r rfl
    | 7, _ => exact xnew_i rfl
    | 8, _ => exact xnew_i rfl
    | 9, _ => exact xnew_i rfl
    | 10, _ => exact xnew_i rfl
    | 11, _ => exact xnew_i rfl
    | 12, _ => exact xnew_i rfl) hcells hslots hdg kk
theorem xn_X0_72 {l : Launch} {p : Program} {e : Env} {R : Room} {s : State} {m : MethodId} {args : Array Value} {below : List Frame} {meth : Method} {c : Code} {H : Heap} {locs : List Loc} {cells slots : Nat} {Qz : State → Prop} {cc : ByteArray} {nL : Nat} {ret : Option FieldType} {E : xx_E} {σ : XS} {pc : Nat} {ls : Array Slot} {rest : List Value} (cx : xx_X "StruckCounts" cc nL ret E p s m args meth c) (hR : xR E σ H) (hS0 : va_S (xA E) s.heap H locs) (hcells : cells + 1 ≤ R.cells) (hslots : slots + 12 ≤ R.slots) (hdg : decode cc pc = .ok (.new 72, 3)) (kk : ∀ (H1 : Heap), xR E (xal σ 18 0) H1 → va_S (xA E) s.heap H1 locs → W p l e R s m args below meth c H1 locs (cells + 1) (slots + 12) Qz (F0 m (pc + 3) ls (xv E (some (xn σ)) :: rest))) : W p l e R s m args below meth c H locs cells slots Qz (F0 m pc ls rest) :=
  x_new cx hR hS0 17 (by decide) rfl in_J2 tyJ2 tyJ2_ok q548 q221 q160 (fun j hj => by
    match j, hj with
    | 0, _ => exact xnew_r rfl
    | 1, _ => exact xnew_r rfl
    | 2, _ => exact xnew_r rfl
    | 3, _ => exact xnew_r rfl
    | 4, _ => exact xnew_i rfl
    | 5, _ => exact xnew_i rfl
    | 6, _ => exact xnew_i rfl
    | 7, _ => exact xnew_f rfl
    | 8, _ => exact xnew_r rfl
    | 9, _ => exact xnew_r rfl
    | 10, _ => exact xnew_i rfl
    | 11, _ => exact xnew_i rfl) hcells hslots hdg kk
theorem CX1_init_X0_19 {l : Launch} {p : Program} {e : Env} {R : Room} {s : State} {m : MethodId} {args : Array Value} {below : List Frame} {meth : Method} {c : Code} {H : Heap} {locs : List Loc} {cells slots : Nat} {Qz : State → Prop} {cc : ByteArray} {nL : Nat} {ret : Option FieldType} {E : xx_E} {σ : XS} {pc : Nat} {ls : Array Slot} {rest : List Value} {th : Nat} {k n : Nat} (cx : xx_X "StruckCounts" cc nL ret E p s m args meth c) (hR0 : xR E σ H) (hS0 : va_S (xA E) s.heap H locs) {r0 : Option Nat} (hr : r0 = some th) (hk : kd σ th = 2) {Qf : XS → Prop} (hw : wX1_init th k n σ Qf) (hR : (({ frames := 4, cells := k, slots := n, locals := 160 } : Room)).frames + 1 ≤ R.frames ∧ 8 + (1 + 11) + (({ frames := 4, cells := k, slots := n, locals := 160 } : Room)).locals ≤ R.locals) (hrest : rest.length ≤ 4) (hsize : ls.size = nL) (hf : cells + k ≤ R.cells ∧ slots + n ≤ R.slots) (hdg : decode cc pc = .ok (.invokespecial 19, 3))
    (kk : ∀ (σ1 : XS) (H1 : Heap) (locs1 : List Loc), Qf σ1 → xR E σ1 H1 → va_S (xA E) s.heap H1 locs1 → W p l e R s m args below meth c H1 locs1 (cells + k) (slots + n) Qz (F0 m (pc + 3) ls rest)) : W p l e R s m args below meth c H locs cells slots Qz (F0 m pc ls (xv E r0 :: rest)) := by
  subst hr
  obtain ⟨hx, hb, hml, hown, hts, hrt, hlk, hK, hZ⟩ := id cx
  exact x_gov (va_runIN (As := []) (rest := rest) (x_fix cx) (MX1_init l E th k n σ Qf hw) ⟨va_cnB 0 hts (lw_meth q218) rfl rfl rfl (hK.2.2.2.1 _ (xx_nm_mem (i := 0) rfl)) (hts _ q157) (by decide +kernel) hR, rfl, hts _ q217⟩ ⟨xblind, x_pre cx hR0 hS0 (.ref (xr E th) :: [])⟩ rfl rfl hsize rfl (lv_room (xroom hrest)) hdg hf) hS0 kk
theorem CX1_laid_X0_20 {l : Launch} {p : Program} {e : Env} {R : Room} {s : State} {m : MethodId} {args : Array Value} {below : List Frame} {meth : Method} {c : Code} {H : Heap} {locs : List Loc} {cells slots : Nat} {Qz : State → Prop} {cc : ByteArray} {nL : Nat} {ret : Option FieldType} {E : xx_E} {σ : XS} {pc : Nat} {ls : Array Slot} {rest : List Value} (d : Nat) {th : Nat} {k n : Nat} (cx : xx_X "StruckCounts" cc nL ret E p s m args meth c) (hR0 : xR E σ H) (hS0 : va_S (xA E) s.heap H locs) {r0 : Option Nat} (hr : r0 = some th) (hk : kd σ th = 2) {Qf : Option Nat → XS → Prop} (hw : wX1_laid d th k n σ Qf) (hR : (({ frames := (7 + 3 * d), cells := k, slots := n, locals := 40 * (7 + 3 * d) } : Room)).frames + 1 ≤ R.frames ∧ 8 + (3 + 11) + (({ frames := (7 + 3 * d), cells := k, slots := n, locals := 40 * (7 + 3 * d) } : Room)).locals ≤ R.locals) (hrest : rest.length ≤ 4) (hsize : ls.size = nL) (hf : cells + k ≤ R.cells ∧ slots + n ≤ R.slots) (hdg : decode cc pc = .ok (.invokevirtual 20, 3))
    (kk : ∀ (r : Option Nat) (σ1 : XS) (H1 : Heap) (locs1 : List Loc), Qf r σ1 → xR E σ1 H1 → va_S (xA E) s.heap H1 locs1 → W p l e R s m args below meth c H1 locs1 (cells + k) (slots + n) Qz (F0 m (pc + 3) ls (xv E r :: rest))) : W p l e R s m args below meth c H locs cells slots Qz (F0 m pc ls (xv E r0 :: rest)) := by
  subst hr
  obtain ⟨hx, hb, hml, hown, hts, hrt, hlk, hK, hZ⟩ := id cx
  exact x_gor (va_runV (As := []) (rest := rest) (x_fix cx) (MX1_laid l E d th k n σ Qf hw) (cwV 0 hts (lw_V q378 q379 q380 q157 q381) rfl rfl rfl (by decide +kernel) hR) (x_preV cx hR0 hS0 hk (by decide) (q := (RX1, TX1, 12)) rfl rfl []) rfl rfl hsize rfl (lv_room (xroom hrest)) hdg hf) hS0 kk
theorem CX2_init_X0_30 {l : Launch} {p : Program} {e : Env} {R : Room} {s : State} {m : MethodId} {args : Array Value} {below : List Frame} {meth : Method} {c : Code} {H : Heap} {locs : List Loc} {cells slots : Nat} {Qz : State → Prop} {cc : ByteArray} {nL : Nat} {ret : Option FieldType} {E : xx_E} {σ : XS} {pc : Nat} {ls : Array Slot} {rest : List Value} {th : Nat} {k n : Nat} (cx : xx_X "StruckCounts" cc nL ret E p s m args meth c) (hR0 : xR E σ H) (hS0 : va_S (xA E) s.heap H locs) {r0 : Option Nat} (hr : r0 = some th) (hk : kd σ th = 3) {Qf : XS → Prop} (hw : wX2_init th k n σ Qf) (hR : (({ frames := 1, cells := k, slots := n, locals := 40 } : Room)).frames + 1 ≤ R.frames ∧ 8 + (1 + 11) + (({ frames := 1, cells := k, slots := n, locals := 40 } : Room)).locals ≤ R.locals) (hrest : rest.length ≤ 4) (hsize : ls.size = nL) (hf : cells + k ≤ R.cells ∧ slots + n ≤ R.slots) (hdg : decode cc pc = .ok (.invokespecial 30, 3))
    (kk : ∀ (σ1 : XS) (H1 : Heap) (locs1 : List Loc), Qf σ1 → xR E σ1 H1 → va_S (xA E) s.heap H1 locs1 → W p l e R s m args below meth c H1 locs1 (cells + k) (slots + n) Qz (F0 m (pc + 3) ls rest)) : W p l e R s m args below meth c H locs cells slots Qz (F0 m pc ls (xv E r0 :: rest)) := by
  subst hr
  obtain ⟨hx, hb, hml, hown, hts, hrt, hlk, hK, hZ⟩ := id cx
  exact x_gov (va_runIN (As := []) (rest := rest) (x_fix cx) (MX2_init l E th k n σ Qf hw) ⟨va_cnB 0 hts (lw_meth q481) rfl rfl rfl (hK.2.2.2.1 _ (xx_nm_mem (i := 1) rfl)) (hts _ q168) (by decide +kernel) hR, rfl, hts _ q480⟩ ⟨xblind, x_pre cx hR0 hS0 (.ref (xr E th) :: [])⟩ rfl rfl hsize rfl (lv_room (xroom hrest)) hdg hf) hS0 kk
theorem CX2_begins_X0_52 {l : Launch} {p : Program} {e : Env} {R : Room} {s : State} {m : MethodId} {args : Array Value} {below : List Frame} {meth : Method} {c : Code} {H : Heap} {locs : List Loc} {cells slots : Nat} {Qz : State → Prop} {cc : ByteArray} {nL : Nat} {ret : Option FieldType} {E : xx_E} {σ : XS} {pc : Nat} {ls : Array Slot} {rest : List Value} {th : Nat} {x1 : Option Nat} (cx : xx_X "StruckCounts" cc nL ret E p s m args meth c) (hR0 : xR E σ H) (hS0 : va_S (xA E) s.heap H locs) {r0 : Option Nat} (hr : r0 = some th) (hk : kd σ th = 3) {Qf : Option Nat → XS → Prop} (hw : wX2_begins th x1 σ Qf) (hR : (({ frames := 3, cells := 0, slots := 0, locals := 120 } : Room)).frames + 1 ≤ R.frames ∧ 8 + (4 + 11) + (({ frames := 3, cells := 0, slots := 0, locals := 120 } : Room)).locals ≤ R.locals) (hrest : rest.length ≤ 4) (hsize : ls.size = nL) (hf : cells + 0 ≤ R.cells ∧ slots + 0 ≤ R.slots) (hdg : decode cc pc = .ok (.invokevirtual 52, 3))
    (kk : ∀ (r : Option Nat) (σ1 : XS) (H1 : Heap) (locs1 : List Loc), Qf r σ1 → xR E σ1 H1 → va_S (xA E) s.heap H1 locs1 → W p l e R s m args below meth c H1 locs1 (cells + 0) (slots + 0) Qz (F0 m (pc + 3) ls (xv E r :: rest))) : W p l e R s m args below meth c H locs cells slots Qz (F0 m pc ls (xv E x1 :: xv E r0 :: rest)) := by
  subst hr
  obtain ⟨hx, hb, hml, hown, hts, hrt, hlk, hK, hZ⟩ := id cx
  exact x_gor (va_runV (As := [xv E x1]) (rest := rest) (x_fix cx) (MX2_begins l E th x1 σ Qf hw) (cwV 1 hts (lw_V q537 q538 q539 q168 q540) rfl rfl rfl (by decide +kernel) hR) (x_preV cx hR0 hS0 hk (by decide) (q := (RX2, TX2, 13)) rfl rfl [xv E x1]) rfl rfl hsize rfl (lv_room (xroom hrest)) hdg hf) hS0 kk
theorem CJ2_init_2L_X0_74 {l : Launch} {p : Program} {e : Env} {R : Room} {s : State} {m : MethodId} {args : Array Value} {below : List Frame} {meth : Method} {c : Code} {H : Heap} {locs : List Loc} {cells slots : Nat} {Qz : State → Prop} {cc : ByteArray} {nL : Nat} {ret : Option FieldType} {E : xx_E} {σ : XS} {pc : Nat} {ls : Array Slot} {rest : List Value} {th : Nat} {x1 : Int32} (cx : xx_X "StruckCounts" cc nL ret E p s m args meth c) (hR0 : xR E σ H) (hS0 : va_S (xA E) s.heap H locs) {r0 : Option Nat} (hr : r0 = some th) (hk : kd σ th = 18) {Qf : XS → Prop} (hw : wJ2_init_2L th x1 σ Qf) (hR : (({ frames := 4, cells := 0, slots := 0, locals := 160 } : Room)).frames + 1 ≤ R.frames ∧ 8 + (2 + 11) + (({ frames := 4, cells := 0, slots := 0, locals := 160 } : Room)).locals ≤ R.locals) (hrest : rest.length ≤ 4) (hsize : ls.size = nL) (hf : cells + 0 ≤ R.cells ∧ slots + 0 ≤ R.slots) (hdg : decode cc pc = .ok (.invokespecial 74, 3))
    (kk : ∀ (σ1 : XS) (H1 : Heap) (locs1 : List Loc), Qf σ1 → xR E σ1 H1 → va_S (xA E) s.heap H1 locs1 → W p l e R s m args below meth c H1 locs1 (cells + 0) (slots + 0) Qz (F0 m (pc + 3) ls rest)) : W p l e R s m args below meth c H locs cells slots Qz (F0 m pc ls (.int x1 :: xv E r0 :: rest)) := by
  subst hr
  obtain ⟨hx, hb, hml, hown, hts, hrt, hlk, hK, hZ⟩ := id cx
  exact x_gov (va_runI (As := [.int x1]) (rest := rest) (x_fix cx) (MJ2_init_2L l E th x1 σ Qf hw) (cwI 1 hts (lw_meth q551) rfl rfl rfl (hts _ q160) (hts _ q549) (hts _ q550) rfl (by decide +kernel) hR) ⟨xblind, x_pre cx hR0 hS0 (.ref (xr E th) :: [.int x1])⟩ rfl rfl hsize rfl (lv_room (xroom hrest)) hdg hf) hS0 kk
def wX0_init_106 (d : Nat) (Q : XS → Prop) (K106 : Nat → Int32 → Nat → Nat → XS → Prop) (th : Nat) (x1 : Int32) (bc : Nat) (bs : Nat) (σ : XS) : Prop :=
  if (2 : Int32) ≤ x1 then (kd σ th = 1 ∧ (oc σ (fr σ th 6) 3 (fun a3 => wX2_begins a3 (fr σ th 5) σ (fun r2 s2 => 1 ≤ bc ∧ 8 ≤ bs ∧ (kd (xal s2 100 8) th = 1 ∧ (xK ≤ th ∧ (1 ≤ (bc - 1) ∧ 256 ≤ (bs - 8) ∧ (kd (xal (pfr (xal s2 100 8) th 12 (some (xn s2))) 101 256) th = 1 ∧ (1 ≤ ((bc - 1) - 1) ∧ 6561 ≤ ((bs - 8) - 256) ∧ (kd (xal (pfr (xal (pfr (xal s2 100 8) th 12 (some (xn s2))) 101 256) th 15 (some (xn (pfr (xal s2 100 8) th 12 (some (xn s2)))))) 100 6561) th = 1 ∧ (1 ≤ (((bc - 1) - 1) - 1) ∧ 6561 ≤ (((bs - 8) - 256) - 6561) ∧ (kd (xal (pfr (xal (pfr (xal (pfr (xal s2 100 8) th 12 (some (xn s2))) 101 256) th 15 (some (xn (pfr (xal s2 100 8) th 12 (some (xn s2)))))) 100 6561) th 16 (some (xn (pfr (xal (pfr (xal s2 100 8) th 12 (some (xn s2))) 101 256) th 15 (some (xn (pfr (xal s2 100 8) th 12 (some (xn s2))))))))) 100 6561) th = 1 ∧ (1 ≤ ((((bc - 1) - 1) - 1) - 1) ∧ 8 ≤ ((((bs - 8) - 256) - 6561) - 6561) ∧ (kd (xal (pfr (xal (pfr (xal (pfr (xal (pfr (xal s2 100 8) th 12 (some (xn s2))) 101 256) th 15 (some (xn (pfr (xal s2 100 8) th 12 (some (xn s2)))))) 100 6561) th 16 (some (xn (pfr (xal (pfr (xal s2 100 8) th 12 (some (xn s2))) 101 256) th 15 (some (xn (pfr (xal s2 100 8) th 12 (some (xn s2))))))))) 100 6561) th 17 (some (xn (pfr (xal (pfr (xal (pfr (xal s2 100 8) th 12 (some (xn s2))) 101 256) th 15 (some (xn (pfr (xal s2 100 8) th 12 (some (xn s2)))))) 100 6561) th 16 (some (xn (pfr (xal (pfr (xal s2 100 8) th 12 (some (xn s2))) 101 256) th 15 (some (xn (pfr (xal s2 100 8) th 12 (some (xn s2)))))))))))) 100 8) th = 1 ∧ (1 ≤ (((((bc - 1) - 1) - 1) - 1) - 1) ∧ 12 ≤ (((((bs - 8) - 256) - 6561) - 6561) - 8) ∧ (kd (xal (pfr (xal (pfr (xal (pfr (xal (pfr (xal (pfr (xal s2 100 8) th 12 (some (xn s2))) 101 256) th 15 (some (xn (pfr (xal s2 100 8) th 12 (some (xn s2)))))) 100 6561) th 16 (some (xn (pfr (xal (pfr (xal s2 100 8) th 12 (some (xn s2))) 101 256) th 15 (some (xn (pfr (xal s2 100 8) th 12 (some (xn s2))))))))) 100 6561) th 17 (some (xn (pfr (xal (pfr (xal (pfr (xal s2 100 8) th 12 (some (xn s2))) 101 256) th 15 (some (xn (pfr (xal s2 100 8) th 12 (some (xn s2)))))) 100 6561) th 16 (some (xn (pfr (xal (pfr (xal s2 100 8) th 12 (some (xn s2))) 101 256) th 15 (some (xn (pfr (xal s2 100 8) th 12 (some (xn s2)))))))))))) 100 8) th 18 (some (xn (pfr (xal (pfr (xal (pfr (xal (pfr (xal s2 100 8) th 12 (some (xn s2))) 101 256) th 15 (some (xn (pfr (xal s2 100 8) th 12 (some (xn s2)))))) 100 6561) th 16 (some (xn (pfr (xal (pfr (xal s2 100 8) th 12 (some (xn s2))) 101 256) th 15 (some (xn (pfr (xal s2 100 8) th 12 (some (xn s2))))))))) 100 6561) th 17 (some (xn (pfr (xal (pfr (xal (pfr (xal s2 100 8) th 12 (some (xn s2))) 101 256) th 15 (some (xn (pfr (xal s2 100 8) th 12 (some (xn s2)))))) 100 6561) th 16 (some (xn (pfr (xal (pfr (xal s2 100 8) th 12 (some (xn s2))) 101 256) th 15 (some (xn (pfr (xal s2 100 8) th 12 (some (xn s2))))))))))))))) 18 0) (xn (pfr (xal (pfr (xal (pfr (xal (pfr (xal (pfr (xal s2 100 8) th 12 (some (xn s2))) 101 256) th 15 (some (xn (pfr (xal s2 100 8) th 12 (some (xn s2)))))) 100 6561) th 16 (some (xn (pfr (xal (pfr (xal s2 100 8) th 12 (some (xn s2))) 101 256) th 15 (some (xn (pfr (xal s2 100 8) th 12 (some (xn s2))))))))) 100 6561) th 17 (some (xn (pfr (xal (pfr (xal (pfr (xal s2 100 8) th 12 (some (xn s2))) 101 256) th 15 (some (xn (pfr (xal s2 100 8) th 12 (some (xn s2)))))) 100 6561) th 16 (some (xn (pfr (xal (pfr (xal s2 100 8) th 12 (some (xn s2))) 101 256) th 15 (some (xn (pfr (xal s2 100 8) th 12 (some (xn s2)))))))))))) 100 8) th 18 (some (xn (pfr (xal (pfr (xal (pfr (xal (pfr (xal s2 100 8) th 12 (some (xn s2))) 101 256) th 15 (some (xn (pfr (xal s2 100 8) th 12 (some (xn s2)))))) 100 6561) th 16 (some (xn (pfr (xal (pfr (xal s2 100 8) th 12 (some (xn s2))) 101 256) th 15 (some (xn (pfr (xal s2 100 8) th 12 (some (xn s2))))))))) 100 6561) th 17 (some (xn (pfr (xal (pfr (xal (pfr (xal s2 100 8) th 12 (some (xn s2))) 101 256) th 15 (some (xn (pfr (xal s2 100 8) th 12 (some (xn s2)))))) 100 6561) th 16 (some (xn (pfr (xal (pfr (xal s2 100 8) th 12 (some (xn s2))) 101 256) th 15 (some (xn (pfr (xal s2 100 8) th 12 (some (xn s2)))))))))))))))) = 18 ∧ (wJ2_init_2L (xn (pfr (xal (pfr (xal (pfr (xal (pfr (xal (pfr (xal s2 100 8) th 12 (some (xn s2))) 101 256) th 15 (some (xn (pfr (xal s2 100 8) th 12 (some (xn s2)))))) 100 6561) th 16 (some (xn (pfr (xal (pfr (xal s2 100 8) th 12 (some (xn s2))) 101 256) th 15 (some (xn (pfr (xal s2 100 8) th 12 (some (xn s2))))))))) 100 6561) th 17 (some (xn (pfr (xal (pfr (xal (pfr (xal s2 100 8) th 12 (some (xn s2))) 101 256) th 15 (some (xn (pfr (xal s2 100 8) th 12 (some (xn s2)))))) 100 6561) th 16 (some (xn (pfr (xal (pfr (xal s2 100 8) th 12 (some (xn s2))) 101 256) th 15 (some (xn (pfr (xal s2 100 8) th 12 (some (xn s2)))))))))))) 100 8) th 18 (some (xn (pfr (xal (pfr (xal (pfr (xal (pfr (xal s2 100 8) th 12 (some (xn s2))) 101 256) th 15 (some (xn (pfr (xal s2 100 8) th 12 (some (xn s2)))))) 100 6561) th 16 (some (xn (pfr (xal (pfr (xal s2 100 8) th 12 (some (xn s2))) 101 256) th 15 (some (xn (pfr (xal s2 100 8) th 12 (some (xn s2))))))))) 100 6561) th 17 (some (xn (pfr (xal (pfr (xal (pfr (xal s2 100 8) th 12 (some (xn s2))) 101 256) th 15 (some (xn (pfr (xal s2 100 8) th 12 (some (xn s2)))))) 100 6561) th 16 (some (xn (pfr (xal (pfr (xal s2 100 8) th 12 (some (xn s2))) 101 256) th 15 (some (xn (pfr (xal s2 100 8) th 12 (some (xn s2)))))))))))))))) (1024 : Int32) (xal (pfr (xal (pfr (xal (pfr (xal (pfr (xal (pfr (xal s2 100 8) th 12 (some (xn s2))) 101 256) th 15 (some (xn (pfr (xal s2 100 8) th 12 (some (xn s2)))))) 100 6561) th 16 (some (xn (pfr (xal (pfr (xal s2 100 8) th 12 (some (xn s2))) 101 256) th 15 (some (xn (pfr (xal s2 100 8) th 12 (some (xn s2))))))))) 100 6561) th 17 (some (xn (pfr (xal (pfr (xal (pfr (xal s2 100 8) th 12 (some (xn s2))) 101 256) th 15 (some (xn (pfr (xal s2 100 8) th 12 (some (xn s2)))))) 100 6561) th 16 (some (xn (pfr (xal (pfr (xal s2 100 8) th 12 (some (xn s2))) 101 256) th 15 (some (xn (pfr (xal s2 100 8) th 12 (some (xn s2)))))))))))) 100 8) th 18 (some (xn (pfr (xal (pfr (xal (pfr (xal (pfr (xal s2 100 8) th 12 (some (xn s2))) 101 256) th 15 (some (xn (pfr (xal s2 100 8) th 12 (some (xn s2)))))) 100 6561) th 16 (some (xn (pfr (xal (pfr (xal s2 100 8) th 12 (some (xn s2))) 101 256) th 15 (some (xn (pfr (xal s2 100 8) th 12 (some (xn s2))))))))) 100 6561) th 17 (some (xn (pfr (xal (pfr (xal (pfr (xal s2 100 8) th 12 (some (xn s2))) 101 256) th 15 (some (xn (pfr (xal s2 100 8) th 12 (some (xn s2)))))) 100 6561) th 16 (some (xn (pfr (xal (pfr (xal s2 100 8) th 12 (some (xn s2))) 101 256) th 15 (some (xn (pfr (xal s2 100 8) th 12 (some (xn s2))))))))))))))) 18 0) (fun s9 => kd s9 th = 1 ∧ (1 ≤ ((((((bc - 1) - 1) - 1) - 1) - 1) - 1) ∧ 256 ≤ ((((((bs - 8) - 256) - 6561) - 6561) - 8) - 12) ∧ (kd (xal (pfr s9 th 19 (some (xn (pfr (xal (pfr (xal (pfr (xal (pfr (xal (pfr (xal s2 100 8) th 12 (some (xn s2))) 101 256) th 15 (some (xn (pfr (xal s2 100 8) th 12 (some (xn s2)))))) 100 6561) th 16 (some (xn (pfr (xal (pfr (xal s2 100 8) th 12 (some (xn s2))) 101 256) th 15 (some (xn (pfr (xal s2 100 8) th 12 (some (xn s2))))))))) 100 6561) th 17 (some (xn (pfr (xal (pfr (xal (pfr (xal s2 100 8) th 12 (some (xn s2))) 101 256) th 15 (some (xn (pfr (xal s2 100 8) th 12 (some (xn s2)))))) 100 6561) th 16 (some (xn (pfr (xal (pfr (xal s2 100 8) th 12 (some (xn s2))) 101 256) th 15 (some (xn (pfr (xal s2 100 8) th 12 (some (xn s2)))))))))))) 100 8) th 18 (some (xn (pfr (xal (pfr (xal (pfr (xal (pfr (xal s2 100 8) th 12 (some (xn s2))) 101 256) th 15 (some (xn (pfr (xal s2 100 8) th 12 (some (xn s2)))))) 100 6561) th 16 (some (xn (pfr (xal (pfr (xal s2 100 8) th 12 (some (xn s2))) 101 256) th 15 (some (xn (pfr (xal s2 100 8) th 12 (some (xn s2))))))))) 100 6561) th 17 (some (xn (pfr (xal (pfr (xal (pfr (xal s2 100 8) th 12 (some (xn s2))) 101 256) th 15 (some (xn (pfr (xal s2 100 8) th 12 (some (xn s2)))))) 100 6561) th 16 (some (xn (pfr (xal (pfr (xal s2 100 8) th 12 (some (xn s2))) 101 256) th 15 (some (xn (pfr (xal s2 100 8) th 12 (some (xn s2)))))))))))))))))) 105 256) th = 1 ∧ (1 ≤ (((((((bc - 1) - 1) - 1) - 1) - 1) - 1) - 1) ∧ 6561 ≤ (((((((bs - 8) - 256) - 6561) - 6561) - 8) - 12) - 256) ∧ (kd (xal (pfr (xal (pfr s9 th 19 (some (xn (pfr (xal (pfr (xal (pfr (xal (pfr (xal (pfr (xal s2 100 8) th 12 (some (xn s2))) 101 256) th 15 (some (xn (pfr (xal s2 100 8) th 12 (some (xn s2)))))) 100 6561) th 16 (some (xn (pfr (xal (pfr (xal s2 100 8) th 12 (some (xn s2))) 101 256) th 15 (some (xn (pfr (xal s2 100 8) th 12 (some (xn s2))))))))) 100 6561) th 17 (some (xn (pfr (xal (pfr (xal (pfr (xal s2 100 8) th 12 (some (xn s2))) 101 256) th 15 (some (xn (pfr (xal s2 100 8) th 12 (some (xn s2)))))) 100 6561) th 16 (some (xn (pfr (xal (pfr (xal s2 100 8) th 12 (some (xn s2))) 101 256) th 15 (some (xn (pfr (xal s2 100 8) th 12 (some (xn s2)))))))))))) 100 8) th 18 (some (xn (pfr (xal (pfr (xal (pfr (xal (pfr (xal s2 100 8) th 12 (some (xn s2))) 101 256) th 15 (some (xn (pfr (xal s2 100 8) th 12 (some (xn s2)))))) 100 6561) th 16 (some (xn (pfr (xal (pfr (xal s2 100 8) th 12 (some (xn s2))) 101 256) th 15 (some (xn (pfr (xal s2 100 8) th 12 (some (xn s2))))))))) 100 6561) th 17 (some (xn (pfr (xal (pfr (xal (pfr (xal s2 100 8) th 12 (some (xn s2))) 101 256) th 15 (some (xn (pfr (xal s2 100 8) th 12 (some (xn s2)))))) 100 6561) th 16 (some (xn (pfr (xal (pfr (xal s2 100 8) th 12 (some (xn s2))) 101 256) th 15 (some (xn (pfr (xal s2 100 8) th 12 (some (xn s2)))))))))))))))))) 105 256) th 20 (some (xn (pfr s9 th 19 (some (xn (pfr (xal (pfr (xal (pfr (xal (pfr (xal (pfr (xal s2 100 8) th 12 (some (xn s2))) 101 256) th 15 (some (xn (pfr (xal s2 100 8) th 12 (some (xn s2)))))) 100 6561) th 16 (some (xn (pfr (xal (pfr (xal s2 100 8) th 12 (some (xn s2))) 101 256) th 15 (some (xn (pfr (xal s2 100 8) th 12 (some (xn s2))))))))) 100 6561) th 17 (some (xn (pfr (xal (pfr (xal (pfr (xal s2 100 8) th 12 (some (xn s2))) 101 256) th 15 (some (xn (pfr (xal s2 100 8) th 12 (some (xn s2)))))) 100 6561) th 16 (some (xn (pfr (xal (pfr (xal s2 100 8) th 12 (some (xn s2))) 101 256) th 15 (some (xn (pfr (xal s2 100 8) th 12 (some (xn s2)))))))))))) 100 8) th 18 (some (xn (pfr (xal (pfr (xal (pfr (xal (pfr (xal s2 100 8) th 12 (some (xn s2))) 101 256) th 15 (some (xn (pfr (xal s2 100 8) th 12 (some (xn s2)))))) 100 6561) th 16 (some (xn (pfr (xal (pfr (xal s2 100 8) th 12 (some (xn s2))) 101 256) th 15 (some (xn (pfr (xal s2 100 8) th 12 (some (xn s2))))))))) 100 6561) th 17 (some (xn (pfr (xal (pfr (xal (pfr (xal s2 100 8) th 12 (some (xn s2))) 101 256) th 15 (some (xn (pfr (xal s2 100 8) th 12 (some (xn s2)))))) 100 6561) th 16 (some (xn (pfr (xal (pfr (xal s2 100 8) th 12 (some (xn s2))) 101 256) th 15 (some (xn (pfr (xal s2 100 8) th 12 (some (xn s2))))))))))))))))))))) 100 6561) th = 1 ∧ (1 ≤ ((((((((bc - 1) - 1) - 1) - 1) - 1) - 1) - 1) - 1) ∧ 6561 ≤ ((((((((bs - 8) - 256) - 6561) - 6561) - 8) - 12) - 256) - 6561) ∧ (kd (xal (pfr (xal (pfr (xal (pfr s9 th 19 (some (xn (pfr (xal (pfr (xal (pfr (xal (pfr (xal (pfr (xal s2 100 8) th 12 (some (xn s2))) 101 256) th 15 (some (xn (pfr (xal s2 100 8) th 12 (some (xn s2)))))) 100 6561) th 16 (some (xn (pfr (xal (pfr (xal s2 100 8) th 12 (some (xn s2))) 101 256) th 15 (some (xn (pfr (xal s2 100 8) th 12 (some (xn s2))))))))) 100 6561) th 17 (some (xn (pfr (xal (pfr (xal (pfr (xal s2 100 8) th 12 (some (xn s2))) 101 256) th 15 (some (xn (pfr (xal s2 100 8) th 12 (some (xn s2)))))) 100 6561) th 16 (some (xn (pfr (xal (pfr (xal s2 100 8) th 12 (some (xn s2))) 101 256) th 15 (some (xn (pfr (xal s2 100 8) th 12 (some (xn s2)))))))))))) 100 8) th 18 (some (xn (pfr (xal (pfr (xal (pfr (xal (pfr (xal s2 100 8) th 12 (some (xn s2))) 101 256) th 15 (some (xn (pfr (xal s2 100 8) th 12 (some (xn s2)))))) 100 6561) th 16 (some (xn (pfr (xal (pfr (xal s2 100 8) th 12 (some (xn s2))) 101 256) th 15 (some (xn (pfr (xal s2 100 8) th 12 (some (xn s2))))))))) 100 6561) th 17 (some (xn (pfr (xal (pfr (xal (pfr (xal s2 100 8) th 12 (some (xn s2))) 101 256) th 15 (some (xn (pfr (xal s2 100 8) th 12 (some (xn s2)))))) 100 6561) th 16 (some (xn (pfr (xal (pfr (xal s2 100 8) th 12 (some (xn s2))) 101 256) th 15 (some (xn (pfr (xal s2 100 8) th 12 (some (xn s2)))))))))))))))))) 105 256) th 20 (some (xn (pfr s9 th 19 (some (xn (pfr (xal (pfr (xal (pfr (xal (pfr (xal (pfr (xal s2 100 8) th 12 (some (xn s2))) 101 256) th 15 (some (xn (pfr (xal s2 100 8) th 12 (some (xn s2)))))) 100 6561) th 16 (some (xn (pfr (xal (pfr (xal s2 100 8) th 12 (some (xn s2))) 101 256) th 15 (some (xn (pfr (xal s2 100 8) th 12 (some (xn s2))))))))) 100 6561) th 17 (some (xn (pfr (xal (pfr (xal (pfr (xal s2 100 8) th 12 (some (xn s2))) 101 256) th 15 (some (xn (pfr (xal s2 100 8) th 12 (some (xn s2)))))) 100 6561) th 16 (some (xn (pfr (xal (pfr (xal s2 100 8) th 12 (some (xn s2))) 101 256) th 15 (some (xn (pfr (xal s2 100 8) th 12 (some (xn s2)))))))))))) 100 8) th 18 (some (xn (pfr (xal (pfr (xal (pfr (xal (pfr (xal s2 100 8) th 12 (some (xn s2))) 101 256) th 15 (some (xn (pfr (xal s2 100 8) th 12 (some (xn s2)))))) 100 6561) th 16 (some (xn (pfr (xal (pfr (xal s2 100 8) th 12 (some (xn s2))) 101 256) th 15 (some (xn (pfr (xal s2 100 8) th 12 (some (xn s2))))))))) 100 6561) th 17 (some (xn (pfr (xal (pfr (xal (pfr (xal s2 100 8) th 12 (some (xn s2))) 101 256) th 15 (some (xn (pfr (xal s2 100 8) th 12 (some (xn s2)))))) 100 6561) th 16 (some (xn (pfr (xal (pfr (xal s2 100 8) th 12 (some (xn s2))) 101 256) th 15 (some (xn (pfr (xal s2 100 8) th 12 (some (xn s2))))))))))))))))))))) 100 6561) th 21 (some (xn (pfr (xal (pfr s9 th 19 (some (xn (pfr (xal (pfr (xal (pfr (xal (pfr (xal (pfr (xal s2 100 8) th 12 (some (xn s2))) 101 256) th 15 (some (xn (pfr (xal s2 100 8) th 12 (some (xn s2)))))) 100 6561) th 16 (some (xn (pfr (xal (pfr (xal s2 100 8) th 12 (some (xn s2))) 101 256) th 15 (some (xn (pfr (xal s2 100 8) th 12 (some (xn s2))))))))) 100 6561) th 17 (some (xn (pfr (xal (pfr (xal (pfr (xal s2 100 8) th 12 (some (xn s2))) 101 256) th 15 (some (xn (pfr (xal s2 100 8) th 12 (some (xn s2)))))) 100 6561) th 16 (some (xn (pfr (xal (pfr (xal s2 100 8) th 12 (some (xn s2))) 101 256) th 15 (some (xn (pfr (xal s2 100 8) th 12 (some (xn s2)))))))))))) 100 8) th 18 (some (xn (pfr (xal (pfr (xal (pfr (xal (pfr (xal s2 100 8) th 12 (some (xn s2))) 101 256) th 15 (some (xn (pfr (xal s2 100 8) th 12 (some (xn s2)))))) 100 6561) th 16 (some (xn (pfr (xal (pfr (xal s2 100 8) th 12 (some (xn s2))) 101 256) th 15 (some (xn (pfr (xal s2 100 8) th 12 (some (xn s2))))))))) 100 6561) th 17 (some (xn (pfr (xal (pfr (xal (pfr (xal s2 100 8) th 12 (some (xn s2))) 101 256) th 15 (some (xn (pfr (xal s2 100 8) th 12 (some (xn s2)))))) 100 6561) th 16 (some (xn (pfr (xal (pfr (xal s2 100 8) th 12 (some (xn s2))) 101 256) th 15 (some (xn (pfr (xal s2 100 8) th 12 (some (xn s2)))))))))))))))))) 105 256) th 20 (some (xn (pfr s9 th 19 (some (xn (pfr (xal (pfr (xal (pfr (xal (pfr (xal (pfr (xal s2 100 8) th 12 (some (xn s2))) 101 256) th 15 (some (xn (pfr (xal s2 100 8) th 12 (some (xn s2)))))) 100 6561) th 16 (some (xn (pfr (xal (pfr (xal s2 100 8) th 12 (some (xn s2))) 101 256) th 15 (some (xn (pfr (xal s2 100 8) th 12 (some (xn s2))))))))) 100 6561) th 17 (some (xn (pfr (xal (pfr (xal (pfr (xal s2 100 8) th 12 (some (xn s2))) 101 256) th 15 (some (xn (pfr (xal s2 100 8) th 12 (some (xn s2)))))) 100 6561) th 16 (some (xn (pfr (xal (pfr (xal s2 100 8) th 12 (some (xn s2))) 101 256) th 15 (some (xn (pfr (xal s2 100 8) th 12 (some (xn s2)))))))))))) 100 8) th 18 (some (xn (pfr (xal (pfr (xal (pfr (xal (pfr (xal s2 100 8) th 12 (some (xn s2))) 101 256) th 15 (some (xn (pfr (xal s2 100 8) th 12 (some (xn s2)))))) 100 6561) th 16 (some (xn (pfr (xal (pfr (xal s2 100 8) th 12 (some (xn s2))) 101 256) th 15 (some (xn (pfr (xal s2 100 8) th 12 (some (xn s2))))))))) 100 6561) th 17 (some (xn (pfr (xal (pfr (xal (pfr (xal s2 100 8) th 12 (some (xn s2))) 101 256) th 15 (some (xn (pfr (xal s2 100 8) th 12 (some (xn s2)))))) 100 6561) th 16 (some (xn (pfr (xal (pfr (xal s2 100 8) th 12 (some (xn s2))) 101 256) th 15 (some (xn (pfr (xal s2 100 8) th 12 (some (xn s2)))))))))))))))))))))))) 100 6561) th = 1 ∧ (Q (pfr (xal (pfr (xal (pfr (xal (pfr s9 th 19 (some (xn (pfr (xal (pfr (xal (pfr (xal (pfr (xal (pfr (xal s2 100 8) th 12 (some (xn s2))) 101 256) th 15 (some (xn (pfr (xal s2 100 8) th 12 (some (xn s2)))))) 100 6561) th 16 (some (xn (pfr (xal (pfr (xal s2 100 8) th 12 (some (xn s2))) 101 256) th 15 (some (xn (pfr (xal s2 100 8) th 12 (some (xn s2))))))))) 100 6561) th 17 (some (xn (pfr (xal (pfr (xal (pfr (xal s2 100 8) th 12 (some (xn s2))) 101 256) th 15 (some (xn (pfr (xal s2 100 8) th 12 (some (xn s2)))))) 100 6561) th 16 (some (xn (pfr (xal (pfr (xal s2 100 8) th 12 (some (xn s2))) 101 256) th 15 (some (xn (pfr (xal s2 100 8) th 12 (some (xn s2)))))))))))) 100 8) th 18 (some (xn (pfr (xal (pfr (xal (pfr (xal (pfr (xal s2 100 8) th 12 (some (xn s2))) 101 256) th 15 (some (xn (pfr (xal s2 100 8) th 12 (some (xn s2)))))) 100 6561) th 16 (some (xn (pfr (xal (pfr (xal s2 100 8) th 12 (some (xn s2))) 101 256) th 15 (some (xn (pfr (xal s2 100 8) th 12 (some (xn s2))))))))) 100 6561) th 17 (some (xn (pfr (xal (pfr (xal (pfr (xal s2 100 8) th 12 (some (xn s2))) 101 256) th 15 (some (xn (pfr (xal s2 100 8) th 12 (some (xn s2)))))) 100 6561) th 16 (some (xn (pfr (xal (pfr (xal s2 100 8) th 12 (some (xn s2))) 101 256) th 15 (some (xn (pfr (xal s2 100 8) th 12 (some (xn s2)))))))))))))))))) 105 256) th 20 (some (xn (pfr s9 th 19 (some (xn (pfr (xal (pfr (xal (pfr (xal (pfr (xal (pfr (xal s2 100 8) th 12 (some (xn s2))) 101 256) th 15 (some (xn (pfr (xal s2 100 8) th 12 (some (xn s2)))))) 100 6561) th 16 (some (xn (pfr (xal (pfr (xal s2 100 8) th 12 (some (xn s2))) 101 256) th 15 (some (xn (pfr (xal s2 100 8) th 12 (some (xn s2))))))))) 100 6561) th 17 (some (xn (pfr (xal (pfr (xal (pfr (xal s2 100 8) th 12 (some (xn s2))) 101 256) th 15 (some (xn (pfr (xal s2 100 8) th 12 (some (xn s2)))))) 100 6561) th 16 (some (xn (pfr (xal (pfr (xal s2 100 8) th 12 (some (xn s2))) 101 256) th 15 (some (xn (pfr (xal s2 100 8) th 12 (some (xn s2)))))))))))) 100 8) th 18 (some (xn (pfr (xal (pfr (xal (pfr (xal (pfr (xal s2 100 8) th 12 (some (xn s2))) 101 256) th 15 (some (xn (pfr (xal s2 100 8) th 12 (some (xn s2)))))) 100 6561) th 16 (some (xn (pfr (xal (pfr (xal s2 100 8) th 12 (some (xn s2))) 101 256) th 15 (some (xn (pfr (xal s2 100 8) th 12 (some (xn s2))))))))) 100 6561) th 17 (some (xn (pfr (xal (pfr (xal (pfr (xal s2 100 8) th 12 (some (xn s2))) 101 256) th 15 (some (xn (pfr (xal s2 100 8) th 12 (some (xn s2)))))) 100 6561) th 16 (some (xn (pfr (xal (pfr (xal s2 100 8) th 12 (some (xn s2))) 101 256) th 15 (some (xn (pfr (xal s2 100 8) th 12 (some (xn s2))))))))))))))))))))) 100 6561) th 21 (some (xn (pfr (xal (pfr s9 th 19 (some (xn (pfr (xal (pfr (xal (pfr (xal (pfr (xal (pfr (xal s2 100 8) th 12 (some (xn s2))) 101 256) th 15 (some (xn (pfr (xal s2 100 8) th 12 (some (xn s2)))))) 100 6561) th 16 (some (xn (pfr (xal (pfr (xal s2 100 8) th 12 (some (xn s2))) 101 256) th 15 (some (xn (pfr (xal s2 100 8) th 12 (some (xn s2))))))))) 100 6561) th 17 (some (xn (pfr (xal (pfr (xal (pfr (xal s2 100 8) th 12 (some (xn s2))) 101 256) th 15 (some (xn (pfr (xal s2 100 8) th 12 (some (xn s2)))))) 100 6561) th 16 (some (xn (pfr (xal (pfr (xal s2 100 8) th 12 (some (xn s2))) 101 256) th 15 (some (xn (pfr (xal s2 100 8) th 12 (some (xn s2)))))))))))) 100 8) th 18 (some (xn (pfr (xal (pfr (xal (pfr (xal (pfr (xal s2 100 8) th 12 (some (xn s2))) 101 256) th 15 (some (xn (pfr (xal s2 100 8) th 12 (some (xn s2)))))) 100 6561) th 16 (some (xn (pfr (xal (pfr (xal s2 100 8) th 12 (some (xn s2))) 101 256) th 15 (some (xn (pfr (xal s2 100 8) th 12 (some (xn s2))))))))) 100 6561) th 17 (some (xn (pfr (xal (pfr (xal (pfr (xal s2 100 8) th 12 (some (xn s2))) 101 256) th 15 (some (xn (pfr (xal s2 100 8) th 12 (some (xn s2)))))) 100 6561) th 16 (some (xn (pfr (xal (pfr (xal s2 100 8) th 12 (some (xn s2))) 101 256) th 15 (some (xn (pfr (xal s2 100 8) th 12 (some (xn s2)))))))))))))))))) 105 256) th 20 (some (xn (pfr s9 th 19 (some (xn (pfr (xal (pfr (xal (pfr (xal (pfr (xal (pfr (xal s2 100 8) th 12 (some (xn s2))) 101 256) th 15 (some (xn (pfr (xal s2 100 8) th 12 (some (xn s2)))))) 100 6561) th 16 (some (xn (pfr (xal (pfr (xal s2 100 8) th 12 (some (xn s2))) 101 256) th 15 (some (xn (pfr (xal s2 100 8) th 12 (some (xn s2))))))))) 100 6561) th 17 (some (xn (pfr (xal (pfr (xal (pfr (xal s2 100 8) th 12 (some (xn s2))) 101 256) th 15 (some (xn (pfr (xal s2 100 8) th 12 (some (xn s2)))))) 100 6561) th 16 (some (xn (pfr (xal (pfr (xal s2 100 8) th 12 (some (xn s2))) 101 256) th 15 (some (xn (pfr (xal s2 100 8) th 12 (some (xn s2)))))))))))) 100 8) th 18 (some (xn (pfr (xal (pfr (xal (pfr (xal (pfr (xal s2 100 8) th 12 (some (xn s2))) 101 256) th 15 (some (xn (pfr (xal s2 100 8) th 12 (some (xn s2)))))) 100 6561) th 16 (some (xn (pfr (xal (pfr (xal s2 100 8) th 12 (some (xn s2))) 101 256) th 15 (some (xn (pfr (xal s2 100 8) th 12 (some (xn s2))))))))) 100 6561) th 17 (some (xn (pfr (xal (pfr (xal (pfr (xal s2 100 8) th 12 (some (xn s2))) 101 256) th 15 (some (xn (pfr (xal s2 100 8) th 12 (some (xn s2)))))) 100 6561) th 16 (some (xn (pfr (xal (pfr (xal s2 100 8) th 12 (some (xn s2))) 101 256) th 15 (some (xn (pfr (xal s2 100 8) th 12 (some (xn s2)))))))))))))))))))))))) 100 6561) th 22 (some (xn (pfr (xal (pfr (xal (pfr s9 th 19 (some (xn (pfr (xal (pfr (xal (pfr (xal (pfr (xal (pfr (xal s2 100 8) th 12 (some (xn s2))) 101 256) th 15 (some (xn (pfr (xal s2 100 8) th 12 (some (xn s2)))))) 100 6561) th 16 (some (xn (pfr (xal (pfr (xal s2 100 8) th 12 (some (xn s2))) 101 256) th 15 (some (xn (pfr (xal s2 100 8) th 12 (some (xn s2))))))))) 100 6561) th 17 (some (xn (pfr (xal (pfr (xal (pfr (xal s2 100 8) th 12 (some (xn s2))) 101 256) th 15 (some (xn (pfr (xal s2 100 8) th 12 (some (xn s2)))))) 100 6561) th 16 (some (xn (pfr (xal (pfr (xal s2 100 8) th 12 (some (xn s2))) 101 256) th 15 (some (xn (pfr (xal s2 100 8) th 12 (some (xn s2)))))))))))) 100 8) th 18 (some (xn (pfr (xal (pfr (xal (pfr (xal (pfr (xal s2 100 8) th 12 (some (xn s2))) 101 256) th 15 (some (xn (pfr (xal s2 100 8) th 12 (some (xn s2)))))) 100 6561) th 16 (some (xn (pfr (xal (pfr (xal s2 100 8) th 12 (some (xn s2))) 101 256) th 15 (some (xn (pfr (xal s2 100 8) th 12 (some (xn s2))))))))) 100 6561) th 17 (some (xn (pfr (xal (pfr (xal (pfr (xal s2 100 8) th 12 (some (xn s2))) 101 256) th 15 (some (xn (pfr (xal s2 100 8) th 12 (some (xn s2)))))) 100 6561) th 16 (some (xn (pfr (xal (pfr (xal s2 100 8) th 12 (some (xn s2))) 101 256) th 15 (some (xn (pfr (xal s2 100 8) th 12 (some (xn s2)))))))))))))))))) 105 256) th 20 (some (xn (pfr s9 th 19 (some (xn (pfr (xal (pfr (xal (pfr (xal (pfr (xal (pfr (xal s2 100 8) th 12 (some (xn s2))) 101 256) th 15 (some (xn (pfr (xal s2 100 8) th 12 (some (xn s2)))))) 100 6561) th 16 (some (xn (pfr (xal (pfr (xal s2 100 8) th 12 (some (xn s2))) 101 256) th 15 (some (xn (pfr (xal s2 100 8) th 12 (some (xn s2))))))))) 100 6561) th 17 (some (xn (pfr (xal (pfr (xal (pfr (xal s2 100 8) th 12 (some (xn s2))) 101 256) th 15 (some (xn (pfr (xal s2 100 8) th 12 (some (xn s2)))))) 100 6561) th 16 (some (xn (pfr (xal (pfr (xal s2 100 8) th 12 (some (xn s2))) 101 256) th 15 (some (xn (pfr (xal s2 100 8) th 12 (some (xn s2)))))))))))) 100 8) th 18 (some (xn (pfr (xal (pfr (xal (pfr (xal (pfr (xal s2 100 8) th 12 (some (xn s2))) 101 256) th 15 (some (xn (pfr (xal s2 100 8) th 12 (some (xn s2)))))) 100 6561) th 16 (some (xn (pfr (xal (pfr (xal s2 100 8) th 12 (some (xn s2))) 101 256) th 15 (some (xn (pfr (xal s2 100 8) th 12 (some (xn s2))))))))) 100 6561) th 17 (some (xn (pfr (xal (pfr (xal (pfr (xal s2 100 8) th 12 (some (xn s2))) 101 256) th 15 (some (xn (pfr (xal s2 100 8) th 12 (some (xn s2)))))) 100 6561) th 16 (some (xn (pfr (xal (pfr (xal s2 100 8) th 12 (some (xn s2))) 101 256) th 15 (some (xn (pfr (xal s2 100 8) th 12 (some (xn s2))))))))))))))))))))) 100 6561) th 21 (some (xn (pfr (xal (pfr s9 th 19 (some (xn (pfr (xal (pfr (xal (pfr (xal (pfr (xal (pfr (xal s2 100 8) th 12 (some (xn s2))) 101 256) th 15 (some (xn (pfr (xal s2 100 8) th 12 (some (xn s2)))))) 100 6561) th 16 (some (xn (pfr (xal (pfr (xal s2 100 8) th 12 (some (xn s2))) 101 256) th 15 (some (xn (pfr (xal s2 100 8) th 12 (some (xn s2))))))))) 100 6561) th 17 (some (xn (pfr (xal (pfr (xal (pfr (xal s2 100 8) th 12 (some (xn s2))) 101 256) th 15 (some (xn (pfr (xal s2 100 8) th 12 (some (xn s2)))))) 100 6561) th 16 (some (xn (pfr (xal (pfr (xal s2 100 8) th 12 (some (xn s2))) 101 256) th 15 (some (xn (pfr (xal s2 100 8) th 12 (some (xn s2)))))))))))) 100 8) th 18 (some (xn (pfr (xal (pfr (xal (pfr (xal (pfr (xal s2 100 8) th 12 (some (xn s2))) 101 256) th 15 (some (xn (pfr (xal s2 100 8) th 12 (some (xn s2)))))) 100 6561) th 16 (some (xn (pfr (xal (pfr (xal s2 100 8) th 12 (some (xn s2))) 101 256) th 15 (some (xn (pfr (xal s2 100 8) th 12 (some (xn s2))))))))) 100 6561) th 17 (some (xn (pfr (xal (pfr (xal (pfr (xal s2 100 8) th 12 (some (xn s2))) 101 256) th 15 (some (xn (pfr (xal s2 100 8) th 12 (some (xn s2)))))) 100 6561) th 16 (some (xn (pfr (xal (pfr (xal s2 100 8) th 12 (some (xn s2))) 101 256) th 15 (some (xn (pfr (xal s2 100 8) th 12 (some (xn s2)))))))))))))))))) 105 256) th 20 (some (xn (pfr s9 th 19 (some (xn (pfr (xal (pfr (xal (pfr (xal (pfr (xal (pfr (xal s2 100 8) th 12 (some (xn s2))) 101 256) th 15 (some (xn (pfr (xal s2 100 8) th 12 (some (xn s2)))))) 100 6561) th 16 (some (xn (pfr (xal (pfr (xal s2 100 8) th 12 (some (xn s2))) 101 256) th 15 (some (xn (pfr (xal s2 100 8) th 12 (some (xn s2))))))))) 100 6561) th 17 (some (xn (pfr (xal (pfr (xal (pfr (xal s2 100 8) th 12 (some (xn s2))) 101 256) th 15 (some (xn (pfr (xal s2 100 8) th 12 (some (xn s2)))))) 100 6561) th 16 (some (xn (pfr (xal (pfr (xal s2 100 8) th 12 (some (xn s2))) 101 256) th 15 (some (xn (pfr (xal s2 100 8) th 12 (some (xn s2)))))))))))) 100 8) th 18 (some (xn (pfr (xal (pfr (xal (pfr (xal (pfr (xal s2 100 8) th 12 (some (xn s2))) 101 256) th 15 (some (xn (pfr (xal s2 100 8) th 12 (some (xn s2)))))) 100 6561) th 16 (some (xn (pfr (xal (pfr (xal s2 100 8) th 12 (some (xn s2))) 101 256) th 15 (some (xn (pfr (xal s2 100 8) th 12 (some (xn s2))))))))) 100 6561) th 17 (some (xn (pfr (xal (pfr (xal (pfr (xal s2 100 8) th 12 (some (xn s2))) 101 256) th 15 (some (xn (pfr (xal s2 100 8) th 12 (some (xn s2)))))) 100 6561) th 16 (some (xn (pfr (xal (pfr (xal s2 100 8) th 12 (some (xn s2))) 101 256) th 15 (some (xn (pfr (xal s2 100 8) th 12 (some (xn s2)))))))))))))))))))))))))))))))))))))))))))))))))))) else (kd σ th = 1 ∧ (1 ≤ bc ∧ 13 ≤ bs ∧ (kd (xal σ 3 0) (xn σ) = 3 ∧ (∃ k18 n18 : Nat, k18 ≤ (bc - 1) ∧ n18 ≤ (bs - 13) ∧ (wX2_init (xn σ) k18 n18 (xal σ 3 0) (fun s16 => oc s16 (fr σ th 8) 104 (fun a19 => xK ≤ a19 ∧ (vp_in x1 (ln s16 a19) ∧ (xck [3] s16 (some (xn σ)) ∧ (∀ v20 : Int32, v20 = x1 + (1 : Int32) → K106 th v20 ((bc - 1) - k18) ((bs - 13) - n18) (par s16 a19 x1.toNatClampNeg (some (xn σ)))))))))))))
set_option maxHeartbeats 4000000 in
theorem BX0_init_106 {l : Launch} {p : Program} {e : Env} {s : State} {m : MethodId} {args : Array Value} {below : List Frame} {meth : Method} {c : Code} {E : xx_E} {mc ms : Nat} {Q : XS → Prop} {K106 : Nat → Int32 → Nat → Nat → XS → Prop} (d : Nat) (cx : xx_X "StruckCounts" cX0_init 2 none E p s m args meth c) (hini : meth.name = "<init>") (hK106 : ∀ (th : Nat) (x1 : Int32) (bc : Nat) (bs : Nat) (σ : XS), K106 th x1 bc bs σ → x_T p l e ({ frames := (8 + 3 * d), cells := mc, slots := ms, locals := 40 * (8 + 3 * d) } : Room) s m args below meth c E (va_Qv Q (fun σ' t => xW E σ' t) (xA E)) mc ms 2 106 bc bs σ [(0, xv E (some th)), (1, .int x1)] []) : ∀ (th : Nat) (x1 : Int32) (bc : Nat) (bs : Nat) (σ : XS), wX0_init_106 d Q K106 th x1 bc bs σ → x_T p l e ({ frames := (8 + 3 * d), cells := mc, slots := ms, locals := 40 * (8 + 3 * d) } : Room) s m args below meth c E (va_Qv Q (fun σ' t => xW E σ' t) (xA E)) mc ms 2 106 bc bs σ [(0, xv E (some th)), (1, .int x1)] [] := by
  intro th x1 bc bs σ hw H locs ls cells slots hR hS hl hcb hsb
  unfold wX0_init_106 at hw
  obtain ⟨hx, hb, hml, hown, hts, hrt, hlk, hMK, hZ⟩ := id cx
  refine lv_iload_n hx hb dX0_init_106 rfl (lv_at hl 1 rfl) ?_
  refine lv_iconst (v := (2 : Int32)) hx hb dX0_init_107 (by decide) ?_
  refine lv_icmp_ge (tgt := 130) hx hb dX0_init_108 (by decide) (fun hc => ?_) (fun hc => ?_)
  · have hw := mm_ip hc hw
    refine x_aload_n cx dX0_init_130 rfl (lv_at hl 0 rfl) ?_
    obtain ⟨hk1, hw⟩ := hw
    refine xg_X0_31_1 cx hR rfl hk1 dX0_init_131 ?_
    refine x_aload_n cx dX0_init_134 rfl (lv_at hl 0 rfl) ?_
    refine xg_X0_24_1 cx hR rfl hk1 dX0_init_135 ?_
    obtain ⟨a3, hr3, hk3, hw⟩ := hw
    refine CX2_begins_X0_52 cx hR hS hr3 hk3 hw (by constructor <;> dsimp only <;> omega) (Nat.le_of_ble_eq_true rfl) hl.1 ⟨by dsimp only; omega, by dsimp only; omega⟩ dX0_init_138 (fun r2 s2 H locs hw hR hS => ?_)
    refine lv_pop hx hb dX0_init_141 (xv_cat _ _) ?_
    refine x_aload_n cx dX0_init_142 rfl (lv_at hl 0 rfl) ?_
    refine lv_bipush (v := (8 : Int32)) hx hb dX0_init_143 (by decide) ?_
    obtain ⟨hb1, hb2, hw⟩ := hw
    refine x_newa (atype := .int) cx hR hS 0 (by decide) rfl q376 (fun _ => rfl) (fun h => absurd h (by decide)) (N := 8) (by decide) (by decide) (Nat.le_of_ble_eq_true rfl) (by dsimp only; omega) (by dsimp only; omega) dX0_init_145 (fun H hR hS => ?_)
    have hcb := xadd hb1 hcb
    have hsb := xadd hb2 hsb
    obtain ⟨hk4, hw⟩ := hw
    obtain ⟨hge_th, hw⟩ := hw
    refine xp_X0_56_1 (v := (some (xn s2))) cx hR hS rfl hge_th hk4 hini dX0_init_147 (fun H locs hR hS => ?_)
    refine x_aload_n cx dX0_init_150 rfl (lv_at hl 0 rfl) ?_
    refine lv_sipush (v := (256 : Int32)) hx hb dX0_init_151 (by decide) ?_
    obtain ⟨hb1, hb2, hw⟩ := hw
    refine x_newa (atype := .boolean) cx hR hS 1 (by decide) rfl q377 (fun _ => rfl) (fun h => absurd h (by decide)) (N := 256) (by decide) (by decide) (Nat.le_of_ble_eq_true rfl) (by dsimp only; omega) (by dsimp only; omega) dX0_init_154 (fun H hR hS => ?_)
    have hcb := xadd hb1 hcb
    have hsb := xadd hb2 hsb
    obtain ⟨hk5, hw⟩ := hw
    refine xp_X0_60_1 (v := (some (xn (pfr (xal s2 100 8) th 12 (some (xn s2)))))) cx hR hS rfl hge_th hk5 hini dX0_init_156 (fun H locs hR hS => ?_)
    refine x_aload_n cx dX0_init_159 rfl (lv_at hl 0 rfl) ?_
    refine lv_sipush (v := (6561 : Int32)) hx hb dX0_init_160 (by decide) ?_
    obtain ⟨hb1, hb2, hw⟩ := hw
    refine x_newa (atype := .int) cx hR hS 0 (by decide) rfl q376 (fun _ => rfl) (fun h => absurd h (by decide)) (N := 6561) (by decide) (by decide) (Nat.le_of_ble_eq_true rfl) (by dsimp only; omega) (by dsimp only; omega) dX0_init_163 (fun H hR hS => ?_)
    have hcb := xadd hb1 hcb
    have hsb := xadd hb2 hsb
    obtain ⟨hk6, hw⟩ := hw
    refine xp_X0_63_1 (v := (some (xn (pfr (xal (pfr (xal s2 100 8) th 12 (some (xn s2))) 101 256) th 15 (some (xn (pfr (xal s2 100 8) th 12 (some (xn s2))))))))) cx hR hS rfl hge_th hk6 hini dX0_init_165 (fun H locs hR hS => ?_)
    refine x_aload_n cx dX0_init_168 rfl (lv_at hl 0 rfl) ?_
    refine lv_sipush (v := (6561 : Int32)) hx hb dX0_init_169 (by decide) ?_
    obtain ⟨hb1, hb2, hw⟩ := hw
    refine x_newa (atype := .int) cx hR hS 0 (by decide) rfl q376 (fun _ => rfl) (fun h => absurd h (by decide)) (N := 6561) (by decide) (by decide) (Nat.le_of_ble_eq_true rfl) (by dsimp only; omega) (by dsimp only; omega) dX0_init_172 (fun H hR hS => ?_)
    have hcb := xadd hb1 hcb
    have hsb := xadd hb2 hsb
    obtain ⟨hk7, hw⟩ := hw
    refine xp_X0_66_1 (v := (some (xn (pfr (xal (pfr (xal (pfr (xal s2 100 8) th 12 (some (xn s2))) 101 256) th 15 (some (xn (pfr (xal s2 100 8) th 12 (some (xn s2)))))) 100 6561) th 16 (some (xn (pfr (xal (pfr (xal s2 100 8) th 12 (some (xn s2))) 101 256) th 15 (some (xn (pfr (xal s2 100 8) th 12 (some (xn s2)))))))))))) cx hR hS rfl hge_th hk7 hini dX0_init_174 (fun H locs hR hS => ?_)
    refine x_aload_n cx dX0_init_177 rfl (lv_at hl 0 rfl) ?_
    refine lv_bipush (v := (8 : Int32)) hx hb dX0_init_178 (by decide) ?_
    obtain ⟨hb1, hb2, hw⟩ := hw
    refine x_newa (atype := .int) cx hR hS 0 (by decide) rfl q376 (fun _ => rfl) (fun h => absurd h (by decide)) (N := 8) (by decide) (by decide) (Nat.le_of_ble_eq_true rfl) (by dsimp only; omega) (by dsimp only; omega) dX0_init_180 (fun H hR hS => ?_)
    have hcb := xadd hb1 hcb
    have hsb := xadd hb2 hsb
    obtain ⟨hk8, hw⟩ := hw
    refine xp_X0_69_1 (v := (some (xn (pfr (xal (pfr (xal (pfr (xal (pfr (xal s2 100 8) th 12 (some (xn s2))) 101 256) th 15 (some (xn (pfr (xal s2 100 8) th 12 (some (xn s2)))))) 100 6561) th 16 (some (xn (pfr (xal (pfr (xal s2 100 8) th 12 (some (xn s2))) 101 256) th 15 (some (xn (pfr (xal s2 100 8) th 12 (some (xn s2))))))))) 100 6561) th 17 (some (xn (pfr (xal (pfr (xal (pfr (xal s2 100 8) th 12 (some (xn s2))) 101 256) th 15 (some (xn (pfr (xal s2 100 8) th 12 (some (xn s2)))))) 100 6561) th 16 (some (xn (pfr (xal (pfr (xal s2 100 8) th 12 (some (xn s2))) 101 256) th 15 (some (xn (pfr (xal s2 100 8) th 12 (some (xn s2))))))))))))))) cx hR hS rfl hge_th hk8 hini dX0_init_182 (fun H locs hR hS => ?_)
    refine x_aload_n cx dX0_init_185 rfl (lv_at hl 0 rfl) ?_
    obtain ⟨hb1, hb2, hw⟩ := hw
    refine xn_X0_72 cx hR hS (by dsimp only; omega) (by dsimp only; omega) dX0_init_186 (fun H hR hS => ?_)
    have hcb := xadd hb1 hcb
    have hsb := xadd hb2 hsb
    refine lv_dup hx hb dX0_init_189 (xv_cat _ _) ?_
    refine lv_sipush (v := (1024 : Int32)) hx hb dX0_init_190 (by decide) ?_
    obtain ⟨hk10, hw⟩ := hw
    refine CJ2_init_2L_X0_74 cx hR hS rfl hk10 hw (by constructor <;> dsimp only <;> omega) (Nat.le_of_ble_eq_true rfl) hl.1 ⟨by dsimp only; omega, by dsimp only; omega⟩ dX0_init_193 (fun s9 H locs hw hR hS => ?_)
    obtain ⟨hk11, hw⟩ := hw
    refine xp_X0_77_1 (v := (some (xn (pfr (xal (pfr (xal (pfr (xal (pfr (xal (pfr (xal s2 100 8) th 12 (some (xn s2))) 101 256) th 15 (some (xn (pfr (xal s2 100 8) th 12 (some (xn s2)))))) 100 6561) th 16 (some (xn (pfr (xal (pfr (xal s2 100 8) th 12 (some (xn s2))) 101 256) th 15 (some (xn (pfr (xal s2 100 8) th 12 (some (xn s2))))))))) 100 6561) th 17 (some (xn (pfr (xal (pfr (xal (pfr (xal s2 100 8) th 12 (some (xn s2))) 101 256) th 15 (some (xn (pfr (xal s2 100 8) th 12 (some (xn s2)))))) 100 6561) th 16 (some (xn (pfr (xal (pfr (xal s2 100 8) th 12 (some (xn s2))) 101 256) th 15 (some (xn (pfr (xal s2 100 8) th 12 (some (xn s2)))))))))))) 100 8) th 18 (some (xn (pfr (xal (pfr (xal (pfr (xal (pfr (xal s2 100 8) th 12 (some (xn s2))) 101 256) th 15 (some (xn (pfr (xal s2 100 8) th 12 (some (xn s2)))))) 100 6561) th 16 (some (xn (pfr (xal (pfr (xal s2 100 8) th 12 (some (xn s2))) 101 256) th 15 (some (xn (pfr (xal s2 100 8) th 12 (some (xn s2))))))))) 100 6561) th 17 (some (xn (pfr (xal (pfr (xal (pfr (xal s2 100 8) th 12 (some (xn s2))) 101 256) th 15 (some (xn (pfr (xal s2 100 8) th 12 (some (xn s2)))))) 100 6561) th 16 (some (xn (pfr (xal (pfr (xal s2 100 8) th 12 (some (xn s2))) 101 256) th 15 (some (xn (pfr (xal s2 100 8) th 12 (some (xn s2)))))))))))))))))) cx hR hS rfl hge_th hk11 hini dX0_init_196 (fun H locs hR hS => ?_)
    refine x_aload_n cx dX0_init_199 rfl (lv_at hl 0 rfl) ?_
    refine lv_sipush (v := (256 : Int32)) hx hb dX0_init_200 (by decide) ?_
    obtain ⟨hb1, hb2, hw⟩ := hw
    refine x_anew cx hR hS 5 (by decide) (by decide) rfl (q569) (by decide) (N := 256) (by decide) (by decide) (Nat.le_of_ble_eq_true rfl) (by dsimp only; omega) (by dsimp only; omega) dX0_init_203 (fun H hR hS => ?_)
    have hcb := xadd hb1 hcb
    have hsb := xadd hb2 hsb
    obtain ⟨hk12, hw⟩ := hw
    refine xp_X0_83_1 (v := (some (xn (pfr s9 th 19 (some (xn (pfr (xal (pfr (xal (pfr (xal (pfr (xal (pfr (xal s2 100 8) th 12 (some (xn s2))) 101 256) th 15 (some (xn (pfr (xal s2 100 8) th 12 (some (xn s2)))))) 100 6561) th 16 (some (xn (pfr (xal (pfr (xal s2 100 8) th 12 (some (xn s2))) 101 256) th 15 (some (xn (pfr (xal s2 100 8) th 12 (some (xn s2))))))))) 100 6561) th 17 (some (xn (pfr (xal (pfr (xal (pfr (xal s2 100 8) th 12 (some (xn s2))) 101 256) th 15 (some (xn (pfr (xal s2 100 8) th 12 (some (xn s2)))))) 100 6561) th 16 (some (xn (pfr (xal (pfr (xal s2 100 8) th 12 (some (xn s2))) 101 256) th 15 (some (xn (pfr (xal s2 100 8) th 12 (some (xn s2)))))))))))) 100 8) th 18 (some (xn (pfr (xal (pfr (xal (pfr (xal (pfr (xal s2 100 8) th 12 (some (xn s2))) 101 256) th 15 (some (xn (pfr (xal s2 100 8) th 12 (some (xn s2)))))) 100 6561) th 16 (some (xn (pfr (xal (pfr (xal s2 100 8) th 12 (some (xn s2))) 101 256) th 15 (some (xn (pfr (xal s2 100 8) th 12 (some (xn s2))))))))) 100 6561) th 17 (some (xn (pfr (xal (pfr (xal (pfr (xal s2 100 8) th 12 (some (xn s2))) 101 256) th 15 (some (xn (pfr (xal s2 100 8) th 12 (some (xn s2)))))) 100 6561) th 16 (some (xn (pfr (xal (pfr (xal s2 100 8) th 12 (some (xn s2))) 101 256) th 15 (some (xn (pfr (xal s2 100 8) th 12 (some (xn s2))))))))))))))))))))) cx hR hS rfl hge_th hk12 hini dX0_init_206 (fun H locs hR hS => ?_)
    refine x_aload_n cx dX0_init_209 rfl (lv_at hl 0 rfl) ?_
    refine lv_sipush (v := (6561 : Int32)) hx hb dX0_init_210 (by decide) ?_
    obtain ⟨hb1, hb2, hw⟩ := hw
    refine x_newa (atype := .int) cx hR hS 0 (by decide) rfl q376 (fun _ => rfl) (fun h => absurd h (by decide)) (N := 6561) (by decide) (by decide) (Nat.le_of_ble_eq_true rfl) (by dsimp only; omega) (by dsimp only; omega) dX0_init_213 (fun H hR hS => ?_)
    have hcb := xadd hb1 hcb
    have hsb := xadd hb2 hsb
    obtain ⟨hk13, hw⟩ := hw
    refine xp_X0_87_1 (v := (some (xn (pfr (xal (pfr s9 th 19 (some (xn (pfr (xal (pfr (xal (pfr (xal (pfr (xal (pfr (xal s2 100 8) th 12 (some (xn s2))) 101 256) th 15 (some (xn (pfr (xal s2 100 8) th 12 (some (xn s2)))))) 100 6561) th 16 (some (xn (pfr (xal (pfr (xal s2 100 8) th 12 (some (xn s2))) 101 256) th 15 (some (xn (pfr (xal s2 100 8) th 12 (some (xn s2))))))))) 100 6561) th 17 (some (xn (pfr (xal (pfr (xal (pfr (xal s2 100 8) th 12 (some (xn s2))) 101 256) th 15 (some (xn (pfr (xal s2 100 8) th 12 (some (xn s2)))))) 100 6561) th 16 (some (xn (pfr (xal (pfr (xal s2 100 8) th 12 (some (xn s2))) 101 256) th 15 (some (xn (pfr (xal s2 100 8) th 12 (some (xn s2)))))))))))) 100 8) th 18 (some (xn (pfr (xal (pfr (xal (pfr (xal (pfr (xal s2 100 8) th 12 (some (xn s2))) 101 256) th 15 (some (xn (pfr (xal s2 100 8) th 12 (some (xn s2)))))) 100 6561) th 16 (some (xn (pfr (xal (pfr (xal s2 100 8) th 12 (some (xn s2))) 101 256) th 15 (some (xn (pfr (xal s2 100 8) th 12 (some (xn s2))))))))) 100 6561) th 17 (some (xn (pfr (xal (pfr (xal (pfr (xal s2 100 8) th 12 (some (xn s2))) 101 256) th 15 (some (xn (pfr (xal s2 100 8) th 12 (some (xn s2)))))) 100 6561) th 16 (some (xn (pfr (xal (pfr (xal s2 100 8) th 12 (some (xn s2))) 101 256) th 15 (some (xn (pfr (xal s2 100 8) th 12 (some (xn s2)))))))))))))))))) 105 256) th 20 (some (xn (pfr s9 th 19 (some (xn (pfr (xal (pfr (xal (pfr (xal (pfr (xal (pfr (xal s2 100 8) th 12 (some (xn s2))) 101 256) th 15 (some (xn (pfr (xal s2 100 8) th 12 (some (xn s2)))))) 100 6561) th 16 (some (xn (pfr (xal (pfr (xal s2 100 8) th 12 (some (xn s2))) 101 256) th 15 (some (xn (pfr (xal s2 100 8) th 12 (some (xn s2))))))))) 100 6561) th 17 (some (xn (pfr (xal (pfr (xal (pfr (xal s2 100 8) th 12 (some (xn s2))) 101 256) th 15 (some (xn (pfr (xal s2 100 8) th 12 (some (xn s2)))))) 100 6561) th 16 (some (xn (pfr (xal (pfr (xal s2 100 8) th 12 (some (xn s2))) 101 256) th 15 (some (xn (pfr (xal s2 100 8) th 12 (some (xn s2)))))))))))) 100 8) th 18 (some (xn (pfr (xal (pfr (xal (pfr (xal (pfr (xal s2 100 8) th 12 (some (xn s2))) 101 256) th 15 (some (xn (pfr (xal s2 100 8) th 12 (some (xn s2)))))) 100 6561) th 16 (some (xn (pfr (xal (pfr (xal s2 100 8) th 12 (some (xn s2))) 101 256) th 15 (some (xn (pfr (xal s2 100 8) th 12 (some (xn s2))))))))) 100 6561) th 17 (some (xn (pfr (xal (pfr (xal (pfr (xal s2 100 8) th 12 (some (xn s2))) 101 256) th 15 (some (xn (pfr (xal s2 100 8) th 12 (some (xn s2)))))) 100 6561) th 16 (some (xn (pfr (xal (pfr (xal s2 100 8) th 12 (some (xn s2))) 101 256) th 15 (some (xn (pfr (xal s2 100 8) th 12 (some (xn s2)))))))))))))))))))))))) cx hR hS rfl hge_th hk13 hini dX0_init_215 (fun H locs hR hS => ?_)
    refine x_aload_n cx dX0_init_218 rfl (lv_at hl 0 rfl) ?_
    refine lv_sipush (v := (6561 : Int32)) hx hb dX0_init_219 (by decide) ?_
    obtain ⟨hb1, hb2, hw⟩ := hw
    refine x_newa (atype := .int) cx hR hS 0 (by decide) rfl q376 (fun _ => rfl) (fun h => absurd h (by decide)) (N := 6561) (by decide) (by decide) (Nat.le_of_ble_eq_true rfl) (by dsimp only; omega) (by dsimp only; omega) dX0_init_222 (fun H hR hS => ?_)
    have hcb := xadd hb1 hcb
    have hsb := xadd hb2 hsb
    obtain ⟨hk14, hw⟩ := hw
    refine xp_X0_90_1 (v := (some (xn (pfr (xal (pfr (xal (pfr s9 th 19 (some (xn (pfr (xal (pfr (xal (pfr (xal (pfr (xal (pfr (xal s2 100 8) th 12 (some (xn s2))) 101 256) th 15 (some (xn (pfr (xal s2 100 8) th 12 (some (xn s2)))))) 100 6561) th 16 (some (xn (pfr (xal (pfr (xal s2 100 8) th 12 (some (xn s2))) 101 256) th 15 (some (xn (pfr (xal s2 100 8) th 12 (some (xn s2))))))))) 100 6561) th 17 (some (xn (pfr (xal (pfr (xal (pfr (xal s2 100 8) th 12 (some (xn s2))) 101 256) th 15 (some (xn (pfr (xal s2 100 8) th 12 (some (xn s2)))))) 100 6561) th 16 (some (xn (pfr (xal (pfr (xal s2 100 8) th 12 (some (xn s2))) 101 256) th 15 (some (xn (pfr (xal s2 100 8) th 12 (some (xn s2)))))))))))) 100 8) th 18 (some (xn (pfr (xal (pfr (xal (pfr (xal (pfr (xal s2 100 8) th 12 (some (xn s2))) 101 256) th 15 (some (xn (pfr (xal s2 100 8) th 12 (some (xn s2)))))) 100 6561) th 16 (some (xn (pfr (xal (pfr (xal s2 100 8) th 12 (some (xn s2))) 101 256) th 15 (some (xn (pfr (xal s2 100 8) th 12 (some (xn s2))))))))) 100 6561) th 17 (some (xn (pfr (xal (pfr (xal (pfr (xal s2 100 8) th 12 (some (xn s2))) 101 256) th 15 (some (xn (pfr (xal s2 100 8) th 12 (some (xn s2)))))) 100 6561) th 16 (some (xn (pfr (xal (pfr (xal s2 100 8) th 12 (some (xn s2))) 101 256) th 15 (some (xn (pfr (xal s2 100 8) th 12 (some (xn s2)))))))))))))))))) 105 256) th 20 (some (xn (pfr s9 th 19 (some (xn (pfr (xal (pfr (xal (pfr (xal (pfr (xal (pfr (xal s2 100 8) th 12 (some (xn s2))) 101 256) th 15 (some (xn (pfr (xal s2 100 8) th 12 (some (xn s2)))))) 100 6561) th 16 (some (xn (pfr (xal (pfr (xal s2 100 8) th 12 (some (xn s2))) 101 256) th 15 (some (xn (pfr (xal s2 100 8) th 12 (some (xn s2))))))))) 100 6561) th 17 (some (xn (pfr (xal (pfr (xal (pfr (xal s2 100 8) th 12 (some (xn s2))) 101 256) th 15 (some (xn (pfr (xal s2 100 8) th 12 (some (xn s2)))))) 100 6561) th 16 (some (xn (pfr (xal (pfr (xal s2 100 8) th 12 (some (xn s2))) 101 256) th 15 (some (xn (pfr (xal s2 100 8) th 12 (some (xn s2)))))))))))) 100 8) th 18 (some (xn (pfr (xal (pfr (xal (pfr (xal (pfr (xal s2 100 8) th 12 (some (xn s2))) 101 256) th 15 (some (xn (pfr (xal s2 100 8) th 12 (some (xn s2)))))) 100 6561) th 16 (some (xn (pfr (xal (pfr (xal s2 100 8) th 12 (some (xn s2))) 101 256) th 15 (some (xn (pfr (xal s2 100 8) th 12 (some (xn s2))))))))) 100 6561) th 17 (some (xn (pfr (xal (pfr (xal (pfr (xal s2 100 8) th 12 (some (xn s2))) 101 256) th 15 (some (xn (pfr (xal s2 100 8) th 12 (some (xn s2)))))) 100 6561) th 16 (some (xn (pfr (xal (pfr (xal s2 100 8) th 12 (some (xn s2))) 101 256) th 15 (some (xn (pfr (xal s2 100 8) th 12 (some (xn s2))))))))))))))))))))) 100 6561) th 21 (some (xn (pfr (xal (pfr s9 th 19 (some (xn (pfr (xal (pfr (xal (pfr (xal (pfr (xal (pfr (xal s2 100 8) th 12 (some (xn s2))) 101 256) th 15 (some (xn (pfr (xal s2 100 8) th 12 (some (xn s2)))))) 100 6561) th 16 (some (xn (pfr (xal (pfr (xal s2 100 8) th 12 (some (xn s2))) 101 256) th 15 (some (xn (pfr (xal s2 100 8) th 12 (some (xn s2))))))))) 100 6561) th 17 (some (xn (pfr (xal (pfr (xal (pfr (xal s2 100 8) th 12 (some (xn s2))) 101 256) th 15 (some (xn (pfr (xal s2 100 8) th 12 (some (xn s2)))))) 100 6561) th 16 (some (xn (pfr (xal (pfr (xal s2 100 8) th 12 (some (xn s2))) 101 256) th 15 (some (xn (pfr (xal s2 100 8) th 12 (some (xn s2)))))))))))) 100 8) th 18 (some (xn (pfr (xal (pfr (xal (pfr (xal (pfr (xal s2 100 8) th 12 (some (xn s2))) 101 256) th 15 (some (xn (pfr (xal s2 100 8) th 12 (some (xn s2)))))) 100 6561) th 16 (some (xn (pfr (xal (pfr (xal s2 100 8) th 12 (some (xn s2))) 101 256) th 15 (some (xn (pfr (xal s2 100 8) th 12 (some (xn s2))))))))) 100 6561) th 17 (some (xn (pfr (xal (pfr (xal (pfr (xal s2 100 8) th 12 (some (xn s2))) 101 256) th 15 (some (xn (pfr (xal s2 100 8) th 12 (some (xn s2)))))) 100 6561) th 16 (some (xn (pfr (xal (pfr (xal s2 100 8) th 12 (some (xn s2))) 101 256) th 15 (some (xn (pfr (xal s2 100 8) th 12 (some (xn s2)))))))))))))))))) 105 256) th 20 (some (xn (pfr s9 th 19 (some (xn (pfr (xal (pfr (xal (pfr (xal (pfr (xal (pfr (xal s2 100 8) th 12 (some (xn s2))) 101 256) th 15 (some (xn (pfr (xal s2 100 8) th 12 (some (xn s2)))))) 100 6561) th 16 (some (xn (pfr (xal (pfr (xal s2 100 8) th 12 (some (xn s2))) 101 256) th 15 (some (xn (pfr (xal s2 100 8) th 12 (some (xn s2))))))))) 100 6561) th 17 (some (xn (pfr (xal (pfr (xal (pfr (xal s2 100 8) th 12 (some (xn s2))) 101 256) th 15 (some (xn (pfr (xal s2 100 8) th 12 (some (xn s2)))))) 100 6561) th 16 (some (xn (pfr (xal (pfr (xal s2 100 8) th 12 (some (xn s2))) 101 256) th 15 (some (xn (pfr (xal s2 100 8) th 12 (some (xn s2)))))))))))) 100 8) th 18 (some (xn (pfr (xal (pfr (xal (pfr (xal (pfr (xal s2 100 8) th 12 (some (xn s2))) 101 256) th 15 (some (xn (pfr (xal s2 100 8) th 12 (some (xn s2)))))) 100 6561) th 16 (some (xn (pfr (xal (pfr (xal s2 100 8) th 12 (some (xn s2))) 101 256) th 15 (some (xn (pfr (xal s2 100 8) th 12 (some (xn s2))))))))) 100 6561) th 17 (some (xn (pfr (xal (pfr (xal (pfr (xal s2 100 8) th 12 (some (xn s2))) 101 256) th 15 (some (xn (pfr (xal s2 100 8) th 12 (some (xn s2)))))) 100 6561) th 16 (some (xn (pfr (xal (pfr (xal s2 100 8) th 12 (some (xn s2))) 101 256) th 15 (some (xn (pfr (xal s2 100 8) th 12 (some (xn s2))))))))))))))))))))))))))) cx hR hS rfl hge_th hk14 hini dX0_init_224 (fun H locs hR hS => ?_)
    exact x_vret cx hR hS (xle hcb) (xle hsb) hw dX0_init_227
  · have hw := mm_in hc hw
    refine x_aload_n cx dX0_init_111 rfl (lv_at hl 0 rfl) ?_
    obtain ⟨hk15, hw⟩ := hw
    refine xg_X0_39_1 cx hR rfl hk15 dX0_init_112 ?_
    refine lv_iload_n hx hb dX0_init_115 rfl (lv_at hl 1 rfl) ?_
    obtain ⟨hb1, hb2, hw⟩ := hw
    refine xn_X0_28 cx hR hS (by dsimp only; omega) (by dsimp only; omega) dX0_init_116 (fun H hR hS => ?_)
    have hcb := xadd hb1 hcb
    have hsb := xadd hb2 hsb
    refine lv_dup hx hb dX0_init_119 (xv_cat _ _) ?_
    obtain ⟨hk17, hw⟩ := hw
    obtain ⟨k18, n18, hb1, hb2, hw⟩ := hw
    refine CX2_init_X0_30 cx hR hS rfl hk17 hw (by constructor <;> dsimp only <;> omega) (Nat.le_of_ble_eq_true rfl) hl.1 ⟨by dsimp only; omega, by dsimp only; omega⟩ dX0_init_120 (fun s16 H locs hw hR hS => ?_)
    have hcb := xadd hb1 hcb
    have hsb := xadd hb2 hsb
    obtain ⟨a19, hr19, hk19, hw⟩ := hw
    obtain ⟨hge_a19, hw⟩ := hw
    obtain ⟨hi, hw⟩ := hw
    obtain ⟨hv, hw⟩ := hw
    refine x_ast cx hR hS hr19 hge_a19 4 (C := "StruckCounts$State") rfl hk19 (by decide) (by decide) (j := x1.toNatClampNeg) rfl hi (xcs_104 cx hv) dX0_init_123 (fun H locs hR hS => ?_)
    obtain ⟨v20, hv20⟩ : ∃ v : Int32, v = x1 + (1 : Int32) := ⟨_, rfl⟩
    have hw := hw v20 hv20
    refine lv_iinc (v := v20) (lv' := [(1, .int v20), (0, xv E (some th))]) hx hb dX0_init_124 hl (k := 1) rfl (by rw [hv20]; rfl) (by decide) (by simp [xv_cat]) (fun ls hl => ?_)
    refine lv_goto (tgt := 106) hx hb dX0_init_127 (by decide) ?_
    exact hK106 _ _ _ _ _ hw _ _ _ _ _ hR hS (lv_sub hl [1, 0] rfl) hcb hsb
theorem LX0_init_106 {l : Launch} {p : Program} {e : Env} {s : State} {m : MethodId} {args : Array Value} {below : List Frame} {meth : Method} {c : Code} {E : xx_E} {mc ms : Nat} {Q : XS → Prop} (d : Nat) (cx : xx_X "StruckCounts" cX0_init 2 none E p s m args meth c) (hini : meth.name = "<init>") : ∀ (th : Nat) (x1 : Int32) (bc : Nat) (bs : Nat) (σ : XS), lp5F (wX0_init_106 d Q) th x1 bc bs σ → x_T p l e ({ frames := (8 + 3 * d), cells := mc, slots := ms, locals := 40 * (8 + 3 * d) } : Room) s m args below meth c E (va_Qv Q (fun σ' t => xW E σ' t) (xA E)) mc ms 2 106 bc bs σ [(0, xv E (some th)), (1, .int x1)] [] :=
  lp5F_of (fun K hK => BX0_init_106 d cx hini hK)
def wX0_init_79 (d : Nat) (Q : XS → Prop) (K79 : Nat → Int32 → Nat → Nat → XS → Prop) (th : Nat) (x1 : Int32) (bc : Nat) (bs : Nat) (σ : XS) : Prop :=
  if (16 : Int32) ≤ x1 then (lp5F (wX0_init_106 d Q) th (0 : Int32) bc bs σ) else (kd σ th = 1 ∧ (1 ≤ bc ∧ 13 ≤ bs ∧ (kd (xal σ 3 0) (xn σ) = 3 ∧ (∃ k24 n24 : Nat, k24 ≤ (bc - 1) ∧ n24 ≤ (bs - 13) ∧ (wX2_init (xn σ) k24 n24 (xal σ 3 0) (fun s22 => oc s22 (fr σ th 7) 104 (fun a25 => xK ≤ a25 ∧ (vp_in x1 (ln s22 a25) ∧ (xck [3] s22 (some (xn σ)) ∧ (∀ v26 : Int32, v26 = x1 + (1 : Int32) → K79 th v26 ((bc - 1) - k24) ((bs - 13) - n24) (par s22 a25 x1.toNatClampNeg (some (xn σ)))))))))))))
set_option maxHeartbeats 4000000 in
theorem BX0_init_79 {l : Launch} {p : Program} {e : Env} {s : State} {m : MethodId} {args : Array Value} {below : List Frame} {meth : Method} {c : Code} {E : xx_E} {mc ms : Nat} {Q : XS → Prop} {K79 : Nat → Int32 → Nat → Nat → XS → Prop} (d : Nat) (cx : xx_X "StruckCounts" cX0_init 2 none E p s m args meth c) (hini : meth.name = "<init>") (hK79 : ∀ (th : Nat) (x1 : Int32) (bc : Nat) (bs : Nat) (σ : XS), K79 th x1 bc bs σ → x_T p l e ({ frames := (8 + 3 * d), cells := mc, slots := ms, locals := 40 * (8 + 3 * d) } : Room) s m args below meth c E (va_Qv Q (fun σ' t => xW E σ' t) (xA E)) mc ms 2 79 bc bs σ [(0, xv E (some th)), (1, .int x1)] []) : ∀ (th : Nat) (x1 : Int32) (bc : Nat) (bs : Nat) (σ : XS), wX0_init_79 d Q K79 th x1 bc bs σ → x_T p l e ({ frames := (8 + 3 * d), cells := mc, slots := ms, locals := 40 * (8 + 3 * d) } : Room) s m args below meth c E (va_Qv Q (fun σ' t => xW E σ' t) (xA E)) mc ms 2 79 bc bs σ [(0, xv E (some th)), (1, .int x1)] [] := by
  intro th x1 bc bs σ hw H locs ls cells slots hR hS hl hcb hsb
  unfold wX0_init_79 at hw
  obtain ⟨hx, hb, hml, hown, hts, hrt, hlk, hMK, hZ⟩ := id cx
  refine lv_iload_n hx hb dX0_init_79 rfl (lv_at hl 1 rfl) ?_
  refine lv_bipush (v := (16 : Int32)) hx hb dX0_init_80 (by decide) ?_
  refine lv_icmp_ge (tgt := 104) hx hb dX0_init_82 (by decide) (fun hc => ?_) (fun hc => ?_)
  · have hw := mm_ip hc hw
    refine lv_iconst (v := (0 : Int32)) hx hb dX0_init_104 (by decide) ?_
    refine lv_istore_n (i := 1) (lv' := [(1, .int (0 : Int32)), (0, xv E (some th))]) hx hb dX0_init_105 rfl hl (by decide) (by simp [xv_cat]) (fun ls hl => ?_)
    exact LX0_init_106 d cx hini _ _ _ _ _ hw _ _ _ _ _ hR hS (lv_sub hl [1, 0] rfl) hcb hsb
  · have hw := mm_in hc hw
    refine x_aload_n cx dX0_init_85 rfl (lv_at hl 0 rfl) ?_
    obtain ⟨hk21, hw⟩ := hw
    refine xg_X0_35_1 cx hR rfl hk21 dX0_init_86 ?_
    refine lv_iload_n hx hb dX0_init_89 rfl (lv_at hl 1 rfl) ?_
    obtain ⟨hb1, hb2, hw⟩ := hw
    refine xn_X0_28 cx hR hS (by dsimp only; omega) (by dsimp only; omega) dX0_init_90 (fun H hR hS => ?_)
    have hcb := xadd hb1 hcb
    have hsb := xadd hb2 hsb
    refine lv_dup hx hb dX0_init_93 (xv_cat _ _) ?_
    obtain ⟨hk23, hw⟩ := hw
    obtain ⟨k24, n24, hb1, hb2, hw⟩ := hw
    refine CX2_init_X0_30 cx hR hS rfl hk23 hw (by constructor <;> dsimp only <;> omega) (Nat.le_of_ble_eq_true rfl) hl.1 ⟨by dsimp only; omega, by dsimp only; omega⟩ dX0_init_94 (fun s22 H locs hw hR hS => ?_)
    have hcb := xadd hb1 hcb
    have hsb := xadd hb2 hsb
    obtain ⟨a25, hr25, hk25, hw⟩ := hw
    obtain ⟨hge_a25, hw⟩ := hw
    obtain ⟨hi, hw⟩ := hw
    obtain ⟨hv, hw⟩ := hw
    refine x_ast cx hR hS hr25 hge_a25 4 (C := "StruckCounts$State") rfl hk25 (by decide) (by decide) (j := x1.toNatClampNeg) rfl hi (xcs_104 cx hv) dX0_init_97 (fun H locs hR hS => ?_)
    obtain ⟨v26, hv26⟩ : ∃ v : Int32, v = x1 + (1 : Int32) := ⟨_, rfl⟩
    have hw := hw v26 hv26
    refine lv_iinc (v := v26) (lv' := [(1, .int v26), (0, xv E (some th))]) hx hb dX0_init_98 hl (k := 1) rfl (by rw [hv26]; rfl) (by decide) (by simp [xv_cat]) (fun ls hl => ?_)
    refine lv_goto (tgt := 79) hx hb dX0_init_101 (by decide) ?_
    exact hK79 _ _ _ _ _ hw _ _ _ _ _ hR hS (lv_sub hl [1, 0] rfl) hcb hsb
theorem LX0_init_79 {l : Launch} {p : Program} {e : Env} {s : State} {m : MethodId} {args : Array Value} {below : List Frame} {meth : Method} {c : Code} {E : xx_E} {mc ms : Nat} {Q : XS → Prop} (d : Nat) (cx : xx_X "StruckCounts" cX0_init 2 none E p s m args meth c) (hini : meth.name = "<init>") : ∀ (th : Nat) (x1 : Int32) (bc : Nat) (bs : Nat) (σ : XS), lp5F (wX0_init_79 d Q) th x1 bc bs σ → x_T p l e ({ frames := (8 + 3 * d), cells := mc, slots := ms, locals := 40 * (8 + 3 * d) } : Room) s m args below meth c E (va_Qv Q (fun σ' t => xW E σ' t) (xA E)) mc ms 2 79 bc bs σ [(0, xv E (some th)), (1, .int x1)] [] :=
  lp5F_of (fun K hK => BX0_init_79 d cx hini hK)
def wX0_init (d : Nat) (th : Nat) (bc : Nat) (bs : Nat) (σ : XS) (Q : XS → Prop) : Prop :=
  1 ≤ bc ∧ 480 ≤ bs ∧ (kd (xal σ 102 480) th = 1 ∧ (xK ≤ th ∧ (1 ≤ (bc - 1) ∧ 12 ≤ (bs - 480) ∧ (kd (xal (pfi (pfr (xal σ 102 480) th 0 (some (xn σ))) th 3 (-1 : Int32)) 2 0) (xn (pfi (pfr (xal σ 102 480) th 0 (some (xn σ))) th 3 (-1 : Int32))) = 2 ∧ (∃ k30 n30 : Nat, k30 ≤ ((bc - 1) - 1) ∧ n30 ≤ ((bs - 480) - 12) ∧ (wX1_init (xn (pfi (pfr (xal σ 102 480) th 0 (some (xn σ))) th 3 (-1 : Int32))) k30 n30 (xal (pfi (pfr (xal σ 102 480) th 0 (some (xn σ))) th 3 (-1 : Int32)) 2 0) (fun s28 => kd s28 (xn (pfi (pfr (xal σ 102 480) th 0 (some (xn σ))) th 3 (-1 : Int32))) = 2 ∧ (∃ k33 n33 : Nat, k33 ≤ (((bc - 1) - 1) - k30) ∧ n33 ≤ (((bs - 480) - 12) - n30) ∧ (wX1_laid d (xn (pfi (pfr (xal σ 102 480) th 0 (some (xn σ))) th 3 (-1 : Int32))) k33 n33 s28 (fun r31 s31 => kd s31 th = 1 ∧ (1 ≤ ((((bc - 1) - 1) - k30) - k33) ∧ 13 ≤ ((((bs - 480) - 12) - n30) - n33) ∧ (kd (xal (pfr s31 th 5 r31) 3 0) (xn (pfr s31 th 5 r31)) = 3 ∧ (∃ k37 n37 : Nat, k37 ≤ (((((bc - 1) - 1) - k30) - k33) - 1) ∧ n37 ≤ (((((bs - 480) - 12) - n30) - n33) - 13) ∧ (wX2_init (xn (pfr s31 th 5 r31)) k37 n37 (xal (pfr s31 th 5 r31) 3 0) (fun s35 => kd s35 th = 1 ∧ (1 ≤ ((((((bc - 1) - 1) - k30) - k33) - 1) - k37) ∧ 16 ≤ ((((((bs - 480) - 12) - n30) - n33) - 13) - n37) ∧ (kd (xal (pfr s35 th 6 (some (xn (pfr s31 th 5 r31)))) 104 16) th = 1 ∧ (1 ≤ (((((((bc - 1) - 1) - k30) - k33) - 1) - k37) - 1) ∧ 2 ≤ (((((((bs - 480) - 12) - n30) - n33) - 13) - n37) - 16) ∧ (kd (xal (pfr (xal (pfr s35 th 6 (some (xn (pfr s31 th 5 r31)))) 104 16) th 7 (some (xn (pfr s35 th 6 (some (xn (pfr s31 th 5 r31))))))) 104 2) th = 1 ∧ (1 ≤ ((((((((bc - 1) - 1) - k30) - k33) - 1) - k37) - 1) - 1) ∧ 2 ≤ ((((((((bs - 480) - 12) - n30) - n33) - 13) - n37) - 16) - 2) ∧ (kd (xal (pfr (xal (pfr (xal (pfr s35 th 6 (some (xn (pfr s31 th 5 r31)))) 104 16) th 7 (some (xn (pfr s35 th 6 (some (xn (pfr s31 th 5 r31))))))) 104 2) th 8 (some (xn (pfr (xal (pfr s35 th 6 (some (xn (pfr s31 th 5 r31)))) 104 16) th 7 (some (xn (pfr s35 th 6 (some (xn (pfr s31 th 5 r31)))))))))) 101 2) th = 1 ∧ (lp5F (wX0_init_79 d Q) th (0 : Int32) (((((((((bc - 1) - 1) - k30) - k33) - 1) - k37) - 1) - 1) - 1) (((((((((bs - 480) - 12) - n30) - n33) - 13) - n37) - 16) - 2) - 2) (pfi (pfi (pfr (xal (pfr (xal (pfr (xal (pfr s35 th 6 (some (xn (pfr s31 th 5 r31)))) 104 16) th 7 (some (xn (pfr s35 th 6 (some (xn (pfr s31 th 5 r31))))))) 104 2) th 8 (some (xn (pfr (xal (pfr s35 th 6 (some (xn (pfr s31 th 5 r31)))) 104 16) th 7 (some (xn (pfr s35 th 6 (some (xn (pfr s31 th 5 r31)))))))))) 101 2) th 9 (some (xn (pfr (xal (pfr (xal (pfr s35 th 6 (some (xn (pfr s31 th 5 r31)))) 104 16) th 7 (some (xn (pfr s35 th 6 (some (xn (pfr s31 th 5 r31))))))) 104 2) th 8 (some (xn (pfr (xal (pfr s35 th 6 (some (xn (pfr s31 th 5 r31)))) 104 16) th 7 (some (xn (pfr s35 th 6 (some (xn (pfr s31 th 5 r31))))))))))))) th 10 (-1 : Int32)) th 11 (-1 : Int32))))))))))))))))))))))))
set_option maxHeartbeats 4000000 in
theorem MX0_init (l : Launch) (E : xx_E) (d : Nat) (th : Nat) (bc : Nat) (bs : Nat) (σ : XS) (Q : XS → Prop) (hw : wX0_init d th bc bs σ Q) : xx_Mv l yX0_init (ws_ yX0_init cX0_init 2 none) ({ frames := (8 + 3 * d), cells := bc, slots := bs, locals := 40 * (8 + 3 * d) } : Room) E [xv E (some th)] σ Q bc bs := by
  refine x_of (own := "StruckCounts") (by decide +kernel) rfl ?_
  intro p e s m args below meth c cx hR ha hnm
  refine x_entry [xv E (some th)] 2 [(0, xv E (some th))] ha (by simp [lg_sl, xv_cat, vc_i, vc_j, vc_f]) (by simp [lv_args, xv_cat, vc_i, vc_j, vc_f]) (fun ls hl => ?_)
  have hS : va_S (xA E) s.heap s.heap [] := va_S.rf
  have hcb : 0 + bc ≤ bc := Nat.le_of_eq (Nat.zero_add _)
  have hsb : 0 + bs ≤ bs := Nat.le_of_eq (Nat.zero_add _)
  have hini : meth.name = "<init>" := hnm
  unfold wX0_init at hw
  obtain ⟨hx, hb, hml, hown, hts, hrt, hlk, hMK, hZ⟩ := id cx
  refine x_aload_n cx dX0_init_0 rfl (lv_at hl 0 rfl) ?_
  refine x_objinit cx hl.1 rfl q211 (xroom12 (Nat.le_of_ble_eq_true rfl) (by dsimp only; omega)) (by dsimp only; omega) dX0_init_1 ?_
  refine x_aload_n cx dX0_init_4 rfl (lv_at hl 0 rfl) ?_
  refine lv_sipush (v := (480 : Int32)) hx hb dX0_init_5 (by decide) ?_
  obtain ⟨hb1, hb2, hw⟩ := hw
  refine x_newa (atype := .byte) cx hR hS 2 (by decide) rfl q269 (fun _ => rfl) (fun h => absurd h (by decide)) (N := 480) (by decide) (by decide) (Nat.le_of_ble_eq_true rfl) (by dsimp only; omega) (by dsimp only; omega) dX0_init_8 (fun H hR hS => ?_)
  have hcb := xadd hb1 hcb
  have hsb := xadd hb2 hsb
  obtain ⟨hk27, hw⟩ := hw
  obtain ⟨hge_th, hw⟩ := hw
  refine xp_X0_9_1 (v := (some (xn σ))) cx hR hS rfl hge_th hk27 hini dX0_init_10 (fun H locs hR hS => ?_)
  refine x_aload_n cx dX0_init_13 rfl (lv_at hl 0 rfl) ?_
  refine lv_iconst (v := (-1 : Int32)) hx hb dX0_init_14 (by decide) ?_
  refine xp_X0_13_1 (v := (-1 : Int32)) cx hR hS rfl hge_th hk27 dX0_init_15 (fun H locs hR hS => ?_)
  refine x_aload_n cx dX0_init_18 rfl (lv_at hl 0 rfl) ?_
  obtain ⟨hb1, hb2, hw⟩ := hw
  refine xn_X0_17 cx hR hS (by dsimp only; omega) (by dsimp only; omega) dX0_init_19 (fun H hR hS => ?_)
  have hcb := xadd hb1 hcb
  have hsb := xadd hb2 hsb
  refine lv_dup hx hb dX0_init_22 (xv_cat _ _) ?_
  obtain ⟨hk29, hw⟩ := hw
  obtain ⟨k30, n30, hb1, hb2, hw⟩ := hw
  refine CX1_init_X0_19 cx hR hS rfl hk29 hw (by constructor <;> dsimp only <;> omega) (Nat.le_of_ble_eq_true rfl) hl.1 ⟨by dsimp only; omega, by dsimp only; omega⟩ dX0_init_23 (fun s28 H locs hw hR hS => ?_)
  have hcb := xadd hb1 hcb
  have hsb := xadd hb2 hsb
  obtain ⟨hk32, hw⟩ := hw
  obtain ⟨k33, n33, hb1, hb2, hw⟩ := hw
  refine CX1_laid_X0_20 d cx hR hS rfl hk32 hw (by constructor <;> dsimp only <;> omega) (Nat.le_of_ble_eq_true rfl) hl.1 ⟨by dsimp only; omega, by dsimp only; omega⟩ dX0_init_26 (fun r31 s31 H locs hw hR hS => ?_)
  have hcb := xadd hb1 hcb
  have hsb := xadd hb2 hsb
  obtain ⟨hk34, hw⟩ := hw
  refine xp_X0_24_1 (v := r31) cx hR hS rfl hge_th hk34 dX0_init_29 (fun H locs hR hS => ?_)
  refine x_aload_n cx dX0_init_32 rfl (lv_at hl 0 rfl) ?_
  obtain ⟨hb1, hb2, hw⟩ := hw
  refine xn_X0_28 cx hR hS (by dsimp only; omega) (by dsimp only; omega) dX0_init_33 (fun H hR hS => ?_)
  have hcb := xadd hb1 hcb
  have hsb := xadd hb2 hsb
  refine lv_dup hx hb dX0_init_36 (xv_cat _ _) ?_
  obtain ⟨hk36, hw⟩ := hw
  obtain ⟨k37, n37, hb1, hb2, hw⟩ := hw
  refine CX2_init_X0_30 cx hR hS rfl hk36 hw (by constructor <;> dsimp only <;> omega) (Nat.le_of_ble_eq_true rfl) hl.1 ⟨by dsimp only; omega, by dsimp only; omega⟩ dX0_init_37 (fun s35 H locs hw hR hS => ?_)
  have hcb := xadd hb1 hcb
  have hsb := xadd hb2 hsb
  obtain ⟨hk38, hw⟩ := hw
  refine xp_X0_31_1 (v := (some (xn (pfr s31 th 5 r31)))) cx hR hS rfl hge_th hk38 hini dX0_init_40 (fun H locs hR hS => ?_)
  refine x_aload_n cx dX0_init_43 rfl (lv_at hl 0 rfl) ?_
  refine lv_bipush (v := (16 : Int32)) hx hb dX0_init_44 (by decide) ?_
  obtain ⟨hb1, hb2, hw⟩ := hw
  refine x_anew cx hR hS 4 (by decide) (by decide) rfl (q477) (by decide) (N := 16) (by decide) (by decide) (Nat.le_of_ble_eq_true rfl) (by dsimp only; omega) (by dsimp only; omega) dX0_init_46 (fun H hR hS => ?_)
  have hcb := xadd hb1 hcb
  have hsb := xadd hb2 hsb
  obtain ⟨hk39, hw⟩ := hw
  refine xp_X0_35_1 (v := (some (xn (pfr s35 th 6 (some (xn (pfr s31 th 5 r31))))))) cx hR hS rfl hge_th hk39 hini dX0_init_49 (fun H locs hR hS => ?_)
  refine x_aload_n cx dX0_init_52 rfl (lv_at hl 0 rfl) ?_
  refine lv_iconst (v := (2 : Int32)) hx hb dX0_init_53 (by decide) ?_
  obtain ⟨hb1, hb2, hw⟩ := hw
  refine x_anew cx hR hS 4 (by decide) (by decide) rfl (q477) (by decide) (N := 2) (by decide) (by decide) (Nat.le_of_ble_eq_true rfl) (by dsimp only; omega) (by dsimp only; omega) dX0_init_54 (fun H hR hS => ?_)
  have hcb := xadd hb1 hcb
  have hsb := xadd hb2 hsb
  obtain ⟨hk40, hw⟩ := hw
  refine xp_X0_39_1 (v := (some (xn (pfr (xal (pfr s35 th 6 (some (xn (pfr s31 th 5 r31)))) 104 16) th 7 (some (xn (pfr s35 th 6 (some (xn (pfr s31 th 5 r31)))))))))) cx hR hS rfl hge_th hk40 hini dX0_init_57 (fun H locs hR hS => ?_)
  refine x_aload_n cx dX0_init_60 rfl (lv_at hl 0 rfl) ?_
  refine lv_iconst (v := (2 : Int32)) hx hb dX0_init_61 (by decide) ?_
  obtain ⟨hb1, hb2, hw⟩ := hw
  refine x_newa (atype := .boolean) cx hR hS 1 (by decide) rfl q377 (fun _ => rfl) (fun h => absurd h (by decide)) (N := 2) (by decide) (by decide) (Nat.le_of_ble_eq_true rfl) (by dsimp only; omega) (by dsimp only; omega) dX0_init_62 (fun H hR hS => ?_)
  have hcb := xadd hb1 hcb
  have hsb := xadd hb2 hsb
  obtain ⟨hk41, hw⟩ := hw
  refine xp_X0_42_1 (v := (some (xn (pfr (xal (pfr (xal (pfr s35 th 6 (some (xn (pfr s31 th 5 r31)))) 104 16) th 7 (some (xn (pfr s35 th 6 (some (xn (pfr s31 th 5 r31))))))) 104 2) th 8 (some (xn (pfr (xal (pfr s35 th 6 (some (xn (pfr s31 th 5 r31)))) 104 16) th 7 (some (xn (pfr s35 th 6 (some (xn (pfr s31 th 5 r31))))))))))))) cx hR hS rfl hge_th hk41 hini dX0_init_64 (fun H locs hR hS => ?_)
  refine x_aload_n cx dX0_init_67 rfl (lv_at hl 0 rfl) ?_
  refine lv_iconst (v := (-1 : Int32)) hx hb dX0_init_68 (by decide) ?_
  refine xp_X0_46_1 (v := (-1 : Int32)) cx hR hS rfl hge_th hk41 dX0_init_69 (fun H locs hR hS => ?_)
  refine x_aload_n cx dX0_init_72 rfl (lv_at hl 0 rfl) ?_
  refine lv_iconst (v := (-1 : Int32)) hx hb dX0_init_73 (by decide) ?_
  refine xp_X0_49_1 (v := (-1 : Int32)) cx hR hS rfl hge_th hk41 dX0_init_74 (fun H locs hR hS => ?_)
  refine lv_iconst (v := (0 : Int32)) hx hb dX0_init_77 (by decide) ?_
  refine lv_istore_n (i := 1) (lv' := [(1, .int (0 : Int32)), (0, xv E (some th))]) hx hb dX0_init_78 rfl hl (by decide) (by simp [xv_cat]) (fun ls hl => ?_)
  exact LX0_init_79 d cx hini _ _ _ _ _ hw _ _ _ _ _ hR hS (lv_sub hl [1, 0] rfl) hcb hsb
