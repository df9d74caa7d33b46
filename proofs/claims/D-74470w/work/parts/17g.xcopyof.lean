set_option maxRecDepth 100000
theorem xcat_r (a : Nat) : (Value.ref a).category = 1 := rfl
section XCQ
variable {p : Program} {l : Launch} {e : Env} {R : Room} {s : State} {m : MethodId} {args : Array Value} {below : List Frame} {meth : Method} {c : Code} {H : Heap} {locs : List Loc} {cells slots : Nat} {Q : State → Prop}
variable {own : String} {cc : ByteArray} {nL : Nat} {ret : Option FieldType} {E : xx_E} {σ : XS} {pc : Nat} {ls : Array Slot} {rest st : List Value}
/-- System.arraycopy over Object[] -/
theorem x_copyq (cx : xx_X own cc nL ret E p s m args meth c) (hsize : ls.size = nL) (hR : xR E σ H) (hS0 : va_S (xA E) s.heap H locs) {index : Nat} (hq : Cond.methodLink own index arraycopyName ∈ lw_all) {a1 a2 : Nat} {r1 r2 : Option Nat} (hr1 : r1 = some a1) (hr2 : r2 = some a2) (ha : xK ≤ a2) (hk1 : kd σ a1 = 100 + 3) (hk2 : kd σ a2 = 100 + 3) {sp dp n : Int32} (hcp : xcpy σ a1 sp a2 dp n) (hel : ∀ i, i < n.toNatClampNeg → xasg s σ "java/lang/Object" (ar σ a1 (sp.toNatClampNeg + i))) (hframes : 1 ≤ R.frames) (hlocals : (rest.map fun v => v.category).sum + (nativeFrameWords "java/lang/System" "arraycopy" 5 + 11) ≤ R.locals) (hdg : decode cc pc = .ok (.invokestatic index, 3))
    (kk : ∀ (H1 : Heap) (locs1 : List Loc), xR E (par1 σ a2 (va_cpy (ar σ a1) (ar σ a2) sp.toNatClampNeg dp.toNatClampNeg n.toNatClampNeg)) H1 → va_S (xA E) s.heap H1 locs1 → W p l e R s m args below meth c H1 locs1 cells slots Q (F0 m (pc + 3) ls rest)) : W p l e R s m args below meth c H locs cells slots Q (F0 m pc ls (.int n :: .int dp :: xv E r2 :: .int sp :: xv E r1 :: rest)) := by
  subst hr1; subst hr2
  obtain ⟨hx, hb, hml, hown, hts, hrt, hlk, hK, hZ⟩ := id cx
  obtain ⟨h1, h2, h3, h4, h5⟩ := hcp
  have nn : ∀ z : Int32, ¬ z < 0 → z.toInt = (z.toNatClampNeg : Int) := by
    intro z hz
    have hz0 : (0 : Int) ≤ z.toInt := by
      have := Int32.not_lt.mp hz
      simpa using Int32.le_iff_toInt_le.mp this
    show z.toInt = ((z.toInt.toNat : Nat) : Int)
    omega
  intro T hT X
  have hty : (xx_tys E)[3]? = some (xx_ac E 3, .object "java/lang/Object") := rfl
  have hcell : ∀ a, kd σ a = 100 + 3 → H[xr E a]? = some (vp_cell (xx_ac E 3) (ln σ a, .inr (.inr (.inr (.inr (fun i => (ar σ a i).map (xr E))))))) := fun a hk => (hR.2.2.2.2 a).2 3 hk (by decide)
  have hc0 := hcell a1 hk1
  have hc1 := hcell a2 hk2
  obtain ⟨-, k0, hk0, cm0, hkk0⟩ := (hK.1.2 3 _ hty).1 (ln σ a1) (fun j => va_rf ((ar σ a1 j).map (xr E)))
  obtain ⟨-, k1, hk1', cm1, hkk1⟩ := (hK.1.2 3 _ hty).1 (ln σ a2) (fun j => va_rf ((ar σ a2 j).map (xr E)))
  obtain ⟨vm', X', step⟩ := X.arraycopy hx hown (hts _ hq) (hts _ q752) (hts _ q751) (hts _ q181) (src := xr E a1) (dst := xr E a2) (cs := vp_cell (xx_ac E 3) (ln σ a1, .inr (.inr (.inr (.inr (fun i => (ar σ a1 i).map (xr E))))))) (cd := vp_cell (xx_ac E 3) (ln σ a2, .inr (.inr (.inr (.inr (fun i => (ar σ a2 i).map (xr E))))))) (srcPos := sp) (destPos := dp) (n := n) (by rw [hT]; exact hc0) (by rw [hT]; exact hc1)
    (fun _ h => by cases h) (fun _ h => by cases h) (fun h => by cases h) (fun h => by cases h) hk0 hk1' hkk0 hkk1 rfl h1 h2 h3
    (by rw [nn sp h1, nn n h3]; show ¬ _ > ((arrV (xx_ac E 3) (ln σ a1) (fun j => va_rf ((ar σ a1 j).map (xr E)))).slots.size : Int); rw [arrV_size]; omega)
    (by rw [nn dp h2, nn n h3]; show ¬ _ > ((arrV (xx_ac E 3) (ln σ a2) (fun j => va_rf ((ar σ a2 j).map (xr E)))).slots.size : Int); rw [arrV_size]; omega)
    (fun vm₁ hal i hi => by
      have e : (vp_cell (xx_ac E 3) (ln σ a1, .inr (.inr (.inr (.inr (fun i => (ar σ a1 i).map (xr E))))))).slots.getD (sp.toNatClampNeg + i) .null = va_rf ((ar σ a1 (sp.toNatClampNeg + i)).map (xr E)) := by
        show (arrV (xx_ac E 3) (ln σ a1) (fun j => va_rf ((ar σ a1 j).map (xr E)))).slots.getD _ _ = _
        rw [Array.getD_eq_getD_getElem?, arrV_read _ _ (by omega)]
        rfl
      rw [e]
      cases hy : ar σ a1 (sp.toNatClampNeg + i) with
      | none => exact ⟨rfl, trivial⟩
      | some y =>
        obtain ⟨cellV, g1, g2, ⟨kC, hkC⟩, hasg⟩ := xasg_any cx hR (hel i hi) hy
        obtain ⟨kA, comp, r1, r2, r3, -⟩ := (hK.1.2 3 _ hty).2
        cases hk1'.symm.trans r1
        cases hkk1.symm.trans r2
        obtain ⟨kE, hkE, -⟩ := Vm.findClass_spec r3
        obtain ⟨kC', hkC', -⟩ := hal.2.2 _ _ hkC
        obtain ⟨kE', hkE', -⟩ := hal.2.2 _ _ hkE
        refine ⟨rfl, cellV, (show T.heap[xr E y]? = some cellV by rw [hT]; exact g1), (fun q h => by rw [h] at g2; cases g2), ⟨kC', hkC'⟩, ?_, ?_⟩
        · exact ⟨kE', hkE'⟩
        · show vm₁.assignable _ _ = true
          rw [hal.assignable]
          exact hasg _ r3)
    (g := F0 m pc ls (.int n :: .int dp :: .ref (xr E a2) :: .int sp :: .ref (xr E a1) :: rest)) rfl (by rw [hml]; exact hsize) (rest := rest) rfl (by rw [hb]; exact hdg) hframes (by show 2 * 0 + _ + _ ≤ _; omega)
  have e1 : copied (vp_cell (xx_ac E 3) (ln σ a1, .inr (.inr (.inr (.inr (fun i => (ar σ a1 i).map (xr E))))))) (vp_cell (xx_ac E 3) (ln σ a2, .inr (.inr (.inr (.inr (fun i => (ar σ a2 i).map (xr E))))))) sp dp n = vp_cell (xx_ac E 3) (ln σ a2, .inr (.inr (.inr (.inr (fun i => (va_cpy (ar σ a1) (ar σ a2) sp.toNatClampNeg dp.toNatClampNeg n.toNatClampNeg i).map (xr E)))))) := by
    rw [vp_cell_q, vp_cell_q, vp_cell_q]
    exact va_copied (fun z => va_rf (z.map (xr E))) (xx_ac E 3) (xx_ac E 3) (ar σ a1) (ar σ a2) h4
  rw [e1] at X' step
  generalize hg : va_cpy (ar σ a1) (ar σ a2) sp.toNatClampNeg dp.toNatClampNeg n.toNatClampNeg = g at X' step kk
  generalize hC9 : vp_cell (xx_ac E 3) (ln σ a2, .inr (.inr (.inr (.inr (fun i => (g i).map (xr E)))))) = C9 at X' step
  have hl : xr E a2 < H.size := (Array.getElem?_eq_some_iff.mp hc1).1
  have hheap : ((T.setVm vm').setCell (xr E a2) C9).heap = H.setIfInBounds (xr E a2) C9 := by rw [← hT]; rfl
  have oq : ∀ q : Nat, q ≠ xr E a2 → (H.setIfInBounds (xr E a2) C9)[q]? = H[q]? := fun q hq => by simp [Array.getElem?_setIfInBounds, Ne.symm hq]
  have hAa : xA E (xr E a2) := xA_of hR ha (by omega)
  obtain ⟨t', a1', b1⟩ := kk _ _ (x_aput (t := 3) hK.2.1 hR ha hk2 (by omega) rfl rfl rfl rfl rfl rfl (par1_ne σ a2 g) (by simp) oq (by
      have e2 : xco E (par1 σ a2 g) 3 a2 = .inr (.inr (.inr (.inr (fun i => (g i).map (xr E))))) := by
        unfold xco
        rw [if_neg (by decide), if_neg (by decide)]
        refine congrArg _ (congrArg _ (congrArg _ (congrArg _ (funext fun j => ?_))))
        show (up1 _ a2 g a2 j).map _ = _
        simp [up1]
      rw [e2, hC9]
      simp [Array.getElem?_setIfInBounds, hl])) ⟨by simp; exact hS0.1, fun q g1 g2 => by
      rw [oq q (fun e => g2 (by rw [e]; exact hAa))]
      exact hS0.2.1 q g1 g2, fun q hq => by
      rcases List.mem_append.mp hq with h | h
      · exact hS0.2.2 q h
      · obtain ⟨z, -, hz⟩ := List.mem_map.mp h
        rw [← hz]
        exact hAa⟩ _ hheap X'
  exact ⟨t', step t' a1', b1⟩
end XCQ
/-- Arrays.copyOf(Object[], int) -/
def wJ18_copyOf_2 (x0 : Option Nat) (x1 : Int32) (bc bs : Nat) (σ : XS) (Q : Option Nat → XS → Prop) : Prop :=
  oc σ x0 103 (fun a => ¬ x1 < 0 ∧ x1.toNatClampNeg ≤ 67108864 ∧ ln σ a ≤ 67108864 ∧ 1 ≤ bc ∧ x1.toNatClampNeg ≤ bs ∧ (∀ i, i < ln σ a → xck [10, 7, 8, 9, 11, 12, 13] σ (ar σ a i)) ∧ ∀ g : Nat → Option Nat, g = (fun j => if j < ln σ a ∧ j < x1.toNatClampNeg then ar σ a j else none) → Q (some (xn σ)) (par1 (xal σ 103 x1.toNatClampNeg) (xn σ) g))
theorem x_imin {a : Nat} {x : Int32} (ha : a ≤ 67108864) (h0 : ¬ x < 0) (hx : x.toNatClampNeg ≤ 67108864) : ¬ imin (nI a) x < 0 ∧ (imin (nI a) x).toNatClampNeg = min a x.toNatClampNeg := by
  have e : x = nI x.toNatClampNeg := by
    have hz0 : (0 : Int) ≤ x.toInt := by
      have := Int32.not_lt.mp h0
      simpa using Int32.le_iff_toInt_le.mp this
    apply Int32.toInt_inj.mp
    rw [nI_toInt (by omega)]
    show x.toInt = ((x.toInt.toNat : Nat) : Int)
    omega
  generalize hb : x.toNatClampNeg = b at *
  subst e
  unfold imin
  split
  · rename_i h
    have h2 := Int32.lt_iff_toInt_lt.mp h
    rw [nI_toInt (by omega), nI_toInt (by omega)] at h2
    exact ⟨nI_pos (by omega), by rw [nI_clamp (by omega)]; omega⟩
  · rename_i h
    have h2 : ¬ (nI b).toInt < (nI a).toInt := fun q => h (Int32.lt_iff_toInt_lt.mpr q)
    rw [nI_toInt (by omega), nI_toInt (by omega)] at h2
    exact ⟨nI_pos (by omega), by rw [nI_clamp (by omega)]; omega⟩
theorem MJ18_copyOf_3 (l : Launch) (E : xx_E) (mi : Nat) (x0 : Option Nat) (x1 : Int32) (bc bs : Nat) (σ : XS) (Q : Option Nat → XS → Prop) (hw : wJ18_copyOf_2 x0 x1 bc bs σ Q) : Met l yJ18_copyOf_3 (ws_ yJ18_copyOf_3 cJ18_copyOf_3 4 (some (.array (.object "java/lang/Object")))) ({ frames := 1, cells := bc, slots := bs, locals := 40 } : Room) (va_Pc [xv E x0, .int x1, .ref mi] (fun U => xW E σ U ∧ va_Mi "[Ljava/lang/Object;" mi U)) (va_Qe (xr E) Q (fun σ' t => xW E σ' t) (xA E)) bc bs (xA E) := by
  refine va_MetF (cc := cJ18_copyOf_3) (maxL := 4) (ret := some (.array (.object "java/lang/Object"))) (by decide +kernel) rfl ?_
  intro p e s m args below meth c s₁ B hml hv
  obtain ⟨ha, ⟨hR, hK, hZ⟩, hM⟩ := hv
  have hts := atoms_spec (ws := ws_ yJ18_copyOf_3 cJ18_copyOf_3 4 (some (.array (.object "java/lang/Object")))) B.pre
  have hts : ∀ w ∈ lw_all, w.before _ s = true := fun w h => hts w (List.mem_cons_of_mem _ h)
  have hown : s.vm.findClass "java/util/Arrays" = some m.cls := findClass_of_methodNamed B.named
  have cx : xx_X "java/util/Arrays" cJ18_copyOf_3 4 (some (.array (.object "java/lang/Object"))) E p s m args meth c := ⟨B.exec, B.bytes, hml, hown, hts, B.returns, B.notSynchronized, hK, hZ⟩
  refine x_entry [xv E x0, .int x1, .ref mi] 4 [(0, xv E x0), (1, .int x1), (2, .ref mi)] ha (by simp [lg_sl, xv_cat, vc_i, vc_j, vc_f, xcat_r]) (by simp [lv_args, xv_cat, vc_i, vc_j, vc_f, xcat_r]) (fun ls hl => ?_)
  have hS : va_S (xA E) s.heap s.heap [] := va_S.rf
  obtain ⟨hx, hb, hml, hown, hts, hrt, hlk, hMK, hZ⟩ := id cx
  obtain ⟨a, hr, hk, hn0, hn8, hl8, hb1, hb2, hel, hw⟩ := hw
  have hRs := hR
  refine lv_aload_n hx hb dJ18_copyOf_3_0 rfl (lv_at hl 2 rfl) ?_
  refine va_ldcM hx hb hown (hts _ q1733) hM dJ18_copyOf_3_1 ?_
  refine lv_acmp_ne (rx := some mi) (ry := some mi) (tgt := 13) hx hb dJ18_copyOf_3_3 (by decide) (fun h => absurd rfl h) (fun _ => ?_)
  refine lv_iload_n hx hb dJ18_copyOf_3_6 rfl (lv_at hl 1 rfl) ?_
  refine x_anew cx hR hS 3 (by decide) (by decide) rfl q1734 (by decide) (N := x1.toNatClampNeg) hn0 rfl (by omega) (by dsimp only [headSpec]; omega) (by dsimp only [headSpec]; omega) dJ18_copyOf_3_7 (fun H hR hS => ?_)
  refine lv_goto (tgt := 24) hx hb dJ18_copyOf_3_10 (by decide) ?_
  refine x_astore_n (i := 3) (r := some (xn σ)) (lv' := [(3, xv E (some (xn σ))), (0, xv E x0), (1, .int x1), (2, .ref mi)]) cx dJ18_copyOf_3_24 rfl hl (by decide) (by simp [xv_cat, vc_i, xcat_r]) (fun ls hl => ?_)
  have hkn : kd σ a ≠ 0 := by omega
  have han : a ≠ xn σ := by
    intro h
    have := (hRs.2.2.2.1 a hkn).1
    omega
  have hk' : kd (xal σ (100 + 3) x1.toNatClampNeg) a = 100 + 3 := by
    show (if a = σ.1 then _ else _) = _
    rw [if_neg (show ¬ a = σ.1 from han)]
    exact hk
  have hln : ln (xal σ (100 + 3) x1.toNatClampNeg) a = ln σ a := by
    show (if a = σ.1 then _ else _) = _
    rw [if_neg (show ¬ a = σ.1 from han)]
    rfl
  have har : ∀ j, ar (xal σ (100 + 3) x1.toNatClampNeg) a j = ar σ a j := by
    intro j
    show (if a = σ.1 then _ else _) = _
    rw [if_neg (show ¬ a = σ.1 from han)]
    rfl
  have hkz : kd (xal σ (100 + 3) x1.toNatClampNeg) (xn σ) = 100 + 3 := by
    show (if xn σ = σ.1 then _ else _) = _
    rw [if_pos (show xn σ = σ.1 from rfl)]
  have hlz : ln (xal σ (100 + 3) x1.toNatClampNeg) (xn σ) = x1.toNatClampNeg := by
    show (if xn σ = σ.1 then _ else _) = _
    rw [if_pos (show xn σ = σ.1 from rfl)]
  have hrz : ∀ j, ar (xal σ (100 + 3) x1.toNatClampNeg) (xn σ) j = none := by
    intro j
    show (if xn σ = σ.1 then _ else _) = _
    rw [if_pos (show xn σ = σ.1 from rfl)]
  obtain ⟨m0, m1⟩ := x_imin hl8 hn0 hn8
  refine x_aload_n cx dJ18_copyOf_3_25 rfl (lv_at hl 1 rfl) ?_
  refine lv_iconst (v := (0 : Int32)) hx hb dJ18_copyOf_3_26 (by decide) ?_
  refine x_aload_n (r := some (xn σ)) cx dJ18_copyOf_3_27 rfl (lv_at hl 0 rfl) ?_
  refine lv_iconst (v := (0 : Int32)) hx hb dJ18_copyOf_3_28 (by decide) ?_
  refine x_aload_n cx dJ18_copyOf_3_29 rfl (lv_at hl 1 rfl) ?_
  refine x_alen cx hR hr 3 hk' (by decide) dJ18_copyOf_3_30 ?_
  rw [hln]
  refine lv_iload_n hx hb dJ18_copyOf_3_31 rfl (lv_at hl 2 rfl) ?_
  refine x_min cx hl.1 q747 (by dsimp only [headSpec]; omega) (xroom13 (Nat.le_of_ble_eq_true rfl) (by dsimp only [headSpec]; omega)) (by dsimp only [headSpec]; omega) (by dsimp only [headSpec]; omega) dJ18_copyOf_3_32 ?_
  refine x_copyq cx hl.1 hR hS q750 hr rfl hRs.1 hk' hkz ⟨by decide, by decide, m0, by rw [m1, hln]; simp; omega, by rw [m1, hlz]; simp; omega⟩ (fun i hi => ?_) (by dsimp only [headSpec]; omega) (xroomC (Nat.le_of_ble_eq_true rfl) (by dsimp only [headSpec]; omega)) dJ18_copyOf_3_35 (fun H locs hR hS => ?_)
  · rw [m1] at hi
    rw [har]
    have h1 : i < ln σ a := by omega
    have h9 := xcs_103 (σ := xal σ (100 + 3) x1.toNatClampNeg) (r := ar σ a (Int32.toNatClampNeg 0 + i)) cx (by
      intro b hb9
      have h2 := hel (Int32.toNatClampNeg 0 + i) (by simpa using h1) b hb9
      have : kd (xal σ (100 + 3) x1.toNatClampNeg) b = kd σ b := by
        show (if b = σ.1 then _ else _) = _
        rw [if_neg]
        · rfl
        · intro h
          have h3 : kd σ b ≠ 0 := by
            intro h4
            rw [h4] at h2
            exact absurd h2 (by decide)
          have := (hRs.2.2.2.1 b h3).1
          have h5 : b = xn σ := h
          omega
      rw [this]
      exact h2)
    exact h9
  · refine x_aload_n (r := some (xn σ)) cx dJ18_copyOf_3_38 rfl (lv_at hl 0 rfl) ?_
    refine x_aret cx (Or.inr ⟨_, rfl⟩) hR hS (by omega) (by omega) (hw _ ?_) dJ18_copyOf_3_39
    funext j
    unfold va_cpy
    rw [m1]
    by_cases h : j < ln σ a ∧ j < x1.toNatClampNeg
    · rw [if_pos h, if_pos (by simp; omega), har]
      simp
    · rw [if_neg h, if_neg (by simp; omega), hrz]
theorem MJ18_copyOf_2 (l : Launch) (E : xx_E) (x0 : Option Nat) (x1 : Int32) (bc bs : Nat) (σ : XS) (Q : Option Nat → XS → Prop) (hw : wJ18_copyOf_2 x0 x1 bc bs σ Q) : xx_Mr l yJ18_copyOf_2 (ws_ yJ18_copyOf_2 cJ18_copyOf_2 2 (some (.array (.object "java/lang/Object")))) ({ frames := 3, cells := bc, slots := bs, locals := 120 } : Room) E [xv E x0, .int x1] σ Q bc bs := by
  refine x_of (own := "java/util/Arrays") (by decide +kernel) rfl ?_
  intro p e s m args below meth c cx hR ha hnm
  refine x_entry [xv E x0, .int x1] 2 [(0, xv E x0), (1, .int x1)] ha (by simp [lg_sl, xv_cat, vc_i, vc_j, vc_f]) (by simp [lv_args, xv_cat, vc_i, vc_j, vc_f]) (fun ls hl => ?_)
  have hS : va_S (xA E) s.heap s.heap [] := va_S.rf
  obtain ⟨hx, hb, hml, hown, hts, hrt, hlk, hK, hZ⟩ := id cx
  obtain ⟨mi, hM⟩ := hK.2.2.2.2.2.2.2.2.2.2.2.2 "[Ljava/lang/Object;" (by decide)
  obtain ⟨a, hr, hk, hw2⟩ := id hw
  refine x_aload_n cx dJ18_copyOf_2_0 rfl (lv_at hl 0 rfl) ?_
  refine lv_iload_n hx hb dJ18_copyOf_2_1 rfl (lv_at hl 1 rfl) ?_
  refine x_aload_n cx dJ18_copyOf_2_2 rfl (lv_at hl 0 rfl) ?_
  have hcell := (hR.2.2.2.2 a).2 3 (by omega) (by decide)
  have hrr : ∃ cell : Cell, s.heap[xr E a]? = some cell ∧ cell.vm.isStatics = false ∧ s.vm.findClass "[Ljava/lang/Object;" = some cell.cls := ⟨_, hcell, rfl, va_nmO (hK.1.2 3 _ rfl).2 (by rfl)⟩
  have hget := va_getC (p := p) (l := l) (e := e) (R := ({ frames := 3, cells := bc, slots := bs, locals := 120 } : Room)) (below := below) (meth := meth) (locs := []) (cells := 0) (slots := 0) (Q := MQ below (va_Qe (xr E) Q (fun σ' t => xW E σ' t) (xA E)) args s bc bs (xA E)) (ls := ls) (pc := 3) (a := xr E a) (rest := [.int x1, xv E x0]) hx hb (hml.trans hl.1.symm) hown (hts _ q1729) (va_Nw.use rfl (hK.2.2.2.2.2.2.2.2.2.2.2.1 _ (List.mem_of_getElem? (i := 12) rfl))) (hts _ q3110) (hts _ q1223) (hts _ q1253) hM hrr (Nat.le_of_ble_eq_true rfl) (xroom14 (Nat.le_of_ble_eq_true rfl) (Nat.le_of_ble_eq_true rfl)) dJ18_copyOf_2_3
  rw [hr] at hget ⊢
  refine hget ?_
  rw [← hr]
  refine x_gor (va_runS (As := [xv E x0, .int x1, .ref mi]) (rest := []) (x_fix cx) (MJ18_copyOf_3 l E mi x0 x1 bc bs σ Q hw) (va_cwS 3 hts (lw_S q1730 q1731 q180 q1732) rfl rfl rfl (by decide +kernel) ⟨Nat.le_of_ble_eq_true rfl, Nat.le_of_ble_eq_true rfl⟩) ⟨?_, ?_⟩ rfl rfl hl.1 rfl (lv_room (xroom (Nat.le_of_ble_eq_true rfl))) dJ18_copyOf_2_6 ⟨by dsimp only; omega, by dsimp only; omega⟩) hS (fun r σ1 H1 locs1 hq hR1 hS1 => ?_)
  · intro a9 U g mk q
    obtain ⟨q0, ⟨q1, q2, q3⟩, q4⟩ := q
    exact ⟨q0, ⟨q1, xx_K.same (u := U) (U := U.calling g mk a9) rfl q2, xx_Z.same (u := U) (U := U.calling g mk a9) rfl q3⟩, q4⟩
  · exact fun U hU hW => ⟨rfl, xret hR hK hZ hS hU hW, va_Mi.moved hW.alike hM⟩
  · exact x_aret cx (Or.inr ⟨_, rfl⟩) hR1 hS1 (by omega) (by omega) hq dJ18_copyOf_2_9
