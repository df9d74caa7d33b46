/-! more rows: uses of references, calls, ends -/
set_option maxRecDepth 100000
theorem vc_i (x : Int32) : (Value.int x).category = 1 := rfl
theorem vc_j (x : Int64) : (Value.long x).category = 2 := rfl
theorem vc_f (x : UInt32) : (Value.float x).category = 1 := rfl
/-- a reference to a thing of a kind -/
def oc (σ : XS) (r : Option Nat) (c : Nat) (K : Nat → Prop) : Prop := ∃ a, r = some a ∧ kd σ a = c ∧ K a
/-- a reference that isn't null -/
def oe (r : Option Nat) (K : Nat → Prop) : Prop := ∃ a, r = some a ∧ K a
/-- a reference to a thing of one of some kinds, or null -/
def xck (l : List Nat) (σ : XS) (r : Option Nat) : Prop := ∀ a, r = some a → l.contains (kd σ a) = true
/-- what a copy of n places asks -/
def xcpy (σ : XS) (a1 : Nat) (sp : Int32) (a2 : Nat) (dp n : Int32) : Prop := ¬ sp < 0 ∧ ¬ dp < 0 ∧ ¬ n < 0 ∧ sp.toNatClampNeg + n.toNatClampNeg ≤ ln σ a1 ∧ dp.toNatClampNeg + n.toNatClampNeg ≤ ln σ a2
/-- bytes are bytes -/
def xfitb (σ : XS) (a1 : Nat) (sp n : Int32) : Prop := ∀ i, i < n.toNatClampNeg → fits .byte (.int (ai σ a1 (sp.toNatClampNeg + i))) = true
theorem xadd {b k mc cells : Nat} (h : k ≤ b) (hc : cells + b ≤ mc) : (cells + k) + (b - k) ≤ mc := by omega
theorem xle {b mc cells : Nat} (hc : cells + b ≤ mc) : cells ≤ mc := by omega
theorem xbytes1 {n : Nat} (h : n ≤ 67108864) : n * 1 ≤ 536870912 := by omega
theorem xbytes4 {n : Nat} (h : n ≤ 67108864) : n * 4 ≤ 536870912 := by omega
theorem xbytes8 {n : Nat} (h : n ≤ 67108864) : n * 8 ≤ 536870912 := by omega
theorem xroom12 {rest : List Value} {b : Nat} (h : rest.length ≤ 4) (hb : 40 ≤ b) : (rest.map fun v => v.category).sum + 12 ≤ b := by have := xroom h; omega
theorem xroom14 {rest : List Value} {b : Nat} (h : rest.length ≤ 4) (hb : 40 ≤ b) : (rest.map fun v => v.category).sum + 14 ≤ b := by have := xroom h; omega
theorem xroom13 {rest : List Value} {b : Nat} (h : rest.length ≤ 4) (hb : 40 ≤ b) : (rest.map fun v => v.category).sum + 13 ≤ b := by have := xroom h; omega
theorem xroomC {rest : List Value} {b : Nat} (h : rest.length ≤ 4) (hb : 40 ≤ b) : (rest.map fun v => v.category).sum + (nativeFrameWords "java/lang/System" "arraycopy" 5 + 11) ≤ b := by
  have := xroom h
  have e : nativeFrameWords "java/lang/System" "arraycopy" 5 + 11 ≤ 32 := by decide +kernel
  omega
theorem sw_look {x : Int32} {d : Int} {ps : List (Int × Int)} (cs : List (Int32 × Int)) (h : cs.all (fun c => decide (x ≠ c.1)) = true) (hp : ps = cs.map fun c => (c.1.toInt, c.2)) : Op.lookupswitch.offset ps d x.toInt = d := by
  subst hp
  induction cs with
  | nil => rfl
  | cons c cs ih =>
    simp only [List.all_cons, Bool.and_eq_true, decide_eq_true_eq] at h
    have hne : ¬ x.toInt = c.1.toInt := fun q => h.1 (Int32.toInt_inj.mp q)
    have := ih h.2
    simp only [List.map_cons, Op.lookupswitch.offset]
    first
      | (rw [if_neg hne]; exact this)
      | (rw [if_neg (fun q => hne q.symm)]; exact this)
      | (simp only [Op.lookupswitch.offset] at this ⊢; simp [hne, Ne.symm hne, this])
abbrev x_T (p : Program) (l : Launch) (e : Env) (R : Room) (s : State) (m : MethodId) (args : Array Value) (below : List Frame) (meth : Method) (c : Code) (E : xx_E) (QC : Array Value → State → Outcome → State → Prop) (mc ms nL pc bc bs : Nat) (σ : XS) (lv : List (Nat × Value)) (st : List Value) : Prop :=
  ∀ (H : Heap) (locs : List Loc) (ls : Array Slot) (cells slots : Nat), xR E σ H → va_S (xA E) s.heap H locs → lv_has ls nL lv → cells + bc ≤ mc → slots + bs ≤ ms → W p l e R s m args below meth c H locs cells slots (MQ below QC args s mc ms (xA E)) (F0 m pc ls st)
theorem x_of {l : Launch} {y : MethodName} {cc : ByteArray} {nL : Nat} {ret : Option FieldType} {rm : Room} {E : xx_E} {σ : XS} {av : List Value} {own : String} {mc ms : Nat} {Qc : Array Value → State → Outcome → State → Prop} (hy : plainFor y = true) (hc : y.cls = own)
    (body : ∀ (p : Program) (e : Env) (s : State) (m : MethodId) (args : Array Value) (below : List Frame) (meth : Method) (c : Code), xx_X own cc nL ret E p s m args meth c → xR E σ s.heap → args = av.toArray → meth.name = y.name → W p l e rm s m args below meth c s.heap [] 0 0 (MQ below Qc args s mc ms (xA E)) (entryFrame m args nL)) : Met l y (ws_ y cc nL ret) rm (va_Pc av (fun U => xW E σ U)) Qc mc ms (xA E) := by
  refine va_MetF (cc := cc) (maxL := nL) (ret := ret) hy rfl ?_
  intro p e s m args below meth c s₁ B hml hv
  obtain ⟨hav, hR, hK, hZ⟩ := hv
  have hts := atoms_spec (ws := ws_ y cc nL ret) B.pre
  have hts : ∀ w ∈ lw_all, w.before _ s = true := fun w h => hts w (List.mem_cons_of_mem _ h)
  have hown : s.vm.findClass own = some m.cls := by rw [← hc]; exact findClass_of_methodNamed B.named
  exact body p e s m args below meth c ⟨B.exec, B.bytes, hml, hown, hts, B.returns, B.notSynchronized, hK, hZ⟩ hR hav (name_of_methodNamed B.named B.method).1
theorem x_entry {l : Launch} {e : Env} {R : Room} {s : State} {m : MethodId} {args : Array Value} {below : List Frame} {meth : Method} {c : Code} {p : Program} {H : Heap} {locs : List Loc} {cells slots : Nat} {Q : State → Prop} (av : List Value) (n : Nat) (lv : List (Nat × Value)) (ha : args = av.toArray) (hn : (lg_sl av).length ≤ n) (hlv : lv_args 0 av = lv)
    (k : ∀ ls : Array Slot, lv_has ls n lv → W p l e R s m args below meth c H locs cells slots Q (F0 m 0 ls [])) : W p l e R s m args below meth c H locs cells slots Q (entryFrame m args n) := by
  subst ha
  have hl := lv_entry av (n := n) hn
  rw [lg_entry_eq]
  rw [hlv] at hl
  exact k _ hl
section XR2
variable {p : Program} {l : Launch} {e : Env} {R : Room} {s : State} {m : MethodId} {args : Array Value} {below : List Frame} {meth : Method} {c : Code} {H : Heap} {locs : List Loc} {cells slots : Nat} {Q : State → Prop}
variable {own : String} {cc : ByteArray} {nL : Nat} {ret : Option FieldType} {E : xx_E} {σ : XS} {pc : Nat} {ls : Array Slot} {rest st : List Value}
/-- a class of ours, told by its kind -/
def xcl (σ : XS) (nm : String) (a : Nat) : Prop := ∃ (ci : Nat) (q : vw_C), kd σ a = ci + 1 ∧ ci < 25 ∧ xx_cl[ci]? = some q ∧ (q.1 = nm ∨ (q.1, nm) ∈ xx_ca_)
theorem xasg_of (cx : xx_X own cc nL ret E p s m args meth c) {C : String} {r : Option Nat} (h : ∀ a, r = some a → xcl σ C a) : xasg s σ C r := by
  obtain ⟨hx, hb, hml, hown, hts, hrt, hlk, hK, hZ⟩ := cx
  intro b hb'
  obtain ⟨ci, q, h1, h2, h3, h4⟩ := h b hb'
  refine ⟨ci, q, h1, h2, h3, fun comp c0 e1 e2 => ?_⟩
  rcases h4 with h4 | h4
  · rw [h4] at e2
    cases e1.symm.trans e2
    exact va_asg _ _
  · obtain ⟨c1, c2, g1, g2, g3⟩ := Cond.castable_spec (va_Nw.use (A := args) rfl (hK.2.2.2.2.1 _ h4))
    cases g1.symm.trans e2
    cases g2.symm.trans e1
    exact g3
theorem x_cast (cx : xx_X own cc nL ret E p s m args meth c) (hR : xR E σ H) {nm : String} {index : Nat} {r : Option Nat} (hq : Cond.classLink own index nm ∈ lw_all) (h : ∀ a, r = some a → xcl σ nm a) (hdg : decode cc pc = .ok (.checkcast index, 3))
    (kk : W p l e R s m args below meth c H locs cells slots Q (F0 m (pc + 3) ls (xv E r :: rest))) : W p l e R s m args below meth c H locs cells slots Q (F0 m pc ls (xv E r :: rest)) := by
  have cx' := cx
  obtain ⟨hx, hb, hml, hown, hts, hrt, hlk, hK, hZ⟩ := cx'
  cases r with
  | none => exact lv_castN hx hb hdg kk
  | some a =>
    obtain ⟨ci, q, h1, h2, h3, h4⟩ := h a rfl
    have hrc := x_recv cx hR h1 h2 h3
    rcases h4 with h4 | h4
    · rw [h4] at hrc
      exact va_castE hx hb hown (hts _ hq) hrc hdg kk
    · exact va_castY hx hb hown (hts _ hq) (hK.2.2.2.2.1 _ h4) hrc hdg kk
theorem x_castA (cx : xx_X own cc nL ret E p s m args meth c) (hR : xR E σ H) (t : Nat) {C nm : String} (hty : (xx_tys E)[t]? = some (xx_ac E t, .object C)) {index : Nat} {r : Option Nat} (hq : Cond.classLink own index nm ∈ lw_all) (h : xck [100 + t] σ r) (ht : t < 8) (hnm : "[" ++ (FieldType.object C).toString = nm) (hdg : decode cc pc = .ok (.checkcast index, 3))
    (kk : W p l e R s m args below meth c H locs cells slots Q (F0 m (pc + 3) ls (xv E r :: rest))) : W p l e R s m args below meth c H locs cells slots Q (F0 m pc ls (xv E r :: rest)) := by
  obtain ⟨hx, hb, hml, hown, hts, hrt, hlk, hK, hZ⟩ := id cx
  cases r with
  | none => exact lv_castN hx hb hdg kk
  | some a =>
    have hk : kd σ a = 100 + t := by simpa using h a rfl
    obtain ⟨F, -, hc, -⟩ := x_cell hR hk ht
    exact va_castE hx hb hown (hts _ hq) ⟨_, hc, rfl, by rw [← hnm]; obtain ⟨_, _, _, _, _, h1⟩ := (hK.1.2 t _ hty).2; exact h1⟩ hdg kk
theorem x_instY (cx : xx_X own cc nL ret E p s m args meth c) (hR : xR E σ H) {a ci : Nat} {r : Option Nat} (hr : r = some a) (hk : kd σ a = ci + 1) (hci : ci < 25) {q : vw_C} (hc : xx_cl[ci]? = some q) {nm : String} {index : Nat} (hq : Cond.classLink own index nm ∈ lw_all) (hn : q.1 = nm) (hdg : decode cc pc = .ok (.instanceof index, 3))
    (kk : W p l e R s m args below meth c H locs cells slots Q (F0 m (pc + 3) ls (.int 1 :: rest))) : W p l e R s m args below meth c H locs cells slots Q (F0 m pc ls (xv E r :: rest)) := by
  subst hr; subst hn
  have hrc := x_recv cx hR hk hci hc
  obtain ⟨hx, hb, hml, hown, hts, hrt, hlk, hK, hZ⟩ := cx
  exact va_instE hx hb hown (hts _ hq) hrc hdg kk
theorem x_instN (cx : xx_X own cc nL ret E p s m args meth c) (hR : xR E σ H) {a ci : Nat} {r : Option Nat} (hr : r = some a) (hk : kd σ a = ci + 1) (hci : ci < 25) {q : vw_C} (hc : xx_cl[ci]? = some q) {nm : String} {index : Nat} (hq : Cond.classLink own index nm ∈ lw_all) (hn : (q.1, nm) ∈ xx_nc_) (hdg : decode cc pc = .ok (.instanceof index, 3))
    (kk : W p l e R s m args below meth c H locs cells slots Q (F0 m (pc + 3) ls (.int 0 :: rest))) : W p l e R s m args below meth c H locs cells slots Q (F0 m pc ls (xv E r :: rest)) := by
  subst hr
  have hrc := x_recv cx hR hk hci hc
  obtain ⟨hx, hb, hml, hown, hts, hrt, hlk, hK, hZ⟩ := cx
  exact va_instNo hx hb hown (hts _ hq) (hK.2.2.2.2.2.2.1 _ hn) hrc hdg kk
theorem x_max (cx : xx_X own cc nL ret E p s m args meth c) (hsize : ls.size = nL) {index : Nat} (hq : Cond.methodLink own index Lib.Math.max.name ∈ lw_all) (hR : 1 ≤ R.frames) (hR2 : (rest.map fun v => v.category).sum + 13 ≤ R.locals) (hc : cells ≤ R.cells) (hs : slots ≤ R.slots) {x y : Int32} (hdg : decode cc pc = .ok (.invokestatic index, 3)) (kk : W p l e R s m args below meth c H locs cells slots Q (F0 m (pc + 3) ls (.int (imax x y) :: rest))) : W p l e R s m args below meth c H locs cells slots Q (F0 m pc ls (.int y :: .int x :: rest)) := by
  obtain ⟨hx, hb, hml, hown, hts, hr, hlk, hK, hZ⟩ := id cx
  exact va_mmax hx hb (hml.trans hsize.symm) hown (hts _ hq) (hts _ q730) (hts _ q179) (hts _ q731) hR hR2 hc hs hdg kk
theorem x_min (cx : xx_X own cc nL ret E p s m args meth c) (hsize : ls.size = nL) {index : Nat} (hq : Cond.methodLink own index Lib.Math.min.name ∈ lw_all) (hR : 1 ≤ R.frames) (hR2 : (rest.map fun v => v.category).sum + 13 ≤ R.locals) (hc : cells ≤ R.cells) (hs : slots ≤ R.slots) {x y : Int32} (hdg : decode cc pc = .ok (.invokestatic index, 3)) (kk : W p l e R s m args below meth c H locs cells slots Q (F0 m (pc + 3) ls (.int (imin x y) :: rest))) : W p l e R s m args below meth c H locs cells slots Q (F0 m pc ls (.int y :: .int x :: rest)) := by
  obtain ⟨hx, hb, hml, hown, hts, hr, hlk, hK, hZ⟩ := id cx
  exact va_mmin hx hb (hml.trans hsize.symm) hown (hts _ hq) (hts _ q748) (hts _ q179) (hts _ q749) hR hR2 hc hs hdg kk
theorem x_objinit (cx : xx_X own cc nL ret E p s m args meth c) (hsize : ls.size = nL) {r : Option Nat} {a : Nat} (hr : r = some a) {index : Nat} (hq : Cond.methodLink own index Lib.objectInit ∈ lw_all) (hR2 : (rest.map fun v => v.category).sum + 12 ≤ R.locals) (hR : 1 ≤ R.frames) (hdg : decode cc pc = .ok (.invokespecial index, 3)) (kk : W p l e R s m args below meth c H locs cells slots Q (F0 m (pc + 3) ls rest)) : W p l e R s m args below meth c H locs cells slots Q (F0 m pc ls (xv E r :: rest)) := by
  subst hr
  obtain ⟨hx, hb, hml, hown, hts, hrt, hlk, hK, hZ⟩ := id cx
  exact W.objInit hx hb hown (hts _ hq) (hts _ q212) (hts _ q213) rfl (hsize.trans hml.symm) rfl hdg hR (by show 2 * 0 + _ + 12 ≤ _; omega) kk
/-- System.arraycopy over numbers -/
theorem x_copyC (cx : xx_X own cc nL ret E p s m args meth c) (hsize : ls.size = nL) (hR : xR E σ H) (hS0 : va_S (xA E) s.heap H locs) {index : Nat} (hq : Cond.methodLink own index arraycopyName ∈ lw_all) (t : Nat) (ht3 : t < 3) {ty : FieldType} (hty : (xx_tys E)[t]? = some (xx_ac E t, ty)) (hprim : refKind ty = false) {a1 a2 : Nat} {r1 r2 : Option Nat} (hr1 : r1 = some a1) (hr2 : r2 = some a2) (ha : xK ≤ a2) (hk1 : kd σ a1 = 100 + t) (hk2 : kd σ a2 = 100 + t) {sp dp n : Int32} (hcp : xcpy σ a1 sp a2 dp n) (hfit : ∀ i, i < n.toNatClampNeg → fits ty (.int (ai σ a1 (sp.toNatClampNeg + i))) = true) (hframes : 1 ≤ R.frames) (hlocals : (rest.map fun v => v.category).sum + (nativeFrameWords "java/lang/System" "arraycopy" 5 + 11) ≤ R.locals) (hdg : decode cc pc = .ok (.invokestatic index, 3))
    (kk : ∀ (H1 : Heap) (locs1 : List Loc), xR E (pai1 σ a2 (va_cpy (ai σ a1) (ai σ a2) sp.toNatClampNeg dp.toNatClampNeg n.toNatClampNeg)) H1 → va_S (xA E) s.heap H1 locs1 → W p l e R s m args below meth c H1 locs1 cells slots Q (F0 m (pc + 3) ls rest)) : W p l e R s m args below meth c H locs cells slots Q (F0 m pc ls (.int n :: .int dp :: xv E r2 :: .int sp :: xv E r1 :: rest)) := by
  subst hr1; subst hr2
  obtain ⟨hx, hb, hml, hown, hts, hrt, hlk, hK, hZ⟩ := id cx
  obtain ⟨h1, h2, h3, h4, h5⟩ := hcp
  have nn : ∀ z : Int32, ¬ z < 0 → z.toInt = (z.toNatClampNeg : Int) := by
    intro z hz
    have hz0 : (0 : Int) ≤ z.toInt := by
      have := Int32.not_lt.mp hz
      simpa using Int32.le_iff_toInt_le.mp this
    show z.toInt = ((z.toInt.toNat : Nat) : Int)
    omega
  intro T hT X
  have hc0 : H[xr E a1]? = some (vp_cell (xx_ac E t) (ln σ a1, .inl (ai σ a1))) := by
    have := (hR.2.2.2.2 a1).2 t hk1 (by omega)
    unfold xco at this
    rw [if_pos ht3] at this
    exact this
  have hc1 : H[xr E a2]? = some (vp_cell (xx_ac E t) (ln σ a2, .inl (ai σ a2))) := by
    have := (hR.2.2.2.2 a2).2 t hk2 (by omega)
    unfold xco at this
    rw [if_pos ht3] at this
    exact this
  obtain ⟨-, k0, hk0, cm0, hkk0⟩ := (hK.1.2 t _ hty).1 (ln σ a1) (fun j => .int (ai σ a1 j))
  obtain ⟨-, k1, hk1', cm1, hkk1⟩ := (hK.1.2 t _ hty).1 (ln σ a2) (fun j => .int (ai σ a2 j))
  obtain ⟨vm', X', step⟩ := X.arraycopy hx hown (hts _ hq) (hts _ q752) (hts _ q751) (hts _ q181) (src := xr E a1) (dst := xr E a2) (cs := vp_cell (xx_ac E t) (ln σ a1, .inl (ai σ a1))) (cd := vp_cell (xx_ac E t) (ln σ a2, .inl (ai σ a2))) (srcPos := sp) (destPos := dp) (n := n) (by rw [hT]; exact hc0) (by rw [hT]; exact hc1)
    (fun _ h => by cases h) (fun _ h => by cases h) (fun h => by cases h) (fun h => by cases h) hk0 hk1' hkk0 hkk1 (by simp [hprim]) h1 h2 h3
    (by rw [nn sp h1, nn n h3]; show ¬ _ > ((arrV (xx_ac E t) (ln σ a1) (fun j => .int (ai σ a1 j))).slots.size : Int); rw [arrV_size]; omega)
    (by rw [nn dp h2, nn n h3]; show ¬ _ > ((arrV (xx_ac E t) (ln σ a2) (fun j => .int (ai σ a2 j))).slots.size : Int); rw [arrV_size]; omega)
    (fun vm₁ _ i hi => by
      have e : (vp_cell (xx_ac E t) (ln σ a1, .inl (ai σ a1))).slots.getD (sp.toNatClampNeg + i) .null = .int (ai σ a1 (sp.toNatClampNeg + i)) := by
        show (arrV (xx_ac E t) (ln σ a1) (fun j => .int (ai σ a1 j))).slots.getD _ _ = _
        rw [Array.getD_eq_getD_getElem?, arrV_read _ _ (by omega)]
        rfl
      refine ⟨?_, ?_⟩
      · rw [e]
        exact hfit i hi
      · rw [e]
        exact trivial)
    (g := F0 m pc ls (.int n :: .int dp :: .ref (xr E a2) :: .int sp :: .ref (xr E a1) :: rest)) rfl (by rw [hml]; exact hsize) (rest := rest) rfl (by rw [hb]; exact hdg) hframes (by show 2 * 0 + _ + _ ≤ _; omega)
  have e1 : copied (vp_cell (xx_ac E t) (ln σ a1, .inl (ai σ a1))) (vp_cell (xx_ac E t) (ln σ a2, .inl (ai σ a2))) sp dp n = vp_cell (xx_ac E t) (ln σ a2, .inl (va_cpy (ai σ a1) (ai σ a2) sp.toNatClampNeg dp.toNatClampNeg n.toNatClampNeg)) := va_copied (fun z => .int z) (xx_ac E t) (xx_ac E t) (ai σ a1) (ai σ a2) h4
  rw [e1] at X' step
  generalize hg : va_cpy (ai σ a1) (ai σ a2) sp.toNatClampNeg dp.toNatClampNeg n.toNatClampNeg = g at X' step kk
  have hl : xr E a2 < H.size := (Array.getElem?_eq_some_iff.mp hc1).1
  have hheap : ((T.setVm vm').setCell (xr E a2) (vp_cell (xx_ac E t) (ln σ a2, .inl g))).heap = H.setIfInBounds (xr E a2) (vp_cell (xx_ac E t) (ln σ a2, .inl g)) := by rw [← hT]; rfl
  have oq : ∀ q : Nat, q ≠ xr E a2 → (H.setIfInBounds (xr E a2) (vp_cell (xx_ac E t) (ln σ a2, .inl g)))[q]? = H[q]? := fun q hq => by simp [Array.getElem?_setIfInBounds, Ne.symm hq]
  have hAa : xA E (xr E a2) := xA_of hR ha (by omega)
  obtain ⟨t', a1', b1⟩ := kk _ _ (x_aput hK.2.1 hR ha hk2 (by omega) rfl rfl rfl rfl rfl rfl (pai1_ne σ a2 g) (by simp) oq (by
      have e2 : xco E (pai1 σ a2 g) t a2 = .inl g := by
        unfold xco
        rw [if_pos ht3]
        congr 1
        funext j
        show up1 _ a2 g a2 j = _
        simp [up1]
      rw [e2]
      simp [Array.getElem?_setIfInBounds, hl])) ⟨by simp; exact hS0.1, fun q g1 g2 => by
      rw [oq q (fun e => g2 (by rw [e]; exact hAa))]
      exact hS0.2.1 q g1 g2, fun q hq => by
      rcases List.mem_append.mp hq with h | h
      · exact hS0.2.2 q h
      · obtain ⟨z, -, hz⟩ := List.mem_map.mp h
        rw [← hz]
        exact hAa⟩ _ hheap X'
  exact ⟨t', step t' a1', b1⟩
theorem x_copyi (cx : xx_X own cc nL ret E p s m args meth c) (hsize : ls.size = nL) (hR : xR E σ H) (hS0 : va_S (xA E) s.heap H locs) {index : Nat} (hq : Cond.methodLink own index arraycopyName ∈ lw_all) {a1 a2 : Nat} {r1 r2 : Option Nat} (hr1 : r1 = some a1) (hr2 : r2 = some a2) (ha : xK ≤ a2) (hk1 : kd σ a1 = 100) (hk2 : kd σ a2 = 100) {sp dp n : Int32} (hcp : xcpy σ a1 sp a2 dp n) (hframes : 1 ≤ R.frames) (hlocals : (rest.map fun v => v.category).sum + (nativeFrameWords "java/lang/System" "arraycopy" 5 + 11) ≤ R.locals) (hdg : decode cc pc = .ok (.invokestatic index, 3))
    (kk : ∀ (H1 : Heap) (locs1 : List Loc), xR E (pai1 σ a2 (va_cpy (ai σ a1) (ai σ a2) sp.toNatClampNeg dp.toNatClampNeg n.toNatClampNeg)) H1 → va_S (xA E) s.heap H1 locs1 → W p l e R s m args below meth c H1 locs1 cells slots Q (F0 m (pc + 3) ls rest)) : W p l e R s m args below meth c H locs cells slots Q (F0 m pc ls (.int n :: .int dp :: xv E r2 :: .int sp :: xv E r1 :: rest)) :=
  x_copyC cx hsize hR hS0 hq 0 (by decide) rfl rfl hr1 hr2 ha hk1 hk2 hcp (fun _ _ => rfl) hframes hlocals hdg kk
theorem x_copyb (cx : xx_X own cc nL ret E p s m args meth c) (hsize : ls.size = nL) (hR : xR E σ H) (hS0 : va_S (xA E) s.heap H locs) {index : Nat} (hq : Cond.methodLink own index arraycopyName ∈ lw_all) {a1 a2 : Nat} {r1 r2 : Option Nat} (hr1 : r1 = some a1) (hr2 : r2 = some a2) (ha : xK ≤ a2) (hk1 : kd σ a1 = 102) (hk2 : kd σ a2 = 102) {sp dp n : Int32} (hcp : xcpy σ a1 sp a2 dp n) (hfb : xfitb σ a1 sp n) (hframes : 1 ≤ R.frames) (hlocals : (rest.map fun v => v.category).sum + (nativeFrameWords "java/lang/System" "arraycopy" 5 + 11) ≤ R.locals) (hdg : decode cc pc = .ok (.invokestatic index, 3))
    (kk : ∀ (H1 : Heap) (locs1 : List Loc), xR E (pai1 σ a2 (va_cpy (ai σ a1) (ai σ a2) sp.toNatClampNeg dp.toNatClampNeg n.toNatClampNeg)) H1 → va_S (xA E) s.heap H1 locs1 → W p l e R s m args below meth c H1 locs1 cells slots Q (F0 m (pc + 3) ls rest)) : W p l e R s m args below meth c H locs cells slots Q (F0 m pc ls (.int n :: .int dp :: xv E r2 :: .int sp :: xv E r1 :: rest)) :=
  x_copyC cx hsize hR hS0 hq 2 (by decide) rfl rfl hr1 hr2 ha hk1 hk2 hcp hfb hframes hlocals hdg kk

variable {mc ms : Nat} {av : Array Value}
theorem x_goi {Qf : Int32 → XS → Prop} (hr : va_Run p l e R s m args below meth c H locs cells slots mc ms (F0 m pc ls st) rest (va_Qi Qf (fun σ' t => xW E σ' t) (xA E) av) (xA E)) (hS0 : va_S (xA E) s.heap H locs) (kk : ∀ (r : Int32) (σ1 : XS) (H1 : Heap) (locs1 : List Loc), Qf r σ1 → xR E σ1 H1 → va_S (xA E) s.heap H1 locs1 → W p l e R s m args below meth c H1 locs1 (cells + mc) (slots + ms) Q (F0 m (pc + 3) ls (.int r :: rest))) : W p l e R s m args below meth c H locs cells slots Q (F0 m pc ls st) :=
  va_calli hr hS0 (fun q _ h => h) (fun q h => h) (fun r u t H1 locs1 ht hvm hw hB hz1 hk1 hS => kk r u H1 locs1 hw (x_after ht hB) hS)
theorem x_gol {Qf : Int64 → XS → Prop} (hr : va_Run p l e R s m args below meth c H locs cells slots mc ms (F0 m pc ls st) rest (va_Ql Qf (fun σ' t => xW E σ' t) (xA E) av) (xA E)) (hS0 : va_S (xA E) s.heap H locs) (kk : ∀ (r : Int64) (σ1 : XS) (H1 : Heap) (locs1 : List Loc), Qf r σ1 → xR E σ1 H1 → va_S (xA E) s.heap H1 locs1 → W p l e R s m args below meth c H1 locs1 (cells + mc) (slots + ms) Q (F0 m (pc + 3) ls (.long r :: rest))) : W p l e R s m args below meth c H locs cells slots Q (F0 m pc ls st) :=
  va_calll hr hS0 (fun q _ h => h) (fun q h => h) (fun r u t H1 locs1 ht hvm hw hB hz1 hk1 hS => kk r u H1 locs1 hw (x_after ht hB) hS)
theorem x_gor {Qf : Option Nat → XS → Prop} (hr : va_Run p l e R s m args below meth c H locs cells slots mc ms (F0 m pc ls st) rest (va_Qe (xr E) Qf (fun σ' t => xW E σ' t) (xA E) av) (xA E)) (hS0 : va_S (xA E) s.heap H locs) (kk : ∀ (r : Option Nat) (σ1 : XS) (H1 : Heap) (locs1 : List Loc), Qf r σ1 → xR E σ1 H1 → va_S (xA E) s.heap H1 locs1 → W p l e R s m args below meth c H1 locs1 (cells + mc) (slots + ms) Q (F0 m (pc + 3) ls (xv E r :: rest))) : W p l e R s m args below meth c H locs cells slots Q (F0 m pc ls st) :=
  va_calle hr hS0 (fun q _ h => h) (fun q h => h) (fun r u t H1 locs1 ht hvm hw hB hz1 hk1 hS => kk r u H1 locs1 hw (x_after ht hB) hS)
theorem x_gov {Qf : XS → Prop} (hr : va_Run p l e R s m args below meth c H locs cells slots mc ms (F0 m pc ls st) rest (va_Qv Qf (fun σ' t => xW E σ' t) (xA E) av) (xA E)) (hS0 : va_S (xA E) s.heap H locs) (kk : ∀ (σ1 : XS) (H1 : Heap) (locs1 : List Loc), Qf σ1 → xR E σ1 H1 → va_S (xA E) s.heap H1 locs1 → W p l e R s m args below meth c H1 locs1 (cells + mc) (slots + ms) Q (F0 m (pc + 3) ls rest)) : W p l e R s m args below meth c H locs cells slots Q (F0 m pc ls st) :=
  va_callv hr hS0 (fun q _ h => h) (fun q h => h) (fun u t H1 locs1 ht hvm hw hB hz1 hk1 hS => kk u H1 locs1 hw (x_after ht hB) hS)
theorem x_fix (cx : xx_X own cc nL ret E p s m args meth c) : CallFix p m c cc nL s args lw_all own := ⟨cx.1, cx.2.1, cx.2.2.1, cx.2.2.2.1, cx.2.2.2.2.1⟩
theorem x_preV (cx : xx_X own cc nL ret E p s m args meth c) (hR : xR E σ H) (hS0 : va_S (xA E) s.heap H locs) {a ci : Nat} (hk : kd σ a = ci + 1) (hci : ci < 25) {q : vw_C} (hc : xx_cl[ci]? = some q) {C : String} (hn : q.1 = C) (As : List Value) : PreV s H C (xr E a) (va_Pc (.ref (xr E a) :: As) (fun U => xW E σ U)) As := by
  subst hn
  exact ⟨xblind, x_recv cx hR hk hci hc, x_pre cx hR hS0 (.ref (xr E a) :: As)⟩
end XR2
theorem x_K {own : String} {cc : ByteArray} {nL : Nat} {ret : Option FieldType} {E : xx_E} {p : Program} {s : State} {m : MethodId} {args : Array Value} {meth : Method} {c : Code} (cx : xx_X own cc nL ret E p s m args meth c) : xx_K E s := cx.2.2.2.2.2.2.2.1
theorem xx_nf_mem {i : Nat} {q : String × Nat × String × String × String × String} (h : xx_nfl[i]? = some q) : Cond.fieldLinkNest q.1 q.2.1 q.2.2.1 q.2.2.2.1 q.2.2.2.2.1 q.2.2.2.2.2 ∈ xx_nf_ := List.mem_map.mpr ⟨q, List.mem_of_getElem? h, rfl⟩
theorem xx_nm_mem {i : Nat} {q : String × Nat × MethodName × String} (h : xx_nml[i]? = some q) : Cond.methodLinkNest q.1 q.2.1 q.2.2.1 q.2.2.2 ∈ xx_nm_ := List.mem_map.mpr ⟨q, List.mem_of_getElem? h, rfl⟩
theorem xin5 {a b c d e : Cond} (ha : a ∈ lw_all) (hb : b ∈ lw_all) (hc : c ∈ lw_all) (hd : d ∈ lw_all) (he : e ∈ lw_all) : ∀ w ∈ ([a, b, c, d, e] : List Cond), w ∈ lw_all := by
  intro w hw
  simp only [List.mem_cons, List.not_mem_nil, or_false] at hw
  rcases hw with rfl | rfl | rfl | rfl | rfl <;> assumption
theorem xin6 {a b c d e f : Cond} (ha : a ∈ lw_all) (hb : b ∈ lw_all) (hc : c ∈ lw_all) (hd : d ∈ lw_all) (he : e ∈ lw_all) (hf : f ∈ lw_all) : ∀ w ∈ ([a, b, c, d, e, f] : List Cond), w ∈ lw_all := by
  intro w hw
  simp only [List.mem_cons, List.not_mem_nil, or_false] at hw
  rcases hw with rfl | rfl | rfl | rfl | rfl | rfl <;> assumption
theorem xnew_i {E : xx_E} {σ : XS} {k len ci j : Nat} (h : xx_lt ci j = 0) : (.int 0 : Value) = xV E (xal σ k len) ci (xn σ) j := by
  unfold xV
  rw [h]
  show Value.int 0 = .int (if xn σ = σ.1 then 0 else _)
  rw [if_pos (show xn σ = σ.1 from rfl)]
theorem xnew_r {E : xx_E} {σ : XS} {k len ci j : Nat} (h : xx_lt ci j = 1) : (.null : Value) = xV E (xal σ k len) ci (xn σ) j := by
  unfold xV
  rw [h]
  show Value.null = xv E (if xn σ = σ.1 then none else _)
  rw [if_pos (show xn σ = σ.1 from rfl)]
  rfl
theorem xnew_f {E : xx_E} {σ : XS} {k len ci j : Nat} (h : xx_lt ci j = 2) : (.float 0 : Value) = xV E (xal σ k len) ci (xn σ) j := by
  unfold xV
  rw [h]
  show Value.float 0 = .float (if xn σ = σ.1 then 0 else _)
  rw [if_pos (show xn σ = σ.1 from rfl)]
theorem xnew_l {E : xx_E} {σ : XS} {k len ci j : Nat} (h : xx_lt ci j = 3) : (.long 0 : Value) = xV E (xal σ k len) ci (xn σ) j := by
  unfold xV
  split <;> simp_all
theorem xfit_B {v : Int32} (h : narrow .byte (.int v) = .int v) : fits .byte (.int v) = true := by
  have h1 : Value.int v.toInt8.toInt32 = .int v := h
  have h2 : v.toInt8.toInt32 = v := by injection h1
  rw [← h2]
  exact pk_fb v
theorem xcs_103 {own : String} {cc : ByteArray} {nL : Nat} {ret : Option FieldType} {E : xx_E} {p : Program} {s : State} {m : MethodId} {args : Array Value} {meth : Method} {c : Code} {σ : XS} {r : Option Nat} (cx : xx_X own cc nL ret E p s m args meth c) (h : xck [10, 7, 8, 9, 11, 12, 13] σ r) : xasg s σ "java/lang/Object" r := by
  have hw : ∀ a, r = some a → xcl σ "java/lang/Object" a := by
    intro a ha
    have h := h a ha
    have h : kd σ a = 10 ∨ kd σ a = 7 ∨ kd σ a = 8 ∨ kd σ a = 9 ∨ kd σ a = 11 ∨ kd σ a = 12 ∨ kd σ a = 13 := by simpa using h
    rcases h with h | h | h | h | h | h | h
    · exact ⟨9, _, h, by decide, rfl, by decide⟩
    · exact ⟨6, _, h, by decide, rfl, by decide⟩
    · exact ⟨7, _, h, by decide, rfl, by decide⟩
    · exact ⟨8, _, h, by decide, rfl, by decide⟩
    · exact ⟨10, _, h, by decide, rfl, by decide⟩
    · exact ⟨11, _, h, by decide, rfl, by decide⟩
    · exact ⟨12, _, h, by decide, rfl, by decide⟩
  obtain ⟨hx, hb, hml, hown, hts, hrt, hlk, hK, hZ⟩ := cx
  intro b hb'
  obtain ⟨ci, q, h1, h2, h3, h4⟩ := hw b hb'
  refine ⟨ci, q, h1, h2, h3, fun comp c0 e1 e2 => ?_⟩
  rcases h4 with h4 | h4
  · rw [h4] at e2
    cases e1.symm.trans e2
    exact va_asg _ _
  · obtain ⟨c1, c2, g1, g2, g3⟩ := Cond.castable_spec (va_Nw.use (A := args) rfl (hK.2.2.2.2.1 _ h4))
    cases g1.symm.trans e2
    cases g2.symm.trans e1
    exact g3
theorem xcs_104 {own : String} {cc : ByteArray} {nL : Nat} {ret : Option FieldType} {E : xx_E} {p : Program} {s : State} {m : MethodId} {args : Array Value} {meth : Method} {c : Code} {σ : XS} {r : Option Nat} (cx : xx_X own cc nL ret E p s m args meth c) (h : xck [3] σ r) : xasg s σ "StruckCounts$State" r := by
  intro b hb
  have h : kd σ b = 3 := by simpa using h b hb
  exact ⟨2, _, h, by decide, rfl, fun comp c0 e1 e2 => by cases e1.symm.trans e2; exact va_asg _ _⟩
theorem xcs_105 {own : String} {cc : ByteArray} {nL : Nat} {ret : Option FieldType} {E : xx_E} {p : Program} {s : State} {m : MethodId} {args : Array Value} {meth : Method} {c : Code} {σ : XS} {r : Option Nat} (cx : xx_X own cc nL ret E p s m args meth c) (h : xck [15] σ r) : xasg s σ "StruckCounts$Outcome" r := by
  intro b hb
  have h : kd σ b = 15 := by simpa using h b hb
  exact ⟨14, _, h, by decide, rfl, fun comp c0 e1 e2 => by cases e1.symm.trans e2; exact va_asg _ _⟩
theorem xcs_106 {own : String} {cc : ByteArray} {nL : Nat} {ret : Option FieldType} {E : xx_E} {p : Program} {s : State} {m : MethodId} {args : Array Value} {meth : Method} {c : Code} {σ : XS} {r : Option Nat} (cx : xx_X own cc nL ret E p s m args meth c) (h : xck [20, 21] σ r) : xasg s σ "java/util/HashMap$Node" r := by
  obtain ⟨hx, hb, hml, hown, hts, hrt, hlk, hK, hZ⟩ := cx
  intro b hb'
  have h : kd σ b = 20 ∨ kd σ b = 21 := by simpa using h b hb'
  rcases h with h | h
  · exact ⟨19, _, h, by decide, rfl, fun comp c0 e1 e2 => by cases e1.symm.trans e2; exact va_asg _ _⟩
  · refine ⟨20, _, h, by decide, rfl, fun comp c0 e1 e2 => ?_⟩
    obtain ⟨c1, c2, g1, g2, g3⟩ := Cond.castable_spec (va_Nw.use (A := args) rfl (hK.2.2.2.2.1 ("java/util/LinkedHashMap$Entry", "java/util/HashMap$Node") (by decide)))
    cases g1.symm.trans e2
    cases g2.symm.trans e1
    exact g3
theorem xin4 {a b c d : Cond} (ha : a ∈ lw_all) (hb : b ∈ lw_all) (hc : c ∈ lw_all) (hd : d ∈ lw_all) : ∀ w ∈ ([a, b, c, d] : List Cond), w ∈ lw_all := by
  intro w hw
  simp only [List.mem_cons, List.not_mem_nil, or_false] at hw
  rcases hw with rfl | rfl | rfl | rfl <;> assumption
/-- a call that lands in an interface's default method -/
theorem va_runFD {p : Program} {l : Launch} {e : Env} {R : Room} {s : State} {m : MethodId} {args : Array Value} {below : List Frame} {meth : Method} {c : Code} {H : Heap} {locs : List Loc} {cells slots : Nat} {x y : MethodName} {bytes cc : ByteArray} {maxL nL mc ms index count : Nat} {ret : Option FieldType} {ws : List Cond} {rm : Room} {Pc : Array Value → State → Prop} {Qc : Array Value → State → Outcome → State → Prop} {free : Addr → Prop} {Ts : List Cond} {own C : String} {cC : ClassId} {b : Addr} {As rest : List Value} {g : JFrame}
    (hat : ClassAt s C cC) (S : CallFix p m c cc nL s args Ts own) (hM : Met l y (Cond.code y bytes maxL ret :: ws) rm Pc Qc mc ms free) (hlink : (Cond.methodLink own index x).before args s = true) (hF : va_Fw C x y s) (hdl : va_Nw (.landsInDefault C x y) s) (hG : GoodIn Ts (Cond.code y bytes maxL ret :: ws)) (ht : ∀ w ∈ Ts, w.before args s = true) (hinst : (Cond.instanceMethod y).before args s = true) (hini : (Cond.initialized y.cls).before args s = true) (n : Nat)
    (hd : (x.cls ≠ "java/lang/invoke/MethodHandle" ∧ x.cls ≠ "java/lang/invoke/VarHandle") ∧ (parseMethodDescriptor x.desc).map (fun d => d.parameters.length) = some n) (hR : (rm.frames + 1 ≤ R.frames ∧ 8 + (maxL + 11) + rm.locals ≤ R.locals) ∧ rm.cells = mc ∧ rm.slots = ms) (hp : PreV s H C b Pc As)
    (hg : g.method = m) (hn : As.length = n) (hsize : g.locals.size = nL) (hstack : g.stack = As.reverse ++ .ref b :: rest) (hW : 2 * g.monitorRoom + (rest.map fun v => v.category).sum ≤ 8) (hdg : decode cc g.pc = .ok (.invokeinterface index count, 5)) (hf : cells + mc ≤ R.cells ∧ slots + ms ≤ R.slots) :
    va_Run5 p l e R s m args below meth c H locs cells slots mc ms g rest (Qc (Value.ref b :: As).toArray) (free) := by
  have hK : Back l R p e below s args y 5 8 (PreOf R mc ms Pc) (PostOf Qc mc ms free) := back_of (bytes := bytes) (maxL := maxL) (ret := ret) hM hp.1 hR.2.1 hR.2.2 hR.1.1 hR.1.2 (pay_in ht hG) List.mem_cons_self (fun a' U hW => word_at hW (Or.inl (by first | rfl | simp [Cond.onTables, Cond.keeps, Cond.steady])) hini)
  obtain ⟨hx, hb, hml, ho, -⟩ := S
  obtain ⟨-, ⟨cellB, hcB, hoB, hclB⟩, hPc⟩ := hp
  obtain ⟨hfc, kB, hkB, -⟩ := hat
  cases hfc.symm.trans hclB
  have hlen : ∀ sig, parseMethodDescriptor x.desc = some sig → As.length = sig.parameters.length := fun sig h => by
    have h2 := hd.2
    rw [h] at h2
    exact hn.trans (Option.some.inj h2).symm
  intro T hT X
  obtain ⟨v, vm₁, ⟨U', l2, c2, s2⟩, hW₁, X', ⟨g', mk, t, L, e1, e2, hq, h1, hL, h2, h3⟩, st⟩ := X.interfaceBackD hx (C := C) (y := y) (xi := x) ho hlink (va_any rfl hF.1) (va_any rfl hF.2.1) hdl hinst (va_any rfl hF.2.2.1) (va_any rfl hF.2.2.2.2) hd.1 hK hclB hkB ⟨cellB, by rw [hT]; exact hcB, rfl, hoB⟩ hg (hsize.trans hml.symm) (Steps.refl _) (argsL := As) (rest := rest) hlen hstack hW (by rw [hb]; exact hdg)
    (fun vm₁ hW₁ => ⟨hf.1, hf.2, hPc (T.setVm vm₁) hT hW₁⟩)
  dsimp only [Pt.U, Pt.locs, Pt.cells, Pt.slots] at X' e1 e2 h1 h2 h3 st
  subst h1; subst h2; subst h3
  exact ⟨v, (T.setVm vm₁).calling g' mk (Value.ref b :: As).toArray, t, U', L, hT, X', hL, e1, e2, hq, fun target h => st.trans h⟩
