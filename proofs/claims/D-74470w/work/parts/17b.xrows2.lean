set_option maxRecDepth 100000
section XR3
variable {p : Program} {l : Launch} {e : Env} {R : Room} {s : State} {m : MethodId} {args : Array Value} {below : List Frame} {meth : Method} {c : Code} {H : Heap} {locs : List Loc} {cells slots : Nat} {Q : State → Prop}
variable {own : String} {cc : ByteArray} {nL : Nat} {ret : Option FieldType} {E : xx_E} {σ : XS} {pc : Nat} {ls : Array Slot} {rest st : List Value}
/-- a cast to byte[] -/
theorem x_castB (cx : xx_X own cc nL ret E p s m args meth c) (hR : xR E σ H) {index : Nat} {r : Option Nat} (hq : Cond.classLink own index "[B" ∈ lw_all) (h : xck [102] σ r) (hdg : decode cc pc = .ok (.checkcast index, 3))
    (kk : W p l e R s m args below meth c H locs cells slots Q (F0 m (pc + 3) ls (xv E r :: rest))) : W p l e R s m args below meth c H locs cells slots Q (F0 m pc ls (xv E r :: rest)) := by
  obtain ⟨hx, hb, hml, hown, hts, hrt, hlk, hK, hZ⟩ := id cx
  cases r with
  | none => exact lv_castN hx hb hdg kk
  | some a =>
    have hk : kd σ a = 100 + 2 := by simpa using h a rfl
    obtain ⟨F, -, hc, -⟩ := x_cell hR hk (by decide)
    exact va_castE hx hb hown (hts _ hq) ⟨_, hc, rfl, (hK.1.2 2 _ rfl).2⟩ hdg kk
/-- all elements are bytes -/
def xfita (σ : XS) (a : Nat) : Prop := ∀ i, i < ln σ a → fits .byte (.int (ai σ a i)) = true
theorem x_cloneB (cx : xx_X own cc nL ret E p s m args meth c) (hsize : ls.size = nL) (hR : xR E σ H) (hS0 : va_S (xA E) s.heap H locs) {index : Nat} (hq : Cond.methodLink own index ⟨"[B", "clone", "()Ljava/lang/Object;"⟩ ∈ lw_all)
    {a : Nat} {r : Option Nat} (hr : r = some a) (hk : kd σ a = 102) (hfit : xfita σ a)
    (hframes : 1 ≤ R.frames) (hlocals : (rest.map fun v => v.category).sum + 14 ≤ R.locals) (hcells : cells + 1 ≤ R.cells) (hslots : slots + ln σ a ≤ R.slots) (hdg : decode cc pc = .ok (.invokevirtual index, 3))
    (kk : ∀ (H1 : Heap), xR E (pai1 (xal σ 102 (ln σ a)) (xn σ) (ai σ a)) H1 → va_S (xA E) s.heap H1 locs → W p l e R s m args below meth c H1 locs (cells + 1) (slots + ln σ a) Q (F0 m (pc + 3) ls (xv E (some (xn σ)) :: rest))) : W p l e R s m args below meth c H locs cells slots Q (F0 m pc ls (xv E r :: rest)) := by
  subst hr
  obtain ⟨hx, hb, hml, hown, hts, hrt, hlk, hK, hZ⟩ := id cx
  have hcell : H[xr E a]? = some (vp_cell (xx_ac E 2) (ln σ a, .inl (ai σ a))) := (hR.2.2.2.2 a).2 2 hk (by decide)
  generalize hx9 : ((ln σ a, .inl (ai σ a)) : vp_A) = x at hcell
  have hx1 : x.1 = ln σ a := by rw [← hx9]
  generalize hcA : xx_ac E 2 = cA at hcell
  have hsz : (vp_cell cA x).slots.size = x.1 := by
    obtain ⟨n, f | f | f | f | f⟩ := x <;> exact arrV_size _ _ _
  have hvm0 : (vp_cell cA x).vm = .none := by
    obtain ⟨n, f | f | f | f | f⟩ := x <;> rfl
  have hcl0 : (vp_cell cA x).cls = cA := by
    obtain ⟨n, f | f | f | f | f⟩ := x <;> rfl
  have hcellE : ({ cls := (vp_cell cA x).cls, slots := (vp_cell cA x).slots } : Cell) = vp_cell cA x := by
    obtain ⟨n, f | f | f | f | f⟩ := x <;> rfl
  have ht : (xx_tys E)[2]? = some (cA, .byte) := by rw [← hcA]; rfl
  have hnm : s.vm.findClass "[B" = some cA := (hK.1.2 2 _ ht).2
  have hcl : va_Nw (.castable "[B" "java/lang/Cloneable") s := hK.2.2.2.2.1 ("[B", "java/lang/Cloneable") (by decide)
  obtain ⟨c0, t0', f1, f2, f3⟩ := Cond.castable_spec (va_Nw.use (A := args) rfl hcl)
  cases hnm.symm.trans f1
  intro T hT X
  have hcellT : T.heap[xr E a]? = some (vp_cell cA x) := by rw [hT]; exact hcell
  obtain ⟨-, kA, hkA, comp, hkind⟩ := State.isArrayOf_alike X.warmed.alike ((hK.1.2 2 _ ht).1 0 (fun _ => .null))
  obtain ⟨-, kS, hkS, compS, hkindS⟩ := (hK.1.2 2 _ ht).1 0 (fun _ => .null)
  obtain ⟨vm', X', st⟩ := X.cloneArray hx hown (hts _ hq) (hts _ q741) (hts _ q742) (hts _ q743) (hts _ q744) (a := xr E a) (cell := vp_cell cA x) hcellT (fun k h => by rw [hvm0] at h; cases h) (by rw [hvm0]; exact fun h => by cases h) (by rw [hcl0]; exact hnm) f2 (by rw [hcl0]; exact f3)
    (fun i v hv => by
      rw [hcl0]
      have hk' : T.vm.classes[cA]? = some kA := hkA
      have : fits .byte v = true := by
        rw [← hx9] at hv
        have hv' : (arrV cA (ln σ a) (fun j => .int (ai σ a j))).slots[i]? = some v := hv
        by_cases hi : i < ln σ a
        · rw [arrV_read _ _ hi] at hv'
          cases hv'
          exact hfit i hi
        · rw [Array.getElem?_eq_none (by rw [arrV_size]; omega)] at hv'
          cases hv'
      simpa [State.fitsSlot, State.slotType?, hk', hkind] using this)
    (g := F0 m pc ls (.ref (xr E a) :: rest)) rfl (by rw [hml]; exact hsize) rfl (by rw [hb]; exact hdg) hframes (by show 2 * 0 + _ + 14 ≤ _; omega) hcells (by rw [hsz, hx1]; exact hslots) (hloader := by rw [hcl0]; exact Vm.clonesLoader_of_array hkS hkindS)
  rw [hcellE, hsz] at X'
  generalize hH1 : H.push (vp_cell cA x) = H1
  have z1 : H1.size = H.size + 1 := by rw [← hH1, Array.size_push]
  have e1 : H1[H.size]? = some (vp_cell cA x) := by rw [← hH1, Array.getElem?_push_size]
  have o1 : ∀ q : Nat, q < H.size → H1[q]? = H[q]? := fun q hq => by rw [← hH1, Array.getElem?_push, if_neg (Nat.ne_of_lt hq)]
  generalize hHz : H.push (vp_cell (xx_ac E 2) (ln σ a, .inl (fun _ => 0))) = Hz
  have z2 : Hz.size = H.size + 1 := by rw [← hHz, Array.size_push]
  have e2 : Hz[H.size]? = some (vp_cell (xx_ac E 2) (ln σ a, .inl (fun _ => 0))) := by rw [← hHz, Array.getElem?_push_size]
  have o2 : ∀ q : Nat, q < H.size → Hz[q]? = H[q]? := fun q hq => by rw [← hHz, Array.getElem?_push, if_neg (Nat.ne_of_lt hq)]
  obtain ⟨hadr, hR2⟩ := x_born hK.2.1 hR (k := 100 + 2) (len := ln σ a) z2 o2 (fun c g1 g2 => by omega) (fun u g1 g2 => by
    have : u = 2 := by omega
    subst this
    rw [e2]
    unfold xco
    rw [if_pos (by decide)]
    congr 3
    refine congrArg Sum.inl (funext fun j => ?_)
    show (0 : Int32) = if xn σ = σ.1 then 0 else _
    rw [if_pos (show xn σ = σ.1 from rfl)])
  have hlz : ln (xal σ 102 (ln σ a)) (xn σ) = ln σ a := by
    show (if xn σ = σ.1 then _ else _) = _
    rw [if_pos (show xn σ = σ.1 from rfl)]
  have hR1 : xR E (pai1 (xal σ 102 (ln σ a)) (xn σ) (ai σ a)) H1 := by
    refine x_aput (t := 2) hK.2.1 hR2 (a := xn σ) hR.1 ?_ (by decide) rfl rfl rfl rfl rfl rfl (pai1_ne _ _ _) (by omega) (fun q hq => ?_) ?_
    · show (if xn σ = σ.1 then _ else _) = _
      rw [if_pos (show xn σ = σ.1 from rfl)]
    · by_cases h : q < H.size
      · rw [o1 q h, o2 q h]
      · have hq2 : q ≠ H.size := fun h => hq (h.trans hadr)
        rw [Array.getElem?_eq_none (by omega), Array.getElem?_eq_none (by omega)]
    · rw [← hadr, e1, ← hx9, hlz, hcA]
      congr 3
      unfold xco
      rw [if_pos (by decide)]
      congr 1
      funext j
      show _ = up1 _ (xn σ) (ai σ a) (xn σ) j
      simp [up1]
  have hk9 := kk H1 hR1 (xS_push hS0 z1 o1)
  rw [show xv E (some (xn σ)) = .ref H.size by rw [hadr]; rfl, ← hx1] at hk9
  obtain ⟨t, b1, b2⟩ := hk9 ((T.setVm vm').pushCell (vp_cell cA x)) (by rw [← hH1, ← hT]; rfl) X'
  refine ⟨t, st t ?_, b2⟩
  rw [hcellE, hT]
  exact b1
end XR3
/-- a private method, called on one of a class below -/
theorem x_runP {p : Program} {l : Launch} {e : Env} {R : Room} {s : State} {m : MethodId} {args : Array Value} {below : List Frame} {meth : Method} {c : Code} {H : Heap} {locs : List Loc} {cells slots : Nat}
    {y y0 : MethodName} {bytes cc : ByteArray} {maxL nL mc ms n index : Nat} {ret : Option FieldType} {ws : List Cond} {rm : Room} {Pc : Array Value → State → Prop} {Qc : Array Value → State → Outcome → State → Prop} {free : Addr → Prop} {Ts : List Cond} {own C C0 : String} {b : Addr} {As rest : List Value} {g : JFrame}
    (S : CallFix p m c cc nL s args Ts own) (hM : Met l y ws rm Pc Qc mc ms free) (cb : CallB R s args own index y bytes maxL ret ws rm mc ms n) (hin : (Cond.instanceMethod y).before args s = true) (hpr : va_Nw (.privateMethod y) s) (hse : (Cond.selects C0 y0 y0).before args s = true) (hy0 : y0.cls = y.cls) (hp : PreV s H C b Pc As)
    (hg : g.method = m) (hn : As.length = n) (hsize : g.locals.size = nL) (hstack : g.stack = As.reverse ++ .ref b :: rest) (hW : 2 * g.monitorRoom + (rest.map fun v => v.category).sum ≤ 8) (hdg : decode cc g.pc = .ok (.invokevirtual index, 3)) (hf : cells + mc ≤ R.cells ∧ slots + ms ≤ R.slots) :
    va_Run p l e R s m args below meth c H locs cells slots mc ms g rest (Qc (Value.ref b :: As).toArray) (free) := by
  have hK : Back l R p e below s args y 3 8 (PreOf R mc ms Pc) (PostOf Qc mc ms free) := callBack cb hM hp.1
  obtain ⟨-, -, -, -, -, -, hcode, -, hy, hlen, hl⟩ := cb
  obtain ⟨hx, hb, hml, ho, -⟩ := S
  obtain ⟨-, ⟨cellB, hcB, hoB, hclB⟩, hPc⟩ := hp
  intro T hT X
  obtain ⟨mk, methM, hnamed, hmethM, hstM, habM⟩ := Cond.instanceMethod_spec hin
  obtain ⟨methM', cM, hmethM', -, -, -, -, -, -, hsigM⟩ := Cond.code_spec hnamed hcode
  cases hmethM.symm.trans hmethM'
  obtain ⟨c2, r2, m2, q1, q2, q3, q4, kP, hkP, hkPi⟩ := Cond.selects_spec hse
  have e12 : m2 = r2 := Option.some.inj ((State.methodFound?_of_named q3 (by rw [hy0]; exact hy)).symm.trans q2)
  have hc : r2.cls = mk.cls := by
    rw [← e12]
    have h9 := findClass_of_methodNamed q3
    rw [hy0, findClass_of_methodNamed hnamed] at h9
    exact (Option.some.inj h9).symm
  rw [e12, hc] at hkP
  have hselP : selectMethod e.platform s.vm cellB.cls mk = .method mk := selectMethod_private hmethM (Cond.privateMethod_at hpr mk methM hnamed hmethM)
  obtain ⟨vm₁, X₁, hstep₁⟩ := X.invokevirtual hx ho hl hnamed hmethM hstM hkP hkPi hy (a := b) (cell := cellB) (by rw [hT]; exact hcB) (fun z h => by rw [h] at hoB; cases hoB) hselP hmethM habM hkP hkPi (g := g) hg (argsL := As) (rest := rest) (hn.trans (hlen _ hsigM)) hstack (by rw [hb]; exact hdg)
  obtain ⟨v, ⟨U', l2, c2', s2⟩, X', ⟨g', mk', t, L, e1, e2, hq, h1, hL, h2, h3⟩, hsteps⟩ := hK m meth c ⟨T.setVm vm₁, locs, cells, slots⟩ { g with stack := rest } (.invokevirtual index) mk (Value.ref b :: As).toArray X₁ hg (hsize.trans hml.symm) (by rw [hb]; exact hdg) hW (X₁.named hnamed) ⟨hf.1, hf.2, hPc (T.setVm vm₁) hT X₁.warmed⟩
  dsimp only [Pt.U, Pt.locs, Pt.cells, Pt.slots] at X' e1 e2 h1 h2 h3 hsteps
  subst h1; subst h2; subst h3
  exact ⟨v, (T.setVm vm₁).calling g' mk' (Value.ref b :: As).toArray, t, U', L, hT, X', hL, e1, e2, hq, fun target h => hstep₁ _ fun acts => by rw [doInvoke_state]; exact hsteps.trans h⟩
theorem x_callB {R : Room} {s : State} {args : Array Value} {own : String} {index : Nat} {y : MethodName} {bytes : ByteArray} {maxL mc ms : Nat} {ret : Option FieldType} {Ts ws ws' : List Cond} {rm : Room} (n : Nat) (ht : ∀ w ∈ Ts, w.before args s = true) (hT : GoodIn Ts ws) (hw : ws = Cond.code y bytes maxL ret :: ws') (hrc : rm.cells = mc) (hrs : rm.slots = ms) (hl : (Cond.methodLink own index y).before args s = true) (hini : (Cond.initialized y.cls).before args s = true)
    (hd : y.cls ≠ "java/lang/invoke/MethodHandle" ∧ y.cls ≠ "java/lang/invoke/VarHandle" ∧ (parseMethodDescriptor y.desc).map (fun d => d.parameters.length) = some n) (hR : rm.frames + 1 ≤ R.frames ∧ 8 + (maxL + 11) + rm.locals ≤ R.locals) : CallB R s args own index y bytes maxL ret ws rm mc ms n :=
  callB_of n ht hT hw hrc hrs hini hl hd hR
