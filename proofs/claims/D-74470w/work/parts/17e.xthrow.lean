set_option maxRecDepth 100000
def xTX (T : Nat → XS → Prop) (E : xx_E) : Addr → String → State → State → Prop := vx_X (fun u : Nat × XS => T u.1 u.2) (fun q C u t => C = "StruckCounts$Fault" ∧ q = xr E u.1 ∧ kd u.2 u.1 = 5 ∧ xW E u.2 t) (xA E)
abbrev xx_Ti (l : Launch) (y : MethodName) (ws : List Cond) (rm : Room) (E : xx_E) (av : List Value) (σ : XS) (Q : Int32 → XS → Prop) (T : Nat → XS → Prop) (mc ms : Nat) : Prop := vx_Met l y ws rm (va_Pc av (fun U => xW E σ U)) (va_Qi Q (fun σ' t => xW E σ' t) (xA E)) (xTX T E) mc ms (xA E)
abbrev xx_Tr (l : Launch) (y : MethodName) (ws : List Cond) (rm : Room) (E : xx_E) (av : List Value) (σ : XS) (Q : Option Nat → XS → Prop) (T : Nat → XS → Prop) (mc ms : Nat) : Prop := vx_Met l y ws rm (va_Pc av (fun U => xW E σ U)) (va_Qe (xr E) Q (fun σ' t => xW E σ' t) (xA E)) (xTX T E) mc ms (xA E)
abbrev xx_Tv (l : Launch) (y : MethodName) (ws : List Cond) (rm : Room) (E : xx_E) (av : List Value) (σ : XS) (Q : XS → Prop) (T : Nat → XS → Prop) (mc ms : Nat) : Prop := vx_Met l y ws rm (va_Pc av (fun U => xW E σ U)) (va_Qv Q (fun σ' t => xW E σ' t) (xA E)) (xTX T E) mc ms (xA E)
/-- no handlers -/
def xnt (c : Code) : Prop := ∀ x ∈ c.exceptionTable.toList, False
theorem x_ofT {l : Launch} {y : MethodName} {cc : ByteArray} {nL : Nat} {ret : Option FieldType} {rm : Room} {E : xx_E} {σ : XS} {av : List Value} {own : String} {mc ms : Nat} {Qc : Array Value → State → Outcome → State → Prop} {XC : Addr → String → State → State → Prop} (hy : plainName y.cls = true) (hc : y.cls = own)
    (body : ∀ (p : Program) (e : Env) (s : State) (m : MethodId) (args : Array Value) (below : List Frame) (meth : Method) (c : Code), xx_X own cc nL ret E p s m args meth c → xnt c → xR E σ s.heap → args = av.toArray → meth.name = y.name → W p l e rm s m args below meth c s.heap [] 0 0 (vx_MQ below Qc XC args s mc ms (xA E)) (entryFrame m args nL)) : vx_Met l y (ws_ y cc nL ret) rm (va_Pc av (fun U => xW E σ U)) Qc XC mc ms (xA E) := by
  refine vx_ofW (cc := cc) (maxL := nL) (ret := ret) hy rfl ?_
  intro p e s m args below meth c s₁ B hml hnt hv
  obtain ⟨hav, hR, hK, hZ⟩ := hv
  have hts := atoms_spec (ws := ws_ y cc nL ret) B.pre
  have hts : ∀ w ∈ lw_all, w.before _ s = true := fun w h => hts w (List.mem_cons_of_mem _ h)
  have hown : s.vm.findClass own = some m.cls := by rw [← hc]; exact findClass_of_methodNamed B.named
  exact body p e s m args below meth c ⟨B.exec, B.bytes, hml, hown, hts, B.returns, B.notSynchronized, hK, hZ⟩ hnt hR hav (name_of_methodNamed B.named B.method).1
section XT
variable {p : Program} {l : Launch} {e : Env} {R : Room} {s : State} {m : MethodId} {args : Array Value} {below : List Frame} {meth : Method} {c : Code} {H : Heap} {locs : List Loc} {cells slots : Nat} {Q : State → Prop}
variable {own : String} {cc : ByteArray} {nL : Nat} {ret : Option FieldType} {E : xx_E} {σ : XS} {pc : Nat} {ls : Array Slot} {rest st : List Value} {mc ms MC MS : Nat} {av : Array Value} {T : Nat → XS → Prop} {Qc : Array Value → State → Outcome → State → Prop}
theorem x_xout (cx : xx_X own cc nL ret E p s m args meth c) (hnt : xnt c) (hR : xR E σ H) (hS0 : va_S (xA E) s.heap H locs) {a : Nat} (hk : kd σ a = 5) (hc : cells ≤ MC) (hs : slots ≤ MS) (hw : T a σ) {ce : Cell} (h1 : H[xr E a]? = some ce) (h2 : ce.vm = .none) (h3 : s.vm.findClass "StruckCounts$Fault" = some ce.cls) : vx_W p l e R s m args below meth c H locs cells slots (vx_MQ below Qc (xTX T E) args s MC MS (xA E)) (F0 m pc ls rest) (xr E a) := by
  obtain ⟨hx, hb, hml, hown, hts, hrt, hlk, hK, hZ⟩ := id cx
  exact vx_out (fun x hx => (hnt x hx).elim) hlk h1 h2 h3 (fun t ht hW => ⟨(a, σ), hw, ⟨rfl, rfl, hk, xret hR hK hZ hS0 ht hW⟩, hS0.F ht⟩) hS0.2.2 hc hs
theorem x_fcell (cx : xx_X own cc nL ret E p s m args meth c) (hR : xR E σ H) {a : Nat} (hk : kd σ a = 5) : ∃ ce : Cell, H[xr E a]? = some ce ∧ ce.vm = .none ∧ s.vm.findClass "StruckCounts$Fault" = some ce.cls := by
  obtain ⟨hx, hb, hml, hown, hts, hr, hlk, hK, hZ⟩ := cx
  obtain ⟨cell, q1, q2, q3, q4⟩ := (hR.2.2.2.2 a).1 4 hk (by decide)
  exact ⟨cell, q1, q3, by rw [q2]; exact (hK.1.1 4 _ rfl).2.1⟩
theorem x_athrow (cx : xx_X own cc nL ret E p s m args meth c) (hnt : xnt c) (hR : xR E σ H) (hS0 : va_S (xA E) s.heap H locs) {a : Nat} {r : Option Nat} (hr : r = some a) (hk : kd σ a = 5) (hc : cells ≤ MC) (hs : slots ≤ MS) (hw : T a σ) (hdg : decode cc pc = .ok (.athrow, 1)) : W p l e R s m args below meth c H locs cells slots (vx_MQ below Qc (xTX T E) args s MC MS (xA E)) (F0 m pc ls (xv E r :: rest)) := by
  subst hr
  obtain ⟨ce, h1, h2, h3⟩ := x_fcell cx hR hk
  exact vx_athrow cx.1 cx.2.1 hdg (x_xout cx hnt hR hS0 hk hc hs hw h1 h2 h3)
theorem x_goTi {Qf : Int32 → XS → Prop} (cx : xx_X own cc nL ret E p s m args meth c) (hnt : xnt c) (hr : vx_Run p l e R s m args below meth c H locs cells slots mc ms (F0 m pc ls st) rest (va_Qi Qf (fun σ' t => xW E σ' t) (xA E) av) (xTX T E) (xA E)) (hS0 : va_S (xA E) s.heap H locs) (hc : cells + mc ≤ MC) (hs : slots + ms ≤ MS) (kk : ∀ (r : Int32) (σ1 : XS) (H1 : Heap) (locs1 : List Loc), Qf r σ1 → xR E σ1 H1 → va_S (xA E) s.heap H1 locs1 → W p l e R s m args below meth c H1 locs1 (cells + mc) (slots + ms) (vx_MQ below Qc (xTX T E) args s MC MS (xA E)) (F0 m (pc + 3) ls (.int r :: rest))) : W p l e R s m args below meth c H locs cells slots (vx_MQ below Qc (xTX T E) args s MC MS (xA E)) (F0 m pc ls st) :=
  vx_calli hr hS0 (fun q _ h => h) (fun q h => h) (fun q _ h => h) (fun E' ce q9 u t H1 locs1 ht hvm hw hB hz1 hk1 hS h1 h2 h3 => by
    obtain ⟨rfl, rfl, hk, hW⟩ := hB
    exact x_xout cx hnt (x_after ht hW) hS hk hc hs hw h1 h2 h3) (fun r u t H1 locs1 ht hvm hw hB hz1 hk1 hS => kk r u H1 locs1 hw (x_after ht hB) hS)
theorem x_goTr {Qf : Option Nat → XS → Prop} (cx : xx_X own cc nL ret E p s m args meth c) (hnt : xnt c) (hr : vx_Run p l e R s m args below meth c H locs cells slots mc ms (F0 m pc ls st) rest (va_Qe (xr E) Qf (fun σ' t => xW E σ' t) (xA E) av) (xTX T E) (xA E)) (hS0 : va_S (xA E) s.heap H locs) (hc : cells + mc ≤ MC) (hs : slots + ms ≤ MS) (kk : ∀ (r : Option Nat) (σ1 : XS) (H1 : Heap) (locs1 : List Loc), Qf r σ1 → xR E σ1 H1 → va_S (xA E) s.heap H1 locs1 → W p l e R s m args below meth c H1 locs1 (cells + mc) (slots + ms) (vx_MQ below Qc (xTX T E) args s MC MS (xA E)) (F0 m (pc + 3) ls (xv E r :: rest))) : W p l e R s m args below meth c H locs cells slots (vx_MQ below Qc (xTX T E) args s MC MS (xA E)) (F0 m pc ls st) :=
  vx_calle hr hS0 (fun q _ h => h) (fun q h => h) (fun q _ h => h) (fun E' ce q9 u t H1 locs1 ht hvm hw hB hz1 hk1 hS h1 h2 h3 => by
    obtain ⟨rfl, rfl, hk, hW⟩ := hB
    exact x_xout cx hnt (x_after ht hW) hS hk hc hs hw h1 h2 h3) (fun r u t H1 locs1 ht hvm hw hB hz1 hk1 hS => kk r u H1 locs1 hw (x_after ht hB) hS)
theorem x_goTv {Qf : XS → Prop} (cx : xx_X own cc nL ret E p s m args meth c) (hnt : xnt c) (hr : vx_Run p l e R s m args below meth c H locs cells slots mc ms (F0 m pc ls st) rest (va_Qv Qf (fun σ' t => xW E σ' t) (xA E) av) (xTX T E) (xA E)) (hS0 : va_S (xA E) s.heap H locs) (hc : cells + mc ≤ MC) (hs : slots + ms ≤ MS) (kk : ∀ (σ1 : XS) (H1 : Heap) (locs1 : List Loc), Qf σ1 → xR E σ1 H1 → va_S (xA E) s.heap H1 locs1 → W p l e R s m args below meth c H1 locs1 (cells + mc) (slots + ms) (vx_MQ below Qc (xTX T E) args s MC MS (xA E)) (F0 m (pc + 3) ls rest)) : W p l e R s m args below meth c H locs cells slots (vx_MQ below Qc (xTX T E) args s MC MS (xA E)) (F0 m pc ls st) :=
  vx_callv hr hS0 (fun q _ h => h) (fun q h => h) (fun q _ h => h) (fun E' ce q9 u t H1 locs1 ht hvm hw hB hz1 hk1 hS h1 h2 h3 => by
    obtain ⟨rfl, rfl, hk, hW⟩ := hB
    exact x_xout cx hnt (x_after ht hW) hS hk hc hs hw h1 h2 h3) (fun u t H1 locs1 ht hvm hw hB hz1 hk1 hS => kk u H1 locs1 hw (x_after ht hB) hS)
/-- one handler, of Faults, at hpc -/
theorem x_caught (cx : xx_X own cc nL ret E p s m args meth c) {x : ExceptionTableEntry} (htab : c.exceptionTable.toList = [x]) (hcov : covers x pc = true) (h0 : x.catchType ≠ 0) (hq : Cond.classLink own x.catchType "StruckCounts$Fault" ∈ lw_all) {a : Nat} {ce : Cell} (h1 : H[xr E a]? = some ce) (h2 : ce.vm = .none) (h3 : s.vm.findClass "StruckCounts$Fault" = some ce.cls)
    (kk : W p l e R s m args below meth c H locs cells slots Q (F0 m x.handlerPc ls [xv E (some a)])) : vx_W p l e R s m args below meth c H locs cells slots Q (F0 m pc ls rest) (xr E a) := by
  obtain ⟨hx, hb, hml, hown, hts, hrt, hlk, hK, hZ⟩ := id cx
  exact vx_catch hown [] x [] htab (fun z hz => nomatch hz) hcov h0 (hts _ hq) (va_Nw.use (A := args) rfl (hK.2.2.2.2.1 ("StruckCounts$Fault", "StruckCounts$Fault") (by decide))) h1 h2 h3 kk
theorem x_goHr {Qf : Option Nat → XS → Prop} (cx : xx_X own cc nL ret E p s m args meth c) {x : ExceptionTableEntry} (htab : c.exceptionTable.toList = [x]) (hcov : covers x pc = true) (h0 : x.catchType ≠ 0) (hq : Cond.classLink own x.catchType "StruckCounts$Fault" ∈ lw_all)
    (hr : vx_Run p l e R s m args below meth c H locs cells slots mc ms (F0 m pc ls st) rest (va_Qe (xr E) Qf (fun σ' t => xW E σ' t) (xA E) av) (xTX T E) (xA E)) (hS0 : va_S (xA E) s.heap H locs)
    (kk : ∀ (r : Option Nat) (σ1 : XS) (H1 : Heap) (locs1 : List Loc), Qf r σ1 → xR E σ1 H1 → va_S (xA E) s.heap H1 locs1 → W p l e R s m args below meth c H1 locs1 (cells + mc) (slots + ms) Q (F0 m (pc + 3) ls (xv E r :: rest)))
    (kx : ∀ (q : Nat) (σ1 : XS) (H1 : Heap) (locs1 : List Loc), T q σ1 → kd σ1 q = 5 → xR E σ1 H1 → va_S (xA E) s.heap H1 locs1 → W p l e R s m args below meth c H1 locs1 (cells + mc) (slots + ms) Q (F0 m x.handlerPc ls [xv E (some q)])) : W p l e R s m args below meth c H locs cells slots Q (F0 m pc ls st) :=
  vx_calle hr hS0 (fun q _ h => h) (fun q h => h) (fun q _ h => h) (fun E' ce q9 u t H1 locs1 ht hvm hw hB hz1 hk1 hS h1 h2 h3 => by
    obtain ⟨rfl, rfl, hk, hW⟩ := hB
    exact x_caught cx htab hcov h0 hq h1 h2 h3 (kx _ _ _ _ hw hk (x_after ht hW) hS)) (fun r u t H1 locs1 ht hvm hw hB hz1 hk1 hS => kk r u H1 locs1 hw (x_after ht hB) hS)
end XT
def xsW_ (y : MethodName) (cc : ByteArray) (nL : Nat) (ret : Option FieldType) (hh : List (Nat × Nat × Nat × Nat)) : List Cond := Cond.codeWith y cc nL ret hh :: lw_all
/-- a method with handlers that answers -/
theorem x_ofH {l : Launch} {y : MethodName} {cc : ByteArray} {nL : Nat} {ret : Option FieldType} {hh : List (Nat × Nat × Nat × Nat)} {rm : Room} {E : xx_E} {σ : XS} {av : List Value} {own : String} {mc ms : Nat} {Qc : Array Value → State → Outcome → State → Prop} (hy : plainName y.cls = true) (hc : y.cls = own)
    (body : ∀ (p : Program) (e : Env) (s : State) (m : MethodId) (args : Array Value) (below : List Frame) (meth : Method) (c : Code), xx_X own cc nL ret E p s m args meth c → c.exceptionTable.toList = tableOf hh → xR E σ s.heap → args = av.toArray → meth.name = y.name → W p l e rm s m args below meth c s.heap [] 0 0 (MQ below Qc args s mc ms (xA E)) (entryFrame m args nL)) : Met l y (xsW_ y cc nL ret hh) rm (va_Pc av (fun U => xW E σ U)) Qc mc ms (xA E) := by
  refine va_MetW (cc := cc) (maxL := nL) (ret := ret) (hh := hh) hy rfl ?_
  intro p e s m args below meth c s₁ B hml hv
  obtain ⟨hav, hR, hK, hZ⟩ := hv
  have hts := atoms_spec (ws := xsW_ y cc nL ret hh) B.pre
  have htab := vx_table (x := y) B (hts _ List.mem_cons_self)
  have hts : ∀ w ∈ lw_all, w.before _ s = true := fun w h => hts w (List.mem_cons_of_mem _ h)
  have hown : s.vm.findClass own = some m.cls := by rw [← hc]; exact findClass_of_methodNamed B.named
  exact body p e s m args below meth c ⟨B.exec, B.bytes, hml, hown, hts, B.returns, B.notSynchronized, hK, hZ⟩ htab hR hav (name_of_methodNamed B.named B.method).1
abbrev x_TT (p : Program) (l : Launch) (e : Env) (R : Room) (s : State) (m : MethodId) (args : Array Value) (below : List Frame) (meth : Method) (c : Code) (E : xx_E) (T : Nat → XS → Prop) (QC : Array Value → State → Outcome → State → Prop) (mc ms nL pc bc bs : Nat) (σ : XS) (lv : List (Nat × Value)) (st : List Value) : Prop :=
  ∀ (H : Heap) (locs : List Loc) (ls : Array Slot) (cells slots : Nat), xR E σ H → va_S (xA E) s.heap H locs → lv_has ls nL lv → cells + bc ≤ mc → slots + bs ≤ ms → W p l e R s m args below meth c H locs cells slots (vx_MQ below QC (xTX T E) args s mc ms (xA E)) (F0 m pc ls st)
