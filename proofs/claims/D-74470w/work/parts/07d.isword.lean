set_option maxRecDepth 100000
/-- what a method of any class stands on, in the model's world -/
def mm_Y (own : String) (cc : ByteArray) (nL : Nat) (ret : Option FieldType) (G : mm_G) (p : Program) (s : State) (m : MethodId) (args : Array Value) (meth : Method) (c : Code) : Prop :=
  p.tables.exec = Jvm.exec ∧ c.code = cc ∧ c.maxLocals = nL ∧ s.vm.findClass own = some m.cls ∧ (∀ w ∈ lw_all, w.before args s = true) ∧ meth.sig.returnType = ret ∧ meth.locks = false ∧ mm_K G s ∧ mm_Z G s s.heap
theorem my_of {l : Launch} {y : MethodName} {cc : ByteArray} {nL : Nat} {ret : Option FieldType} {rm : Room} {G : mm_G} {σ : MS} {av : List Value} {own : String} {Qc : Array Value → State → Outcome → State → Prop} (hy : plainFor y = true) (hc : y.cls = own)
    (body : ∀ (p : Program) (e : Env) (s : State) (m : MethodId) (args : Array Value) (below : List Frame) (meth : Method) (c : Code), mm_Y own cc nL ret G p s m args meth c → mm_R G σ s.heap → args = av.toArray → W p l e rm s m args below meth c s.heap [] 0 0 (MQ below Qc args s 0 0 (mm_A G)) (entryFrame m args nL)) : Met l y (ws_ y cc nL ret) rm (va_Pc av (fun U => mm_W G σ U)) Qc 0 0 (mm_A G) := by
  refine va_MetF (cc := cc) (maxL := nL) (ret := ret) hy rfl ?_
  intro p e s m args below meth c s₁ B hml hv
  obtain ⟨hav, hR, hK, hZ⟩ := hv
  have hts := atoms_spec (ws := ws_ y cc nL ret) B.pre
  have hts : ∀ w ∈ lw_all, w.before _ s = true := fun w h => hts w (List.mem_cons_of_mem _ h)
  have hown : s.vm.findClass own = some m.cls := by rw [← hc]; exact findClass_of_methodNamed B.named
  exact body p e s m args below meth c ⟨B.exec, B.bytes, hml, hown, hts, B.returns, B.notSynchronized, hK, hZ⟩ hR hav
theorem my_ref (a : Nat) : (Value.ref a).category = 1 := rfl
theorem my_int (a : Int32) : (Value.int a).category = 1 := rfl
theorem my_long (a : Int64) : (Value.long a).category = 2 := rfl
section MY
variable {p : Program} {l : Launch} {e : Env} {R : Room} {s : State} {m : MethodId} {args : Array Value} {below : List Frame} {meth : Method} {c : Code} {H : Heap} {locs : List Loc} {cells slots : Nat} {Q : State → Prop}
variable {own : String} {cc : ByteArray} {nL : Nat} {ret : Option FieldType} {G : mm_G} {σ : MS} {pc : Nat} {ls : Array Slot} {rest : List Value}
variable {y : MethodName} {ws : List Cond} {rm : Room} {bytes : ByteArray} {maxL n index : Nat} {rt : Option FieldType} {As : List Value} {st : List Value}
theorem my_nret {Qf : Int32 → MS → Prop} {v : Int32} {ty : FieldType} (cx : mm_Y own cc nL (some ty) G p s m args meth c) (hM : mm_R G σ H) (hS0 : va_S (mm_A G) s.heap H locs) (hn : narrow ty (.int v) = .int v) (hw : Qf v σ) (hdg : decode cc pc = .ok (.ireturn, 1)) : W p l e R s m args below meth c H locs cells slots (MQ below (va_Qi Qf (fun σ' t => mm_W G σ' t) (mm_A G)) args s cells slots (mm_A G)) (F0 m pc ls [.int v]) := by
  obtain ⟨hx, hb, hml, hown, hts, hr, hlk, hK, hZ⟩ := cx
  exact W.zret hx hb hr hn (fun t ht hW => ⟨⟨v, σ, rfl, hw, mm_ret hM hK hZ hS0 ht hW⟩, hS0.F ht⟩) hS0.2.2 hdg
theorem my_iret {Qf : Int32 → MS → Prop} {v : Int32} (cx : mm_Y own cc nL (some .int) G p s m args meth c) (hM : mm_R G σ H) (hS0 : va_S (mm_A G) s.heap H locs) (hw : Qf v σ) (hdg : decode cc pc = .ok (.ireturn, 1)) : W p l e R s m args below meth c H locs cells slots (MQ below (va_Qi Qf (fun σ' t => mm_W G σ' t) (mm_A G)) args s cells slots (mm_A G)) (F0 m pc ls [.int v]) := by
  obtain ⟨hx, hb, hml, hown, hts, hr, hlk, hK, hZ⟩ := cx
  exact W.iret hx hb hr (fun t ht hW => ⟨⟨v, σ, rfl, hw, mm_ret hM hK hZ hS0 ht hW⟩, hS0.F ht⟩) hS0.2.2 hdg
theorem my_vret {Qf : MS → Prop} (cx : mm_Y own cc nL none G p s m args meth c) (hM : mm_R G σ H) (hS0 : va_S (mm_A G) s.heap H locs) (hw : Qf σ) (hdg : decode cc pc = .ok (.return_, 1)) : W p l e R s m args below meth c H locs cells slots (MQ below (va_Qv Qf (fun σ' t => mm_W G σ' t) (mm_A G)) args s cells slots (mm_A G)) (F0 m pc ls []) := by
  obtain ⟨hx, hb, hml, hown, hts, hr, hlk, hK, hZ⟩ := cx
  exact W.vret hx hb hr (fun t ht hW => ⟨⟨σ, rfl, hw, mm_ret hM hK hZ hS0 ht hW⟩, hS0.F ht⟩) hS0.2.2 hdg
theorem my_pre (cx : mm_Y own cc nL ret G p s m args meth c) (hM : mm_R G σ H) (hS0 : va_S (mm_A G) s.heap H locs) (av : List Value) : ∀ U : State, U.heap = H → s.WarmedH U.vm → va_Pc av (fun U => mm_W G σ U) av.toArray U := by
  obtain ⟨hx, hb, hml, hown, hts, hr, hlk, hK, hZ⟩ := cx
  exact fun U hU hW => ⟨rfl, mm_ret hM hK hZ hS0 hU hW⟩
/-- a method of the text k, called: it answers v -/
theorem my_Vi (cx : mm_Y own cc nL ret G p s m args meth c) (hM : mm_R G σ H) (hS0 : va_S (mm_A G) s.heap H locs) {k : Nat} (hk : k < 11) {v : Int32} (met : mm_Mi l y ws rm G (.ref (mm_s G k) :: As) σ (fun r σ1 => r = v ∧ σ1 = σ)) (cw : CallW R s args own "java/lang/String" index y bytes maxL rt ws rm 0 0 n) (hn : As.length = n) (hsize : ls.size = nL) (hst : st = As.reverse ++ .ref (mm_s G k) :: rest) (hroom : (rest.map fun v => v.category).sum ≤ 8) (hf : cells ≤ R.cells ∧ slots ≤ R.slots) (hdg : decode cc pc = .ok (.invokevirtual index, 3))
    (kk : ∀ (H1 : Heap) (locs1 : List Loc), mm_R G σ H1 → va_S (mm_A G) s.heap H1 locs1 → W p l e R s m args below meth c H1 locs1 cells slots Q (F0 m (pc + 3) ls (.int v :: rest))) : W p l e R s m args below meth c H locs cells slots Q (F0 m pc ls st) := by
  have cx' := cx
  obtain ⟨hx, hb, hml, hown, hts, hr, hlk, hK, hZ⟩ := cx'
  exact va_calli (va_runV (As := As) (rest := rest) ⟨hx, hb, hml, hown, hts⟩ met cw ⟨mm_blind, vk_recv hZ.2.2.2.1 hk hS0, my_pre cx hM hS0 (.ref (mm_s G k) :: As)⟩ rfl hn hsize hst (lv_room hroom) hdg hf) hS0 (fun q _ h => h) (fun q h => h) (fun r u t H1 locs1 ht hvm hw hB hz1 hk1 hS => by
    obtain ⟨rfl, rfl⟩ := hw
    exact kk H1 locs1 (mm_after ht hB) hS)
theorem my_Si (cx : mm_Y own cc nL ret G p s m args meth c) (hM : mm_R G σ H) (hS0 : va_S (mm_A G) s.heap H locs) {v : Int32} (met : mm_Mi l y ws rm G As σ (fun r σ1 => r = v ∧ σ1 = σ)) (cw : CallB R s args own index y bytes maxL rt ws rm 0 0 n ∧ (Cond.static y).before args s = true) (hn : As.length = n) (hsize : ls.size = nL) (hst : st = As.reverse ++ rest) (hroom : (rest.map fun v => v.category).sum ≤ 8) (hf : cells ≤ R.cells ∧ slots ≤ R.slots) (hdg : decode cc pc = .ok (.invokestatic index, 3))
    (kk : ∀ (H1 : Heap) (locs1 : List Loc), mm_R G σ H1 → va_S (mm_A G) s.heap H1 locs1 → W p l e R s m args below meth c H1 locs1 cells slots Q (F0 m (pc + 3) ls (.int v :: rest))) : W p l e R s m args below meth c H locs cells slots Q (F0 m pc ls st) := by
  have cx' := cx
  obtain ⟨hx, hb, hml, hown, hts, hr, hlk, hK, hZ⟩ := cx'
  exact va_calli (va_runS (As := As) (rest := rest) ⟨hx, hb, hml, hown, hts⟩ met cw ⟨mm_blind, my_pre cx hM hS0 As⟩ rfl hn hsize hst (lv_room hroom) hdg hf) hS0 (fun q _ h => h) (fun q h => h) (fun r u t H1 locs1 ht hvm hw hB hz1 hk1 hS => by
    obtain ⟨rfl, rfl⟩ := hw
    exact kk H1 locs1 (mm_after ht hB) hS)
theorem my_Sv (cx : mm_Y own cc nL ret G p s m args meth c) (hM : mm_R G σ H) (hS0 : va_S (mm_A G) s.heap H locs) (met : mm_Mv l y ws rm G As σ (fun σ1 => σ1 = σ)) (cw : CallB R s args own index y bytes maxL rt ws rm 0 0 n ∧ (Cond.static y).before args s = true) (hn : As.length = n) (hsize : ls.size = nL) (hst : st = As.reverse ++ rest) (hroom : (rest.map fun v => v.category).sum ≤ 8) (hf : cells ≤ R.cells ∧ slots ≤ R.slots) (hdg : decode cc pc = .ok (.invokestatic index, 3))
    (kk : ∀ (H1 : Heap) (locs1 : List Loc), mm_R G σ H1 → va_S (mm_A G) s.heap H1 locs1 → W p l e R s m args below meth c H1 locs1 cells slots Q (F0 m (pc + 3) ls rest)) : W p l e R s m args below meth c H locs cells slots Q (F0 m pc ls st) := by
  have cx' := cx
  obtain ⟨hx, hb, hml, hown, hts, hr, hlk, hK, hZ⟩ := cx'
  exact va_callv (va_runS (As := As) (rest := rest) ⟨hx, hb, hml, hown, hts⟩ met cw ⟨mm_blind, my_pre cx hM hS0 As⟩ rfl hn hsize hst (lv_room hroom) hdg hf) hS0 (fun q _ h => h) (fun q h => h) (fun u t H1 locs1 ht hvm hw hB hz1 hk1 hS => by
    subst hw
    exact kk H1 locs1 (mm_after ht hB) hS)
theorem my_Sl (cx : mm_Y own cc nL ret G p s m args meth c) (hM : mm_R G σ H) (hS0 : va_S (mm_A G) s.heap H locs) {v : Int64} (met : mm_Ml l y ws rm G As σ (fun r σ1 => r = v ∧ σ1 = σ)) (cw : CallB R s args own index y bytes maxL rt ws rm 0 0 n ∧ (Cond.static y).before args s = true) (hn : As.length = n) (hsize : ls.size = nL) (hst : st = As.reverse ++ rest) (hroom : (rest.map fun v => v.category).sum ≤ 8) (hf : cells ≤ R.cells ∧ slots ≤ R.slots) (hdg : decode cc pc = .ok (.invokestatic index, 3))
    (kk : ∀ (H1 : Heap) (locs1 : List Loc), mm_R G σ H1 → va_S (mm_A G) s.heap H1 locs1 → W p l e R s m args below meth c H1 locs1 cells slots Q (F0 m (pc + 3) ls (.long v :: rest))) : W p l e R s m args below meth c H locs cells slots Q (F0 m pc ls st) := by
  have cx' := cx
  obtain ⟨hx, hb, hml, hown, hts, hr, hlk, hK, hZ⟩ := cx'
  exact va_calll (va_runS (As := As) (rest := rest) ⟨hx, hb, hml, hown, hts⟩ met cw ⟨mm_blind, my_pre cx hM hS0 As⟩ rfl hn hsize hst (lv_room hroom) hdg hf) hS0 (fun q _ h => h) (fun q h => h) (fun r u t H1 locs1 ht hvm hw hB hz1 hk1 hS => by
    obtain ⟨rfl, rfl⟩ := hw
    exact kk H1 locs1 (mm_after ht hB) hS)
end MY
theorem MY_J14_coder (l : Launch) (G : mm_G) {k : Nat} (hk : k < 11) (σ : MS) : mm_Mi l yJ14_coder (ws_ yJ14_coder cJ14_coder 1 (some .byte)) ({ frames := 1, cells := 0, slots := 0, locals := 40 } : Room) G [.ref (mm_s G k)] σ (fun r σ1 => r = 0 ∧ σ1 = σ) := by
  refine my_of (own := "java/lang/String") (by decide +kernel) rfl ?_
  intro p e s m args below meth c cx hM ha
  refine mm_entry [.ref (mm_s G k)] 1 [(0, .ref (mm_s G k))] ha (by simp [lg_sl, my_ref, my_int, my_long]) (by simp [lv_args, my_ref, my_int, my_long]) (fun ls hl => ?_)
  have hS : va_S (mm_A G) s.heap s.heap [] := va_S.rf
  obtain ⟨hx, hb, hml, hown, hts, hrt, hlk, hK, hZ⟩ := id cx
  refine va_gets (v := .int 1) hx hb hZ.2.1 hS hown (hts _ q840) (fun _ h => h) dJ14_coder_0 ?_
  refine lv_if_eq (tgt := 13) hx hb dJ14_coder_3 (by decide) (fun h => absurd h (by decide)) (fun _ => ?_)
  refine lv_aload_n hx hb dJ14_coder_6 rfl (lv_at hl 0 rfl) ?_
  refine vk_getf hx hb (hZ.2.2.2.1.1 k hk).2.1 hS hown (hts _ q855) (fun _ h => h) dJ14_coder_7 ?_
  refine lv_goto (tgt := 14) hx hb dJ14_coder_10 (by decide) ?_
  exact my_nret cx hM hS rfl ⟨rfl, rfl⟩ dJ14_coder_14
theorem MY_J14_isLatin1 (l : Launch) (G : mm_G) {k : Nat} (hk : k < 11) (σ : MS) : mm_Mi l yJ14_isLatin1 (ws_ yJ14_isLatin1 cJ14_isLatin1 1 (some .boolean)) ({ frames := 1, cells := 0, slots := 0, locals := 40 } : Room) G [.ref (mm_s G k)] σ (fun r σ1 => r = 1 ∧ σ1 = σ) := by
  refine my_of (own := "java/lang/String") (by decide +kernel) rfl ?_
  intro p e s m args below meth c cx hM ha
  refine mm_entry [.ref (mm_s G k)] 1 [(0, .ref (mm_s G k))] ha (by simp [lg_sl, my_ref, my_int, my_long]) (by simp [lv_args, my_ref, my_int, my_long]) (fun ls hl => ?_)
  have hS : va_S (mm_A G) s.heap s.heap [] := va_S.rf
  obtain ⟨hx, hb, hml, hown, hts, hrt, hlk, hK, hZ⟩ := id cx
  refine va_gets (v := .int 1) hx hb hZ.2.1 hS hown (hts _ q840) (fun _ h => h) dJ14_isLatin1_0 ?_
  refine lv_if_eq (tgt := 17) hx hb dJ14_isLatin1_3 (by decide) (fun h => absurd h (by decide)) (fun _ => ?_)
  refine lv_aload_n hx hb dJ14_isLatin1_6 rfl (lv_at hl 0 rfl) ?_
  refine vk_getf hx hb (hZ.2.2.2.1.1 k hk).2.1 hS hown (hts _ q855) (fun _ h => h) dJ14_isLatin1_7 ?_
  refine lv_if_ne (tgt := 17) hx hb dJ14_isLatin1_10 (by decide) (fun h => absurd rfl h) (fun _ => ?_)
  refine lv_iconst (v := (1 : Int32)) hx hb dJ14_isLatin1_13 (by decide) ?_
  refine lv_goto (tgt := 18) hx hb dJ14_isLatin1_14 (by decide) ?_
  exact my_nret cx hM hS rfl ⟨rfl, rfl⟩ dJ14_isLatin1_18
theorem MY_J14_length (l : Launch) (G : mm_G) {k : Nat} (hk : k < 11) (σ : MS) : mm_Mi l yJ14_length (ws_ yJ14_length cJ14_length 1 (some .int)) ({ frames := 2, cells := 0, slots := 0, locals := 80 } : Room) G [.ref (mm_s G k)] σ (fun r σ1 => r = nI (mm_ln.getD k 0) ∧ σ1 = σ) := by
  refine my_of (own := "java/lang/String") (by decide +kernel) rfl ?_
  intro p e s m args below meth c cx hM ha
  refine mm_entry [.ref (mm_s G k)] 1 [(0, .ref (mm_s G k))] ha (by simp [lg_sl, my_ref, my_int, my_long]) (by simp [lv_args, my_ref, my_int, my_long]) (fun ls hl => ?_)
  have hS : va_S (mm_A G) s.heap s.heap [] := va_S.rf
  obtain ⟨hx, hb, hml, hown, hts, hrt, hlk, hK, hZ⟩ := id cx
  refine lv_aload_n hx hb dJ14_length_0 rfl (lv_at hl 0 rfl) ?_
  refine vk_getf hx hb (hZ.2.2.2.1.1 k hk).2.2.1 hS hown (hts _ q854) (fun _ h => h) dJ14_length_1 ?_
  refine va_tlen hx hb (hZ.2.2.2.1.1 k hk).2.2.2 hS (v := nI (mm_ln.getD k 0)) rfl dJ14_length_4 ?_
  refine lv_aload_n hx hb dJ14_length_5 rfl (lv_at hl 0 rfl) ?_
  refine my_Vi cx hM hS hk (v := 0) (As := []) (MY_J14_coder l G hk σ) (cwV 0 hts (lw_V q871 q872 q873 q176 q874) rfl rfl rfl (by decide +kernel) ⟨by decide, by decide⟩) rfl hl.1 rfl (Nat.le_of_ble_eq_true rfl) ⟨by decide, by decide⟩ dJ14_length_6 (fun H locs hM hS => ?_)
  refine lv_ishr hx hb dJ14_length_9 ?_
  exact my_iret cx hM hS ⟨by simp, rfl⟩ dJ14_length_10
theorem MY_J9_checkIndex (l : Launch) (G : mm_G) {i n : Int32} (h0 : ¬ i < 0) (h1 : i < n) {v : Value} (hv : v = .null ∨ ∃ a, v = .ref a) (σ : MS) : mm_Mi l yJ9_checkIndex (ws_ yJ9_checkIndex cJ9_checkIndex 3 (some .int)) ({ frames := 1, cells := 0, slots := 0, locals := 40 } : Room) G [.int i, .int n, v] σ (fun r σ1 => r = i ∧ σ1 = σ) := by
  have hcv : v.category = 1 := by rcases hv with rfl | ⟨a, rfl⟩ <;> rfl
  refine my_of (own := "jdk/internal/util/Preconditions") (by decide +kernel) rfl ?_
  intro p e s m args below meth c cx hM ha
  refine mm_entry [.int i, .int n, v] 3 [(0, .int i), (1, .int n), (2, v)] ha (by simp [lg_sl, my_ref, hcv, my_int, my_long]) (by simp [lv_args, my_ref, hcv, my_int, my_long]) (fun ls hl => ?_)
  have hS : va_S (mm_A G) s.heap s.heap [] := va_S.rf
  obtain ⟨hx, hb, hml, hown, hts, hrt, hlk, hK, hZ⟩ := id cx
  refine lv_iload_n hx hb dJ9_checkIndex_0 rfl (lv_at hl 0 rfl) ?_
  refine lv_if_lt (tgt := 9) hx hb dJ9_checkIndex_1 (by decide) (fun h => absurd h h0) (fun _ => ?_)
  refine lv_iload_n hx hb dJ9_checkIndex_4 rfl (lv_at hl 0 rfl) ?_
  refine lv_iload_n hx hb dJ9_checkIndex_5 rfl (lv_at hl 1 rfl) ?_
  refine lv_icmp_lt (tgt := 16) hx hb dJ9_checkIndex_6 (by decide) (fun _ => ?_) (fun h => absurd h1 h)
  refine lv_iload_n hx hb dJ9_checkIndex_16 rfl (lv_at hl 0 rfl) ?_
  exact my_iret cx hM hS ⟨rfl, rfl⟩ dJ9_checkIndex_17
theorem MY_J14_checkIndex (l : Launch) (G : mm_G) {i n : Int32} (h0 : ¬ i < 0) (h1 : i < n) (σ : MS) : mm_Mv l yJ14_checkIndex (ws_ yJ14_checkIndex cJ14_checkIndex 2 none) ({ frames := 2, cells := 0, slots := 0, locals := 80 } : Room) G [.int i, .int n] σ (fun σ1 => σ1 = σ) := by
  refine my_of (own := "java/lang/String") (by decide +kernel) rfl ?_
  intro p e s m args below meth c cx hM ha
  refine mm_entry [.int i, .int n] 2 [(0, .int i), (1, .int n)] ha (by simp [lg_sl, my_ref, my_int, my_long]) (by simp [lv_args, my_ref, my_int, my_long]) (fun ls hl => ?_)
  have hS : va_S (mm_A G) s.heap s.heap [] := va_S.rf
  obtain ⟨hx, hb, hml, hown, hts, hrt, hlk, hK, hZ⟩ := id cx
  refine lv_iload_n hx hb dJ14_checkIndex_0 rfl (lv_at hl 0 rfl) ?_
  refine lv_iload_n hx hb dJ14_checkIndex_1 rfl (lv_at hl 1 rfl) ?_
  have hgo : ∀ v : Value, (v = .null ∨ ∃ a, v = .ref a) → va_Z "jdk/internal/util/Preconditions" "SIOOBE_FORMATTER" "Ljava/util/function/BiFunction;" v (mm_A G) s s.heap → W p l e ({ frames := 2, cells := 0, slots := 0, locals := 80 } : Room) s m args below meth c s.heap [] 0 0 (MQ below (va_Qv (fun σ1 => σ1 = σ) (fun σ' t => mm_W G σ' t) (mm_A G)) args s 0 0 (mm_A G)) (F0 m 2 ls [.int n, .int i]) := by
    intro v hv hz
    refine va_gets (v := v) hx hb hz hS hown (hts _ q780) (fun _ h => h) dJ14_checkIndex_2 ?_
    refine my_Si cx hM hS (v := i) (As := [.int i, .int n, v]) (MY_J9_checkIndex l G h0 h1 hv σ) (va_cwS 3 hts (lw_S q803 q402 q167 q403) rfl rfl rfl (by decide +kernel) ⟨by decide, by decide⟩) rfl hl.1 rfl (Nat.le_of_ble_eq_true rfl) ⟨by decide, by decide⟩ dJ14_checkIndex_5 (fun H locs hM hS => ?_)
    refine lv_pop hx hb dJ14_checkIndex_8 rfl ?_
    exact my_vret cx hM hS rfl dJ14_checkIndex_9
  rcases hZ.2.2.1 with h | ⟨a, h⟩
  · exact hgo _ (Or.inl rfl) h
  · exact hgo _ (Or.inr ⟨a, rfl⟩) h
theorem mm_ln6 (k : Nat) : mm_ln.getD k 0 < 6 := by
  by_cases h : k < 11
  · revert h; revert k; decide
  · rw [List.getD_eq_getElem?_getD, List.getElem?_eq_none (by show 11 ≤ k; omega)]
    decide
theorem mm_byte : ∀ k, k < 11 → ∀ j, j < mm_ln.getD k 0 → ((((mm_by.getD k []).getD j 0) &&& 255).toUInt32 % 65536).toInt32 = (mm_by.getD k []).getD j 0 ∧ narrow .char (.int ((mm_by.getD k []).getD j 0)) = .int ((mm_by.getD k []).getD j 0) := by
  have key : ∀ k, k < 11 → ∀ j, j < 6 → j < mm_ln.getD k 0 → ((((mm_by.getD k []).getD j 0) &&& 255).toUInt32 % 65536).toInt32 = (mm_by.getD k []).getD j 0 ∧ narrow .char (.int ((mm_by.getD k []).getD j 0)) = .int ((mm_by.getD k []).getD j 0) := by decide +kernel
  exact fun k hk j hj => key k hk j (Nat.lt_trans hj (mm_ln6 k)) hj
theorem MY_J19_charAt (l : Launch) (G : mm_G) {k j : Nat} (hk : k < 11) (hj : j < mm_ln.getD k 0) (σ : MS) : mm_Mi l yJ19_charAt (ws_ yJ19_charAt cJ19_charAt 2 (some .char)) ({ frames := 3, cells := 0, slots := 0, locals := 120 } : Room) G [.ref (mm_v G k), .int (nI j)] σ (fun r σ1 => r = (mm_by.getD k []).getD j 0 ∧ σ1 = σ) := by
  refine my_of (own := "java/lang/StringLatin1") (by decide +kernel) rfl ?_
  intro p e s m args below meth c cx hM ha
  refine mm_entry [.ref (mm_v G k), .int (nI j)] 2 [(0, .ref (mm_v G k)), (1, .int (nI j))] ha (by simp [lg_sl, my_ref, my_int, my_long]) (by simp [lv_args, my_ref, my_int, my_long]) (fun ls hl => ?_)
  have hS : va_S (mm_A G) s.heap s.heap [] := va_S.rf
  obtain ⟨hx, hb, hml, hown, hts, hrt, hlk, hK, hZ⟩ := id cx
  have hT := (hZ.2.2.2.1.1 k hk).2.2.2
  have hln : mm_ln.getD k 0 < 6 := mm_ln6 k
  refine lv_iload_n hx hb dJ19_charAt_0 rfl (lv_at hl 1 rfl) ?_
  refine lv_aload_n hx hb dJ19_charAt_1 rfl (lv_at hl 0 rfl) ?_
  refine va_tlen hx hb hT hS (v := nI (mm_ln.getD k 0)) rfl dJ19_charAt_2 ?_
  refine my_Sv cx hM hS (As := [.int (nI j), .int (nI (mm_ln.getD k 0))]) (MY_J14_checkIndex l G (nI_pos (by omega)) (nI_lt hj (by omega)) σ) (va_cwS 2 hts (lw_S q2591 q801 q176 q802) rfl rfl rfl (by decide +kernel) ⟨by decide, by decide⟩) rfl hl.1 rfl (Nat.le_of_ble_eq_true rfl) ⟨by decide, by decide⟩ dJ19_charAt_3 (fun H locs hM hS => ?_)
  refine lv_aload_n hx hb dJ19_charAt_6 rfl (lv_at hl 0 rfl) ?_
  refine lv_iload_n hx hb dJ19_charAt_7 rfl (lv_at hl 1 rfl) ?_
  refine va_tb hx hb hT hS (i := nI j) (v := .int ((mm_by.getD k []).getD j 0)) (fun h => by rcases h with h | h; exact nI_pos (by omega) h; rw [nI_clamp (by omega)] at h; omega) (by rw [nI_clamp (by omega)]) dJ19_charAt_8 ?_
  refine lv_sipush (v := (255 : Int32)) hx hb dJ19_charAt_9 (by decide) ?_
  refine lv_iand hx hb dJ19_charAt_12 ?_
  refine lv_i2c hx hb dJ19_charAt_13 rfl ?_
  obtain ⟨b1, b2⟩ := mm_byte k hk j hj
  refine my_nret cx hM hS ?_ ⟨b1, rfl⟩ dJ19_charAt_14
  rw [b1]
  exact b2
theorem MY_J14_charAt (l : Launch) (G : mm_G) {k j : Nat} (hk : k < 11) (hj : j < mm_ln.getD k 0) (σ : MS) : mm_Mi l yJ14_charAt (ws_ yJ14_charAt cJ14_charAt 2 (some .char)) ({ frames := 4, cells := 0, slots := 0, locals := 160 } : Room) G [.ref (mm_s G k), .int (nI j)] σ (fun r σ1 => r = (mm_by.getD k []).getD j 0 ∧ σ1 = σ) := by
  refine my_of (own := "java/lang/String") (by decide +kernel) rfl ?_
  intro p e s m args below meth c cx hM ha
  refine mm_entry [.ref (mm_s G k), .int (nI j)] 2 [(0, .ref (mm_s G k)), (1, .int (nI j))] ha (by simp [lg_sl, my_ref, my_int, my_long]) (by simp [lv_args, my_ref, my_int, my_long]) (fun ls hl => ?_)
  have hS : va_S (mm_A G) s.heap s.heap [] := va_S.rf
  obtain ⟨hx, hb, hml, hown, hts, hrt, hlk, hK, hZ⟩ := id cx
  refine lv_aload_n hx hb dJ14_charAt_0 rfl (lv_at hl 0 rfl) ?_
  refine my_Vi cx hM hS hk (v := 1) (As := []) (MY_J14_isLatin1 l G hk σ) (cwV 0 hts (lw_V q884 q885 q886 q176 q887) rfl rfl rfl (by decide +kernel) ⟨by decide, by decide⟩) rfl hl.1 rfl (Nat.le_of_ble_eq_true rfl) ⟨by decide, by decide⟩ dJ14_charAt_1 (fun H locs hM hS => ?_)
  refine lv_if_eq (tgt := 16) hx hb dJ14_charAt_4 (by decide) (fun h => absurd h (by decide)) (fun _ => ?_)
  refine lv_aload_n hx hb dJ14_charAt_7 rfl (lv_at hl 0 rfl) ?_
  refine vk_getf hx hb (hZ.2.2.2.1.1 k hk).2.2.1 hS hown (hts _ q854) (fun _ h => h) dJ14_charAt_8 ?_
  refine lv_iload_n hx hb dJ14_charAt_11 rfl (lv_at hl 1 rfl) ?_
  refine my_Si cx hM hS (v := (mm_by.getD k []).getD j 0) (As := [.ref (mm_v G k), .int (nI j)]) (MY_J19_charAt l G hk hj σ) (va_cwS 2 hts (lw_S q2588 q2589 q182 q2590) rfl rfl rfl (by decide +kernel) ⟨by decide, by decide⟩) rfl hl.1 rfl (Nat.le_of_ble_eq_true rfl) ⟨by decide, by decide⟩ dJ14_charAt_12 (fun H locs hM hS => ?_)
  exact my_nret cx hM hS (mm_byte k hk j hj).2 ⟨rfl, rfl⟩ dJ14_charAt_15
def w3_spell (k : Nat) : Int64 := ((mm_by.getD k []).foldl (fun w c => 27 * w + c.toInt64 - 96) 0)
def mm_sp (k n : Nat) : Int64 := (((mm_by.getD k []).take n).foldl (fun w c => 27 * w + c.toInt64 - 96) 0)
theorem mm_sp_s : ∀ k, k < 11 → ∀ j, j < mm_ln.getD k 0 → mm_sp k (j + 1) = 27 * mm_sp k j + ((mm_by.getD k []).getD j 0).toInt64 - 96 := by
  have key : ∀ k, k < 11 → ∀ j, j < 6 → j < mm_ln.getD k 0 → mm_sp k (j + 1) = 27 * mm_sp k j + ((mm_by.getD k []).getD j 0).toInt64 - 96 := by decide +kernel
  exact fun k hk j hj => key k hk j (Nat.lt_trans hj (mm_ln6 k)) hj
theorem mm_sp_e : ∀ k, k < 11 → mm_sp k (mm_ln.getD k 0) = w3_spell k := by decide +kernel
theorem MY_X3_spelled (l : Launch) (G : mm_G) {k : Nat} (hk : k < 11) (σ : MS) : mm_Ml l yX3_spelled (ws_ yX3_spelled cX3_spelled 4 (some .long)) ({ frames := 5, cells := 0, slots := 0, locals := 200 } : Room) G [.ref (mm_s G k)] σ (fun r σ1 => r = w3_spell k ∧ σ1 = σ) := by
  refine my_of (own := "StruckCountsModel") (by decide +kernel) rfl ?_
  intro p e s m args below meth c cx hM ha
  refine mm_entry [.ref (mm_s G k)] 4 [(0, .ref (mm_s G k))] ha (by simp [lg_sl, my_ref, my_int, my_long]) (by simp [lv_args, my_ref, my_int, my_long]) (fun ls hl => ?_)
  have hS : va_S (mm_A G) s.heap s.heap [] := va_S.rf
  obtain ⟨hx, hb, hml, hown, hts, hrt, hlk, hK, hZ⟩ := id cx
  refine lv_lconst (v := (0 : Int64)) hx hb dX3_spelled_0 rfl ?_
  refine lv_lstore_n (i := 1) (lv' := [(1, .long 0), (0, .ref (mm_s G k))]) hx hb dX3_spelled_1 rfl hl (by decide) (by simp [my_ref]) (fun ls hl => ?_)
  refine lv_iconst (v := (0 : Int32)) hx hb dX3_spelled_2 (by decide) ?_
  refine lv_istore_n (i := 3) (lv' := [(3, .int 0), (1, .long 0), (0, .ref (mm_s G k))]) hx hb dX3_spelled_3 rfl hl (by decide) (by simp [my_ref, my_long]) (fun ls hl => ?_)
  have key : ∀ (d j : Nat), d + j = mm_ln.getD k 0 → ∀ (H : Heap) (locs : List Loc) (ls : Array Slot), mm_R G σ H → va_S (mm_A G) s.heap H locs → lv_has ls 4 [(3, .int (nI j)), (1, .long (mm_sp k j)), (0, .ref (mm_s G k))] → W p l e ({ frames := 5, cells := 0, slots := 0, locals := 200 } : Room) s m args below meth c H locs 0 0 (MQ below (va_Ql (fun r σ1 => r = w3_spell k ∧ σ1 = σ) (fun σ' t => mm_W G σ' t) (mm_A G)) args s 0 0 (mm_A G)) (F0 m 4 ls []) := by
    intro d
    have hln := mm_ln6 k
    induction d with
    | zero =>
      intro j hj H locs ls hM hS hl
      refine lv_iload_n hx hb dX3_spelled_4 rfl (lv_at hl 0 rfl) ?_
      refine lv_aload_n hx hb dX3_spelled_5 rfl (lv_at hl 2 rfl) ?_
      refine my_Vi cx hM hS hk (v := nI (mm_ln.getD k 0)) (As := []) (MY_J14_length l G hk σ) (cwV 0 hts (lw_V q2583 q868 q869 q176 q870) rfl rfl rfl (by decide +kernel) ⟨by decide, by decide⟩) rfl hl.1 rfl (Nat.le_of_ble_eq_true rfl) ⟨by decide, by decide⟩ dX3_spelled_6 (fun H locs hM hS => ?_)
      refine lv_icmp_ge (tgt := 35) hx hb dX3_spelled_9 (by decide) (fun _ => ?_) (fun h => absurd (nI_le (by omega) (by omega)) h)
      refine lv_lload_n hx hb dX3_spelled_35 rfl (lv_at hl 1 rfl) ?_
      rw [show j = mm_ln.getD k 0 by omega, mm_sp_e k hk]
      exact mm_lret cx hM hS ⟨rfl, rfl⟩ dX3_spelled_36
    | succ d ih =>
      intro j hj H locs ls hM hS hl
      refine lv_iload_n hx hb dX3_spelled_4 rfl (lv_at hl 0 rfl) ?_
      refine lv_aload_n hx hb dX3_spelled_5 rfl (lv_at hl 2 rfl) ?_
      refine my_Vi cx hM hS hk (v := nI (mm_ln.getD k 0)) (As := []) (MY_J14_length l G hk σ) (cwV 0 hts (lw_V q2583 q868 q869 q176 q870) rfl rfl rfl (by decide +kernel) ⟨by decide, by decide⟩) rfl hl.1 rfl (Nat.le_of_ble_eq_true rfl) ⟨by decide, by decide⟩ dX3_spelled_6 (fun H locs hM hS => ?_)
      refine lv_icmp_ge (tgt := 35) hx hb dX3_spelled_9 (by decide) (fun h => absurd h (nI_ge (by omega) (by omega))) (fun _ => ?_)
      refine lv_ldc2 (v := (27 : Int64)) hx hb hown (hts _ q2569) dX3_spelled_12 ?_
      refine lv_lload_n hx hb dX3_spelled_15 rfl (lv_at hl 1 rfl) ?_
      refine lv_lmul hx hb dX3_spelled_16 ?_
      refine lv_aload_n hx hb dX3_spelled_17 rfl (lv_at hl 2 rfl) ?_
      refine lv_iload_n hx hb dX3_spelled_18 rfl (lv_at hl 0 rfl) ?_
      refine my_Vi cx hM hS hk (v := (mm_by.getD k []).getD j 0) (As := [.int (nI j)]) (MY_J14_charAt l G hk (by omega) σ) (cwV 1 hts (lw_V q2584 q2585 q2586 q176 q2587) rfl rfl rfl (by decide +kernel) ⟨by decide, by decide⟩) rfl hl.1 rfl (Nat.le_of_ble_eq_true rfl) ⟨by decide, by decide⟩ dX3_spelled_19 (fun H locs hM hS => ?_)
      refine lv_i2l hx hb dX3_spelled_22 rfl ?_
      refine lv_ladd hx hb dX3_spelled_23 ?_
      refine lv_ldc2 (v := (96 : Int64)) hx hb hown (hts _ q2570) dX3_spelled_24 ?_
      refine lv_lsub hx hb dX3_spelled_27 ?_
      rw [← mm_sp_s k hk j (by omega)]
      refine lv_lstore_n (i := 1) (lv' := [(1, .long (mm_sp k (j + 1))), (3, .int (nI j)), (0, .ref (mm_s G k))]) hx hb dX3_spelled_28 rfl hl (by decide) (by simp [my_ref, my_int]) (fun ls hl => ?_)
      refine lv_iinc (v := nI (j + 1)) (lv' := [(3, .int (nI (j + 1))), (1, .long (mm_sp k (j + 1))), (0, .ref (mm_s G k))]) hx hb dX3_spelled_29 hl (k := 1) rfl (by rw [nI_succ]; rfl) (by decide) (by simp [my_ref, my_long]) (fun ls hl => ?_)
      refine lv_goto (tgt := 4) hx hb dX3_spelled_32 (by decide) ?_
      exact ih (j + 1) (by omega) H locs ls hM hS hl
  exact key _ 0 (Nat.add_zero _) _ _ ls hM hS hl
def w3_isWord (x1 : Nat) (σ : MS) (Q : Int32 → MS → Prop) : Prop := x1 < 11 ∧ Q (if gI σ 17 = 0 ∧ gI σ 14 = 2 ∧ gL σ 21 = w3_spell x1 then 1 else 0) σ
theorem M3_isWord (l : Launch) (G : mm_G) (x1 : Nat) (σ : MS) (Q : Int32 → MS → Prop) (hw : w3_isWord x1 σ Q) : mm_Mi l yX3_isWord (ws_ yX3_isWord cX3_isWord 2 (some .boolean)) ({ frames := 8, cells := 0, slots := 0, locals := 320 } : Room) G [.ref (mm_o G), .ref (mm_s G x1)] σ Q := by
  refine my_of (own := "StruckCountsModel") (by decide +kernel) rfl ?_
  intro p e s m args below meth c cx hM ha
  refine mm_entry [.ref (mm_o G), .ref (mm_s G x1)] 2 [(0, .ref (mm_o G)), (1, .ref (mm_s G x1))] ha (by simp [lg_sl, my_ref]) (by simp [lv_args, my_ref]) (fun ls hl => ?_)
  have hS : va_S (mm_A G) s.heap s.heap [] := va_S.rf
  obtain ⟨hx, hb, hml, hown, hts, hrt, hlk, hK, hZ⟩ := id cx
  obtain ⟨hk, hw⟩ := hw
  refine lv_aload_n hx hb dX3_isWord_0 rfl (lv_at hl 0 rfl) ?_
  refine mm_get cx hM 17 (by decide) (index := 126) q2431 (v := .int (gI σ 17)) rfl dX3_isWord_1 ?_
  refine lv_if_ne (tgt := 31) hx hb dX3_isWord_4 (by decide) (fun hc => ?_) (fun hc => ?_)
  · rw [if_neg (fun h => hc h.1)] at hw
    refine lv_iconst (v := (0 : Int32)) hx hb dX3_isWord_31 (by decide) ?_
    exact mm_zret cx hM hS (Or.inl rfl) hw dX3_isWord_32
  refine lv_aload_n hx hb dX3_isWord_7 rfl (lv_at hl 0 rfl) ?_
  refine mm_get cx hM 14 (by decide) (index := 109) q2428 (v := .int (gI σ 14)) rfl dX3_isWord_8 ?_
  refine lv_iconst (v := (2 : Int32)) hx hb dX3_isWord_11 (by decide) ?_
  refine lv_icmp_ne (tgt := 31) hx hb dX3_isWord_12 (by decide) (fun hd => ?_) (fun hd => ?_)
  · rw [if_neg (fun h => hd h.2.1)] at hw
    refine lv_iconst (v := (0 : Int32)) hx hb dX3_isWord_31 (by decide) ?_
    exact mm_zret cx hM hS (Or.inl rfl) hw dX3_isWord_32
  refine lv_aload_n hx hb dX3_isWord_15 rfl (lv_at hl 0 rfl) ?_
  refine mm_get cx hM 21 (by decide) (index := 105) q2435 (v := .long (gL σ 21)) rfl dX3_isWord_16 ?_
  refine lv_aload_n hx hb dX3_isWord_19 rfl (lv_at hl 1 rfl) ?_
  refine my_Sl cx hM hS (v := w3_spell x1) (As := [.ref (mm_s G x1)]) (MY_X3_spelled l G hk σ) (va_cwS 1 hts (lw_S q2580 q2581 q172 q2582) rfl rfl rfl (by decide +kernel) ⟨by decide, by decide⟩) rfl hl.1 rfl (Nat.le_of_ble_eq_true rfl) ⟨by decide, by decide⟩ dX3_isWord_20 (fun H locs hM hS => ?_)
  refine W.lcmp hx hb dX3_isWord_23 ?_
  refine lv_if_ne (tgt := 31) hx hb dX3_isWord_24 (by decide) (fun he => ?_) (fun he => ?_)
  · rw [if_neg (fun h => he ((lg_cmp_eq _ _).mpr h.2.2))] at hw
    refine lv_iconst (v := (0 : Int32)) hx hb dX3_isWord_31 (by decide) ?_
    exact mm_zret cx hM hS (Or.inl rfl) hw dX3_isWord_32
  rw [if_pos ⟨by simpa using hc, by simpa using hd, (lg_cmp_eq _ _).mp (by simpa using he)⟩] at hw
  refine lv_iconst (v := (1 : Int32)) hx hb dX3_isWord_27 (by decide) ?_
  refine lv_goto (tgt := 32) hx hb dX3_isWord_28 (by decide) ?_
  exact mm_zret cx hM hS (Or.inr rfl) hw dX3_isWord_32
