/-! THE MODEL's OWN MODE: its object and arrays as one record of four functions; rows over it. -/
set_option maxRecDepth 100000
abbrev MS : Type := (Nat → Int32) × (Nat → Int64) × (Nat → Nat → Int32) × (Nat → Nat → Int64)
def gI (σ : MS) (k : Nat) : Int32 := σ.1 k
def gL (σ : MS) (k : Nat) : Int64 := σ.2.1 k
def gA (σ : MS) (k j : Nat) : Int32 := σ.2.2.1 k j
def gB (σ : MS) (k j : Nat) : Int64 := σ.2.2.2 k j
def sI (σ : MS) (k : Nat) (v : Int32) : MS := (fun j => if j = k then v else σ.1 j, σ.2)
def sL (σ : MS) (k : Nat) (v : Int64) : MS := (σ.1, fun j => if j = k then v else σ.2.1 j, σ.2.2)
def sA (σ : MS) (k i : Nat) (v : Int32) : MS := (σ.1, σ.2.1, fun a j => if a = k ∧ j = i then v else σ.2.2.1 a j, σ.2.2.2)
def sB (σ : MS) (k i : Nat) (v : Int64) : MS := (σ.1, σ.2.1, σ.2.2.1, fun a j => if a = k ∧ j = i then v else σ.2.2.2 a j)
theorem gI_sI (σ : MS) (k j : Nat) (v : Int32) : gI (sI σ k v) j = if j = k then v else gI σ j := rfl
theorem gI_sL (σ : MS) (k j : Nat) (v : Int64) : gI (sL σ k v) j = gI σ j := rfl
theorem gI_sA (σ : MS) (k i j : Nat) (v : Int32) : gI (sA σ k i v) j = gI σ j := rfl
theorem gI_sB (σ : MS) (k i j : Nat) (v : Int64) : gI (sB σ k i v) j = gI σ j := rfl
theorem gL_sI (σ : MS) (k j : Nat) (v : Int32) : gL (sI σ k v) j = gL σ j := rfl
theorem gL_sL (σ : MS) (k j : Nat) (v : Int64) : gL (sL σ k v) j = if j = k then v else gL σ j := rfl
theorem gL_sA (σ : MS) (k i j : Nat) (v : Int32) : gL (sA σ k i v) j = gL σ j := rfl
theorem gL_sB (σ : MS) (k i j : Nat) (v : Int64) : gL (sB σ k i v) j = gL σ j := rfl
theorem gA_sI (σ : MS) (k a j : Nat) (v : Int32) : gA (sI σ k v) a j = gA σ a j := rfl
theorem gA_sL (σ : MS) (k a j : Nat) (v : Int64) : gA (sL σ k v) a j = gA σ a j := rfl
theorem gA_sA (σ : MS) (k i a j : Nat) (v : Int32) : gA (sA σ k i v) a j = if a = k ∧ j = i then v else gA σ a j := rfl
theorem gA_sB (σ : MS) (k i a j : Nat) (v : Int64) : gA (sB σ k i v) a j = gA σ a j := rfl
theorem gB_sI (σ : MS) (k a j : Nat) (v : Int32) : gB (sI σ k v) a j = gB σ a j := rfl
theorem gB_sL (σ : MS) (k a j : Nat) (v : Int64) : gB (sL σ k v) a j = gB σ a j := rfl
theorem gB_sA (σ : MS) (k i a j : Nat) (v : Int32) : gB (sA σ k i v) a j = gB σ a j := rfl
theorem gB_sB (σ : MS) (k i a j : Nat) (v : Int64) : gB (sB σ k i v) a j = if a = k ∧ j = i then v else gB σ a j := rfl
/-- int arrays, by the number of the field (42: THREES) -/
def mm_i (k : Nat) : Bool := match k with
  | 0 => true | 1 => true | 4 => true | 5 => true | 6 => true | 9 => true | 23 => true | 24 => true | 25 => true | 26 => true | 27 => true | 28 => true | 29 => true | 30 => true | 33 => true | 34 => true | 35 => true | 38 => true | 42 => true
  | _ => false
/-- int arrays that may be written -/
def mm_w (k : Nat) : Bool := match k with
  | 0 => true | 1 => true | 4 => true | 5 => true | 6 => true | 9 => true | 23 => true | 24 => true | 25 => true | 26 => true | 27 => true | 28 => true | 29 => true | 30 => true | 33 => true | 34 => true | 35 => true | 38 => true
  | _ => false
/-- all arrays of the object's own -/
def mm_r (k : Nat) : Bool := mm_w k || (k == 2 || (k == 3 || k == 7))
def mm_z (k : Nat) : Nat := match k with
  | 0 => 640 | 1 => 640 | 4 => 83 | 5 => 1328 | 6 => 166 | 9 => 480 | 23 => 490 | 24 => 8 | 25 => 256 | 26 => 40 | 27 => 8 | 28 => 8 | 29 => 8 | 30 => 8 | 33 => 6561 | 34 => 6561 | 35 => 6561 | 38 => 256 | 42 => 9
  | _ => 0
/-- class, slots, the classes of int[], long[], boolean[], the object, its arrays, the texts, their bytes -/
abbrev mm_G : Type := ClassId × (Nat → Nat) × ClassId × ClassId × ClassId × Nat × (Nat → Nat) × (Nat → Nat) × (Nat → Nat)
abbrev mm_cI (G : mm_G) : ClassId := G.2.2.1
abbrev mm_cL (G : mm_G) : ClassId := G.2.2.2.1
abbrev mm_cZ (G : mm_G) : ClassId := G.2.2.2.2.1
abbrev mm_o (G : mm_G) : Nat := G.2.2.2.2.2.1
abbrev mm_a (G : mm_G) : Nat → Nat := G.2.2.2.2.2.2.1
abbrev mm_s (G : mm_G) : Nat → Nat := G.2.2.2.2.2.2.2.1
abbrev mm_v (G : mm_G) : Nat → Nat := G.2.2.2.2.2.2.2.2
/-- the model's texts: entry, text, length, bytes -/
def mm_ix (k : Nat) : Nat := [133, 139, 141, 143, 145, 147, 149, 151, 153, 155, 157].getD k 0
def mm_tx (k : Nat) : String := ["fact", "never", "count", "worth", "arose", "needs", "plea", "says", "same", "limit", "of"].getD k ""
def mm_ln : List Nat := [4, 5, 5, 5, 5, 5, 4, 4, 4, 5, 2]
def mm_by : List (List Int32) := [[102, 97, 99, 116], [110, 101, 118, 101, 114], [99, 111, 117, 110, 116], [119, 111, 114, 116, 104], [97, 114, 111, 115, 101], [110, 101, 101, 100, 115], [112, 108, 101, 97], [115, 97, 121, 115], [115, 97, 109, 101], [108, 105, 109, 105, 116], [111, 102]]
def mm_V (G : mm_G) (σ : MS) (k : Nat) : Value := match k with
  | 0 => .ref (mm_a G 0) | 1 => .ref (mm_a G 1) | 2 => .ref (mm_a G 2) | 3 => .ref (mm_a G 3) | 4 => .ref (mm_a G 4) | 5 => .ref (mm_a G 5) | 6 => .ref (mm_a G 6) | 7 => .ref (mm_a G 7)
  | 8 => .int (gI σ 8) | 9 => .ref (mm_a G 9) | 10 => .int (gI σ 10) | 11 => .int (gI σ 11) | 12 => .int (gI σ 12) | 13 => .int (gI σ 13) | 14 => .int (gI σ 14) | 15 => .int (gI σ 15) | 16 => .int (gI σ 16) | 17 => .int (gI σ 17) | 18 => .int (gI σ 18) | 19 => .int (gI σ 19) | 20 => .int (gI σ 20)
  | 21 => .long (gL σ 21) | 22 => .int (gI σ 22) | 23 => .ref (mm_a G 23) | 24 => .ref (mm_a G 24) | 25 => .ref (mm_a G 25) | 26 => .ref (mm_a G 26) | 27 => .ref (mm_a G 27) | 28 => .ref (mm_a G 28) | 29 => .ref (mm_a G 29) | 30 => .ref (mm_a G 30)
  | 31 => .int (gI σ 31) | 32 => .int (gI σ 32) | 33 => .ref (mm_a G 33) | 34 => .ref (mm_a G 34) | 35 => .ref (mm_a G 35) | 36 => .long (gL σ 36) | 37 => .long (gL σ 37) | 38 => .ref (mm_a G 38) | 39 => .int (gI σ 39) | 40 => .long (gL σ 40) | 41 => .long (gL σ 41)
  | _ => .null
/-- a field of numbers -/
def mm_sc (k : Nat) : Bool := match k with
  | 8 => true | 10 => true | 11 => true | 12 => true | 13 => true | 14 => true | 15 => true | 16 => true | 17 => true | 18 => true | 19 => true | 20 => true | 22 => true | 31 => true | 32 => true | 39 => true
  | _ => false
def mm_sl (k : Nat) : Bool := match k with
  | 21 => true | 36 => true | 37 => true | 40 => true | 41 => true
  | _ => false
theorem mm_V_sI (G : mm_G) (σ : MS) (k : Nat) (v : Int32) (hk : mm_sc k = true) (j : Nat) (hj : j < 42) : updV (mm_V G σ) k (.int v) j = mm_V G (sI σ k v) j := by
  unfold updV
  by_cases h : j = k
  · subst h
    rw [if_pos rfl]
    match j, hj, hk with
    | 8, _, _ => rfl
    | 10, _, _ => rfl
    | 11, _, _ => rfl
    | 12, _, _ => rfl
    | 13, _, _ => rfl
    | 14, _, _ => rfl
    | 15, _, _ => rfl
    | 16, _, _ => rfl
    | 17, _, _ => rfl
    | 18, _, _ => rfl
    | 19, _, _ => rfl
    | 20, _, _ => rfl
    | 22, _, _ => rfl
    | 31, _, _ => rfl
    | 32, _, _ => rfl
    | 39, _, _ => rfl
  · rw [if_neg h]
    have hg : gI (sI σ k v) j = gI σ j := by rw [gI_sI, if_neg h]
    have hl : gL (sI σ k v) j = gL σ j := rfl
    unfold mm_V
    split <;> first | rfl | (rw [hg]) | (rw [hl])
theorem mm_V_sL (G : mm_G) (σ : MS) (k : Nat) (v : Int64) (hk : mm_sl k = true) (j : Nat) (hj : j < 42) : updV (mm_V G σ) k (.long v) j = mm_V G (sL σ k v) j := by
  unfold updV
  by_cases h : j = k
  · subst h
    rw [if_pos rfl]
    match j, hj, hk with
    | 21, _, _ => rfl
    | 36, _, _ => rfl
    | 37, _, _ => rfl
    | 40, _, _ => rfl
    | 41, _, _ => rfl
  · rw [if_neg h]
    have hg : gI (sL σ k v) j = gI σ j := rfl
    have hl : gL (sL σ k v) j = gL σ j := by rw [gL_sL, if_neg h]
    unfold mm_V
    split <;> first | rfl | (rw [hg]) | (rw [hl])
theorem mm_V_sA (G : mm_G) (σ : MS) (k i : Nat) (v : Int32) : mm_V G (sA σ k i v) = mm_V G σ := rfl
theorem mm_V_sB (G : mm_G) (σ : MS) (k i : Nat) (v : Int64) : mm_V G (sB σ k i v) = mm_V G σ := rfl
/-- what the class tables say, and that the cells are apart -/
def mm_K (G : mm_G) (U : State) : Prop := u_Kn U RX3 TX3 42 G.1 G.2.1 ∧ ArrOfT U (mm_cI G) .int ∧ ArrOfT U (mm_cL G) .long ∧ ArrOfT U (mm_cZ G) .boolean ∧ (∀ i j, mm_r i = true ∨ i = 42 → mm_r j = true ∨ j = 42 → mm_a G i = mm_a G j → i = j) ∧ ∀ i, mm_r i = true ∨ i = 42 → mm_a G i ≠ mm_o G
theorem mm_K.moved {G : mm_G} {u U : State} (hvm : u.vm.Alike U.vm) (h : mm_K G u) : mm_K G U := ⟨u_Kn_moved hvm h.1, arrOfT_moved hvm h.2.1, arrOfT_moved hvm h.2.2.1, arrOfT_moved hvm h.2.2.2.1, h.2.2.2.2⟩
/-- the cells that the object owns -/
def mm_A (G : mm_G) (q : Nat) : Prop := q = mm_o G ∨ ∃ k, mm_r k = true ∧ q = mm_a G k
def mm_R (G : mm_G) (σ : MS) (H : Heap) : Prop := t_OB (mm_o G) G.1 42 G.2.1 H (mm_V G σ) ∧ (∀ k, mm_i k = true → H[mm_a G k]? = some (vp_cell (mm_cI G) (mm_z k, .inl (gA σ k)))) ∧ (∀ k, k = 2 ∨ k = 3 → H[mm_a G k]? = some (vp_cell (mm_cL G) (13, .inr (.inl (gB σ k))))) ∧ H[mm_a G 7]? = some (vp_cell (mm_cZ G) (2, .inl (gA σ 7)))
/-- what stands outside: THREES, the texts, three statics of the JDK's -/
def mm_Z (G : mm_G) (U : State) (H : Heap) : Prop := va_Z "StruckCountsModel" "THREES" "[I" (.ref (mm_a G 42)) (mm_A G) U H ∧ va_Z "java/lang/String" "COMPACT_STRINGS" "Z" (.int 1) (mm_A G) U H ∧ va_Zq "jdk/internal/util/Preconditions" "SIOOBE_FORMATTER" "Ljava/util/function/BiFunction;" (mm_A G) U H ∧ vk_S 11 mm_ln mm_by (mm_s G) (mm_v G) (mm_A G) U H ∧ ∀ k, k < 11 → vk_R "StruckCountsModel" (mm_ix k) (mm_tx k) (mm_s G k) U
theorem mm_Z.warm {G : mm_G} {s U : State} {H : Heap} (hW : s.WarmedH U.vm) (h : mm_Z G s H) : mm_Z G U H := ⟨va_Z.moved hW.alike h.1, va_Z.moved hW.alike h.2.1, va_Zq.moved hW.alike h.2.2.1, vk_S.moved hW.alike h.2.2.2.1, fun k hk => vk_R.warm hW (h.2.2.2.2 k hk)⟩
theorem mm_Z.same {G : mm_G} {u U : State} {H : Heap} (hv : U.vm = u.vm) (h : mm_Z G u H) : mm_Z G U H := ⟨va_Z.moved (by rw [hv]; exact Vm.Alike.refl _) h.1, va_Z.moved (by rw [hv]; exact Vm.Alike.refl _) h.2.1, va_Zq.moved (by rw [hv]; exact Vm.Alike.refl _) h.2.2.1, vk_S.moved (by rw [hv]; exact Vm.Alike.refl _) h.2.2.2.1, fun k hk => vk_R.same hv (h.2.2.2.2 k hk)⟩
theorem mm_Z.kept {G : mm_G} {U : State} {H H1 : Heap} (h : mm_Z G U H) (hq : ∀ a : Nat, a < H.size → ¬ mm_A G a → H1[a]? = H[a]?) : mm_Z G U H1 := ⟨h.1.kept hq, h.2.1.kept hq, h.2.2.1.kept hq, h.2.2.2.1.kept hq, h.2.2.2.2⟩
def mm_W (G : mm_G) (σ : MS) (U : State) : Prop := mm_R G σ U.heap ∧ mm_K G U ∧ mm_Z G U U.heap
theorem mm_i_r {k : Nat} (h : mm_i k = true) : mm_r k = true ∨ k = 42 := by
  unfold mm_i at h
  split at h <;> first | exact Or.inl rfl | exact Or.inr rfl | cases h
theorem mm_w_i {k : Nat} (h : mm_w k = true) : mm_i k = true := by
  unfold mm_w at h
  split at h <;> first | rfl | cases h
theorem mm_w_r {k : Nat} (h : mm_w k = true) : mm_r k = true := by
  unfold mm_r; rw [h]; rfl
theorem mm_w_2 {k : Nat} (h : mm_w k = true) : k ≠ 2 ∧ k ≠ 3 ∧ k ≠ 7 := ⟨(fun e => by rw [e] at h; cases h), (fun e => by rw [e] at h; cases h), (fun e => by rw [e] at h; cases h)⟩
theorem mm_ret {G : mm_G} {σ : MS} {s t : State} {H : Heap} {locs : List Loc} (hM : mm_R G σ H) (hK : mm_K G s) (hZ : mm_Z G s s.heap) (hS : va_S (mm_A G) s.heap H locs) (ht : t.heap = H) (hW : s.WarmedH t.vm) : mm_W G σ t :=
  ⟨by rw [ht]; exact hM, hK.moved hW.alike, by rw [ht]; exact (mm_Z.warm hW hZ).kept hS.2.1⟩
theorem mm_blind {G : mm_G} {σ : MS} {av : List Value} : FrameBlind (va_Pc av (fun U => mm_W G σ U)) := by
  intro a U g mk q
  obtain ⟨q0, q1, q2, q3⟩ := q
  exact ⟨q0, q1, mm_K.moved (u := U) (U := U.calling g mk a) (Vm.Alike.refl U.vm) q2, mm_Z.same (u := U) (U := U.calling g mk a) rfl q3⟩
/-- what a method of the model stands on -/
def mm_X (cc : ByteArray) (nL : Nat) (ret : Option FieldType) (G : mm_G) (p : Program) (s : State) (m : MethodId) (args : Array Value) (meth : Method) (c : Code) : Prop :=
  p.tables.exec = Jvm.exec ∧ c.code = cc ∧ c.maxLocals = nL ∧ s.vm.findClass RX3 = some m.cls ∧ (∀ w ∈ lw_all, w.before args s = true) ∧ meth.sig.returnType = ret ∧ meth.locks = false ∧ mm_K G s ∧ mm_Z G s s.heap
/-- 0 or 1 -/
def zb (v : Int32) : Prop := v = 0 ∨ v = 1
theorem zb_nar {v : Int32} (h : zb v) : narrow .boolean (.int v) = .int v := by
  rcases h with rfl | rfl <;> rfl
theorem zb_vp {v : Int32} (h : zb v) : vp_nar .boolean v = v := by
  rcases h with rfl | rfl <;> rfl
section MR
variable {p : Program} {l : Launch} {e : Env} {R : Room} {s : State} {m : MethodId} {args : Array Value} {below : List Frame} {meth : Method} {c : Code} {H : Heap} {locs : List Loc} {cells slots : Nat} {Q : State → Prop}
variable {cc : ByteArray} {nL : Nat} {ret : Option FieldType} {G : mm_G} {σ : MS} {pc : Nat} {ls : Array Slot} {rest : List Value}
theorem mm_get (cx : mm_X cc nL ret G p s m args meth c) (hM : mm_R G σ H) (k : Nat) (hk : k < 42) {index : Nat} (hq : Cond.fieldLink RX3 index (TX3 k).1 (TX3 k).2.1 (TX3 k).2.2.1 ∈ lw_all) {v : Value} (hv : mm_V G σ k = v) (hdg : decode cc pc = .ok (.getfield index, 3))
    (kk : W p l e R s m args below meth c H locs cells slots Q (F0 m (pc + 3) ls (v :: rest))) : W p l e R s m args below meth c H locs cells slots Q (F0 m pc ls (.ref (mm_o G) :: rest)) := by
  obtain ⟨hx, hb, hml, hown, hts, hr, hlk, hK, hZ⟩ := cx
  obtain ⟨cell, q1, q2, q3, q4⟩ := hM.1
  obtain ⟨hS, hfc, kC, hkC, hkind⟩ := hK.1
  obtain ⟨cf, kf, fi, f, hi, hsl⟩ := hS k hk
  refine W.getf hx hb hown (hts _ hq) hi (u_facts hfc hkC (u_lays hts in_X3 hk) hi).1 q1 (by rw [q3]; exact fun h => by cases h) (v := v) ?_ rfl rfl hdg kk
  rw [hsl, q4 k hk, hv]
theorem mm_put (cx : mm_X cc nL ret G p s m args meth c) (hM : mm_R G σ H) (hS0 : va_S (mm_A G) s.heap H locs) {σ' : MS} (k : Nat) (hk : k < 42) {index : Nat} (hq : Cond.fieldLink RX3 index (TX3 k).1 (TX3 k).2.1 (TX3 k).2.2.1 ∈ lw_all) (hfin : (TX3 k).2.2.2 = false) {ty : FieldType} {v : Value} (hd : parseFieldDescriptor (TX3 k).2.2.1 = some ty) (hn : narrow ty v = v) (hfit : fits ty v = true) (hv : ∀ j, j < 42 → updV (mm_V G σ) k v j = mm_V G σ' j) (ha : σ'.2.2 = σ.2.2)
    (hdg : decode cc pc = .ok (.putfield index, 3)) (kk : ∀ (H1 : Heap) (locs1 : List Loc), mm_R G σ' H1 → va_S (mm_A G) s.heap H1 locs1 → W p l e R s m args below meth c H1 locs1 cells slots Q (F0 m (pc + 3) ls rest)) : W p l e R s m args below meth c H locs cells slots Q (F0 m pc ls (v :: .ref (mm_o G) :: rest)) := by
  obtain ⟨hx, hb, hml, hown, hts, hr, hlk, hK, hZ⟩ := cx
  obtain ⟨⟨cell, q1, q2, q3, q4⟩, hA1, hA2, hA3⟩ := hM
  obtain ⟨hS, hfc, kC, hkC, hkind⟩ := hK.1
  obtain ⟨cf, kf, fi, f, hi, hsl⟩ := hS k hk
  have hap : ∀ x y, x < 42 → y < 42 → x ≠ y → G.2.1 x ≠ G.2.1 y := by
    intro x y hx hy hne
    obtain ⟨_, _, _, fa, hia, ea⟩ := hS x hx
    obtain ⟨_, _, _, fb, hib, eb⟩ := hS y hy
    rw [← ea, ← eb]
    refine u_apart (u_lays hts in_X3 hx) (u_lays hts in_X3 hy) hia hib ?_
    rw [(State.fieldFound?_type hia (tyX3_ok x hx)).1, (State.fieldFound?_type hib (tyX3_ok y hy)).1]
    exact nmX3 x hx y hy hne
  have hlay := hts _ (in_X3 _ (u_in_lay hk))
  unfold u_lay at hlay
  rw [if_neg (by rw [hfin]; decide)] at hlay
  have hst := (u_facts hfc hkC (u_lays hts in_X3 hk) hi).1
  have h6 := u_store hfc hkC hkind hlay hi hd hn hfit
  refine W.putK hx hb (f := f) ⟨hown, hts _ hq, ⟨_, _, _, hi⟩, hst⟩ (by rw [q2]; exact h6) q1 q3 (by rw [hsl]; exact k2_hasslot (q4 k hk)) rfl rfl hdg fun H' e1 e2 e3 => ?_
  rw [hsl] at e1 ⊢
  have hne : ∀ j, mm_r j = true ∨ j = 42 → mm_a G j ≠ mm_o G := hK.2.2.2.2.2
  refine kk H' _ ⟨t_OB.to (V := updV (mm_V G σ) k v) ⟨_, e1, q2, q3, t_set q4 hap hk v⟩ hv, fun j hj => ?_, fun j hj => ?_, ?_⟩ (hS0.put e2 e3 (Or.inl rfl))
  · rw [e3 _ (hne j (mm_i_r hj)), hA1 j hj]
    show some (vp_cell _ (_, Sum.inl (σ.2.2.1 j))) = some (vp_cell _ (_, Sum.inl (σ'.2.2.1 j)))
    rw [ha]
  · rw [e3 _ (hne j (Or.inl (by rcases hj with rfl | rfl <;> rfl))), hA2 j hj]
    show some (vp_cell _ (_, Sum.inr (Sum.inl (σ.2.2.2 j)))) = some (vp_cell _ (_, Sum.inr (Sum.inl (σ'.2.2.2 j))))
    rw [ha]
  · rw [e3 _ (hne 7 (Or.inl rfl)), hA3]
    show some (vp_cell _ (_, Sum.inl (σ.2.2.1 7))) = some (vp_cell _ (_, Sum.inl (σ'.2.2.1 7)))
    rw [ha]
theorem mm_iald (cx : mm_X cc nL ret G p s m args meth c) (hM : mm_R G σ H) (k : Nat) (hk : mm_i k = true) {i : Int32} {j : Nat} (hj : i.toNatClampNeg = j) (hin : vp_in i (mm_z k)) (hdg : decode cc pc = .ok (.iaload, 1))
    (kk : W p l e R s m args below meth c H locs cells slots Q (F0 m (pc + 1) ls (.int (gA σ k j) :: rest))) : W p l e R s m args below meth c H locs cells slots Q (F0 m pc ls (.int i :: .ref (mm_a G k) :: rest)) := by
  subst hj
  obtain ⟨hx, hb, hml, hown, hts, hr, hlk, hK, hZ⟩ := cx
  have hlt : i.toNatClampNeg < mm_z k := Nat.not_le.mp fun q => hin (Or.inr q)
  exact W.iald (v := .int (gA σ k i.toNatClampNeg)) hx hb (hM.2.1 k hk) (hK.2.1 (mm_z k) (fun j => .int (gA σ k j))) (fun q => by cases q) (by show ¬ (i < 0 ∨ (arrV _ _ _).slots.size ≤ _); rw [arrV_size]; exact hin) (by show (arrV _ _ _).slots[_]? = _; rw [arrV_read _ _ hlt]) rfl rfl hdg kk
theorem mm_lald (cx : mm_X cc nL ret G p s m args meth c) (hM : mm_R G σ H) (k : Nat) (hk : k = 2 ∨ k = 3) {i : Int32} (hin : vp_in i 13) (hdg : decode cc pc = .ok (.laload, 1))
    (kk : W p l e R s m args below meth c H locs cells slots Q (F0 m (pc + 1) ls (.long (gB σ k i.toNatClampNeg) :: rest))) : W p l e R s m args below meth c H locs cells slots Q (F0 m pc ls (.int i :: .ref (mm_a G k) :: rest)) := by
  obtain ⟨hx, hb, hml, hown, hts, hr, hlk, hK, hZ⟩ := cx
  have hlt : i.toNatClampNeg < 13 := Nat.not_le.mp fun q => hin (Or.inr q)
  exact W.lald (v := .long (gB σ k i.toNatClampNeg)) hx hb (hM.2.2.1 k hk) (hK.2.2.1 13 (fun j => .long (gB σ k j))) (fun q => by cases q) (by show ¬ (i < 0 ∨ (arrV _ _ _).slots.size ≤ _); rw [arrV_size]; exact hin) (by show (arrV _ _ _).slots[_]? = _; rw [arrV_read _ _ hlt]) rfl rfl hdg kk
theorem mm_zald (cx : mm_X cc nL ret G p s m args meth c) (hM : mm_R G σ H) {i : Int32} (hin : vp_in i 2) (hdg : decode cc pc = .ok (.baload, 1))
    (kk : W p l e R s m args below meth c H locs cells slots Q (F0 m (pc + 1) ls (.int (gA σ 7 i.toNatClampNeg) :: rest))) : W p l e R s m args below meth c H locs cells slots Q (F0 m pc ls (.int i :: .ref (mm_a G 7) :: rest)) := by
  obtain ⟨hx, hb, hml, hown, hts, hr, hlk, hK, hZ⟩ := cx
  have hlt : i.toNatClampNeg < 2 := Nat.not_le.mp fun q => hin (Or.inr q)
  exact W.zald (v := .int (gA σ 7 i.toNatClampNeg)) hx hb hM.2.2.2 (hK.2.2.2.1 2 (fun j => .int (gA σ 7 j))) (fun q => by cases q) (by show ¬ (i < 0 ∨ (arrV _ _ _).slots.size ≤ _); rw [arrV_size]; exact hin) (by show (arrV _ _ _).slots[_]? = _; rw [arrV_read _ _ hlt]) rfl rfl hdg kk
theorem mm_alen (cx : mm_X cc nL ret G p s m args meth c) (hM : mm_R G σ H) (k : Nat) (hk : mm_i k = true) (hdg : decode cc pc = .ok (.arraylength, 1))
    (kk : W p l e R s m args below meth c H locs cells slots Q (F0 m (pc + 1) ls (.int (nI (mm_z k)) :: rest))) : W p l e R s m args below meth c H locs cells slots Q (F0 m pc ls (.ref (mm_a G k) :: rest)) := by
  obtain ⟨hx, hb, hml, hown, hts, hr, hlk, hK, hZ⟩ := cx
  refine W.alen hx hb (n := nI (mm_z k)) (hM.2.1 k hk) (hK.2.1 (mm_z k) (fun j => .int (gA σ k j))) ?_ rfl rfl hdg kk
  show (arrV _ _ _).slots.size.toInt32 = _
  rw [arrV_size]; rfl
theorem mm_cong {α : Type} {f g : α} {c : ClassId} {F : α → vp_A} (h : f = g) : some (vp_cell c (F f)) = some (vp_cell c (F g)) := by rw [h]
theorem mm_iast (cx : mm_X cc nL ret G p s m args meth c) (hM : mm_R G σ H) (hS0 : va_S (mm_A G) s.heap H locs) (k : Nat) (hk : mm_w k = true) {i x : Int32} {j0 : Nat} (hj0 : i.toNatClampNeg = j0) (hin : vp_in i (mm_z k)) (hdg : decode cc pc = .ok (.iastore, 1))
    (kk : ∀ (H1 : Heap) (locs1 : List Loc), mm_R G (sA σ k j0 x) H1 → va_S (mm_A G) s.heap H1 locs1 → W p l e R s m args below meth c H1 locs1 cells slots Q (F0 m (pc + 1) ls rest)) : W p l e R s m args below meth c H locs cells slots Q (F0 m pc ls (.int x :: .int i :: .ref (mm_a G k) :: rest)) := by
  subst hj0
  obtain ⟨hx, hb, hml, hown, hts, hr, hlk, hK, hZ⟩ := cx
  obtain ⟨hO, hA1, hA2, hA3⟩ := hM
  refine W.iast hx hb (hA1 k (mm_w_i hk)) (hK.2.1 (mm_z k) (fun j => .int (gA σ k j))) (fun q => by cases q) (by show ¬ (i < 0 ∨ (arrV _ _ _).slots.size ≤ _); rw [arrV_size]; exact hin) rfl rfl hdg fun H1 e1 z oq => ?_
  have hkr : mm_r k = true ∨ k = 42 := Or.inl (mm_w_r hk)
  refine kk H1 _ ⟨hO.kept (oq _ (fun q => hK.2.2.2.2.2 k hkr q.symm)), fun j hj => ?_, fun j hj => ?_, ?_⟩ (hS0.put z oq (Or.inr ⟨k, mm_w_r hk, rfl⟩))
  · by_cases hjk : j = k
    · subst hjk
      rw [e1, vp_cell_i, vp_cell_i, arrV_store]
      congr 2
      funext q
      by_cases hq : q = i.toNatClampNeg
      · subst hq
        simp [updV, gA, sA]
      · simp [updV, gA, sA, hq]
    · rw [oq _ (fun q => hjk (hK.2.2.2.2.1 j k (mm_i_r hj) hkr q)), hA1 j hj]
      congr 4
      funext q
      simp [gA, sA, hjk]
  · have hjr : mm_r j = true ∨ j = 42 := Or.inl (by rcases hj with rfl | rfl <;> rfl)
    have hjk : j ≠ k := by rcases hj with rfl | rfl
                           · exact fun q => (mm_w_2 hk).1 q.symm
                           · exact fun q => (mm_w_2 hk).2.1 q.symm
    rw [oq _ (fun q => hjk (hK.2.2.2.2.1 j k hjr hkr q)), hA2 j hj]
    rfl
  · rw [oq _ (fun q => (mm_w_2 hk).2.2 (hK.2.2.2.2.1 7 k (Or.inl rfl) hkr q).symm), hA3]
    congr 4
    funext q
    simp [gA, sA, (mm_w_2 hk).2.2.symm]
theorem mm_last (cx : mm_X cc nL ret G p s m args meth c) (hM : mm_R G σ H) (hS0 : va_S (mm_A G) s.heap H locs) (k : Nat) (hk : k = 2 ∨ k = 3) {i : Int32} {x : Int64} (hin : vp_in i 13) (hdg : decode cc pc = .ok (.lastore, 1))
    (kk : ∀ (H1 : Heap) (locs1 : List Loc), mm_R G (sB σ k i.toNatClampNeg x) H1 → va_S (mm_A G) s.heap H1 locs1 → W p l e R s m args below meth c H1 locs1 cells slots Q (F0 m (pc + 1) ls rest)) : W p l e R s m args below meth c H locs cells slots Q (F0 m pc ls (.long x :: .int i :: .ref (mm_a G k) :: rest)) := by
  obtain ⟨hx, hb, hml, hown, hts, hr, hlk, hK, hZ⟩ := cx
  obtain ⟨hO, hA1, hA2, hA3⟩ := hM
  refine W.last hx hb (hA2 k hk) (hK.2.2.1 13 (fun j => .long (gB σ k j))) (fun q => by cases q) (by show ¬ (i < 0 ∨ (arrV _ _ _).slots.size ≤ _); rw [arrV_size]; exact hin) rfl rfl hdg fun H1 e1 z oq => ?_
  have hkr : mm_r k = true ∨ k = 42 := Or.inl (by rcases hk with rfl | rfl <;> rfl)
  refine kk H1 _ ⟨hO.kept (oq _ (fun q => hK.2.2.2.2.2 k hkr q.symm)), fun j hj => ?_, fun j hj => ?_, ?_⟩ (hS0.put z oq (Or.inr ⟨k, by rcases hk with rfl | rfl <;> rfl, rfl⟩))
  · have hjk : j ≠ k := by rintro rfl
                           rcases hk with rfl | rfl <;> cases hj
    rw [oq _ (fun q => hjk (hK.2.2.2.2.1 j k (mm_i_r hj) hkr q)), hA1 j hj]
    rfl
  · by_cases hjk : j = k
    · subst hjk
      rw [e1, vp_cell_l, vp_cell_l, arrV_store]
      congr 2
      funext q
      by_cases hq : q = i.toNatClampNeg
      · subst hq
        simp [updV, gB, sB]
      · simp [updV, gB, sB, hq]
    · have hjr : mm_r j = true ∨ j = 42 := Or.inl (by rcases hj with rfl | rfl <;> rfl)
      rw [oq _ (fun q => hjk (hK.2.2.2.2.1 j k hjr hkr q)), hA2 j hj]
      congr 5
      funext q
      simp [gB, sB, hjk]
  · rw [oq _ (fun q => by rcases hk with rfl | rfl <;> exact absurd (hK.2.2.2.2.1 7 _ (Or.inl rfl) hkr q) (by decide)), hA3]
    rfl
theorem mm_zast (cx : mm_X cc nL ret G p s m args meth c) (hM : mm_R G σ H) (hS0 : va_S (mm_A G) s.heap H locs) {i : Int32} {x : Int32} (hin : vp_in i 2) (hz : zb x) (hdg : decode cc pc = .ok (.bastore, 1))
    (kk : ∀ (H1 : Heap) (locs1 : List Loc), mm_R G (sA σ 7 i.toNatClampNeg x) H1 → va_S (mm_A G) s.heap H1 locs1 → W p l e R s m args below meth c H1 locs1 cells slots Q (F0 m (pc + 1) ls rest)) : W p l e R s m args below meth c H locs cells slots Q (F0 m pc ls (.int x :: .int i :: .ref (mm_a G 7) :: rest)) := by
  obtain ⟨hx, hb, hml, hown, hts, hr, hlk, hK, hZ⟩ := cx
  obtain ⟨hO, hA1, hA2, hA3⟩ := hM
  refine W.zast hx hb hA3 (hK.2.2.2.1 2 (fun j => .int (gA σ 7 j))) (fun q => by cases q) (by show ¬ (i < 0 ∨ (arrV _ _ _).slots.size ≤ _); rw [arrV_size]; exact hin) rfl rfl hdg fun H1 e1 z oq => ?_
  rw [zb_nar hz] at e1
  refine kk H1 _ ⟨hO.kept (oq _ (fun q => hK.2.2.2.2.2 7 (Or.inl rfl) q.symm)), fun j hj => ?_, fun j hj => ?_, ?_⟩ (hS0.put z oq (Or.inr ⟨7, rfl, rfl⟩))
  · have hjk : j ≠ 7 := by rintro rfl
                           cases hj
    rw [oq _ (fun q => hjk (hK.2.2.2.2.1 j 7 (mm_i_r hj) (Or.inl rfl) q)), hA1 j hj]
    congr 4
    funext q
    simp [gA, sA, hjk]
  · have hjr : mm_r j = true ∨ j = 42 := Or.inl (by rcases hj with rfl | rfl <;> rfl)
    have hjk : j ≠ 7 := by rcases hj with rfl | rfl <;> decide
    rw [oq _ (fun q => hjk (hK.2.2.2.2.1 j 7 hjr (Or.inl rfl) q)), hA2 j hj]
    rfl
  · rw [e1, vp_cell_i, vp_cell_i, arrV_store]
    congr 2
    funext q
    by_cases hq : q = i.toNatClampNeg
    · subst hq
      simp [updV, gA, sA]
    · simp [updV, gA, sA, hq]
theorem mm_thr (cx : mm_X cc nL ret G p s m args meth c) (hS0 : va_S (mm_A G) s.heap H locs) (hdg : decode cc pc = .ok (.getstatic 432, 3))
    (kk : W p l e R s m args below meth c H locs cells slots Q (F0 m (pc + 3) ls (.ref (mm_a G 42) :: rest))) : W p l e R s m args below meth c H locs cells slots Q (F0 m pc ls rest) := by
  obtain ⟨hx, hb, hml, hown, hts, hr, hlk, hK, hZ⟩ := cx
  exact va_gets hx hb hZ.1 hS0 hown (hts _ q2939) (fun _ h => h) hdg kk
theorem mm_ldc (cx : mm_X cc nL ret G p s m args meth c) (k : Nat) (hk : k < 11) {ix : Nat} (hi : mm_ix k = ix) (hdg : decode cc pc = .ok (.ldc ix, 2))
    (kk : W p l e R s m args below meth c H locs cells slots Q (F0 m (pc + 2) ls (.ref (mm_s G k) :: rest))) : W p l e R s m args below meth c H locs cells slots Q (F0 m pc ls rest) := by
  obtain ⟨hx, hb, hml, hown, hts, hr, hlk, hK, hZ⟩ := cx
  subst hi
  exact va_ldcS hx hb hown (hZ.2.2.2.2 k hk) hdg kk
/-- calls -/
abbrev mm_Mi (l : Launch) (y : MethodName) (ws : List Cond) (rm : Room) (G : mm_G) (av : List Value) (σ : MS) (Q : Int32 → MS → Prop) : Prop := Met l y ws rm (va_Pc av (fun U => mm_W G σ U)) (va_Qi Q (fun σ' t => mm_W G σ' t) (mm_A G)) 0 0 (mm_A G)
abbrev mm_Ml (l : Launch) (y : MethodName) (ws : List Cond) (rm : Room) (G : mm_G) (av : List Value) (σ : MS) (Q : Int64 → MS → Prop) : Prop := Met l y ws rm (va_Pc av (fun U => mm_W G σ U)) (va_Ql Q (fun σ' t => mm_W G σ' t) (mm_A G)) 0 0 (mm_A G)
abbrev mm_Mv (l : Launch) (y : MethodName) (ws : List Cond) (rm : Room) (G : mm_G) (av : List Value) (σ : MS) (Q : MS → Prop) : Prop := Met l y ws rm (va_Pc av (fun U => mm_W G σ U)) (va_Qv Q (fun σ' t => mm_W G σ' t) (mm_A G)) 0 0 (mm_A G)
variable {y : MethodName} {ws : List Cond} {rm : Room} {bytes : ByteArray} {maxL n index : Nat} {rt : Option FieldType} {As : List Value} {st : List Value}
theorem mm_pre (cx : mm_X cc nL ret G p s m args meth c) (hM : mm_R G σ H) (hS0 : va_S (mm_A G) s.heap H locs) (av : List Value) : ∀ U : State, U.heap = H → s.WarmedH U.vm → va_Pc av (fun U => mm_W G σ U) av.toArray U := by
  obtain ⟨hx, hb, hml, hown, hts, hr, hlk, hK, hZ⟩ := cx
  exact fun U hU hW => ⟨rfl, mm_ret hM hK hZ hS0 hU hW⟩
theorem mm_recv (cx : mm_X cc nL ret G p s m args meth c) (hM : mm_R G σ H) : ∃ cellB : Cell, H[mm_o G]? = some cellB ∧ cellB.vm.isStatics = false ∧ s.vm.findClass RX3 = some cellB.cls := by
  obtain ⟨hx, hb, hml, hown, hts, hr, hlk, hK, hZ⟩ := cx
  obtain ⟨cell, q1, q2, q3, q4⟩ := hM.1
  exact ⟨cell, q1, by rw [q3]; rfl, by rw [q2]; exact hK.1.2.1⟩
theorem mm_after {σ1 : MS} {t : State} {H1 : Heap} (ht : t.heap = H1) (h : mm_W G σ1 t) : mm_R G σ1 H1 := by rw [← ht]; exact h.1
theorem mm_Vi (cx : mm_X cc nL ret G p s m args meth c) (hM : mm_R G σ H) (hS0 : va_S (mm_A G) s.heap H locs) {Qf : Int32 → MS → Prop} (met : mm_Mi l y ws rm G (.ref (mm_o G) :: As) σ Qf) (cw : CallW R s args RX3 RX3 index y bytes maxL rt ws rm 0 0 n) (hn : As.length = n) (hsize : ls.size = nL) (hst : st = As.reverse ++ .ref (mm_o G) :: rest) (hroom : (rest.map fun v => v.category).sum ≤ 8) (hf : cells ≤ R.cells ∧ slots ≤ R.slots) (hdg : decode cc pc = .ok (.invokevirtual index, 3))
    (kk : ∀ (r : Int32) (σ1 : MS) (H1 : Heap) (locs1 : List Loc), Qf r σ1 → mm_R G σ1 H1 → va_S (mm_A G) s.heap H1 locs1 → W p l e R s m args below meth c H1 locs1 cells slots Q (F0 m (pc + 3) ls (.int r :: rest))) : W p l e R s m args below meth c H locs cells slots Q (F0 m pc ls st) := by
  have cx' := cx
  obtain ⟨hx, hb, hml, hown, hts, hr, hlk, hK, hZ⟩ := cx'
  exact va_calli (va_runV (As := As) (rest := rest) ⟨hx, hb, hml, hown, hts⟩ met cw ⟨mm_blind, mm_recv cx hM, mm_pre cx hM hS0 (.ref (mm_o G) :: As)⟩ rfl hn hsize hst (lv_room hroom) hdg hf) hS0 (fun q _ h => h) (fun q h => h) (fun r u t H1 locs1 ht hvm hw hB hz1 hk1 hS => kk r u H1 locs1 hw (mm_after ht hB) hS)
theorem mm_Vl (cx : mm_X cc nL ret G p s m args meth c) (hM : mm_R G σ H) (hS0 : va_S (mm_A G) s.heap H locs) {Qf : Int64 → MS → Prop} (met : mm_Ml l y ws rm G (.ref (mm_o G) :: As) σ Qf) (cw : CallW R s args RX3 RX3 index y bytes maxL rt ws rm 0 0 n) (hn : As.length = n) (hsize : ls.size = nL) (hst : st = As.reverse ++ .ref (mm_o G) :: rest) (hroom : (rest.map fun v => v.category).sum ≤ 8) (hf : cells ≤ R.cells ∧ slots ≤ R.slots) (hdg : decode cc pc = .ok (.invokevirtual index, 3))
    (kk : ∀ (r : Int64) (σ1 : MS) (H1 : Heap) (locs1 : List Loc), Qf r σ1 → mm_R G σ1 H1 → va_S (mm_A G) s.heap H1 locs1 → W p l e R s m args below meth c H1 locs1 cells slots Q (F0 m (pc + 3) ls (.long r :: rest))) : W p l e R s m args below meth c H locs cells slots Q (F0 m pc ls st) := by
  have cx' := cx
  obtain ⟨hx, hb, hml, hown, hts, hr, hlk, hK, hZ⟩ := cx'
  exact va_calll (va_runV (As := As) (rest := rest) ⟨hx, hb, hml, hown, hts⟩ met cw ⟨mm_blind, mm_recv cx hM, mm_pre cx hM hS0 (.ref (mm_o G) :: As)⟩ rfl hn hsize hst (lv_room hroom) hdg hf) hS0 (fun q _ h => h) (fun q h => h) (fun r u t H1 locs1 ht hvm hw hB hz1 hk1 hS => kk r u H1 locs1 hw (mm_after ht hB) hS)
theorem mm_Vv (cx : mm_X cc nL ret G p s m args meth c) (hM : mm_R G σ H) (hS0 : va_S (mm_A G) s.heap H locs) {Qf : MS → Prop} (met : mm_Mv l y ws rm G (.ref (mm_o G) :: As) σ Qf) (cw : CallW R s args RX3 RX3 index y bytes maxL rt ws rm 0 0 n) (hn : As.length = n) (hsize : ls.size = nL) (hst : st = As.reverse ++ .ref (mm_o G) :: rest) (hroom : (rest.map fun v => v.category).sum ≤ 8) (hf : cells ≤ R.cells ∧ slots ≤ R.slots) (hdg : decode cc pc = .ok (.invokevirtual index, 3))
    (kk : ∀ (σ1 : MS) (H1 : Heap) (locs1 : List Loc), Qf σ1 → mm_R G σ1 H1 → va_S (mm_A G) s.heap H1 locs1 → W p l e R s m args below meth c H1 locs1 cells slots Q (F0 m (pc + 3) ls rest)) : W p l e R s m args below meth c H locs cells slots Q (F0 m pc ls st) := by
  have cx' := cx
  obtain ⟨hx, hb, hml, hown, hts, hr, hlk, hK, hZ⟩ := cx'
  exact va_callv (va_runV (As := As) (rest := rest) ⟨hx, hb, hml, hown, hts⟩ met cw ⟨mm_blind, mm_recv cx hM, mm_pre cx hM hS0 (.ref (mm_o G) :: As)⟩ rfl hn hsize hst (lv_room hroom) hdg hf) hS0 (fun q _ h => h) (fun q h => h) (fun u t H1 locs1 ht hvm hw hB hz1 hk1 hS => kk u H1 locs1 hw (mm_after ht hB) hS)
theorem mm_Si (cx : mm_X cc nL ret G p s m args meth c) (hM : mm_R G σ H) (hS0 : va_S (mm_A G) s.heap H locs) {Qf : Int32 → MS → Prop} (met : mm_Mi l y ws rm G As σ Qf) (cw : CallB R s args RX3 index y bytes maxL rt ws rm 0 0 n ∧ (Cond.static y).before args s = true) (hn : As.length = n) (hsize : ls.size = nL) (hst : st = As.reverse ++ rest) (hroom : (rest.map fun v => v.category).sum ≤ 8) (hf : cells ≤ R.cells ∧ slots ≤ R.slots) (hdg : decode cc pc = .ok (.invokestatic index, 3))
    (kk : ∀ (r : Int32) (σ1 : MS) (H1 : Heap) (locs1 : List Loc), Qf r σ1 → mm_R G σ1 H1 → va_S (mm_A G) s.heap H1 locs1 → W p l e R s m args below meth c H1 locs1 cells slots Q (F0 m (pc + 3) ls (.int r :: rest))) : W p l e R s m args below meth c H locs cells slots Q (F0 m pc ls st) := by
  have cx' := cx
  obtain ⟨hx, hb, hml, hown, hts, hr, hlk, hK, hZ⟩ := cx'
  exact va_calli (va_runS (As := As) (rest := rest) ⟨hx, hb, hml, hown, hts⟩ met cw ⟨mm_blind, mm_pre cx hM hS0 As⟩ rfl hn hsize hst (lv_room hroom) hdg hf) hS0 (fun q _ h => h) (fun q h => h) (fun r u t H1 locs1 ht hvm hw hB hz1 hk1 hS => kk r u H1 locs1 hw (mm_after ht hB) hS)
theorem mm_Sv (cx : mm_X cc nL ret G p s m args meth c) (hM : mm_R G σ H) (hS0 : va_S (mm_A G) s.heap H locs) {Qf : MS → Prop} (met : mm_Mv l y ws rm G As σ Qf) (cw : CallB R s args RX3 index y bytes maxL rt ws rm 0 0 n ∧ (Cond.static y).before args s = true) (hn : As.length = n) (hsize : ls.size = nL) (hst : st = As.reverse ++ rest) (hroom : (rest.map fun v => v.category).sum ≤ 8) (hf : cells ≤ R.cells ∧ slots ≤ R.slots) (hdg : decode cc pc = .ok (.invokestatic index, 3))
    (kk : ∀ (σ1 : MS) (H1 : Heap) (locs1 : List Loc), Qf σ1 → mm_R G σ1 H1 → va_S (mm_A G) s.heap H1 locs1 → W p l e R s m args below meth c H1 locs1 cells slots Q (F0 m (pc + 3) ls rest)) : W p l e R s m args below meth c H locs cells slots Q (F0 m pc ls st) := by
  have cx' := cx
  obtain ⟨hx, hb, hml, hown, hts, hr, hlk, hK, hZ⟩ := cx'
  exact va_callv (va_runS (As := As) (rest := rest) ⟨hx, hb, hml, hown, hts⟩ met cw ⟨mm_blind, mm_pre cx hM hS0 As⟩ rfl hn hsize hst (lv_room hroom) hdg hf) hS0 (fun q _ h => h) (fun q h => h) (fun u t H1 locs1 ht hvm hw hB hz1 hk1 hS => kk u H1 locs1 hw (mm_after ht hB) hS)
/-- ends -/
theorem mm_iret {Qf : Int32 → MS → Prop} {v : Int32} (cx : mm_X cc nL (some .int) G p s m args meth c) (hM : mm_R G σ H) (hS0 : va_S (mm_A G) s.heap H locs) (hw : Qf v σ) (hdg : decode cc pc = .ok (.ireturn, 1)) : W p l e R s m args below meth c H locs cells slots (MQ below (va_Qi Qf (fun σ' t => mm_W G σ' t) (mm_A G)) args s cells slots (mm_A G)) (F0 m pc ls [.int v]) := by
  obtain ⟨hx, hb, hml, hown, hts, hr, hlk, hK, hZ⟩ := cx
  exact W.iret hx hb hr (fun t ht hW => ⟨⟨v, σ, rfl, hw, mm_ret hM hK hZ hS0 ht hW⟩, hS0.F ht⟩) hS0.2.2 hdg
theorem mm_zret {Qf : Int32 → MS → Prop} {v : Int32} (cx : mm_X cc nL (some .boolean) G p s m args meth c) (hM : mm_R G σ H) (hS0 : va_S (mm_A G) s.heap H locs) (hz : zb v) (hw : Qf v σ) (hdg : decode cc pc = .ok (.ireturn, 1)) : W p l e R s m args below meth c H locs cells slots (MQ below (va_Qi Qf (fun σ' t => mm_W G σ' t) (mm_A G)) args s cells slots (mm_A G)) (F0 m pc ls [.int v]) := by
  obtain ⟨hx, hb, hml, hown, hts, hr, hlk, hK, hZ⟩ := cx
  exact W.zret hx hb hr (zb_nar hz) (fun t ht hW => ⟨⟨v, σ, rfl, hw, mm_ret hM hK hZ hS0 ht hW⟩, hS0.F ht⟩) hS0.2.2 hdg
theorem mm_lret {Qf : Int64 → MS → Prop} {v : Int64} (cx : mm_X cc nL (some .long) G p s m args meth c) (hM : mm_R G σ H) (hS0 : va_S (mm_A G) s.heap H locs) (hw : Qf v σ) (hdg : decode cc pc = .ok (.lreturn, 1)) : W p l e R s m args below meth c H locs cells slots (MQ below (va_Ql Qf (fun σ' t => mm_W G σ' t) (mm_A G)) args s cells slots (mm_A G)) (F0 m pc ls [.long v]) := by
  obtain ⟨hx, hb, hml, hown, hts, hr, hlk, hK, hZ⟩ := cx
  exact W.lret hx hb hr (fun t ht hW => ⟨⟨v, σ, rfl, hw, mm_ret hM hK hZ hS0 ht hW⟩, hS0.F ht⟩) hS0.2.2 hdg
theorem mm_vret {Qf : MS → Prop} (cx : mm_X cc nL none G p s m args meth c) (hM : mm_R G σ H) (hS0 : va_S (mm_A G) s.heap H locs) (hw : Qf σ) (hdg : decode cc pc = .ok (.return_, 1)) : W p l e R s m args below meth c H locs cells slots (MQ below (va_Qv Qf (fun σ' t => mm_W G σ' t) (mm_A G)) args s cells slots (mm_A G)) (F0 m pc ls []) := by
  obtain ⟨hx, hb, hml, hown, hts, hr, hlk, hK, hZ⟩ := cx
  exact W.vret hx hb hr (fun t ht hW => ⟨⟨σ, rfl, hw, mm_ret hM hK hZ hS0 ht hW⟩, hS0.F ht⟩) hS0.2.2 hdg
end MR
/-- a contract out of a walk -/
theorem mm_of {l : Launch} {y : MethodName} {cc : ByteArray} {nL : Nat} {ret : Option FieldType} {rm : Room} {G : mm_G} {σ : MS} {av : List Value} {Qc : Array Value → State → Outcome → State → Prop} (hy : plainName y.cls = true) (hc : y.cls = RX3)
    (body : ∀ (p : Program) (e : Env) (s : State) (m : MethodId) (args : Array Value) (below : List Frame) (meth : Method) (c : Code), mm_X cc nL ret G p s m args meth c → mm_R G σ s.heap → args = av.toArray → W p l e rm s m args below meth c s.heap [] 0 0 (MQ below Qc args s 0 0 (mm_A G)) (entryFrame m args nL)) : Met l y (ws_ y cc nL ret) rm (va_Pc av (fun U => mm_W G σ U)) Qc 0 0 (mm_A G) := by
  refine Met.ofW (cc := cc) (maxL := nL) (ret := ret) hy rfl ?_
  intro p e s m args below meth c s₁ B hml hv
  obtain ⟨hav, hR, hK, hZ⟩ := hv
  have hts := atoms_spec (ws := ws_ y cc nL ret) B.pre
  have hts : ∀ w ∈ lw_all, w.before _ s = true := fun w h => hts w (List.mem_cons_of_mem _ h)
  have hown : s.vm.findClass RX3 = some m.cls := by rw [← hc]; exact findClass_of_methodNamed B.named
  exact body p e s m args below meth c ⟨B.exec, B.bytes, hml, hown, hts, B.returns, B.notSynchronized, hK, hZ⟩ hR hav
/-- a loop's or a branch's entry: what the frame holds -/
theorem mm_entry {l : Launch} {e : Env} {R : Room} {s : State} {m : MethodId} {args : Array Value} {below : List Frame} {meth : Method} {c : Code} {p : Program} {H : Heap} {locs : List Loc} {cells slots : Nat} {Q : State → Prop} (av : List Value) (n : Nat) (lv : List (Nat × Value)) (ha : args = av.toArray) (hn : (lg_sl av).length ≤ n) (hlv : lv_args 0 av = lv)
    (k : ∀ ls : Array Slot, lv_has ls n lv → W p l e R s m args below meth c H locs cells slots Q (F0 m 0 ls [])) : W p l e R s m args below meth c H locs cells slots Q (entryFrame m args n) := by
  subst ha
  have hl := lv_entry av (n := n) hn
  rw [lg_entry_eq]
  rw [hlv] at hl
  exact k _ hl
theorem mm_ip {c : Prop} [Decidable c] {A B : Prop} (h : c) (hw : if c then A else B) : A := by rw [if_pos h] at hw; exact hw
theorem mm_in {c : Prop} [Decidable c] {A B : Prop} (h : ¬ c) (hw : if c then A else B) : B := by rw [if_neg h] at hw; exact hw
theorem vp_lit {i : Int32} {n : Nat} (h : decide (¬ (i < 0 ∨ n ≤ i.toNatClampNeg)) = true) : vp_in i n := show ¬ (i < 0 ∨ n ≤ i.toNatClampNeg) from of_decide_eq_true h
def ushr (x y : Int32) : Int32 := (x.toUInt32 >>> (y.toUInt32 &&& Int32.toUInt32 31)).toInt32
/-- a state of the model's frame at a place -/
abbrev mm_T (p : Program) (l : Launch) (e : Env) (R : Room) (s : State) (m : MethodId) (args : Array Value) (below : List Frame) (meth : Method) (c : Code) (G : mm_G) (QC : Array Value → State → Outcome → State → Prop) (nL pc : Nat) (σ : MS) (lv : List (Nat × Value)) (st : List Value) : Prop :=
  ∀ (H : Heap) (locs : List Loc) (ls : Array Slot), mm_R G σ H → va_S (mm_A G) s.heap H locs → lv_has ls nL lv → W p l e R s m args below meth c H locs 0 0 (MQ below QC args s 0 0 (mm_A G)) (F0 m pc ls st)
abbrev mm_Qi (G : mm_G) (Q : Int32 → MS → Prop) : Array Value → State → Outcome → State → Prop := va_Qi Q (fun σ' t => mm_W G σ' t) (mm_A G)
abbrev mm_Ql (G : mm_G) (Q : Int64 → MS → Prop) : Array Value → State → Outcome → State → Prop := va_Ql Q (fun σ' t => mm_W G σ' t) (mm_A G)
abbrev mm_Qv (G : mm_G) (Q : MS → Prop) : Array Value → State → Outcome → State → Prop := va_Qv Q (fun σ' t => mm_W G σ' t) (mm_A G)
theorem sw_out {x : Int32} (lo hi : Int) (cs : List Int32) (h : cs.all (fun c => decide (x ≠ c)) = true) (hc : ∀ z : Int, lo ≤ z → z ≤ hi → ∃ c ∈ cs, c.toInt = z) : x.toInt < lo ∨ hi < x.toInt := by
  by_cases h1 : x.toInt < lo
  · exact Or.inl h1
  · by_cases h2 : hi < x.toInt
    · exact Or.inr h2
    · obtain ⟨c, hm, e⟩ := hc x.toInt (by omega) (by omega)
      have := List.all_eq_true.mp h c hm
      exact absurd (Int32.toInt_inj.mp e).symm (of_decide_eq_true this)
def it1 {A1 : Type} (F : (A1 → Prop) → A1 → Prop) (n : Nat) : A1 → Prop := Nat.rec (motive := fun _ => A1 → Prop) (fun _ => False) (fun _ ih => F ih) n
def lp1F {A1 : Type} (F : (A1 → Prop) → A1 → Prop) (a1 : A1) : Prop := ∃ n, it1 F n a1
theorem lp1F_of {A1 : Type} {F : (A1 → Prop) → A1 → Prop} {T : A1 → Prop} (hF : ∀ (K : A1 → Prop), (∀ (a1 : A1), K a1 → T a1) → ∀ (a1 : A1), F K a1 → T a1) : ∀ (a1 : A1), lp1F F a1 → T a1 := by
  rintro a1 ⟨n, h⟩
  induction n generalizing a1 with
  | zero => exact h.elim
  | succ n ih => exact hF _ (fun b1 h => ih b1 h) a1 h
/-- a loop ends: an invariant and a measure -/
theorem lp1F_m {A1 : Type} {F : (A1 → Prop) → A1 → Prop} (I : A1 → Prop) (μ : A1 → Nat) (h : ∀ (K : A1 → Prop) (a1 : A1), I a1 → (∀ (b1 : A1), I b1 → μ b1 < μ a1 → K b1) → F K a1) : ∀ (a1 : A1), I a1 → lp1F F a1 := by
  have key : ∀ (n : Nat) (a1 : A1), μ a1 < n → I a1 → it1 F n a1 := by
    intro n
    induction n with
    | zero => intro a1 hn; exact absurd hn (Nat.not_lt_zero _)
    | succ n ih => intro a1 hn hI; exact h _ a1 hI (fun b1 hI' hm => ih b1 (by omega) hI')
  intro a1 hI
  exact ⟨_, key (μ a1 + 1) a1 (Nat.lt_succ_self _) hI⟩
def it2 {A1 A2 : Type} (F : (A1 → A2 → Prop) → A1 → A2 → Prop) (n : Nat) : A1 → A2 → Prop := Nat.rec (motive := fun _ => A1 → A2 → Prop) (fun _ _ => False) (fun _ ih => F ih) n
def lp2F {A1 A2 : Type} (F : (A1 → A2 → Prop) → A1 → A2 → Prop) (a1 : A1) (a2 : A2) : Prop := ∃ n, it2 F n a1 a2
theorem lp2F_of {A1 A2 : Type} {F : (A1 → A2 → Prop) → A1 → A2 → Prop} {T : A1 → A2 → Prop} (hF : ∀ (K : A1 → A2 → Prop), (∀ (a1 : A1) (a2 : A2), K a1 a2 → T a1 a2) → ∀ (a1 : A1) (a2 : A2), F K a1 a2 → T a1 a2) : ∀ (a1 : A1) (a2 : A2), lp2F F a1 a2 → T a1 a2 := by
  rintro a1 a2 ⟨n, h⟩
  induction n generalizing a1 a2 with
  | zero => exact h.elim
  | succ n ih => exact hF _ (fun b1 b2 h => ih b1 b2 h) a1 a2 h
/-- a loop ends: an invariant and a measure -/
theorem lp2F_m {A1 A2 : Type} {F : (A1 → A2 → Prop) → A1 → A2 → Prop} (I : A1 → A2 → Prop) (μ : A1 → A2 → Nat) (h : ∀ (K : A1 → A2 → Prop) (a1 : A1) (a2 : A2), I a1 a2 → (∀ (b1 : A1) (b2 : A2), I b1 b2 → μ b1 b2 < μ a1 a2 → K b1 b2) → F K a1 a2) : ∀ (a1 : A1) (a2 : A2), I a1 a2 → lp2F F a1 a2 := by
  have key : ∀ (n : Nat) (a1 : A1) (a2 : A2), μ a1 a2 < n → I a1 a2 → it2 F n a1 a2 := by
    intro n
    induction n with
    | zero => intro a1 a2 hn; exact absurd hn (Nat.not_lt_zero _)
    | succ n ih => intro a1 a2 hn hI; exact h _ a1 a2 hI (fun b1 b2 hI' hm => ih b1 b2 (by omega) hI')
  intro a1 a2 hI
  exact ⟨_, key (μ a1 a2 + 1) a1 a2 (Nat.lt_succ_self _) hI⟩
def it3 {A1 A2 A3 : Type} (F : (A1 → A2 → A3 → Prop) → A1 → A2 → A3 → Prop) (n : Nat) : A1 → A2 → A3 → Prop := Nat.rec (motive := fun _ => A1 → A2 → A3 → Prop) (fun _ _ _ => False) (fun _ ih => F ih) n
def lp3F {A1 A2 A3 : Type} (F : (A1 → A2 → A3 → Prop) → A1 → A2 → A3 → Prop) (a1 : A1) (a2 : A2) (a3 : A3) : Prop := ∃ n, it3 F n a1 a2 a3
theorem lp3F_of {A1 A2 A3 : Type} {F : (A1 → A2 → A3 → Prop) → A1 → A2 → A3 → Prop} {T : A1 → A2 → A3 → Prop} (hF : ∀ (K : A1 → A2 → A3 → Prop), (∀ (a1 : A1) (a2 : A2) (a3 : A3), K a1 a2 a3 → T a1 a2 a3) → ∀ (a1 : A1) (a2 : A2) (a3 : A3), F K a1 a2 a3 → T a1 a2 a3) : ∀ (a1 : A1) (a2 : A2) (a3 : A3), lp3F F a1 a2 a3 → T a1 a2 a3 := by
  rintro a1 a2 a3 ⟨n, h⟩
  induction n generalizing a1 a2 a3 with
  | zero => exact h.elim
  | succ n ih => exact hF _ (fun b1 b2 b3 h => ih b1 b2 b3 h) a1 a2 a3 h
/-- a loop ends: an invariant and a measure -/
theorem lp3F_m {A1 A2 A3 : Type} {F : (A1 → A2 → A3 → Prop) → A1 → A2 → A3 → Prop} (I : A1 → A2 → A3 → Prop) (μ : A1 → A2 → A3 → Nat) (h : ∀ (K : A1 → A2 → A3 → Prop) (a1 : A1) (a2 : A2) (a3 : A3), I a1 a2 a3 → (∀ (b1 : A1) (b2 : A2) (b3 : A3), I b1 b2 b3 → μ b1 b2 b3 < μ a1 a2 a3 → K b1 b2 b3) → F K a1 a2 a3) : ∀ (a1 : A1) (a2 : A2) (a3 : A3), I a1 a2 a3 → lp3F F a1 a2 a3 := by
  have key : ∀ (n : Nat) (a1 : A1) (a2 : A2) (a3 : A3), μ a1 a2 a3 < n → I a1 a2 a3 → it3 F n a1 a2 a3 := by
    intro n
    induction n with
    | zero => intro a1 a2 a3 hn; exact absurd hn (Nat.not_lt_zero _)
    | succ n ih => intro a1 a2 a3 hn hI; exact h _ a1 a2 a3 hI (fun b1 b2 b3 hI' hm => ih b1 b2 b3 (by omega) hI')
  intro a1 a2 a3 hI
  exact ⟨_, key (μ a1 a2 a3 + 1) a1 a2 a3 (Nat.lt_succ_self _) hI⟩
def it4 {A1 A2 A3 A4 : Type} (F : (A1 → A2 → A3 → A4 → Prop) → A1 → A2 → A3 → A4 → Prop) (n : Nat) : A1 → A2 → A3 → A4 → Prop := Nat.rec (motive := fun _ => A1 → A2 → A3 → A4 → Prop) (fun _ _ _ _ => False) (fun _ ih => F ih) n
def lp4F {A1 A2 A3 A4 : Type} (F : (A1 → A2 → A3 → A4 → Prop) → A1 → A2 → A3 → A4 → Prop) (a1 : A1) (a2 : A2) (a3 : A3) (a4 : A4) : Prop := ∃ n, it4 F n a1 a2 a3 a4
theorem lp4F_of {A1 A2 A3 A4 : Type} {F : (A1 → A2 → A3 → A4 → Prop) → A1 → A2 → A3 → A4 → Prop} {T : A1 → A2 → A3 → A4 → Prop} (hF : ∀ (K : A1 → A2 → A3 → A4 → Prop), (∀ (a1 : A1) (a2 : A2) (a3 : A3) (a4 : A4), K a1 a2 a3 a4 → T a1 a2 a3 a4) → ∀ (a1 : A1) (a2 : A2) (a3 : A3) (a4 : A4), F K a1 a2 a3 a4 → T a1 a2 a3 a4) : ∀ (a1 : A1) (a2 : A2) (a3 : A3) (a4 : A4), lp4F F a1 a2 a3 a4 → T a1 a2 a3 a4 := by
  rintro a1 a2 a3 a4 ⟨n, h⟩
  induction n generalizing a1 a2 a3 a4 with
  | zero => exact h.elim
  | succ n ih => exact hF _ (fun b1 b2 b3 b4 h => ih b1 b2 b3 b4 h) a1 a2 a3 a4 h
/-- a loop ends: an invariant and a measure -/
theorem lp4F_m {A1 A2 A3 A4 : Type} {F : (A1 → A2 → A3 → A4 → Prop) → A1 → A2 → A3 → A4 → Prop} (I : A1 → A2 → A3 → A4 → Prop) (μ : A1 → A2 → A3 → A4 → Nat) (h : ∀ (K : A1 → A2 → A3 → A4 → Prop) (a1 : A1) (a2 : A2) (a3 : A3) (a4 : A4), I a1 a2 a3 a4 → (∀ (b1 : A1) (b2 : A2) (b3 : A3) (b4 : A4), I b1 b2 b3 b4 → μ b1 b2 b3 b4 < μ a1 a2 a3 a4 → K b1 b2 b3 b4) → F K a1 a2 a3 a4) : ∀ (a1 : A1) (a2 : A2) (a3 : A3) (a4 : A4), I a1 a2 a3 a4 → lp4F F a1 a2 a3 a4 := by
  have key : ∀ (n : Nat) (a1 : A1) (a2 : A2) (a3 : A3) (a4 : A4), μ a1 a2 a3 a4 < n → I a1 a2 a3 a4 → it4 F n a1 a2 a3 a4 := by
    intro n
    induction n with
    | zero => intro a1 a2 a3 a4 hn; exact absurd hn (Nat.not_lt_zero _)
    | succ n ih => intro a1 a2 a3 a4 hn hI; exact h _ a1 a2 a3 a4 hI (fun b1 b2 b3 b4 hI' hm => ih b1 b2 b3 b4 (by omega) hI')
  intro a1 a2 a3 a4 hI
  exact ⟨_, key (μ a1 a2 a3 a4 + 1) a1 a2 a3 a4 (Nat.lt_succ_self _) hI⟩
def it5 {A1 A2 A3 A4 A5 : Type} (F : (A1 → A2 → A3 → A4 → A5 → Prop) → A1 → A2 → A3 → A4 → A5 → Prop) (n : Nat) : A1 → A2 → A3 → A4 → A5 → Prop := Nat.rec (motive := fun _ => A1 → A2 → A3 → A4 → A5 → Prop) (fun _ _ _ _ _ => False) (fun _ ih => F ih) n
def lp5F {A1 A2 A3 A4 A5 : Type} (F : (A1 → A2 → A3 → A4 → A5 → Prop) → A1 → A2 → A3 → A4 → A5 → Prop) (a1 : A1) (a2 : A2) (a3 : A3) (a4 : A4) (a5 : A5) : Prop := ∃ n, it5 F n a1 a2 a3 a4 a5
theorem lp5F_of {A1 A2 A3 A4 A5 : Type} {F : (A1 → A2 → A3 → A4 → A5 → Prop) → A1 → A2 → A3 → A4 → A5 → Prop} {T : A1 → A2 → A3 → A4 → A5 → Prop} (hF : ∀ (K : A1 → A2 → A3 → A4 → A5 → Prop), (∀ (a1 : A1) (a2 : A2) (a3 : A3) (a4 : A4) (a5 : A5), K a1 a2 a3 a4 a5 → T a1 a2 a3 a4 a5) → ∀ (a1 : A1) (a2 : A2) (a3 : A3) (a4 : A4) (a5 : A5), F K a1 a2 a3 a4 a5 → T a1 a2 a3 a4 a5) : ∀ (a1 : A1) (a2 : A2) (a3 : A3) (a4 : A4) (a5 : A5), lp5F F a1 a2 a3 a4 a5 → T a1 a2 a3 a4 a5 := by
  rintro a1 a2 a3 a4 a5 ⟨n, h⟩
  induction n generalizing a1 a2 a3 a4 a5 with
  | zero => exact h.elim
  | succ n ih => exact hF _ (fun b1 b2 b3 b4 b5 h => ih b1 b2 b3 b4 b5 h) a1 a2 a3 a4 a5 h
/-- a loop ends: an invariant and a measure -/
theorem lp5F_m {A1 A2 A3 A4 A5 : Type} {F : (A1 → A2 → A3 → A4 → A5 → Prop) → A1 → A2 → A3 → A4 → A5 → Prop} (I : A1 → A2 → A3 → A4 → A5 → Prop) (μ : A1 → A2 → A3 → A4 → A5 → Nat) (h : ∀ (K : A1 → A2 → A3 → A4 → A5 → Prop) (a1 : A1) (a2 : A2) (a3 : A3) (a4 : A4) (a5 : A5), I a1 a2 a3 a4 a5 → (∀ (b1 : A1) (b2 : A2) (b3 : A3) (b4 : A4) (b5 : A5), I b1 b2 b3 b4 b5 → μ b1 b2 b3 b4 b5 < μ a1 a2 a3 a4 a5 → K b1 b2 b3 b4 b5) → F K a1 a2 a3 a4 a5) : ∀ (a1 : A1) (a2 : A2) (a3 : A3) (a4 : A4) (a5 : A5), I a1 a2 a3 a4 a5 → lp5F F a1 a2 a3 a4 a5 := by
  have key : ∀ (n : Nat) (a1 : A1) (a2 : A2) (a3 : A3) (a4 : A4) (a5 : A5), μ a1 a2 a3 a4 a5 < n → I a1 a2 a3 a4 a5 → it5 F n a1 a2 a3 a4 a5 := by
    intro n
    induction n with
    | zero => intro a1 a2 a3 a4 a5 hn; exact absurd hn (Nat.not_lt_zero _)
    | succ n ih => intro a1 a2 a3 a4 a5 hn hI; exact h _ a1 a2 a3 a4 a5 hI (fun b1 b2 b3 b4 b5 hI' hm => ih b1 b2 b3 b4 b5 (by omega) hI')
  intro a1 a2 a3 a4 a5 hI
  exact ⟨_, key (μ a1 a2 a3 a4 a5 + 1) a1 a2 a3 a4 a5 (Nat.lt_succ_self _) hI⟩
def it6 {A1 A2 A3 A4 A5 A6 : Type} (F : (A1 → A2 → A3 → A4 → A5 → A6 → Prop) → A1 → A2 → A3 → A4 → A5 → A6 → Prop) (n : Nat) : A1 → A2 → A3 → A4 → A5 → A6 → Prop := Nat.rec (motive := fun _ => A1 → A2 → A3 → A4 → A5 → A6 → Prop) (fun _ _ _ _ _ _ => False) (fun _ ih => F ih) n
def lp6F {A1 A2 A3 A4 A5 A6 : Type} (F : (A1 → A2 → A3 → A4 → A5 → A6 → Prop) → A1 → A2 → A3 → A4 → A5 → A6 → Prop) (a1 : A1) (a2 : A2) (a3 : A3) (a4 : A4) (a5 : A5) (a6 : A6) : Prop := ∃ n, it6 F n a1 a2 a3 a4 a5 a6
theorem lp6F_of {A1 A2 A3 A4 A5 A6 : Type} {F : (A1 → A2 → A3 → A4 → A5 → A6 → Prop) → A1 → A2 → A3 → A4 → A5 → A6 → Prop} {T : A1 → A2 → A3 → A4 → A5 → A6 → Prop} (hF : ∀ (K : A1 → A2 → A3 → A4 → A5 → A6 → Prop), (∀ (a1 : A1) (a2 : A2) (a3 : A3) (a4 : A4) (a5 : A5) (a6 : A6), K a1 a2 a3 a4 a5 a6 → T a1 a2 a3 a4 a5 a6) → ∀ (a1 : A1) (a2 : A2) (a3 : A3) (a4 : A4) (a5 : A5) (a6 : A6), F K a1 a2 a3 a4 a5 a6 → T a1 a2 a3 a4 a5 a6) : ∀ (a1 : A1) (a2 : A2) (a3 : A3) (a4 : A4) (a5 : A5) (a6 : A6), lp6F F a1 a2 a3 a4 a5 a6 → T a1 a2 a3 a4 a5 a6 := by
  rintro a1 a2 a3 a4 a5 a6 ⟨n, h⟩
  induction n generalizing a1 a2 a3 a4 a5 a6 with
  | zero => exact h.elim
  | succ n ih => exact hF _ (fun b1 b2 b3 b4 b5 b6 h => ih b1 b2 b3 b4 b5 b6 h) a1 a2 a3 a4 a5 a6 h
/-- a loop ends: an invariant and a measure -/
theorem lp6F_m {A1 A2 A3 A4 A5 A6 : Type} {F : (A1 → A2 → A3 → A4 → A5 → A6 → Prop) → A1 → A2 → A3 → A4 → A5 → A6 → Prop} (I : A1 → A2 → A3 → A4 → A5 → A6 → Prop) (μ : A1 → A2 → A3 → A4 → A5 → A6 → Nat) (h : ∀ (K : A1 → A2 → A3 → A4 → A5 → A6 → Prop) (a1 : A1) (a2 : A2) (a3 : A3) (a4 : A4) (a5 : A5) (a6 : A6), I a1 a2 a3 a4 a5 a6 → (∀ (b1 : A1) (b2 : A2) (b3 : A3) (b4 : A4) (b5 : A5) (b6 : A6), I b1 b2 b3 b4 b5 b6 → μ b1 b2 b3 b4 b5 b6 < μ a1 a2 a3 a4 a5 a6 → K b1 b2 b3 b4 b5 b6) → F K a1 a2 a3 a4 a5 a6) : ∀ (a1 : A1) (a2 : A2) (a3 : A3) (a4 : A4) (a5 : A5) (a6 : A6), I a1 a2 a3 a4 a5 a6 → lp6F F a1 a2 a3 a4 a5 a6 := by
  have key : ∀ (n : Nat) (a1 : A1) (a2 : A2) (a3 : A3) (a4 : A4) (a5 : A5) (a6 : A6), μ a1 a2 a3 a4 a5 a6 < n → I a1 a2 a3 a4 a5 a6 → it6 F n a1 a2 a3 a4 a5 a6 := by
    intro n
    induction n with
    | zero => intro a1 a2 a3 a4 a5 a6 hn; exact absurd hn (Nat.not_lt_zero _)
    | succ n ih => intro a1 a2 a3 a4 a5 a6 hn hI; exact h _ a1 a2 a3 a4 a5 a6 hI (fun b1 b2 b3 b4 b5 b6 hI' hm => ih b1 b2 b3 b4 b5 b6 (by omega) hI')
  intro a1 a2 a3 a4 a5 a6 hI
  exact ⟨_, key (μ a1 a2 a3 a4 a5 a6 + 1) a1 a2 a3 a4 a5 a6 (Nat.lt_succ_self _) hI⟩
def it7 {A1 A2 A3 A4 A5 A6 A7 : Type} (F : (A1 → A2 → A3 → A4 → A5 → A6 → A7 → Prop) → A1 → A2 → A3 → A4 → A5 → A6 → A7 → Prop) (n : Nat) : A1 → A2 → A3 → A4 → A5 → A6 → A7 → Prop := Nat.rec (motive := fun _ => A1 → A2 → A3 → A4 → A5 → A6 → A7 → Prop) (fun _ _ _ _ _ _ _ => False) (fun _ ih => F ih) n
def lp7F {A1 A2 A3 A4 A5 A6 A7 : Type} (F : (A1 → A2 → A3 → A4 → A5 → A6 → A7 → Prop) → A1 → A2 → A3 → A4 → A5 → A6 → A7 → Prop) (a1 : A1) (a2 : A2) (a3 : A3) (a4 : A4) (a5 : A5) (a6 : A6) (a7 : A7) : Prop := ∃ n, it7 F n a1 a2 a3 a4 a5 a6 a7
theorem lp7F_of {A1 A2 A3 A4 A5 A6 A7 : Type} {F : (A1 → A2 → A3 → A4 → A5 → A6 → A7 → Prop) → A1 → A2 → A3 → A4 → A5 → A6 → A7 → Prop} {T : A1 → A2 → A3 → A4 → A5 → A6 → A7 → Prop} (hF : ∀ (K : A1 → A2 → A3 → A4 → A5 → A6 → A7 → Prop), (∀ (a1 : A1) (a2 : A2) (a3 : A3) (a4 : A4) (a5 : A5) (a6 : A6) (a7 : A7), K a1 a2 a3 a4 a5 a6 a7 → T a1 a2 a3 a4 a5 a6 a7) → ∀ (a1 : A1) (a2 : A2) (a3 : A3) (a4 : A4) (a5 : A5) (a6 : A6) (a7 : A7), F K a1 a2 a3 a4 a5 a6 a7 → T a1 a2 a3 a4 a5 a6 a7) : ∀ (a1 : A1) (a2 : A2) (a3 : A3) (a4 : A4) (a5 : A5) (a6 : A6) (a7 : A7), lp7F F a1 a2 a3 a4 a5 a6 a7 → T a1 a2 a3 a4 a5 a6 a7 := by
  rintro a1 a2 a3 a4 a5 a6 a7 ⟨n, h⟩
  induction n generalizing a1 a2 a3 a4 a5 a6 a7 with
  | zero => exact h.elim
  | succ n ih => exact hF _ (fun b1 b2 b3 b4 b5 b6 b7 h => ih b1 b2 b3 b4 b5 b6 b7 h) a1 a2 a3 a4 a5 a6 a7 h
/-- a loop ends: an invariant and a measure -/
theorem lp7F_m {A1 A2 A3 A4 A5 A6 A7 : Type} {F : (A1 → A2 → A3 → A4 → A5 → A6 → A7 → Prop) → A1 → A2 → A3 → A4 → A5 → A6 → A7 → Prop} (I : A1 → A2 → A3 → A4 → A5 → A6 → A7 → Prop) (μ : A1 → A2 → A3 → A4 → A5 → A6 → A7 → Nat) (h : ∀ (K : A1 → A2 → A3 → A4 → A5 → A6 → A7 → Prop) (a1 : A1) (a2 : A2) (a3 : A3) (a4 : A4) (a5 : A5) (a6 : A6) (a7 : A7), I a1 a2 a3 a4 a5 a6 a7 → (∀ (b1 : A1) (b2 : A2) (b3 : A3) (b4 : A4) (b5 : A5) (b6 : A6) (b7 : A7), I b1 b2 b3 b4 b5 b6 b7 → μ b1 b2 b3 b4 b5 b6 b7 < μ a1 a2 a3 a4 a5 a6 a7 → K b1 b2 b3 b4 b5 b6 b7) → F K a1 a2 a3 a4 a5 a6 a7) : ∀ (a1 : A1) (a2 : A2) (a3 : A3) (a4 : A4) (a5 : A5) (a6 : A6) (a7 : A7), I a1 a2 a3 a4 a5 a6 a7 → lp7F F a1 a2 a3 a4 a5 a6 a7 := by
  have key : ∀ (n : Nat) (a1 : A1) (a2 : A2) (a3 : A3) (a4 : A4) (a5 : A5) (a6 : A6) (a7 : A7), μ a1 a2 a3 a4 a5 a6 a7 < n → I a1 a2 a3 a4 a5 a6 a7 → it7 F n a1 a2 a3 a4 a5 a6 a7 := by
    intro n
    induction n with
    | zero => intro a1 a2 a3 a4 a5 a6 a7 hn; exact absurd hn (Nat.not_lt_zero _)
    | succ n ih => intro a1 a2 a3 a4 a5 a6 a7 hn hI; exact h _ a1 a2 a3 a4 a5 a6 a7 hI (fun b1 b2 b3 b4 b5 b6 b7 hI' hm => ih b1 b2 b3 b4 b5 b6 b7 (by omega) hI')
  intro a1 a2 a3 a4 a5 a6 a7 hI
  exact ⟨_, key (μ a1 a2 a3 a4 a5 a6 a7 + 1) a1 a2 a3 a4 a5 a6 a7 (Nat.lt_succ_self _) hI⟩
def it8 {A1 A2 A3 A4 A5 A6 A7 A8 : Type} (F : (A1 → A2 → A3 → A4 → A5 → A6 → A7 → A8 → Prop) → A1 → A2 → A3 → A4 → A5 → A6 → A7 → A8 → Prop) (n : Nat) : A1 → A2 → A3 → A4 → A5 → A6 → A7 → A8 → Prop := Nat.rec (motive := fun _ => A1 → A2 → A3 → A4 → A5 → A6 → A7 → A8 → Prop) (fun _ _ _ _ _ _ _ _ => False) (fun _ ih => F ih) n
def lp8F {A1 A2 A3 A4 A5 A6 A7 A8 : Type} (F : (A1 → A2 → A3 → A4 → A5 → A6 → A7 → A8 → Prop) → A1 → A2 → A3 → A4 → A5 → A6 → A7 → A8 → Prop) (a1 : A1) (a2 : A2) (a3 : A3) (a4 : A4) (a5 : A5) (a6 : A6) (a7 : A7) (a8 : A8) : Prop := ∃ n, it8 F n a1 a2 a3 a4 a5 a6 a7 a8
theorem lp8F_of {A1 A2 A3 A4 A5 A6 A7 A8 : Type} {F : (A1 → A2 → A3 → A4 → A5 → A6 → A7 → A8 → Prop) → A1 → A2 → A3 → A4 → A5 → A6 → A7 → A8 → Prop} {T : A1 → A2 → A3 → A4 → A5 → A6 → A7 → A8 → Prop} (hF : ∀ (K : A1 → A2 → A3 → A4 → A5 → A6 → A7 → A8 → Prop), (∀ (a1 : A1) (a2 : A2) (a3 : A3) (a4 : A4) (a5 : A5) (a6 : A6) (a7 : A7) (a8 : A8), K a1 a2 a3 a4 a5 a6 a7 a8 → T a1 a2 a3 a4 a5 a6 a7 a8) → ∀ (a1 : A1) (a2 : A2) (a3 : A3) (a4 : A4) (a5 : A5) (a6 : A6) (a7 : A7) (a8 : A8), F K a1 a2 a3 a4 a5 a6 a7 a8 → T a1 a2 a3 a4 a5 a6 a7 a8) : ∀ (a1 : A1) (a2 : A2) (a3 : A3) (a4 : A4) (a5 : A5) (a6 : A6) (a7 : A7) (a8 : A8), lp8F F a1 a2 a3 a4 a5 a6 a7 a8 → T a1 a2 a3 a4 a5 a6 a7 a8 := by
  rintro a1 a2 a3 a4 a5 a6 a7 a8 ⟨n, h⟩
  induction n generalizing a1 a2 a3 a4 a5 a6 a7 a8 with
  | zero => exact h.elim
  | succ n ih => exact hF _ (fun b1 b2 b3 b4 b5 b6 b7 b8 h => ih b1 b2 b3 b4 b5 b6 b7 b8 h) a1 a2 a3 a4 a5 a6 a7 a8 h
/-- a loop ends: an invariant and a measure -/
theorem lp8F_m {A1 A2 A3 A4 A5 A6 A7 A8 : Type} {F : (A1 → A2 → A3 → A4 → A5 → A6 → A7 → A8 → Prop) → A1 → A2 → A3 → A4 → A5 → A6 → A7 → A8 → Prop} (I : A1 → A2 → A3 → A4 → A5 → A6 → A7 → A8 → Prop) (μ : A1 → A2 → A3 → A4 → A5 → A6 → A7 → A8 → Nat) (h : ∀ (K : A1 → A2 → A3 → A4 → A5 → A6 → A7 → A8 → Prop) (a1 : A1) (a2 : A2) (a3 : A3) (a4 : A4) (a5 : A5) (a6 : A6) (a7 : A7) (a8 : A8), I a1 a2 a3 a4 a5 a6 a7 a8 → (∀ (b1 : A1) (b2 : A2) (b3 : A3) (b4 : A4) (b5 : A5) (b6 : A6) (b7 : A7) (b8 : A8), I b1 b2 b3 b4 b5 b6 b7 b8 → μ b1 b2 b3 b4 b5 b6 b7 b8 < μ a1 a2 a3 a4 a5 a6 a7 a8 → K b1 b2 b3 b4 b5 b6 b7 b8) → F K a1 a2 a3 a4 a5 a6 a7 a8) : ∀ (a1 : A1) (a2 : A2) (a3 : A3) (a4 : A4) (a5 : A5) (a6 : A6) (a7 : A7) (a8 : A8), I a1 a2 a3 a4 a5 a6 a7 a8 → lp8F F a1 a2 a3 a4 a5 a6 a7 a8 := by
  have key : ∀ (n : Nat) (a1 : A1) (a2 : A2) (a3 : A3) (a4 : A4) (a5 : A5) (a6 : A6) (a7 : A7) (a8 : A8), μ a1 a2 a3 a4 a5 a6 a7 a8 < n → I a1 a2 a3 a4 a5 a6 a7 a8 → it8 F n a1 a2 a3 a4 a5 a6 a7 a8 := by
    intro n
    induction n with
    | zero => intro a1 a2 a3 a4 a5 a6 a7 a8 hn; exact absurd hn (Nat.not_lt_zero _)
    | succ n ih => intro a1 a2 a3 a4 a5 a6 a7 a8 hn hI; exact h _ a1 a2 a3 a4 a5 a6 a7 a8 hI (fun b1 b2 b3 b4 b5 b6 b7 b8 hI' hm => ih b1 b2 b3 b4 b5 b6 b7 b8 (by omega) hI')
  intro a1 a2 a3 a4 a5 a6 a7 a8 hI
  exact ⟨_, key (μ a1 a2 a3 a4 a5 a6 a7 a8 + 1) a1 a2 a3 a4 a5 a6 a7 a8 (Nat.lt_succ_self _) hI⟩
def it9 {A1 A2 A3 A4 A5 A6 A7 A8 A9 : Type} (F : (A1 → A2 → A3 → A4 → A5 → A6 → A7 → A8 → A9 → Prop) → A1 → A2 → A3 → A4 → A5 → A6 → A7 → A8 → A9 → Prop) (n : Nat) : A1 → A2 → A3 → A4 → A5 → A6 → A7 → A8 → A9 → Prop := Nat.rec (motive := fun _ => A1 → A2 → A3 → A4 → A5 → A6 → A7 → A8 → A9 → Prop) (fun _ _ _ _ _ _ _ _ _ => False) (fun _ ih => F ih) n
def lp9F {A1 A2 A3 A4 A5 A6 A7 A8 A9 : Type} (F : (A1 → A2 → A3 → A4 → A5 → A6 → A7 → A8 → A9 → Prop) → A1 → A2 → A3 → A4 → A5 → A6 → A7 → A8 → A9 → Prop) (a1 : A1) (a2 : A2) (a3 : A3) (a4 : A4) (a5 : A5) (a6 : A6) (a7 : A7) (a8 : A8) (a9 : A9) : Prop := ∃ n, it9 F n a1 a2 a3 a4 a5 a6 a7 a8 a9
theorem lp9F_of {A1 A2 A3 A4 A5 A6 A7 A8 A9 : Type} {F : (A1 → A2 → A3 → A4 → A5 → A6 → A7 → A8 → A9 → Prop) → A1 → A2 → A3 → A4 → A5 → A6 → A7 → A8 → A9 → Prop} {T : A1 → A2 → A3 → A4 → A5 → A6 → A7 → A8 → A9 → Prop} (hF : ∀ (K : A1 → A2 → A3 → A4 → A5 → A6 → A7 → A8 → A9 → Prop), (∀ (a1 : A1) (a2 : A2) (a3 : A3) (a4 : A4) (a5 : A5) (a6 : A6) (a7 : A7) (a8 : A8) (a9 : A9), K a1 a2 a3 a4 a5 a6 a7 a8 a9 → T a1 a2 a3 a4 a5 a6 a7 a8 a9) → ∀ (a1 : A1) (a2 : A2) (a3 : A3) (a4 : A4) (a5 : A5) (a6 : A6) (a7 : A7) (a8 : A8) (a9 : A9), F K a1 a2 a3 a4 a5 a6 a7 a8 a9 → T a1 a2 a3 a4 a5 a6 a7 a8 a9) : ∀ (a1 : A1) (a2 : A2) (a3 : A3) (a4 : A4) (a5 : A5) (a6 : A6) (a7 : A7) (a8 : A8) (a9 : A9), lp9F F a1 a2 a3 a4 a5 a6 a7 a8 a9 → T a1 a2 a3 a4 a5 a6 a7 a8 a9 := by
  rintro a1 a2 a3 a4 a5 a6 a7 a8 a9 ⟨n, h⟩
  induction n generalizing a1 a2 a3 a4 a5 a6 a7 a8 a9 with
  | zero => exact h.elim
  | succ n ih => exact hF _ (fun b1 b2 b3 b4 b5 b6 b7 b8 b9 h => ih b1 b2 b3 b4 b5 b6 b7 b8 b9 h) a1 a2 a3 a4 a5 a6 a7 a8 a9 h
/-- a loop ends: an invariant and a measure -/
theorem lp9F_m {A1 A2 A3 A4 A5 A6 A7 A8 A9 : Type} {F : (A1 → A2 → A3 → A4 → A5 → A6 → A7 → A8 → A9 → Prop) → A1 → A2 → A3 → A4 → A5 → A6 → A7 → A8 → A9 → Prop} (I : A1 → A2 → A3 → A4 → A5 → A6 → A7 → A8 → A9 → Prop) (μ : A1 → A2 → A3 → A4 → A5 → A6 → A7 → A8 → A9 → Nat) (h : ∀ (K : A1 → A2 → A3 → A4 → A5 → A6 → A7 → A8 → A9 → Prop) (a1 : A1) (a2 : A2) (a3 : A3) (a4 : A4) (a5 : A5) (a6 : A6) (a7 : A7) (a8 : A8) (a9 : A9), I a1 a2 a3 a4 a5 a6 a7 a8 a9 → (∀ (b1 : A1) (b2 : A2) (b3 : A3) (b4 : A4) (b5 : A5) (b6 : A6) (b7 : A7) (b8 : A8) (b9 : A9), I b1 b2 b3 b4 b5 b6 b7 b8 b9 → μ b1 b2 b3 b4 b5 b6 b7 b8 b9 < μ a1 a2 a3 a4 a5 a6 a7 a8 a9 → K b1 b2 b3 b4 b5 b6 b7 b8 b9) → F K a1 a2 a3 a4 a5 a6 a7 a8 a9) : ∀ (a1 : A1) (a2 : A2) (a3 : A3) (a4 : A4) (a5 : A5) (a6 : A6) (a7 : A7) (a8 : A8) (a9 : A9), I a1 a2 a3 a4 a5 a6 a7 a8 a9 → lp9F F a1 a2 a3 a4 a5 a6 a7 a8 a9 := by
  have key : ∀ (n : Nat) (a1 : A1) (a2 : A2) (a3 : A3) (a4 : A4) (a5 : A5) (a6 : A6) (a7 : A7) (a8 : A8) (a9 : A9), μ a1 a2 a3 a4 a5 a6 a7 a8 a9 < n → I a1 a2 a3 a4 a5 a6 a7 a8 a9 → it9 F n a1 a2 a3 a4 a5 a6 a7 a8 a9 := by
    intro n
    induction n with
    | zero => intro a1 a2 a3 a4 a5 a6 a7 a8 a9 hn; exact absurd hn (Nat.not_lt_zero _)
    | succ n ih => intro a1 a2 a3 a4 a5 a6 a7 a8 a9 hn hI; exact h _ a1 a2 a3 a4 a5 a6 a7 a8 a9 hI (fun b1 b2 b3 b4 b5 b6 b7 b8 b9 hI' hm => ih b1 b2 b3 b4 b5 b6 b7 b8 b9 (by omega) hI')
  intro a1 a2 a3 a4 a5 a6 a7 a8 a9 hI
  exact ⟨_, key (μ a1 a2 a3 a4 a5 a6 a7 a8 a9 + 1) a1 a2 a3 a4 a5 a6 a7 a8 a9 (Nat.lt_succ_self _) hI⟩
def it10 {A1 A2 A3 A4 A5 A6 A7 A8 A9 A10 : Type} (F : (A1 → A2 → A3 → A4 → A5 → A6 → A7 → A8 → A9 → A10 → Prop) → A1 → A2 → A3 → A4 → A5 → A6 → A7 → A8 → A9 → A10 → Prop) (n : Nat) : A1 → A2 → A3 → A4 → A5 → A6 → A7 → A8 → A9 → A10 → Prop := Nat.rec (motive := fun _ => A1 → A2 → A3 → A4 → A5 → A6 → A7 → A8 → A9 → A10 → Prop) (fun _ _ _ _ _ _ _ _ _ _ => False) (fun _ ih => F ih) n
def lp10F {A1 A2 A3 A4 A5 A6 A7 A8 A9 A10 : Type} (F : (A1 → A2 → A3 → A4 → A5 → A6 → A7 → A8 → A9 → A10 → Prop) → A1 → A2 → A3 → A4 → A5 → A6 → A7 → A8 → A9 → A10 → Prop) (a1 : A1) (a2 : A2) (a3 : A3) (a4 : A4) (a5 : A5) (a6 : A6) (a7 : A7) (a8 : A8) (a9 : A9) (a10 : A10) : Prop := ∃ n, it10 F n a1 a2 a3 a4 a5 a6 a7 a8 a9 a10
theorem lp10F_of {A1 A2 A3 A4 A5 A6 A7 A8 A9 A10 : Type} {F : (A1 → A2 → A3 → A4 → A5 → A6 → A7 → A8 → A9 → A10 → Prop) → A1 → A2 → A3 → A4 → A5 → A6 → A7 → A8 → A9 → A10 → Prop} {T : A1 → A2 → A3 → A4 → A5 → A6 → A7 → A8 → A9 → A10 → Prop} (hF : ∀ (K : A1 → A2 → A3 → A4 → A5 → A6 → A7 → A8 → A9 → A10 → Prop), (∀ (a1 : A1) (a2 : A2) (a3 : A3) (a4 : A4) (a5 : A5) (a6 : A6) (a7 : A7) (a8 : A8) (a9 : A9) (a10 : A10), K a1 a2 a3 a4 a5 a6 a7 a8 a9 a10 → T a1 a2 a3 a4 a5 a6 a7 a8 a9 a10) → ∀ (a1 : A1) (a2 : A2) (a3 : A3) (a4 : A4) (a5 : A5) (a6 : A6) (a7 : A7) (a8 : A8) (a9 : A9) (a10 : A10), F K a1 a2 a3 a4 a5 a6 a7 a8 a9 a10 → T a1 a2 a3 a4 a5 a6 a7 a8 a9 a10) : ∀ (a1 : A1) (a2 : A2) (a3 : A3) (a4 : A4) (a5 : A5) (a6 : A6) (a7 : A7) (a8 : A8) (a9 : A9) (a10 : A10), lp10F F a1 a2 a3 a4 a5 a6 a7 a8 a9 a10 → T a1 a2 a3 a4 a5 a6 a7 a8 a9 a10 := by
  rintro a1 a2 a3 a4 a5 a6 a7 a8 a9 a10 ⟨n, h⟩
  induction n generalizing a1 a2 a3 a4 a5 a6 a7 a8 a9 a10 with
  | zero => exact h.elim
  | succ n ih => exact hF _ (fun b1 b2 b3 b4 b5 b6 b7 b8 b9 b10 h => ih b1 b2 b3 b4 b5 b6 b7 b8 b9 b10 h) a1 a2 a3 a4 a5 a6 a7 a8 a9 a10 h
/-- a loop ends: an invariant and a measure -/
theorem lp10F_m {A1 A2 A3 A4 A5 A6 A7 A8 A9 A10 : Type} {F : (A1 → A2 → A3 → A4 → A5 → A6 → A7 → A8 → A9 → A10 → Prop) → A1 → A2 → A3 → A4 → A5 → A6 → A7 → A8 → A9 → A10 → Prop} (I : A1 → A2 → A3 → A4 → A5 → A6 → A7 → A8 → A9 → A10 → Prop) (μ : A1 → A2 → A3 → A4 → A5 → A6 → A7 → A8 → A9 → A10 → Nat) (h : ∀ (K : A1 → A2 → A3 → A4 → A5 → A6 → A7 → A8 → A9 → A10 → Prop) (a1 : A1) (a2 : A2) (a3 : A3) (a4 : A4) (a5 : A5) (a6 : A6) (a7 : A7) (a8 : A8) (a9 : A9) (a10 : A10), I a1 a2 a3 a4 a5 a6 a7 a8 a9 a10 → (∀ (b1 : A1) (b2 : A2) (b3 : A3) (b4 : A4) (b5 : A5) (b6 : A6) (b7 : A7) (b8 : A8) (b9 : A9) (b10 : A10), I b1 b2 b3 b4 b5 b6 b7 b8 b9 b10 → μ b1 b2 b3 b4 b5 b6 b7 b8 b9 b10 < μ a1 a2 a3 a4 a5 a6 a7 a8 a9 a10 → K b1 b2 b3 b4 b5 b6 b7 b8 b9 b10) → F K a1 a2 a3 a4 a5 a6 a7 a8 a9 a10) : ∀ (a1 : A1) (a2 : A2) (a3 : A3) (a4 : A4) (a5 : A5) (a6 : A6) (a7 : A7) (a8 : A8) (a9 : A9) (a10 : A10), I a1 a2 a3 a4 a5 a6 a7 a8 a9 a10 → lp10F F a1 a2 a3 a4 a5 a6 a7 a8 a9 a10 := by
  have key : ∀ (n : Nat) (a1 : A1) (a2 : A2) (a3 : A3) (a4 : A4) (a5 : A5) (a6 : A6) (a7 : A7) (a8 : A8) (a9 : A9) (a10 : A10), μ a1 a2 a3 a4 a5 a6 a7 a8 a9 a10 < n → I a1 a2 a3 a4 a5 a6 a7 a8 a9 a10 → it10 F n a1 a2 a3 a4 a5 a6 a7 a8 a9 a10 := by
    intro n
    induction n with
    | zero => intro a1 a2 a3 a4 a5 a6 a7 a8 a9 a10 hn; exact absurd hn (Nat.not_lt_zero _)
    | succ n ih => intro a1 a2 a3 a4 a5 a6 a7 a8 a9 a10 hn hI; exact h _ a1 a2 a3 a4 a5 a6 a7 a8 a9 a10 hI (fun b1 b2 b3 b4 b5 b6 b7 b8 b9 b10 hI' hm => ih b1 b2 b3 b4 b5 b6 b7 b8 b9 b10 (by omega) hI')
  intro a1 a2 a3 a4 a5 a6 a7 a8 a9 a10 hI
  exact ⟨_, key (μ a1 a2 a3 a4 a5 a6 a7 a8 a9 a10 + 1) a1 a2 a3 a4 a5 a6 a7 a8 a9 a10 (Nat.lt_succ_self _) hI⟩
def it11 {A1 A2 A3 A4 A5 A6 A7 A8 A9 A10 A11 : Type} (F : (A1 → A2 → A3 → A4 → A5 → A6 → A7 → A8 → A9 → A10 → A11 → Prop) → A1 → A2 → A3 → A4 → A5 → A6 → A7 → A8 → A9 → A10 → A11 → Prop) (n : Nat) : A1 → A2 → A3 → A4 → A5 → A6 → A7 → A8 → A9 → A10 → A11 → Prop := Nat.rec (motive := fun _ => A1 → A2 → A3 → A4 → A5 → A6 → A7 → A8 → A9 → A10 → A11 → Prop) (fun _ _ _ _ _ _ _ _ _ _ _ => False) (fun _ ih => F ih) n
def lp11F {A1 A2 A3 A4 A5 A6 A7 A8 A9 A10 A11 : Type} (F : (A1 → A2 → A3 → A4 → A5 → A6 → A7 → A8 → A9 → A10 → A11 → Prop) → A1 → A2 → A3 → A4 → A5 → A6 → A7 → A8 → A9 → A10 → A11 → Prop) (a1 : A1) (a2 : A2) (a3 : A3) (a4 : A4) (a5 : A5) (a6 : A6) (a7 : A7) (a8 : A8) (a9 : A9) (a10 : A10) (a11 : A11) : Prop := ∃ n, it11 F n a1 a2 a3 a4 a5 a6 a7 a8 a9 a10 a11
theorem lp11F_of {A1 A2 A3 A4 A5 A6 A7 A8 A9 A10 A11 : Type} {F : (A1 → A2 → A3 → A4 → A5 → A6 → A7 → A8 → A9 → A10 → A11 → Prop) → A1 → A2 → A3 → A4 → A5 → A6 → A7 → A8 → A9 → A10 → A11 → Prop} {T : A1 → A2 → A3 → A4 → A5 → A6 → A7 → A8 → A9 → A10 → A11 → Prop} (hF : ∀ (K : A1 → A2 → A3 → A4 → A5 → A6 → A7 → A8 → A9 → A10 → A11 → Prop), (∀ (a1 : A1) (a2 : A2) (a3 : A3) (a4 : A4) (a5 : A5) (a6 : A6) (a7 : A7) (a8 : A8) (a9 : A9) (a10 : A10) (a11 : A11), K a1 a2 a3 a4 a5 a6 a7 a8 a9 a10 a11 → T a1 a2 a3 a4 a5 a6 a7 a8 a9 a10 a11) → ∀ (a1 : A1) (a2 : A2) (a3 : A3) (a4 : A4) (a5 : A5) (a6 : A6) (a7 : A7) (a8 : A8) (a9 : A9) (a10 : A10) (a11 : A11), F K a1 a2 a3 a4 a5 a6 a7 a8 a9 a10 a11 → T a1 a2 a3 a4 a5 a6 a7 a8 a9 a10 a11) : ∀ (a1 : A1) (a2 : A2) (a3 : A3) (a4 : A4) (a5 : A5) (a6 : A6) (a7 : A7) (a8 : A8) (a9 : A9) (a10 : A10) (a11 : A11), lp11F F a1 a2 a3 a4 a5 a6 a7 a8 a9 a10 a11 → T a1 a2 a3 a4 a5 a6 a7 a8 a9 a10 a11 := by
  rintro a1 a2 a3 a4 a5 a6 a7 a8 a9 a10 a11 ⟨n, h⟩
  induction n generalizing a1 a2 a3 a4 a5 a6 a7 a8 a9 a10 a11 with
  | zero => exact h.elim
  | succ n ih => exact hF _ (fun b1 b2 b3 b4 b5 b6 b7 b8 b9 b10 b11 h => ih b1 b2 b3 b4 b5 b6 b7 b8 b9 b10 b11 h) a1 a2 a3 a4 a5 a6 a7 a8 a9 a10 a11 h
/-- a loop ends: an invariant and a measure -/
theorem lp11F_m {A1 A2 A3 A4 A5 A6 A7 A8 A9 A10 A11 : Type} {F : (A1 → A2 → A3 → A4 → A5 → A6 → A7 → A8 → A9 → A10 → A11 → Prop) → A1 → A2 → A3 → A4 → A5 → A6 → A7 → A8 → A9 → A10 → A11 → Prop} (I : A1 → A2 → A3 → A4 → A5 → A6 → A7 → A8 → A9 → A10 → A11 → Prop) (μ : A1 → A2 → A3 → A4 → A5 → A6 → A7 → A8 → A9 → A10 → A11 → Nat) (h : ∀ (K : A1 → A2 → A3 → A4 → A5 → A6 → A7 → A8 → A9 → A10 → A11 → Prop) (a1 : A1) (a2 : A2) (a3 : A3) (a4 : A4) (a5 : A5) (a6 : A6) (a7 : A7) (a8 : A8) (a9 : A9) (a10 : A10) (a11 : A11), I a1 a2 a3 a4 a5 a6 a7 a8 a9 a10 a11 → (∀ (b1 : A1) (b2 : A2) (b3 : A3) (b4 : A4) (b5 : A5) (b6 : A6) (b7 : A7) (b8 : A8) (b9 : A9) (b10 : A10) (b11 : A11), I b1 b2 b3 b4 b5 b6 b7 b8 b9 b10 b11 → μ b1 b2 b3 b4 b5 b6 b7 b8 b9 b10 b11 < μ a1 a2 a3 a4 a5 a6 a7 a8 a9 a10 a11 → K b1 b2 b3 b4 b5 b6 b7 b8 b9 b10 b11) → F K a1 a2 a3 a4 a5 a6 a7 a8 a9 a10 a11) : ∀ (a1 : A1) (a2 : A2) (a3 : A3) (a4 : A4) (a5 : A5) (a6 : A6) (a7 : A7) (a8 : A8) (a9 : A9) (a10 : A10) (a11 : A11), I a1 a2 a3 a4 a5 a6 a7 a8 a9 a10 a11 → lp11F F a1 a2 a3 a4 a5 a6 a7 a8 a9 a10 a11 := by
  have key : ∀ (n : Nat) (a1 : A1) (a2 : A2) (a3 : A3) (a4 : A4) (a5 : A5) (a6 : A6) (a7 : A7) (a8 : A8) (a9 : A9) (a10 : A10) (a11 : A11), μ a1 a2 a3 a4 a5 a6 a7 a8 a9 a10 a11 < n → I a1 a2 a3 a4 a5 a6 a7 a8 a9 a10 a11 → it11 F n a1 a2 a3 a4 a5 a6 a7 a8 a9 a10 a11 := by
    intro n
    induction n with
    | zero => intro a1 a2 a3 a4 a5 a6 a7 a8 a9 a10 a11 hn; exact absurd hn (Nat.not_lt_zero _)
    | succ n ih => intro a1 a2 a3 a4 a5 a6 a7 a8 a9 a10 a11 hn hI; exact h _ a1 a2 a3 a4 a5 a6 a7 a8 a9 a10 a11 hI (fun b1 b2 b3 b4 b5 b6 b7 b8 b9 b10 b11 hI' hm => ih b1 b2 b3 b4 b5 b6 b7 b8 b9 b10 b11 (by omega) hI')
  intro a1 a2 a3 a4 a5 a6 a7 a8 a9 a10 a11 hI
  exact ⟨_, key (μ a1 a2 a3 a4 a5 a6 a7 a8 a9 a10 a11 + 1) a1 a2 a3 a4 a5 a6 a7 a8 a9 a10 a11 (Nat.lt_succ_self _) hI⟩
