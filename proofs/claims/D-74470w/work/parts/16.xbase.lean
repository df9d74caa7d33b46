/-! THE CLASS's OWN MODE: objects and arrays by numbers (ids) in allocation order; rows over it. -/
set_option maxRecDepth 100000
abbrev xx_cl : List vw_C := [(RX0, TX0, 24), (RX1, TX1, 12), (RX2, TX2, 13), (RX4, TX4, 9), (RX5, TX5, 8), (RX6, TX6, 2), (RX7, TX7, 1), (RX8, TX8, 1), (RX9, TX9, 2), (RX10, TX10, 1), (RX11, TX11, 1), (RX12, TX12, 6), (RX13, TX13, 2), (RX14, TX14, 2), (RX16, TX16, 3), (RJ7, TJ7, 3), (RJ1, TJ1, 8), (RJ2, TJ2, 12), (RJ5, TJ5, 1), (RJ25, TJ25, 4), (RJ26, TJ26, 6), (RJ14, TJ14, 4), (RJ13, TJ13, 4), (RJ29, TJ29, 6), (RX3, TX3, 42)]
/-- what each field holds: 0 a number, 1 a reference, 2 a float, 3 a long -/
def xx_ly : List (List Nat) := [[1, 0, 0, 0, 0, 1, 1, 1, 1, 1, 0, 0, 1, 0, 0, 1, 1, 1, 1, 1, 1, 1, 1, 0], [1, 1, 1, 1, 1, 0, 0, 0, 0, 0, 1, 1], [1, 1, 1, 1, 1, 1, 1, 0, 0, 0, 0, 0, 0], [1, 0, 1, 0, 0, 0, 0, 0, 1], [1, 1, 1, 1, 1, 0, 0, 0], [0, 0], [1], [1], [1, 0], [0], [1], [0, 0, 1, 1, 0, 0], [1, 1], [0, 0], [0, 0, 0], [0, 1, 0], [1, 1, 1, 1, 0, 0, 0, 2], [1, 1, 1, 1, 0, 0, 0, 2, 1, 1, 0, 0], [1], [0, 1, 1, 1], [0, 1, 1, 1, 1, 1], [1, 0, 0, 0], [1, 0, 0, 0], [1, 1, 1, 1, 0, 1], [1, 1, 1, 1, 1, 1, 1, 1, 0, 1, 0, 0, 0, 0, 0, 0, 0, 0, 0, 0, 0, 3, 0, 1, 1, 1, 1, 1, 1, 1, 1, 0, 0, 1, 1, 1, 3, 3, 1, 0, 3, 3]]
def xx_lt (c k : Nat) : Nat := (xx_ly.getD c []).getD k 9
def xx_nf (c : Nat) : Nat := (xx_ly.getD c []).length
theorem xx_cl_n : ∀ c q, xx_cl[c]? = some q → q.2.2 = xx_nf c := by
  intro c q h
  match c, h with
  | 0, h => cases h; rfl
  | 1, h => cases h; rfl
  | 2, h => cases h; rfl
  | 3, h => cases h; rfl
  | 4, h => cases h; rfl
  | 5, h => cases h; rfl
  | 6, h => cases h; rfl
  | 7, h => cases h; rfl
  | 8, h => cases h; rfl
  | 9, h => cases h; rfl
  | 10, h => cases h; rfl
  | 11, h => cases h; rfl
  | 12, h => cases h; rfl
  | 13, h => cases h; rfl
  | 14, h => cases h; rfl
  | 15, h => cases h; rfl
  | 16, h => cases h; rfl
  | 17, h => cases h; rfl
  | 18, h => cases h; rfl
  | 19, h => cases h; rfl
  | 20, h => cases h; rfl
  | 21, h => cases h; rfl
  | 22, h => cases h; rfl
  | 23, h => cases h; rfl
  | 24, h => cases h; rfl
  | n + 25, h => simp [xx_cl] at h
def xx_nfl : List (String × Nat × String × String × String × String) := [("StruckCounts", 259, "StruckCounts$Suit", "couples", "Ljava/util/HashSet;", "StruckCounts"), ("StruckCounts", 155, "StruckCounts$Suit", "counts", "Ljava/util/ArrayList;", "StruckCounts"), ("StruckCounts", 281, "StruckCounts$Suit", "odds", "[I", "StruckCounts"), ("StruckCounts", 133, "StruckCounts$Suit", "facts", "I", "StruckCounts"), ("StruckCounts", 130, "StruckCounts$Suit", "lines", "I", "StruckCounts"), ("StruckCounts", 244, "StruckCounts$Suit", "limit", "I", "StruckCounts"), ("StruckCounts", 139, "StruckCounts$Suit", "isWorld", "[Z", "StruckCounts"), ("StruckCounts", 389, "StruckCounts$Suit", "weight", "[I", "StruckCounts"), ("StruckCounts", 284, "StruckCounts$State", "how", "[I", "StruckCounts"), ("StruckCounts", 164, "StruckCounts$State", "like", "[I", "StruckCounts"), ("StruckCounts", 293, "StruckCounts$State", "worth", "[I", "StruckCounts"), ("StruckCounts", 213, "StruckCounts$State", "arose", "[I", "StruckCounts"), ("StruckCounts", 192, "StruckCounts$State", "filed", "[I", "StruckCounts"), ("StruckCounts", 195, "StruckCounts$State", "says", "[I", "StruckCounts"), ("StruckCounts", 247, "StruckCounts$State", "so", "[I", "StruckCounts"), ("StruckCounts", 149, "StruckCounts$State", "known", "I", "StruckCounts"), ("StruckCounts", 152, "StruckCounts$State", "knownSo", "I", "StruckCounts"), ("StruckCounts", 136, "StruckCounts$State", "many", "I", "StruckCounts"), ("StruckCounts", 220, "StruckCounts$State", "struck", "I", "StruckCounts"), ("StruckCounts", 340, "StruckCounts$State", "day", "I", "StruckCounts"), ("StruckCounts", 316, "StruckCounts$State", "isClosed", "Z", "StruckCounts"), ("StruckCounts", 108, "StruckCounts$Fault", "kind", "I", "StruckCounts"), ("StruckCounts", 113, "StruckCounts$Fault", "place", "I", "StruckCounts"), ("StruckCounts", 182, "StruckCounts$Told", "elements", "Ljava/util/ArrayList;", "StruckCounts"), ("StruckCounts", 185, "StruckCounts$Told", "pleas", "Ljava/util/ArrayList;", "StruckCounts"), ("StruckCounts", 299, "StruckCounts$Rule", "expr", "LStruckCounts$Expr;", "StruckCounts"), ("StruckCounts", 175, "StruckCounts$Rule", "is", "[Z", "StruckCounts"), ("StruckCounts", 432, "StruckCounts$Outcome", "set", "I", "StruckCounts"), ("StruckCounts", 435, "StruckCounts$Outcome", "first", "I", "StruckCounts"), ("StruckCounts", 426, "StruckCounts$Outcome", "worlds", "I", "StruckCounts"), ("StruckCounts$Suit", 81, "StruckCounts$Told", "elements", "Ljava/util/ArrayList;", "StruckCounts"), ("StruckCounts$Suit", 88, "StruckCounts$Told", "pleas", "Ljava/util/ArrayList;", "StruckCounts"), ("StruckCounts$State", 63, "StruckCounts$Suit", "counts", "Ljava/util/ArrayList;", "StruckCounts"), ("StruckCounts$State", 81, "StruckCounts$Told", "worth", "I", "StruckCounts"), ("StruckCounts$State", 83, "StruckCounts$Told", "arose", "I", "StruckCounts"), ("StruckCounts$State", 89, "StruckCounts$Told", "says", "I", "StruckCounts"), ("StruckCounts$State", 91, "StruckCounts$Told", "so", "I", "StruckCounts"), ("StruckCounts$Reader", 124, "StruckCounts$Suit", "names", "Ljava/util/LinkedHashMap;", "StruckCounts"), ("StruckCounts$Reader", 301, "StruckCounts$Suit", "couples", "Ljava/util/HashSet;", "StruckCounts"), ("StruckCounts$Reader", 263, "StruckCounts$Suit", "counts", "Ljava/util/ArrayList;", "StruckCounts"), ("StruckCounts$Reader", 254, "StruckCounts$Suit", "nevers", "Ljava/util/ArrayList;", "StruckCounts"), ("StruckCounts$Reader", 284, "StruckCounts$Suit", "odds", "[I", "StruckCounts"), ("StruckCounts$Reader", 233, "StruckCounts$Suit", "facts", "I", "StruckCounts"), ("StruckCounts$Reader", 260, "StruckCounts$Suit", "pleas", "I", "StruckCounts"), ("StruckCounts$Reader", 246, "StruckCounts$Suit", "lines", "I", "StruckCounts"), ("StruckCounts$Reader", 280, "StruckCounts$Suit", "limit", "I", "StruckCounts"), ("StruckCounts$Reader", 277, "StruckCounts$Suit", "hasLimit", "Z", "StruckCounts"), ("StruckCounts$Reader", 147, "StruckCounts$Owner", "isFact", "Z", "StruckCounts"), ("StruckCounts$Reader", 151, "StruckCounts$Owner", "number", "I", "StruckCounts"), ("StruckCounts$Reader", 289, "StruckCounts$Told", "elements", "Ljava/util/ArrayList;", "StruckCounts"), ("StruckCounts$Reader", 271, "StruckCounts$Told", "pleas", "Ljava/util/ArrayList;", "StruckCounts"), ("StruckCounts$Reader", 292, "StruckCounts$Told", "says", "I", "StruckCounts"), ("StruckCounts$Reader", 298, "StruckCounts$Told", "so", "I", "StruckCounts")]
def xx_nf_ : List Cond := xx_nfl.map fun q => .fieldLinkNest q.1 q.2.1 q.2.2.1 q.2.2.2.1 q.2.2.2.2.1 q.2.2.2.2.2
theorem xx_nf_ok : ∀ w ∈ xx_nf_, ∃ a i b n d g, w = Cond.fieldLinkNest a i b n d g := by
  intro w hw
  obtain ⟨q, -, rfl⟩ := List.mem_map.mp hw
  exact ⟨_, _, _, _, _, _, rfl⟩
def xx_nml : List (String × Nat × MethodName × String) := [("StruckCounts", 19, ⟨"StruckCounts$Suit", "<init>", "()V"⟩, "StruckCounts"), ("StruckCounts", 30, ⟨"StruckCounts$State", "<init>", "()V"⟩, "StruckCounts"), ("StruckCounts$Suit", 75, ⟨"StruckCounts", "has", "(II)Z"⟩, "StruckCounts"), ("StruckCounts$Fact", 15, ⟨"StruckCounts", "has", "(II)Z"⟩, "StruckCounts"), ("StruckCounts$Reader", 48, ⟨"StruckCounts", "in", "(III)Z"⟩, "StruckCounts"), ("StruckCounts$Reader", 294, ⟨"StruckCounts", "has", "(II)Z"⟩, "StruckCounts")]
def xx_nm_ : List Cond := xx_nml.map fun q => .methodLinkNest q.1 q.2.1 q.2.2.1 q.2.2.2
theorem xx_nm_ok : ∀ w ∈ xx_nm_, ∃ a i x g, w = Cond.methodLinkNest a i x g := by
  intro w hw
  obtain ⟨q, -, rfl⟩ := List.mem_map.mp hw
  exact ⟨_, _, _, _, rfl⟩
def xx_ca_ : List (String × String) := [("java/util/HashMap", "java/lang/Object"), ("java/lang/StringBuilder", "java/lang/Comparable"), ("java/lang/StringBuilder", "java/lang/Object"), ("java/lang/String", "java/lang/Comparable"), ("java/lang/String", "java/lang/Object"), ("java/util/LinkedHashMap", "java/lang/Object"), ("java/lang/Throwable", "java/lang/Object"), ("jdk/internal/misc/Unsafe", "java/lang/Object"), ("java/util/HashMap$Node", "java/lang/Object"), ("java/util/LinkedHashMap$Entry", "java/lang/Object"), ("java/util/LinkedHashMap$Entry", "java/util/HashMap$Node"), ("java/util/HashMap$TreeNode", "java/util/LinkedHashMap$Entry"), ("java/util/HashMap$TreeNode", "java/lang/Object"), ("java/util/HashMap$TreeNode", "java/util/HashMap$Node"), ("java/lang/ArithmeticException", "java/lang/ArithmeticException"), ("java/lang/ArithmeticException", "java/lang/Object"), ("java/lang/System$2", "jdk/internal/access/JavaLangAccess"), ("java/lang/System$2", "java/lang/Object"), ("java/util/HashSet", "java/lang/Object"), ("java/util/ArrayList", "java/lang/Object"), ("StruckCounts", "java/lang/Object"), ("StruckCounts$Suit", "java/lang/Object"), ("StruckCounts$Fact", "StruckCounts$Expr"), ("StruckCounts$Fact", "java/lang/Object"), ("StruckCounts$All", "StruckCounts$Expr"), ("StruckCounts$All", "java/lang/Object"), ("StruckCounts$Told", "java/lang/Object"), ("StruckCounts$Rule", "java/lang/Object"), ("StruckCounts$Couple", "java/lang/Object"), ("StruckCounts$Outcome", "java/lang/Object"), ("StruckCounts$State", "java/lang/Object"), ("StruckCountsModel", "java/lang/Object"), ("StruckCounts$Reader", "java/lang/Object"), ("StruckCounts$Fault", "StruckCounts$Fault"), ("StruckCounts$Fault", "java/lang/Object"), ("StruckCounts$Owner", "java/lang/Object"), ("StruckCounts$Not", "StruckCounts$Expr"), ("StruckCounts$Not", "java/lang/Object"), ("StruckCounts$Some", "StruckCounts$Expr"), ("StruckCounts$Some", "java/lang/Object"), ("StruckCounts$SoMany", "StruckCounts$Expr"), ("StruckCounts$SoMany", "java/lang/Object"), ("[B", "java/lang/Cloneable"), ("[B", "java/lang/Object"), ("[I", "java/lang/Object"), ("[J", "java/lang/Object"), ("[LStruckCounts$Outcome;", "java/lang/Object"), ("[LStruckCounts$State;", "java/lang/Object"), ("[Ljava/lang/Object;", "java/lang/Object"), ("[Ljava/util/HashMap$Node;", "java/lang/Object"), ("[Z", "java/lang/Object")]
def xx_fw_ : List (String × MethodName × MethodName) := [("StruckCounts$Fact", ⟨"StruckCounts$Expr", "holds", "(I)Z"⟩, ⟨"StruckCounts$Fact", "holds", "(I)Z"⟩), ("StruckCounts$Fact", ⟨"StruckCounts$Expr", "seen", "(II)I"⟩, ⟨"StruckCounts$Fact", "seen", "(II)I"⟩), ("StruckCounts$All", ⟨"StruckCounts$Expr", "holds", "(I)Z"⟩, ⟨"StruckCounts$Some", "holds", "(I)Z"⟩), ("StruckCounts$All", ⟨"StruckCounts$Expr", "seen", "(II)I"⟩, ⟨"StruckCounts$Some", "seen", "(II)I"⟩), ("StruckCounts$Not", ⟨"StruckCounts$Expr", "holds", "(I)Z"⟩, ⟨"StruckCounts$Not", "holds", "(I)Z"⟩), ("StruckCounts$Not", ⟨"StruckCounts$Expr", "seen", "(II)I"⟩, ⟨"StruckCounts$Not", "seen", "(II)I"⟩), ("StruckCounts$Some", ⟨"StruckCounts$Expr", "holds", "(I)Z"⟩, ⟨"StruckCounts$Some", "holds", "(I)Z"⟩), ("StruckCounts$Some", ⟨"StruckCounts$Expr", "seen", "(II)I"⟩, ⟨"StruckCounts$Some", "seen", "(II)I"⟩), ("StruckCounts$SoMany", ⟨"StruckCounts$Expr", "holds", "(I)Z"⟩, ⟨"StruckCounts$Some", "holds", "(I)Z"⟩), ("StruckCounts$SoMany", ⟨"StruckCounts$Expr", "seen", "(II)I"⟩, ⟨"StruckCounts$Some", "seen", "(II)I"⟩), ("StruckCounts$Fact", ⟨"StruckCounts$Expr", "mayBeSeen", "(II)Z"⟩, ⟨"StruckCounts$Expr", "mayBeSeen", "(II)Z"⟩), ("StruckCounts$Not", ⟨"StruckCounts$Expr", "mayBeSeen", "(II)Z"⟩, ⟨"StruckCounts$Expr", "mayBeSeen", "(II)Z"⟩), ("StruckCounts$Some", ⟨"StruckCounts$Expr", "mayBeSeen", "(II)Z"⟩, ⟨"StruckCounts$Expr", "mayBeSeen", "(II)Z"⟩), ("StruckCounts$All", ⟨"StruckCounts$Expr", "mayBeSeen", "(II)Z"⟩, ⟨"StruckCounts$Expr", "mayBeSeen", "(II)Z"⟩), ("StruckCounts$SoMany", ⟨"StruckCounts$Expr", "mayBeSeen", "(II)Z"⟩, ⟨"StruckCounts$Expr", "mayBeSeen", "(II)Z"⟩)]
theorem xx_fw_ok : ∀ q ∈ xx_fw_, q.2.1.cls ≠ "java/lang/invoke/MethodHandle" ∧ q.2.1.cls ≠ "java/lang/invoke/VarHandle" := by decide +kernel
def xx_pm_ : List MethodName := [⟨"java/lang/AbstractStringBuilder", "ensureCapacityInternal", "(I)V"⟩, ⟨"java/lang/AbstractStringBuilder", "newCapacity", "(I)I"⟩]
def xx_dc_ : List MethodName := [⟨"java/util/HashMap", "containsKey", "(Ljava/lang/Object;)Z"⟩, ⟨"java/util/HashMap", "put", "(Ljava/lang/Object;Ljava/lang/Object;)Ljava/lang/Object;"⟩, ⟨"java/util/HashMap", "getNode", "(Ljava/lang/Object;)Ljava/util/HashMap$Node;"⟩, ⟨"java/util/HashMap", "size", "()I"⟩, ⟨"java/lang/Throwable", "<init>", "()V"⟩, ⟨"java/lang/Throwable", "<init>", "(Ljava/lang/String;)V"⟩, ⟨"java/lang/Exception", "<init>", "()V"⟩, ⟨"java/lang/Exception", "<init>", "(Ljava/lang/String;)V"⟩, ⟨"java/lang/RuntimeException", "<init>", "()V"⟩, ⟨"java/lang/RuntimeException", "<init>", "(Ljava/lang/String;)V"⟩, ⟨"java/lang/Object", "hashCode", "()I"⟩, ⟨"java/lang/Object", "equals", "(Ljava/lang/Object;)Z"⟩, ⟨"java/lang/Object", "getClass", "()Ljava/lang/Class;"⟩, ⟨"StruckCounts$Expr", "holds", "(I)Z"⟩, ⟨"StruckCounts$Expr", "seen", "(II)I"⟩, ⟨"StruckCounts$Expr", "mayBeSeen", "(II)Z"⟩, ⟨"StruckCounts$Some", "size", "()I"⟩, ⟨"java/lang/Comparable", "compareTo", "(Ljava/lang/Object;)I"⟩, ⟨"jdk/internal/access/JavaLangAccess", "getUTF16Char", "([BI)C"⟩]
def xx_mi_ : List String := ["[Ljava/lang/Object;"]
def xx_nc_ : List (String × String) := [("java/util/HashMap$Node", "java/util/HashMap$TreeNode"), ("java/util/LinkedHashMap$Entry", "java/util/HashMap$TreeNode")]
def xx_ao_ : List String := ["java/lang/Object", "StruckCounts$State", "StruckCounts$Outcome", "java/util/HashMap$Node"]
/-- the texts: class, entry, text -/
def xx_so (k : Nat) : String := ["StruckCounts$Reader", "StruckCounts$Reader", "StruckCounts$Reader", "StruckCounts$Reader", "StruckCounts$Reader", "StruckCounts$Reader", "StruckCounts$Reader", "StruckCounts$Reader", "StruckCounts$Reader", "StruckCounts$Reader", "StruckCounts$Reader", "StruckCounts$Reader", "StruckCounts$Reader", "java/lang/Math"].getD k ""
def xx_si (k : Nat) : Nat := [9, 68, 86, 88, 90, 92, 94, 96, 98, 100, 102, 104, 106, 111].getD k 0
def xx_st (k : Nat) : String := ["", "!&|(),;", "fact", "never", "count", "worth", "arose", "needs", "plea", "says", "same", "limit", "of", "integer overflow"].getD k ""
/-- how many ids; kinds (0: nothing known; c + 1: an object of class c; 100 + t: an array); lengths; numbers, references, floats of objects; numbers, references of arrays -/
abbrev XS : Type := Nat × (Nat → Nat) × (Nat → Nat) × (Nat → Nat → Int32) × (Nat → Nat → Option Nat) × (Nat → Nat → UInt32) × (Nat → Nat → Int32) × (Nat → Nat → Option Nat)
def xn (σ : XS) : Nat := σ.1
def kd (σ : XS) (a : Nat) : Nat := σ.2.1 a
def ln (σ : XS) (a : Nat) : Nat := σ.2.2.1 a
def fi (σ : XS) (a k : Nat) : Int32 := σ.2.2.2.1 a k
def fr (σ : XS) (a k : Nat) : Option Nat := σ.2.2.2.2.1 a k
def ff (σ : XS) (a k : Nat) : UInt32 := σ.2.2.2.2.2.1 a k
def ai (σ : XS) (a i : Nat) : Int32 := σ.2.2.2.2.2.2.1 a i
def ar (σ : XS) (a i : Nat) : Option Nat := σ.2.2.2.2.2.2.2 a i
def up2 {α : Type} (f : Nat → Nat → α) (a k : Nat) (v : α) : Nat → Nat → α := fun b j => if b = a ∧ j = k then v else f b j
def up1 {α : Type} (f : Nat → Nat → α) (a : Nat) (g : Nat → α) : Nat → Nat → α := fun b j => if b = a then g j else f b j
def pfi (σ : XS) (a k : Nat) (v : Int32) : XS := (σ.1, σ.2.1, σ.2.2.1, up2 σ.2.2.2.1 a k v, σ.2.2.2.2.1, σ.2.2.2.2.2.1, σ.2.2.2.2.2.2.1, σ.2.2.2.2.2.2.2)
def pfr (σ : XS) (a k : Nat) (v : Option Nat) : XS := (σ.1, σ.2.1, σ.2.2.1, σ.2.2.2.1, up2 σ.2.2.2.2.1 a k v, σ.2.2.2.2.2.1, σ.2.2.2.2.2.2.1, σ.2.2.2.2.2.2.2)
def pff (σ : XS) (a k : Nat) (v : UInt32) : XS := (σ.1, σ.2.1, σ.2.2.1, σ.2.2.2.1, σ.2.2.2.2.1, up2 σ.2.2.2.2.2.1 a k v, σ.2.2.2.2.2.2.1, σ.2.2.2.2.2.2.2)
def pai (σ : XS) (a k : Nat) (v : Int32) : XS := (σ.1, σ.2.1, σ.2.2.1, σ.2.2.2.1, σ.2.2.2.2.1, σ.2.2.2.2.2.1, up2 σ.2.2.2.2.2.2.1 a k v, σ.2.2.2.2.2.2.2)
def par (σ : XS) (a k : Nat) (v : Option Nat) : XS := (σ.1, σ.2.1, σ.2.2.1, σ.2.2.2.1, σ.2.2.2.2.1, σ.2.2.2.2.2.1, σ.2.2.2.2.2.2.1, up2 σ.2.2.2.2.2.2.2 a k v)
/-- a whole array's contents anew -/
def pai1 (σ : XS) (a : Nat) (g : Nat → Int32) : XS := (σ.1, σ.2.1, σ.2.2.1, σ.2.2.2.1, σ.2.2.2.2.1, σ.2.2.2.2.2.1, up1 σ.2.2.2.2.2.2.1 a g, σ.2.2.2.2.2.2.2)
def par1 (σ : XS) (a : Nat) (g : Nat → Option Nat) : XS := (σ.1, σ.2.1, σ.2.2.1, σ.2.2.2.1, σ.2.2.2.2.1, σ.2.2.2.2.2.1, σ.2.2.2.2.2.2.1, up1 σ.2.2.2.2.2.2.2 a g)
/-- a new thing of a kind -/
def xal (σ : XS) (c len : Nat) : XS := (σ.1 + 1, (fun b => if b = σ.1 then c else σ.2.1 b), (fun b => if b = σ.1 then len else σ.2.2.1 b), (fun b j => if b = σ.1 then 0 else σ.2.2.2.1 b j), (fun b j => if b = σ.1 then none else σ.2.2.2.2.1 b j), (fun b j => if b = σ.1 then 0 else σ.2.2.2.2.2.1 b j), (fun b j => if b = σ.1 then 0 else σ.2.2.2.2.2.2.1 b j), (fun b j => if b = σ.1 then none else σ.2.2.2.2.2.2.2 b j))
/-- more ids, of nothing known -/
def xsk (σ : XS) (n : Nat) : XS := (n, (fun b => if σ.1 ≤ b then 0 else σ.2.1 b), σ.2.2)
/-- ids below this one stand outside -/
def xK : Nat := 32
/-- classes, slots; classes of arrays; the first own address; addresses of what stands outside; addresses of others; what three statics hold -/
abbrev xx_E : Type := va_G × (Nat → ClassId) × Nat × (Nat → Nat) × (Nat → Prop) × (Nat → Option Nat)
abbrev xx_D (E : xx_E) : va_G := E.1
abbrev xx_ac (E : xx_E) : Nat → ClassId := E.2.1
abbrev xx_b (E : xx_E) : Nat := E.2.2.1
abbrev xx_e (E : xx_E) : Nat → Nat := E.2.2.2.1
abbrev xx_fo (E : xx_E) : Nat → Prop := E.2.2.2.2.1
abbrev xx_u (E : xx_E) : Nat → Option Nat := E.2.2.2.2.2
def xr (E : xx_E) (a : Nat) : Nat := if a < xK then xx_e E a else xx_b E + (a - xK)
/-- a reference's value -/
def xv (E : xx_E) (r : Option Nat) : Value := va_rf (r.map (xr E))
def xA (E : xx_E) (q : Nat) : Prop := xx_b E ≤ q ∧ ¬ xx_fo E q
def xV (E : xx_E) (σ : XS) (c a k : Nat) : Value := match xx_lt c k with
  | 0 => .int (fi σ a k)
  | 1 => xv E (fr σ a k)
  | 2 => .float (ff σ a k)
  | 3 => .long 0
  | _ => .null
def xco (E : xx_E) (σ : XS) (t a : Nat) : (Nat → Int32) ⊕ (Nat → Int64) ⊕ (Nat → UInt32) ⊕ (Nat → UInt64) ⊕ (Nat → Option Nat) :=
  if t < 3 then .inl (ai σ a) else if t = 7 then .inr (.inl (fun _ => 0)) else .inr (.inr (.inr (.inr (fun i => (ar σ a i).map (xr E)))))
def xcO (E : xx_E) (σ : XS) (a : Nat) (H : Heap) : Prop := ∀ c, kd σ a = c + 1 → c < 25 → t_OB (xr E a) ((xx_D E).1 c) (xx_nf c) ((xx_D E).2 c) H (xV E σ c a)
def xcA (E : xx_E) (σ : XS) (a : Nat) (H : Heap) : Prop := ∀ t, kd σ a = 100 + t → t < 8 → H[xr E a]? = some (vp_cell (xx_ac E t) (ln σ a, xco E σ t a))
/-- the heap holds the ids' things -/
def xR (E : xx_E) (σ : XS) (H : Heap) : Prop := xK ≤ xn σ ∧ H.size = xx_b E + (xn σ - xK) ∧ (∀ q, H.size ≤ q → ¬ xx_fo E q) ∧ (∀ a, kd σ a ≠ 0 → a < xn σ ∧ (xK ≤ a → ¬ xx_fo E (xr E a))) ∧ ∀ a, xcO E σ a H ∧ xcA E σ a H
theorem xr_inj {E : xx_E} (hE : (∀ i, i < xK → xx_e E i < xx_b E) ∧ ∀ i j, i < 29 → j < 29 → xx_e E i = xx_e E j → i = j) {a b : Nat} (ha : xK ≤ a) (hab : xr E a = xr E b) : a = b := by
  unfold xr at hab
  rw [if_neg (by omega)] at hab
  by_cases hb : b < xK
  · rw [if_pos hb] at hab
    have := hE.1 b hb
    omega
  · rw [if_neg hb] at hab
    omega
abbrev xx_tys (E : xx_E) : List (ClassId × FieldType) := [(xx_ac E 0, .int), (xx_ac E 1, .boolean), (xx_ac E 2, .byte), (xx_ac E 3, .object "java/lang/Object"), (xx_ac E 4, .object "StruckCounts$State"), (xx_ac E 5, .object "StruckCounts$Outcome"), (xx_ac E 6, .object "java/util/HashMap$Node"), (xx_ac E 7, .long)]
/-- the words that stand outside lw_all -/
def xx_hc : MethodName := ⟨"java/lang/Object", "hashCode", "()I"⟩
def xx_mb : MethodName := ⟨"StruckCounts$Expr", "mayBeSeen", "(II)Z"⟩
def xx_ex_ : List String := ["StruckCounts$Fact", "StruckCounts$Not", "StruckCounts$Some", "StruckCounts$All", "StruckCounts$SoMany"]
theorem xx_dv {C : String} {a b : State} (h : a.vm = b.vm) : (Cond.landsInDefault C xx_mb xx_mb).before #[] a = (Cond.landsInDefault C xx_mb xx_mb).before #[] b := by
  simp only [Cond.before, Cond.holds, Cond.value, State.methodFound?, State.methodNamed?, h]
theorem xx_dl {C : String} {u U : State} (ha : u.vm.Alike U.vm) (hf : va_Nw (.declares xx_mb) u) (h : va_Nw (.landsInDefault C xx_mb xx_mb) u) : va_Nw (.landsInDefault C xx_mb xx_mb) U := by
  obtain ⟨m, meth, h1, h2, h3, h4⟩ := Cond.declares_spec hf
  have e1 : (Cond.landsInDefault C xx_mb xx_mb).before #[] (u.setVm U.vm) = (Cond.landsInDefault C xx_mb xx_mb).before #[] u := Cond.landsInDefault_setVm ha (State.methodFound?_setVm_of_named ha h1 (by decide +kernel))
  have e2 : (Cond.landsInDefault C xx_mb xx_mb).before #[] (u.setVm U.vm) = true := e1.trans h
  exact (xx_dv (rfl : U.vm = (u.setVm U.vm).vm)).trans e2
def xx_K (E : xx_E) (U : State) : Prop := va_K (xx_D E) xx_cl (xx_tys E) U ∧ ((∀ i, i < xK → xx_e E i < xx_b E) ∧ ∀ i j, i < 29 → j < 29 → xx_e E i = xx_e E j → i = j) ∧ (∀ w ∈ xx_nf_, va_Nw w U) ∧ (∀ w ∈ xx_nm_, va_Nw w U) ∧ (∀ q ∈ xx_ca_, va_Nw (.castable q.1 q.2) U) ∧ (∀ q ∈ xx_fw_, va_Fw q.1 q.2.1 q.2.2 U) ∧ (∀ q ∈ xx_nc_, va_Nc q.1 q.2 U) ∧ (∀ C ∈ xx_ao_, va_AO C U) ∧ va_Nw (.declares xx_hc) U ∧ (∀ C ∈ xx_ex_, va_Nw (.landsInDefault C xx_mb xx_mb) U) ∧ (∀ y ∈ xx_pm_, va_Nw (.privateMethod y) U) ∧ (∀ y ∈ xx_dc_, va_Nw (.declares y) U) ∧ ∀ C ∈ xx_mi_, ∃ mi, va_Mi C mi U
theorem xx_warmP {y : MethodName} {s U : State} (hW : s.WarmedH U.vm) (hZ : va_Nw (.privateMethod y) s) : va_Nw (.privateMethod y) U := va_tabs rfl (rfl : (s.setVm U.vm).vm = U.vm) (by rw [Cond.privateMethod_setVm hW.alike]; exact hZ)
theorem xx_K.warm {E : xx_E} {s U : State} (hW : s.WarmedH U.vm) (h : xx_K E s) : xx_K E U := by
  obtain ⟨h1, h2, h3, h4, h5, h6, h7, h8, h9, h10, h11, h12, h13⟩ := h
  refine ⟨va_K.moved hW.alike h1, h2, fun w hw => ?_, fun w hw => ?_, fun q hq => va_Nw.warmC hW (h5 q hq), fun q hq => va_Fw.moved (xx_fw_ok q hq) hW.alike (h6 q hq), fun q hq => va_Nc.moved hW.alike (h7 q hq), fun C hC => va_AO.moved hW.alike (h8 C hC), va_Nw.warmD hW h9, fun C hC => xx_dl hW.alike (h6 ("StruckCounts$Fact", xx_mb, xx_mb) (by decide +kernel)).1 (h10 C hC), fun y hy => xx_warmP hW (h11 y hy), fun y hy => va_Nw.warmD hW (h12 y hy), fun C hC => ⟨(h13 C hC).choose, va_Mi.moved hW.alike (h13 C hC).choose_spec⟩⟩
  · obtain ⟨a, i, b, n, d, g, rfl⟩ := xx_nf_ok w hw
    exact va_Nw.warmF hW (h3 _ hw)
  · obtain ⟨a, i, x, g, rfl⟩ := xx_nm_ok w hw
    exact va_Nw.warmM hW (h4 _ hw)
theorem xx_K.same {E : xx_E} {u U : State} (hv : U.vm = u.vm) (h : xx_K E u) : xx_K E U := by
  obtain ⟨h1, h2, h3, h4, h5, h6, h7, h8, h9, h10, h11, h12, h13⟩ := h
  have ha : u.vm.Alike U.vm := by rw [hv]; exact Vm.Alike.refl _
  refine ⟨va_K.moved ha h1, h2, fun w hw => ?_, fun w hw => ?_, fun q hq => va_Nw.same rfl hv.symm (h5 q hq), fun q hq => va_Fw.moved (xx_fw_ok q hq) ha (h6 q hq), fun q hq => va_Nc.moved ha (h7 q hq), fun C hC => va_AO.moved ha (h8 C hC), va_Nw.same rfl hv.symm h9, fun C hC => xx_dl ha (h6 ("StruckCounts$Fact", xx_mb, xx_mb) (by decide +kernel)).1 (h10 C hC), fun y hy => va_Nw.same rfl hv.symm (h11 y hy), fun y hy => va_Nw.same rfl hv.symm (h12 y hy), fun C hC => ⟨(h13 C hC).choose, va_Mi.moved ha (h13 C hC).choose_spec⟩⟩
  · obtain ⟨a, i, b, n, d, g, rfl⟩ := xx_nf_ok w hw
    exact va_Nw.same rfl hv.symm (h3 _ hw)
  · obtain ⟨a, i, x, g, rfl⟩ := xx_nm_ok w hw
    exact va_Nw.same rfl hv.symm (h4 _ hw)
def xx_Z (E : xx_E) (U : State) (H : Heap) : Prop := va_Z "java/lang/String" "COMPACT_STRINGS" "Z" (.int 1) (xA E) U H ∧ va_Z "java/util/HashSet" "PRESENT" "Ljava/lang/Object;" (xv E (some 28)) (xA E) U H ∧ va_Z "jdk/internal/util/Preconditions" "SIOOBE_FORMATTER" "Ljava/util/function/BiFunction;" (xv E (xx_u E 0)) (xA E) U H ∧ va_Z "java/lang/Throwable" "UNASSIGNED_STACK" "[Ljava/lang/StackTraceElement;" (xv E (xx_u E 1)) (xA E) U H ∧ va_Z "java/lang/Throwable" "SUPPRESSED_SENTINEL" "Ljava/util/List;" (xv E (xx_u E 2)) (xA E) U H ∧ (∀ k, k < 14 → vk_R (xx_so k) (xx_si k) (xx_st k) (xr E (2 * k)) U) ∧ vx_L "java/lang/Throwable" "UNASSIGNED_STACK" "[Ljava/lang/StackTraceElement;" (xA E) U H ∧ vx_L "java/lang/Throwable" "SUPPRESSED_SENTINEL" "Ljava/util/List;" (xA E) U H
theorem xx_Z.warm {E : xx_E} {s U : State} {H : Heap} (hW : s.WarmedH U.vm) (h : xx_Z E s H) : xx_Z E U H := ⟨va_Z.moved hW.alike h.1, va_Z.moved hW.alike h.2.1, va_Z.moved hW.alike h.2.2.1, va_Z.moved hW.alike h.2.2.2.1, va_Z.moved hW.alike h.2.2.2.2.1, fun k hk => vk_R.warm hW (h.2.2.2.2.2.1 k hk), vx_L.moved hW.alike h.2.2.2.2.2.2.1, vx_L.moved hW.alike h.2.2.2.2.2.2.2⟩
theorem xx_Z.same {E : xx_E} {u U : State} {H : Heap} (hv : U.vm = u.vm) (h : xx_Z E u H) : xx_Z E U H := by
  have ha : u.vm.Alike U.vm := by rw [hv]; exact Vm.Alike.refl _
  exact ⟨va_Z.moved ha h.1, va_Z.moved ha h.2.1, va_Z.moved ha h.2.2.1, va_Z.moved ha h.2.2.2.1, va_Z.moved ha h.2.2.2.2.1, fun k hk => vk_R.same hv (h.2.2.2.2.2.1 k hk), vx_L.moved ha h.2.2.2.2.2.2.1, vx_L.moved ha h.2.2.2.2.2.2.2⟩
theorem xx_Z.kept {E : xx_E} {U : State} {H H1 : Heap} (h : xx_Z E U H) (hq : ∀ a : Nat, a < H.size → ¬ xA E a → H1[a]? = H[a]?) : xx_Z E U H1 := ⟨h.1.kept hq, h.2.1.kept hq, h.2.2.1.kept hq, h.2.2.2.1.kept hq, h.2.2.2.2.1.kept hq, h.2.2.2.2.2.1, h.2.2.2.2.2.2.1.kept hq, h.2.2.2.2.2.2.2.kept hq⟩
def xW (E : xx_E) (σ : XS) (U : State) : Prop := xR E σ U.heap ∧ xx_K E U ∧ xx_Z E U U.heap
theorem xret {E : xx_E} {σ : XS} {s t : State} {H : Heap} {locs : List Loc} (hR : xR E σ H) (hK : xx_K E s) (hZ : xx_Z E s s.heap) (hS : va_S (xA E) s.heap H locs) (ht : t.heap = H) (hW : s.WarmedH t.vm) : xW E σ t :=
  ⟨by rw [ht]; exact hR, hK.warm hW, by rw [ht]; exact (hZ.warm hW).kept hS.2.1⟩
theorem xblind {E : xx_E} {σ : XS} {av : List Value} : FrameBlind (va_Pc av (fun U => xW E σ U)) := by
  intro a U g mk q
  obtain ⟨q0, q1, q2, q3⟩ := q
  exact ⟨q0, q1, xx_K.same (u := U) (U := U.calling g mk a) rfl q2, xx_Z.same (u := U) (U := U.calling g mk a) rfl q3⟩
/-- what a method stands on -/
def xx_X (own : String) (cc : ByteArray) (nL : Nat) (ret : Option FieldType) (E : xx_E) (p : Program) (s : State) (m : MethodId) (args : Array Value) (meth : Method) (c : Code) : Prop :=
  p.tables.exec = Jvm.exec ∧ c.code = cc ∧ c.maxLocals = nL ∧ s.vm.findClass own = some m.cls ∧ (∀ w ∈ lw_all, w.before args s = true) ∧ meth.sig.returnType = ret ∧ meth.locks = false ∧ xx_K E s ∧ xx_Z E s s.heap
theorem xv_cat (E : xx_E) (r : Option Nat) : (xv E r).category = 1 := by cases r <;> rfl
theorem xv_rf (E : xx_E) (r : Option Nat) : xv E r = .null ∨ ∃ a, xv E r = .ref a := by
  cases r with
  | none => exact Or.inl rfl
  | some a => exact Or.inr ⟨_, rfl⟩
theorem xcat2 (v : Value) : v.category ≤ 2 := by cases v <;> simp [Value.category]
theorem xroom {rest : List Value} (h : rest.length ≤ 4) : (rest.map fun v => v.category).sum ≤ 8 := by
  have key : ∀ l : List Value, (l.map fun v => v.category).sum ≤ 2 * l.length := by
    intro l
    induction l with
    | nil => exact Nat.le_refl _
    | cons v l ih =>
      have := xcat2 v
      simp only [List.map_cons, List.sum_cons, List.length_cons]
      omega
  have := key rest
  omega
theorem xcO.kept {E : xx_E} {σ : XS} {a : Nat} {H H1 : Heap} (h : xcO E σ a H) (hq : H1[xr E a]? = H[xr E a]?) : xcO E σ a H1 := fun c h1 h2 => (h c h1 h2).kept hq
theorem xcA.kept {E : xx_E} {σ : XS} {a : Nat} {H H1 : Heap} (h : xcA E σ a H) (hq : H1[xr E a]? = H[xr E a]?) : xcA E σ a H1 := fun t h1 h2 => by rw [hq]; exact h t h1 h2
/-- one thing is changed in the heap -/
theorem xR.upd {E : xx_E} {σ σ' : XS} {H H1 : Heap} {a : Nat} (hE : (∀ i, i < xK → xx_e E i < xx_b E) ∧ ∀ i j, i < 29 → j < 29 → xx_e E i = xx_e E j → i = j) (h : xR E σ H) (ha : xK ≤ a) (hz : H1.size = H.size) (ho : ∀ q, q ≠ xr E a → H1[q]? = H[q]?) (hn : σ'.1 = σ.1) (hk : σ'.2.1 = σ.2.1) (hx : xcO E σ' a H1 ∧ xcA E σ' a H1) (hs : ∀ b, b ≠ a → (xcO E σ b H → xcO E σ' b H) ∧ (xcA E σ b H → xcA E σ' b H)) : xR E σ' H1 := by
  obtain ⟨h0, h1, h2, h3, h4⟩ := h
  refine ⟨by show xK ≤ σ'.1; rw [hn]; exact h0, by rw [hz]; show _ = xx_b E + (σ'.1 - xK); rw [hn]; exact h1, by rw [hz]; exact h2, fun b hb => ?_, fun b => ?_⟩
  · have : kd σ b ≠ 0 := by show σ.2.1 b ≠ 0; rw [← hk]; exact hb
    show b < σ'.1 ∧ _
    rw [hn]
    exact h3 b this
  · by_cases hb : b = a
    · subst hb
      exact hx
    · have hne : xr E b ≠ xr E a := fun q => hb (xr_inj hE ha q.symm).symm
      exact ⟨((hs b hb).1 (h4 b).1).kept (ho _ hne), ((hs b hb).2 (h4 b).2).kept (ho _ hne)⟩
theorem xA_of {E : xx_E} {σ : XS} {H : Heap} (h : xR E σ H) {a : Nat} (ha : xK ≤ a) (hk : kd σ a ≠ 0) : xA E (xr E a) := by
  refine ⟨?_, (h.2.2.2.1 a hk).2 ha⟩
  unfold xr
  rw [if_neg (by omega)]
  omega
section XR
variable {p : Program} {l : Launch} {e : Env} {R : Room} {s : State} {m : MethodId} {args : Array Value} {below : List Frame} {meth : Method} {c : Code} {H : Heap} {locs : List Loc} {cells slots : Nat} {Q : State → Prop}
variable {own : String} {cc : ByteArray} {nL : Nat} {ret : Option FieldType} {E : xx_E} {σ : XS} {pc : Nat} {ls : Array Slot} {rest : List Value}
theorem x_get (cx : xx_X own cc nL ret E p s m args meth c) (hR : xR E σ H) {a ci : Nat} {r : Option Nat} (hr : r = some a) (hk : kd σ a = ci + 1) (hci : ci < 25) {C : String} {T : u_T} {N : Nat} (hc : xx_cl[ci]? = some (C, T, N)) (hin : ∀ w ∈ u_ws C T N, w ∈ lw_all) (k : Nat) (hkN : k < N) {ref : String} {index : Nat} (hq : Cond.fieldLink own index ref (T k).2.1 (T k).2.2.1 ∈ lw_all) (hsame : ∀ x, s.fieldFound? (T k).1 (T k).2.1 (T k).2.2.1 = some x → s.fieldFound? ref (T k).2.1 (T k).2.2.1 = some x) {v : Value} (hv : xV E σ ci a k = v) (hdg : decode cc pc = .ok (.getfield index, 3))
    (kk : W p l e R s m args below meth c H locs cells slots Q (F0 m (pc + 3) ls (v :: rest))) : W p l e R s m args below meth c H locs cells slots Q (F0 m pc ls (xv E r :: rest)) := by
  subst hr
  obtain ⟨hx, hb, hml, hown, hts, hrt, hlk, hK, hZ⟩ := cx
  have hnf := xx_cl_n ci _ hc
  obtain ⟨cell, q1, q2, q3, q4⟩ := (hR.2.2.2.2 a).1 ci hk hci
  obtain ⟨hS, hfc, kC, hkC, hkind⟩ := hK.1.1 ci _ hc
  obtain ⟨cf, kf, fi, f, hi, hsl⟩ := hS k hkN
  refine W.getf hx hb hown (hts _ hq) (hsame _ hi) (u_facts hfc hkC (u_lays hts hin hkN) hi).1 q1 (by rw [q3]; exact fun h => by cases h) (v := v) ?_ rfl rfl hdg kk
  rw [hsl, q4 k (by rw [← hnf]; exact hkN), hv]
theorem x_getN (cx : xx_X own cc nL ret E p s m args meth c) (hR : xR E σ H) {a ci : Nat} {r : Option Nat} (hr : r = some a) (hk : kd σ a = ci + 1) (hci : ci < 25) {C host : String} {T : u_T} {N : Nat} (hc : xx_cl[ci]? = some (C, T, N)) (hin : ∀ w ∈ u_ws C T N, w ∈ lw_all) (k : Nat) (hkN : k < N) {ref : String} {index : Nat} (hq : Cond.fieldLinkNest own index ref (T k).2.1 (T k).2.2.1 host ∈ xx_nf_) (hsame : ∀ x, s.fieldFound? (T k).1 (T k).2.1 (T k).2.2.1 = some x → s.fieldFound? ref (T k).2.1 (T k).2.2.1 = some x) {v : Value} (hv : xV E σ ci a k = v) (hdg : decode cc pc = .ok (.getfield index, 3))
    (kk : W p l e R s m args below meth c H locs cells slots Q (F0 m (pc + 3) ls (v :: rest))) : W p l e R s m args below meth c H locs cells slots Q (F0 m pc ls (xv E r :: rest)) := by
  subst hr
  obtain ⟨hx, hb, hml, hown, hts, hrt, hlk, hK, hZ⟩ := cx
  have hnf := xx_cl_n ci _ hc
  obtain ⟨cell, q1, q2, q3, q4⟩ := (hR.2.2.2.2 a).1 ci hk hci
  obtain ⟨hS, hfc, kC, hkC, hkind⟩ := hK.1.1 ci _ hc
  obtain ⟨cf, kf, fi, f, hi, hsl⟩ := hS k hkN
  refine va_Wgetf hx hb hown (va_Nw.use rfl (hK.2.2.1 _ hq)) (hsame _ hi) (u_facts hfc hkC (u_lays hts hin hkN) hi).1 q1 (by rw [q3]; exact fun h => by cases h) (v := v) ?_ rfl rfl hdg kk
  rw [hsl, q4 k (by rw [← hnf]; exact hkN), hv]
/-- an object's field is written: what it takes -/
theorem x_putC {σ' : XS} (hE : (∀ i, i < xK → xx_e E i < xx_b E) ∧ ∀ i j, i < 29 → j < 29 → xx_e E i = xx_e E j → i = j) (hR : xR E σ H) {H1 : Heap} {a ci : Nat} (ha : xK ≤ a) (hk : kd σ a = ci + 1) (hci : ci < 25) (hn : σ'.1 = σ.1) (hk' : σ'.2.1 = σ.2.1) (hl : σ'.2.2.1 = σ.2.2.1) (hai : σ'.2.2.2.2.2.2 = σ.2.2.2.2.2.2) (ho' : ∀ b, b ≠ a → ∀ c k, xV E σ' c b k = xV E σ c b k) (hz : H1.size = H.size) (ho : ∀ q, q ≠ xr E a → H1[q]? = H[q]?) (hx : t_OB (xr E a) ((xx_D E).1 ci) (xx_nf ci) ((xx_D E).2 ci) H1 (xV E σ' ci a)) : xR E σ' H1 := by
  refine hR.upd hE ha hz ho hn hk' ⟨fun c h1 h2 => ?_, fun t h1 h2 => ?_⟩ fun b hb => ⟨fun h c h1 h2 => ?_, fun h t h1 h2 => ?_⟩
  · have h1 : kd σ a = c + 1 := by show σ.2.1 a = c + 1; rw [← hk']; exact h1
    have : c = ci := by omega
    subst this
    exact hx
  · have h1 : kd σ a = 100 + t := by show σ.2.1 a = 100 + t; rw [← hk']; exact h1
    omega
  · have h1 : kd σ b = c + 1 := by show σ.2.1 b = c + 1; rw [← hk']; exact h1
    exact t_OB.to (h c h1 h2) fun k _ => (ho' b hb c k).symm
  · have h1 : kd σ b = 100 + t := by show σ.2.1 b = 100 + t; rw [← hk']; exact h1
    have h3 := h t h1 h2
    have e1 : ln σ' b = ln σ b := by show σ'.2.2.1 b = _; rw [hl]; rfl
    have e2 : xco E σ' t b = xco E σ t b := by
      unfold xco
      have : ai σ' b = ai σ b := by show σ'.2.2.2.2.2.2.1 b = _; rw [hai]; rfl
      rw [this]
      have : ar σ' b = ar σ b := by show σ'.2.2.2.2.2.2.2 b = _; rw [hai]; rfl
      rw [this]
    rw [e1, e2]
    exact h3
theorem xV_pfi {k0 : Nat} {a ci : Nat} {v : Int32} (ht : xx_lt ci k0 = 0) (j : Nat) : updV (xV E σ ci a) k0 (.int v) j = xV E (pfi σ a k0 v) ci a j := by
  unfold updV
  by_cases h : j = k0
  · subst h
    rw [if_pos rfl]
    unfold xV
    rw [ht]
    show Value.int v = .int (up2 _ a j v a j)
    simp [up2]
  · rw [if_neg h]
    unfold xV
    split <;> first | rfl | (show Value.int _ = .int (up2 _ a k0 v a j); simp [up2, h, fi])
theorem xV_pfr {k0 : Nat} {a ci : Nat} {v : Option Nat} (ht : xx_lt ci k0 = 1) (j : Nat) : updV (xV E σ ci a) k0 (xv E v) j = xV E (pfr σ a k0 v) ci a j := by
  unfold updV
  by_cases h : j = k0
  · subst h
    rw [if_pos rfl]
    unfold xV
    rw [ht]
    show xv E v = xv E (up2 _ a j v a j)
    simp [up2]
  · rw [if_neg h]
    unfold xV
    split <;> first | rfl | (show xv E _ = xv E (up2 _ a k0 v a j); simp [up2, h, fr])
theorem xV_pff {k0 : Nat} {a ci : Nat} {v : UInt32} (ht : xx_lt ci k0 = 2) (j : Nat) : updV (xV E σ ci a) k0 (.float v) j = xV E (pff σ a k0 v) ci a j := by
  unfold updV
  by_cases h : j = k0
  · subst h
    rw [if_pos rfl]
    unfold xV
    rw [ht]
    show Value.float v = .float (up2 _ a j v a j)
    simp [up2]
  · rw [if_neg h]
    unfold xV
    split <;> first | rfl | (show Value.float _ = .float (up2 _ a k0 v a j); simp [up2, h, ff])
theorem xV_ne_i {a b : Nat} (hb : b ≠ a) {k0 : Nat} {v : Int32} (c k : Nat) : xV E (pfi σ a k0 v) c b k = xV E σ c b k := by
  unfold xV
  split <;> first | rfl | (show Value.int (up2 _ a k0 v b k) = .int _; simp [up2, hb, fi])
theorem xV_ne_r {a b : Nat} (hb : b ≠ a) {k0 : Nat} {v : Option Nat} (c k : Nat) : xV E (pfr σ a k0 v) c b k = xV E σ c b k := by
  unfold xV
  split <;> first | rfl | (show xv E (up2 _ a k0 v b k) = xv E _; simp [up2, hb, fr])
theorem xV_ne_f {a b : Nat} (hb : b ≠ a) {k0 : Nat} {v : UInt32} (c k : Nat) : xV E (pff σ a k0 v) c b k = xV E σ c b k := by
  unfold xV
  split <;> first | rfl | (show Value.float (up2 _ a k0 v b k) = .float _; simp [up2, hb, ff])
/-- which new state a write of v at place k of a makes -/
def xput (E : xx_E) (σ σ' : XS) (ci a k : Nat) (v : Value) : Prop := σ'.1 = σ.1 ∧ σ'.2.1 = σ.2.1 ∧ σ'.2.2.1 = σ.2.2.1 ∧ σ'.2.2.2.2.2.2 = σ.2.2.2.2.2.2 ∧ (∀ b, b ≠ a → ∀ c j, xV E σ' c b j = xV E σ c b j) ∧ ∀ j, updV (xV E σ ci a) k v j = xV E σ' ci a j
theorem xput_i {ci a k : Nat} {v : Int32} (ht : xx_lt ci k = 0) : xput E σ (pfi σ a k v) ci a k (.int v) := ⟨rfl, rfl, rfl, rfl, fun _ hb => xV_ne_i hb, xV_pfi ht⟩
theorem xput_r {ci a k : Nat} {v : Option Nat} (ht : xx_lt ci k = 1) : xput E σ (pfr σ a k v) ci a k (xv E v) := ⟨rfl, rfl, rfl, rfl, fun _ hb => xV_ne_r hb, xV_pfr ht⟩
theorem xput_f {ci a k : Nat} {v : UInt32} (ht : xx_lt ci k = 2) : xput E σ (pff σ a k v) ci a k (.float v) := ⟨rfl, rfl, rfl, rfl, fun _ hb => xV_ne_f hb, xV_pff ht⟩
/-- a write: 0 plain, 1 final in the constructor, 2 a nest mate's -/
def xplink (s : State) (own : String) (index : Nat) (T : u_T) (k : Nat) (ref : String) (meth : Method) : Prop := (Cond.fieldLink own index ref (T k).2.1 (T k).2.2.1 ∈ lw_all ∧ (T k).2.2.2 = false) ∨ (Cond.fieldLink own index ref (T k).2.1 (T k).2.2.1 ∈ lw_all ∧ (T k).2.2.2 = true ∧ meth.name = "<init>" ∧ (T k).1 = own) ∨ ∃ host, Cond.fieldLinkNest own index ref (T k).2.1 (T k).2.2.1 host ∈ xx_nf_ ∧ (T k).2.2.2 = false
theorem x_put (cx : xx_X own cc nL ret E p s m args meth c) (hR : xR E σ H) (hS0 : va_S (xA E) s.heap H locs) {a ci : Nat} {r : Option Nat} (hr : r = some a) (ha : xK ≤ a) (hk : kd σ a = ci + 1) (hci : ci < 25) {C : String} {T : u_T} {N : Nat} (hc : xx_cl[ci]? = some (C, T, N)) (hin : ∀ w ∈ u_ws C T N, w ∈ lw_all) (ty0 : Nat → FieldType) (hty : ∀ k, k < N → parseFieldDescriptor (T k).2.2.1 = some (ty0 k)) (hnm : ∀ a, a < N → ∀ b, b < N → a ≠ b → (T a).2.1 ≠ (T b).2.1) (k : Nat) (hkN : k < N) {ref : String} {index : Nat} (hq : xplink s own index T k ref meth) (hsame : ∀ x, s.fieldFound? (T k).1 (T k).2.1 (T k).2.2.1 = some x → s.fieldFound? ref (T k).2.1 (T k).2.2.1 = some x) {v : Value} (hn : narrow (ty0 k) v = v) (hfit : fits (ty0 k) v = true) {σ' : XS} (hp : xput E σ σ' ci a k v) (hdg : decode cc pc = .ok (.putfield index, 3))
    (kk : ∀ (H1 : Heap) (locs1 : List Loc), xR E σ' H1 → va_S (xA E) s.heap H1 locs1 → W p l e R s m args below meth c H1 locs1 cells slots Q (F0 m (pc + 3) ls rest)) : W p l e R s m args below meth c H locs cells slots Q (F0 m pc ls (v :: xv E r :: rest)) := by
  subst hr
  obtain ⟨hx, hb, hml, hown, hts, hrt, hlk, hK, hZ⟩ := cx
  have hnf : N = xx_nf ci := xx_cl_n ci _ hc
  obtain ⟨hp1, hp2, hp3, hp4, hp5, hp6⟩ := hp
  have hAa : xA E (xr E a) := xA_of hR ha (by rw [hk]; exact Nat.succ_ne_zero _)
  have hap := va_apart (own := own) hts hin ty0 hty hnm hK.1 hc
  obtain ⟨cell, q1, q2, q3, q4⟩ := (hR.2.2.2.2 a).1 ci hk hci
  obtain ⟨hS, hfc, kC, hkC, hkind⟩ := hK.1.1 ci _ hc
  obtain ⟨cf, kf, fi, f, hi, hsl⟩ := hS k hkN
  have hlay := hts _ (hin _ (u_in_lay hkN))
  unfold u_lay at hlay
  have hst := (u_facts hfc hkC (u_lays hts hin hkN) hi).1
  have fin : ∀ H' : Heap, H'[xr E a]? = some (cell.setSlot f.slot v) → H'.size = H.size → (∀ q, q ≠ xr E a → H'[q]? = H[q]?) → W p l e R s m args below meth c H' (locs ++ [⟨xr E a, f.slot⟩]) cells slots Q (F0 m (pc + 3) ls rest) := by
    intro H' e1 e2 e3
    rw [hsl] at e1 ⊢
    refine kk H' _ (x_putC hK.2.1 hR ha hk hci hp1 hp2 hp3 hp4 hp5 e2 e3 ?_) (hS0.put e2 e3 hAa)
    rw [← hnf] at q4 ⊢
    exact t_OB.to (V := updV (xV E σ ci a) k v) ⟨_, e1, q2, q3, t_set q4 hap hkN v⟩ (fun j _ => hp6 j)
  have hlt : f.slot < cell.slots.size := by rw [hsl]; exact k2_hasslot (q4 k (by rw [← hnf]; exact hkN))
  rcases hq with ⟨hq, hfin⟩ | ⟨hq, hfin, hin2, hdecl⟩ | ⟨host, hq, hfin⟩
  · rw [if_neg (by rw [hfin]; decide)] at hlay
    have h6 := u_store hfc hkC hkind hlay hi (hty k hkN) hn hfit
    exact W.putK hx hb (f := f) ⟨hown, hts _ hq, ⟨_, _, _, hsame _ hi⟩, hst⟩ (by rw [q2]; exact h6) q1 q3 hlt rfl rfl hdg fin
  · rw [if_pos hfin] at hlay
    have hcf : m.cls = cf := by
      obtain ⟨_, _, c', _, _, _, -, -, hf', -, -, -, hown2, -⟩ := Cond.laysFinal_spec hlay
      have e1 : c' = cf := by have := hi.symm.trans hf'; simp at this; exact this.1.symm
      rw [hdecl] at hown2
      rw [← e1]; exact Option.some.inj (hown.symm.trans hown2)
    have h6 := u_fits hfc hkC hkind (Or.inr hlay) hi (hty k hkN) hn hfit
    exact W.putFinK hx hb hown (hts _ hq) (hsame _ hi) hst hcf hin2 (by rw [q2]; exact h6) q1 q3 hlt rfl rfl hdg fin
  · rw [if_neg (by rw [hfin]; decide)] at hlay
    have h6 := u_store hfc hkC hkind hlay hi (hty k hkN) hn hfit
    exact va_WputK hx hb (f := f) hown (va_Nw.use rfl (hK.2.2.1 _ hq)) (hsame _ hi) hst (by rw [q2]; exact h6) q1 q3 hlt rfl rfl hdg fin
theorem x_arr (cx : xx_X own cc nL ret E p s m args meth c) {t : Nat} (ht : t < 8) : ∃ ty : FieldType, (xx_tys E)[t]? = some (xx_ac E t, ty) ∧ ArrOfT s (xx_ac E t) ty ∧ va_RA s (xx_ac E t) ty := by
  have hK : xx_K E s := cx.2.2.2.2.2.2.2.1
  match t, ht with
  | 0, _ => exact ⟨.int, rfl, hK.1.2 0 _ rfl⟩
  | 1, _ => exact ⟨.boolean, rfl, hK.1.2 1 _ rfl⟩
  | 2, _ => exact ⟨.byte, rfl, hK.1.2 2 _ rfl⟩
  | 3, _ => exact ⟨_, rfl, hK.1.2 3 _ rfl⟩
  | 4, _ => exact ⟨_, rfl, hK.1.2 4 _ rfl⟩
  | 5, _ => exact ⟨_, rfl, hK.1.2 5 _ rfl⟩
  | 6, _ => exact ⟨_, rfl, hK.1.2 6 _ rfl⟩
  | 7, _ => exact ⟨.long, rfl, hK.1.2 7 _ rfl⟩
theorem x_cell {a t : Nat} (hR : xR E σ H) (hk : kd σ a = 100 + t) (ht : t < 8) : ∃ F : Nat → Value, vp_cell (xx_ac E t) (ln σ a, xco E σ t a) = arrV (xx_ac E t) (ln σ a) F ∧ H[xr E a]? = some (arrV (xx_ac E t) (ln σ a) F) ∧ (t < 3 → F = fun j => .int (ai σ a j)) ∧ (3 ≤ t → t < 7 → F = fun j => xv E (ar σ a j)) := by
  have h := (hR.2.2.2.2 a).2 t hk ht
  rw [h]
  unfold xco
  by_cases h3 : t < 3
  · rw [if_pos h3]
    exact ⟨_, rfl, rfl, fun _ => rfl, fun h _ => by omega⟩
  · rw [if_neg h3]
    by_cases h7 : t = 7
    · rw [if_pos h7]
      exact ⟨fun _ => .long 0, rfl, rfl, fun h => absurd h h3, fun _ h => by omega⟩
    · rw [if_neg h7]
      exact ⟨_, rfl, rfl, fun h => absurd h h3, fun _ _ => rfl⟩
theorem x_alen (cx : xx_X own cc nL ret E p s m args meth c) (hR : xR E σ H) {a : Nat} {r : Option Nat} (hr : r = some a) (t : Nat) (hk : kd σ a = 100 + t) (ht : t < 8) (hdg : decode cc pc = .ok (.arraylength, 1))
    (kk : W p l e R s m args below meth c H locs cells slots Q (F0 m (pc + 1) ls (.int (nI (ln σ a)) :: rest))) : W p l e R s m args below meth c H locs cells slots Q (F0 m pc ls (xv E r :: rest)) := by
  subst hr
  obtain ⟨ty, -, hA, -⟩ := x_arr cx ht
  obtain ⟨hx, hb, hml, hown, hts, hrt, hlk, hK, hZ⟩ := cx
  obtain ⟨F, -, hc, -⟩ := x_cell hR hk ht
  refine W.alen hx hb (n := nI (ln σ a)) hc (hA _ F) ?_ rfl rfl hdg kk
  rw [arrV_size]; rfl
theorem x_iald (cx : xx_X own cc nL ret E p s m args meth c) (hR : xR E σ H) {a : Nat} {r : Option Nat} (hr : r = some a) (hk : kd σ a = 100) {i : Int32} {j : Nat} (hj : i.toNatClampNeg = j) (hin : vp_in i (ln σ a)) (hdg : decode cc pc = .ok (.iaload, 1))
    (kk : W p l e R s m args below meth c H locs cells slots Q (F0 m (pc + 1) ls (.int (ai σ a j) :: rest))) : W p l e R s m args below meth c H locs cells slots Q (F0 m pc ls (.int i :: xv E r :: rest)) := by
  subst hr; subst hj
  have hA : ArrOfT s (xx_ac E 0) .int := (cx.2.2.2.2.2.2.2.1.1.2 0 _ rfl).1
  obtain ⟨hx, hb, hml, hown, hts, hrt, hlk, hK, hZ⟩ := cx
  obtain ⟨F, -, hc, hF, -⟩ := x_cell hR (t := 0) hk (by decide)
  have hF := hF (by decide)
  have hlt : i.toNatClampNeg < ln σ a := Nat.not_le.mp fun q => hin (Or.inr q)
  exact W.iald (v := .int (ai σ a i.toNatClampNeg)) hx hb hc (hA _ F) (fun q => by cases q) (by rw [arrV_size]; exact hin) (by rw [arrV_read _ _ hlt, hF]) rfl rfl hdg kk
theorem x_zald (cx : xx_X own cc nL ret E p s m args meth c) (hR : xR E σ H) {a : Nat} {r : Option Nat} (hr : r = some a) (hk : kd σ a = 101) {i : Int32} {j : Nat} (hj : i.toNatClampNeg = j) (hin : vp_in i (ln σ a)) (hdg : decode cc pc = .ok (.baload, 1))
    (kk : W p l e R s m args below meth c H locs cells slots Q (F0 m (pc + 1) ls (.int (ai σ a j) :: rest))) : W p l e R s m args below meth c H locs cells slots Q (F0 m pc ls (.int i :: xv E r :: rest)) := by
  subst hr; subst hj
  have hA : ArrOfT s (xx_ac E 1) .boolean := (cx.2.2.2.2.2.2.2.1.1.2 1 _ rfl).1
  obtain ⟨hx, hb, hml, hown, hts, hrt, hlk, hK, hZ⟩ := cx
  obtain ⟨F, -, hc, hF, -⟩ := x_cell hR (t := 1) hk (by decide)
  have hF := hF (by decide)
  have hlt : i.toNatClampNeg < ln σ a := Nat.not_le.mp fun q => hin (Or.inr q)
  exact W.zald (v := .int (ai σ a i.toNatClampNeg)) hx hb hc (hA _ F) (fun q => by cases q) (by rw [arrV_size]; exact hin) (by rw [arrV_read _ _ hlt, hF]) rfl rfl hdg kk
theorem x_bald (cx : xx_X own cc nL ret E p s m args meth c) (hR : xR E σ H) {a : Nat} {r : Option Nat} (hr : r = some a) (hk : kd σ a = 102) {i : Int32} {j : Nat} (hj : i.toNatClampNeg = j) (hin : vp_in i (ln σ a)) (hdg : decode cc pc = .ok (.baload, 1))
    (kk : W p l e R s m args below meth c H locs cells slots Q (F0 m (pc + 1) ls (.int (ai σ a j) :: rest))) : W p l e R s m args below meth c H locs cells slots Q (F0 m pc ls (.int i :: xv E r :: rest)) := by
  subst hr; subst hj
  have hA : ArrOfT s (xx_ac E 2) .byte := (cx.2.2.2.2.2.2.2.1.1.2 2 _ rfl).1
  obtain ⟨hx, hb, hml, hown, hts, hrt, hlk, hK, hZ⟩ := cx
  obtain ⟨F, -, hc, hF, -⟩ := x_cell hR (t := 2) hk (by decide)
  have hF := hF (by decide)
  have hlt : i.toNatClampNeg < ln σ a := Nat.not_le.mp fun q => hin (Or.inr q)
  exact W.bald (v := .int (ai σ a i.toNatClampNeg)) hx hb hc (hA _ F) (fun q => by cases q) (by rw [arrV_size]; exact hin) (by rw [arrV_read _ _ hlt, hF]) rfl rfl hdg kk
theorem x_aald (cx : xx_X own cc nL ret E p s m args meth c) (hR : xR E σ H) {a : Nat} {r : Option Nat} (hr : r = some a) (t : Nat) (hk : kd σ a = 100 + t) (ht : 3 ≤ t) (ht7 : t < 7) {i : Int32} {j : Nat} (hj : i.toNatClampNeg = j) (hin : vp_in i (ln σ a)) (hdg : decode cc pc = .ok (.aaload, 1))
    (kk : W p l e R s m args below meth c H locs cells slots Q (F0 m (pc + 1) ls (xv E (ar σ a j) :: rest))) : W p l e R s m args below meth c H locs cells slots Q (F0 m pc ls (.int i :: xv E r :: rest)) := by
  subst hr; subst hj
  have hty : ∃ C : String, ArrOfT s (xx_ac E t) (.object C) := by
    have hK : xx_K E s := cx.2.2.2.2.2.2.2.1
    match t, ht, ht7 with
    | 3, _, _ => exact ⟨_, (hK.1.2 3 _ rfl).1⟩
    | 4, _, _ => exact ⟨_, (hK.1.2 4 _ rfl).1⟩
    | 5, _, _ => exact ⟨_, (hK.1.2 5 _ rfl).1⟩
    | 6, _, _ => exact ⟨_, (hK.1.2 6 _ rfl).1⟩
  obtain ⟨C, hA⟩ := hty
  obtain ⟨hx, hb, hml, hown, hts, hrt, hlk, hK, hZ⟩ := cx
  obtain ⟨F, -, hc, -, hF⟩ := x_cell hR hk (by omega)
  have hF := hF ht ht7
  have hlt : i.toNatClampNeg < ln σ a := Nat.not_le.mp fun q => hin (Or.inr q)
  exact W.aald (v := xv E (ar σ a i.toNatClampNeg)) (ty := .object C) hx hb hc (hA _ F) rfl (fun q => by cases q) (by rw [arrV_size]; exact hin) (by rw [arrV_read _ _ hlt, hF]) rfl rfl hdg kk
/-- an array's contents are changed -/
theorem x_aput {σ' : XS} (hE : (∀ i, i < xK → xx_e E i < xx_b E) ∧ ∀ i j, i < 29 → j < 29 → xx_e E i = xx_e E j → i = j) (hR : xR E σ H) {H1 : Heap} {a t : Nat} (ha : xK ≤ a) (hk : kd σ a = 100 + t) (ht : t < 8) (hn : σ'.1 = σ.1) (hk' : σ'.2.1 = σ.2.1) (hl : σ'.2.2.1 = σ.2.2.1) (hf1 : σ'.2.2.2.1 = σ.2.2.2.1) (hf2 : σ'.2.2.2.2.1 = σ.2.2.2.2.1) (hf3 : σ'.2.2.2.2.2.1 = σ.2.2.2.2.2.1) (ho' : ∀ b, b ≠ a → ai σ' b = ai σ b ∧ ar σ' b = ar σ b) (hz : H1.size = H.size) (ho : ∀ q, q ≠ xr E a → H1[q]? = H[q]?) (hx : H1[xr E a]? = some (vp_cell (xx_ac E t) (ln σ a, xco E σ' t a))) : xR E σ' H1 := by
  have hV : ∀ c b k, xV E σ' c b k = xV E σ c b k := by
    intro c b k
    have e1 : fi σ' b k = fi σ b k := by show σ'.2.2.2.1 b k = _; rw [hf1]; rfl
    have e2 : fr σ' b k = fr σ b k := by show σ'.2.2.2.2.1 b k = _; rw [hf2]; rfl
    have e3 : ff σ' b k = ff σ b k := by show σ'.2.2.2.2.2.1 b k = _; rw [hf3]; rfl
    unfold xV
    rw [e1, e2, e3]
  have hlb : ∀ b, ln σ' b = ln σ b := fun b => by show σ'.2.2.1 b = _; rw [hl]; rfl
  refine hR.upd hE ha hz ho hn hk' ⟨fun c h1 h2 => ?_, fun u h1 h2 => ?_⟩ fun b hb => ⟨fun h c h1 h2 => ?_, fun h u h1 h2 => ?_⟩
  · have h1 : kd σ a = c + 1 := by show σ.2.1 a = c + 1; rw [← hk']; exact h1
    omega
  · have h1 : kd σ a = 100 + u := by show σ.2.1 a = 100 + u; rw [← hk']; exact h1
    have : u = t := by omega
    subst this
    rw [hlb]; exact hx
  · have h1 : kd σ b = c + 1 := by show σ.2.1 b = c + 1; rw [← hk']; exact h1
    exact t_OB.to (h c h1 h2) fun k _ => (hV c b k).symm
  · have h1 : kd σ b = 100 + u := by show σ.2.1 b = 100 + u; rw [← hk']; exact h1
    have h3 := h u h1 h2
    have e2 : xco E σ' u b = xco E σ u b := by
      unfold xco
      rw [(ho' b hb).1, (ho' b hb).2]
    rw [hlb, e2]
    exact h3
theorem pai_ne (σ : XS) (a k : Nat) (v : Int32) : ∀ b, b ≠ a → ai (pai σ a k v) b = ai σ b ∧ ar (pai σ a k v) b = ar σ b := fun b hb => ⟨by funext j; show up2 _ a k v b j = _; simp [up2, hb, ai], rfl⟩
theorem par_ne (σ : XS) (a k : Nat) (v : Option Nat) : ∀ b, b ≠ a → ai (par σ a k v) b = ai σ b ∧ ar (par σ a k v) b = ar σ b := fun b hb => ⟨rfl, by funext j; show up2 _ a k v b j = _; simp [up2, hb, ar]⟩
theorem pai1_ne (σ : XS) (a : Nat) (g : Nat → Int32) : ∀ b, b ≠ a → ai (pai1 σ a g) b = ai σ b ∧ ar (pai1 σ a g) b = ar σ b := fun b hb => ⟨by funext j; show up1 _ a g b j = _; simp [up1, hb, ai], rfl⟩
theorem par1_ne (σ : XS) (a : Nat) (g : Nat → Option Nat) : ∀ b, b ≠ a → ai (par1 σ a g) b = ai σ b ∧ ar (par1 σ a g) b = ar σ b := fun b hb => ⟨rfl, by funext j; show up1 _ a g b j = _; simp [up1, hb, ar]⟩
theorem x_stI {t a k : Nat} {v : Int32} (ht : t < 3) {F : Nat → Value} (hF : F = fun j => .int (ai σ a j)) : (arrV (xx_ac E t) (ln σ a) F).setSlot k (.int v) = vp_cell (xx_ac E t) (ln σ a, xco E (pai σ a k v) t a) := by
  subst hF
  unfold xco
  rw [if_pos ht, vp_cell_i, arrV_store]
  congr 1
  funext q
  by_cases hq : q = k
  · subst hq
    simp [updV, ai, pai, up2]
  · simp [updV, ai, pai, up2, hq]
theorem x_iast (cx : xx_X own cc nL ret E p s m args meth c) (hR : xR E σ H) (hS0 : va_S (xA E) s.heap H locs) {a : Nat} {r : Option Nat} (hr : r = some a) (ha : xK ≤ a) (hk : kd σ a = 100) {i x : Int32} {j : Nat} (hj : i.toNatClampNeg = j) (hin : vp_in i (ln σ a)) (hdg : decode cc pc = .ok (.iastore, 1))
    (kk : ∀ (H1 : Heap) (locs1 : List Loc), xR E (pai σ a j x) H1 → va_S (xA E) s.heap H1 locs1 → W p l e R s m args below meth c H1 locs1 cells slots Q (F0 m (pc + 1) ls rest)) : W p l e R s m args below meth c H locs cells slots Q (F0 m pc ls (.int x :: .int i :: xv E r :: rest)) := by
  subst hr; subst hj
  have hA : ArrOfT s (xx_ac E 0) .int := (cx.2.2.2.2.2.2.2.1.1.2 0 _ rfl).1
  obtain ⟨hx, hb, hml, hown, hts, hrt, hlk, hK, hZ⟩ := cx
  obtain ⟨F, -, hc, hF, -⟩ := x_cell hR (t := 0) hk (by decide)
  refine W.iast hx hb hc (hA _ F) (fun q => by cases q) (by rw [arrV_size]; exact hin) rfl rfl hdg fun H1 e1 z oq => ?_
  exact kk H1 _ (x_aput hK.2.1 hR ha (t := 0) hk (by decide) rfl rfl rfl rfl rfl rfl (pai_ne σ a _ x) z oq (by rw [e1, x_stI (by decide) (hF (by decide))])) (hS0.put z oq (xA_of hR ha (by rw [hk]; decide)))
theorem x_zast (cx : xx_X own cc nL ret E p s m args meth c) (hR : xR E σ H) (hS0 : va_S (xA E) s.heap H locs) {a : Nat} {r : Option Nat} (hr : r = some a) (ha : xK ≤ a) (hk : kd σ a = 101) {i x : Int32} {j : Nat} (hj : i.toNatClampNeg = j) (hin : vp_in i (ln σ a)) (hzb : zb x) (hdg : decode cc pc = .ok (.bastore, 1))
    (kk : ∀ (H1 : Heap) (locs1 : List Loc), xR E (pai σ a j x) H1 → va_S (xA E) s.heap H1 locs1 → W p l e R s m args below meth c H1 locs1 cells slots Q (F0 m (pc + 1) ls rest)) : W p l e R s m args below meth c H locs cells slots Q (F0 m pc ls (.int x :: .int i :: xv E r :: rest)) := by
  subst hr; subst hj
  have hA : ArrOfT s (xx_ac E 1) .boolean := (cx.2.2.2.2.2.2.2.1.1.2 1 _ rfl).1
  obtain ⟨hx, hb, hml, hown, hts, hrt, hlk, hK, hZ⟩ := cx
  obtain ⟨F, -, hc, hF, -⟩ := x_cell hR (t := 1) hk (by decide)
  refine W.zast hx hb hc (hA _ F) (fun q => by cases q) (by rw [arrV_size]; exact hin) rfl rfl hdg fun H1 e1 z oq => ?_
  rw [zb_nar hzb] at e1
  exact kk H1 _ (x_aput hK.2.1 hR ha (t := 1) hk (by decide) rfl rfl rfl rfl rfl rfl (pai_ne σ a _ x) z oq (by rw [e1, x_stI (by decide) (hF (by decide))])) (hS0.put z oq (xA_of hR ha (by rw [hk]; decide)))
theorem x_bast (cx : xx_X own cc nL ret E p s m args meth c) (hR : xR E σ H) (hS0 : va_S (xA E) s.heap H locs) {a : Nat} {r : Option Nat} (hr : r = some a) (ha : xK ≤ a) (hk : kd σ a = 102) {i x : Int32} {j : Nat} (hj : i.toNatClampNeg = j) (hin : vp_in i (ln σ a)) (hdg : decode cc pc = .ok (.bastore, 1))
    (kk : ∀ (H1 : Heap) (locs1 : List Loc), xR E (pai σ a j x.toInt8.toInt32) H1 → va_S (xA E) s.heap H1 locs1 → W p l e R s m args below meth c H1 locs1 cells slots Q (F0 m (pc + 1) ls rest)) : W p l e R s m args below meth c H locs cells slots Q (F0 m pc ls (.int x :: .int i :: xv E r :: rest)) := by
  subst hr; subst hj
  have hA : ArrOfT s (xx_ac E 2) .byte := (cx.2.2.2.2.2.2.2.1.1.2 2 _ rfl).1
  obtain ⟨hx, hb, hml, hown, hts, hrt, hlk, hK, hZ⟩ := cx
  obtain ⟨F, -, hc, hF, -⟩ := x_cell hR (t := 2) hk (by decide)
  refine W.bast hx hb hc (hA _ F) (fun q => by cases q) (by rw [arrV_size]; exact hin) rfl rfl hdg fun H1 e1 z oq => ?_
  have e1 : H1[xr E a]? = some ((arrV (xx_ac E 2) (ln σ a) F).setSlot i.toNatClampNeg (.int x.toInt8.toInt32)) := e1
  exact kk H1 _ (x_aput hK.2.1 hR ha (t := 2) hk (by decide) rfl rfl rfl rfl rfl rfl (pai_ne σ a _ _) z oq (by rw [e1, x_stI (by decide) (hF (by decide))])) (hS0.put z oq (xA_of hR ha (by rw [hk]; decide)))
/-- a reference may stand in an array of class C -/
def xasg (s : State) (σ : XS) (C : String) (r : Option Nat) : Prop := ∀ b, r = some b → ∃ (cj : Nat) (q : vw_C), kd σ b = cj + 1 ∧ cj < 25 ∧ xx_cl[cj]? = some q ∧ ∀ comp c0 : ClassId, s.vm.findClass C = some comp → s.vm.findClass q.1 = some c0 → s.vm.assignable c0 comp = true
theorem xasg_any (cx : xx_X own cc nL ret E p s m args meth c) (hR : xR E σ H) {C : String} {r : Option Nat} (h : xasg s σ C r) {b : Nat} (hb : r = some b) : va_Any C s H (xr E b) := by
  obtain ⟨cj, q, h1, h2, h3, h4⟩ := h b hb
  obtain ⟨hx, hb', hml, hown, hts, hrt, hlk, hK, hZ⟩ := cx
  obtain ⟨cell, q1, q2, q3, -⟩ := (hR.2.2.2.2 b).1 cj h1 h2
  obtain ⟨-, hfc, kC, hkC, -⟩ := hK.1.1 cj _ h3
  exact ⟨cell, q1, by rw [q3]; rfl, ⟨kC, by rw [q2]; exact hkC⟩, fun comp hc => by rw [q2]; exact h4 comp _ hc hfc⟩
theorem x_ast (cx : xx_X own cc nL ret E p s m args meth c) (hR : xR E σ H) (hS0 : va_S (xA E) s.heap H locs) {a : Nat} {r v : Option Nat} (hr : r = some a) (ha : xK ≤ a) (t : Nat) {C : String} (hty : (xx_tys E)[t]? = some (xx_ac E t, .object C)) (hk : kd σ a = 100 + t) (ht : 3 ≤ t) (ht7 : t < 7) {i : Int32} {j : Nat} (hj : i.toNatClampNeg = j) (hin : vp_in i (ln σ a)) (hv : xasg s σ C v) (hdg : decode cc pc = .ok (.aastore, 1))
    (kk : ∀ (H1 : Heap) (locs1 : List Loc), xR E (par σ a j v) H1 → va_S (xA E) s.heap H1 locs1 → W p l e R s m args below meth c H1 locs1 cells slots Q (F0 m (pc + 1) ls rest)) : W p l e R s m args below meth c H locs cells slots Q (F0 m pc ls (xv E v :: .int i :: xv E r :: rest)) := by
  subst hr; subst hj
  have hany := fun b hb => xasg_any cx hR hv (b := b) hb
  obtain ⟨hx, hb, hml, hown, hts, hrt, hlk, hK, hZ⟩ := cx
  have hA := hK.1.2 t _ hty
  obtain ⟨F, -, hc, -, hF⟩ := x_cell hR hk (by omega)
  have hF := hF ht ht7
  have hlt : i.toNatClampNeg < ln σ a := Nat.not_le.mp fun q => hin (Or.inr q)
  have h0 : ¬ i < 0 := fun q => hin (Or.inl q)
  have fin : ∀ H1 : Heap, H1[xr E a]? = some ((arrV (xx_ac E t) (ln σ a) F).setSlot i.toNatClampNeg (xv E v)) → H1.size = H.size → (∀ q, q ≠ xr E a → H1[q]? = H[q]?) → W p l e R s m args below meth c H1 (locs ++ [⟨xr E a, i.toNatClampNeg⟩]) cells slots Q (F0 m (pc + 1) ls rest) := by
    intro H1 e1 z oq
    refine kk H1 _ (x_aput hK.2.1 hR ha (t := t) hk (by omega) rfl rfl rfl rfl rfl rfl (par_ne σ a _ v) z oq ?_) (hS0.put z oq (xA_of hR ha (by omega)))
    rw [e1, hF, arrV_store]
    unfold xco
    rw [if_neg (by omega), if_neg (by omega), vp_cell_q]
    congr 2
    funext q
    by_cases hq : q = i.toNatClampNeg
    · subst hq
      simp [updV, ar, par, up2, xv]
    · simp [updV, ar, par, up2, hq, xv]
  cases v with
  | none =>
    exact va_WaastN (C := C) hx hb hc (hA.1 _ F) (fun h => by cases h) (by rw [arrV_size]; exact hin) rfl rfl hdg fin
  | some b =>
    obtain ⟨cellV, g1, g3, ⟨kC, hkC⟩, hasg⟩ := hany b rfl
    obtain ⟨kA, comp, k1, k2, k3, -⟩ := hA.2
    obtain ⟨kE, hkE, -⟩ := Vm.findClass_spec k3
    exact W.aast hx hb hc (fun q h => by cases h) (fun h => by cases h) k1 k2 rfl hkE ⟨h0, by rw [arrV_size]; exact hlt⟩ g1 (fun q h => by rw [h] at g3; cases g3) hkC (hasg _ k3) rfl rfl hdg fin
/-- a thing is made -/
theorem x_born (hE : (∀ i, i < xK → xx_e E i < xx_b E) ∧ ∀ i j, i < 29 → j < 29 → xx_e E i = xx_e E j → i = j) (hR : xR E σ H) {H1 : Heap} {k len : Nat} (hz : H1.size = H.size + 1) (ho : ∀ q, q < H.size → H1[q]? = H[q]?) (hO : ∀ c, k = c + 1 → c < 25 → t_OB H.size ((xx_D E).1 c) (xx_nf c) ((xx_D E).2 c) H1 (fun j => xV E (xal σ k len) c (xn σ) j)) (hAr : ∀ t, k = 100 + t → t < 8 → H1[H.size]? = some (vp_cell (xx_ac E t) (len, xco E (xal σ k len) t (xn σ)))) : H.size = xr E (xn σ) ∧ xR E (xal σ k len) H1 := by
  obtain ⟨h0, h1, h2, h3, h4⟩ := hR
  have hadr : H.size = xr E (xn σ) := by
    unfold xr
    rw [if_neg (by omega)]
    exact h1
  have hlow : ∀ b, kd σ b ≠ 0 → xr E b < H.size := by
    intro b hb
    have := (h3 b hb).1
    unfold xr
    split
    · rename_i hb2
      have := hE.1 b hb2
      omega
    · omega
  refine ⟨hadr, by show xK ≤ σ.1 + 1; exact Nat.le_succ_of_le h0, ?_, fun q hq => h2 q (by omega), fun a ha => ?_, fun a => ?_⟩
  · rw [hz, h1]
    show _ = xx_b E + (σ.1 + 1 - xK)
    have : xK ≤ σ.1 := h0
    show xx_b E + (σ.1 - xK) + 1 = _
    omega
  · by_cases hb : a = σ.1
    · subst hb
      exact ⟨Nat.lt_succ_self _, fun _ => by rw [show xr E σ.1 = H.size from hadr.symm]; exact h2 _ (Nat.le_refl _)⟩
    · have ha' : kd σ a ≠ 0 := by
        have : kd (xal σ k len) a = kd σ a := by show (if a = σ.1 then _ else _) = _; rw [if_neg hb]; rfl
        rw [← this]; exact ha
      exact ⟨Nat.lt_succ_of_lt (h3 a ha').1, (h3 a ha').2⟩
  · by_cases hb : a = σ.1
    · subst hb
      have hkk : kd (xal σ k len) σ.1 = k := by show (if σ.1 = σ.1 then k else _) = k; rw [if_pos rfl]
      have hll : ln (xal σ k len) σ.1 = len := by show (if σ.1 = σ.1 then len else _) = len; rw [if_pos rfl]
      refine ⟨fun c e1 e2 => ?_, fun t e1 e2 => ?_⟩
      · rw [show xr E σ.1 = H.size from hadr.symm]
        exact hO c (hkk.symm.trans e1) e2
      · rw [show xr E σ.1 = H.size from hadr.symm, hll]
        exact hAr t (hkk.symm.trans e1) e2
    · have e1 : kd (xal σ k len) a = kd σ a := by show (if a = σ.1 then _ else _) = _; rw [if_neg hb]; rfl
      have e2 : ln (xal σ k len) a = ln σ a := by show (if a = σ.1 then _ else _) = _; rw [if_neg hb]; rfl
      have e3 : ∀ j, fi (xal σ k len) a j = fi σ a j := fun j => by show (if a = σ.1 then _ else _) = _; rw [if_neg hb]; rfl
      have e4 : ∀ j, fr (xal σ k len) a j = fr σ a j := fun j => by show (if a = σ.1 then _ else _) = _; rw [if_neg hb]; rfl
      have e5 : ∀ j, ff (xal σ k len) a j = ff σ a j := fun j => by show (if a = σ.1 then _ else _) = _; rw [if_neg hb]; rfl
      have e6 : ai (xal σ k len) a = ai σ a := by funext j; show (if a = σ.1 then _ else _) = _; rw [if_neg hb]; rfl
      have e7 : ar (xal σ k len) a = ar σ a := by funext j; show (if a = σ.1 then _ else _) = _; rw [if_neg hb]; rfl
      refine ⟨fun c g1 g2 => ?_, fun t g1 g2 => ?_⟩
      · rw [e1] at g1
        have hk0 : kd σ a ≠ 0 := by rw [g1]; exact Nat.succ_ne_zero _
        refine t_OB.to (((h4 a).1 c g1 g2).kept (ho _ (hlow a hk0))) fun j _ => ?_
        unfold xV
        rw [e3, e4, e5]
      · rw [e1] at g1
        have hk0 : kd σ a ≠ 0 := by rw [g1]; omega
        have g3 := (h4 a).2 t g1 g2
        rw [ho _ (hlow a hk0), g3, e2]
        unfold xco
        rw [e6, e7]
theorem xS_push (hS : va_S (xA E) s.heap H locs) {H1 : Heap} (hz : H1.size = H.size + 1) (ho : ∀ q, q < H.size → H1[q]? = H[q]?) : va_S (xA E) s.heap H1 locs := ⟨Nat.le_trans hS.1 (by omega), fun x h1 h2 => (ho x (Nat.lt_of_lt_of_le h1 hS.1)).trans (hS.2.1 x h1 h2), hS.2.2⟩
theorem x_new (cx : xx_X own cc nL ret E p s m args meth c) (hR : xR E σ H) (hS0 : va_S (xA E) s.heap H locs) (ci : Nat) (hci : ci < 25) {C : String} {T : u_T} {N : Nat} (hc : xx_cl[ci]? = some (C, T, N)) (hin : ∀ w ∈ u_ws C T N, w ∈ lw_all) (ty : Nat → FieldType) (hty : ∀ k, k < N → parseFieldDescriptor (T k).2.2.1 = some (ty k)) {index : Nat} (hq : Cond.classLink own index C ∈ lw_all) (hqi : Cond.instantiable C N ∈ lw_all) (hqn : Cond.initialized C ∈ lw_all) (hd : ∀ j, j < N → defaultValue (ty j) = xV E (xal σ (ci + 1) 0) ci (xn σ) j) (hcells : cells + 1 ≤ R.cells) (hslots : slots + N ≤ R.slots) (hdg : decode cc pc = .ok (.new index, 3))
    (kk : ∀ (H1 : Heap), xR E (xal σ (ci + 1) 0) H1 → va_S (xA E) s.heap H1 locs → W p l e R s m args below meth c H1 locs (cells + 1) (slots + N) Q (F0 m (pc + 3) ls (xv E (some (xn σ)) :: rest))) : W p l e R s m args below meth c H locs cells slots Q (F0 m pc ls rest) := by
  obtain ⟨hx, hb, hml, hown, hts, hrt, hlk, hK, hZ⟩ := cx
  have hKn := hK.1.1 ci _ hc
  have hnf : N = xx_nf ci := xx_cl_n ci _ hc
  refine W.newcK hx hb hown (hts _ hq) (hts _ hqi) (hts _ hqn) rfl hdg hcells hslots hKn.2.1 rfl fun H1 kC hkC e1 z1 o1 => ?_
  obtain ⟨hadr, hR1⟩ := x_born hK.2.1 hR (k := ci + 1) (len := 0) z1 o1 (fun c g1 g2 => by
    have : c = ci := by omega
    subst this
    rw [← hnf]
    exact (u_born ty hts hin hKn hkC e1 hty).to hd) (fun t g1 g2 => by omega)
  have := kk H1 hR1 (xS_push hS0 z1 o1)
  rw [show xv E (some (xn σ)) = .ref H.size by rw [hadr]; rfl] at this
  exact this
theorem x_newaC (hK : xx_K E s) {t : Nat} {ty : FieldType} (ht : (xx_tys E)[t]? = some (xx_ac E t, ty)) (hp : ∀ C, ty ≠ .object C) {cA : ClassId} (h : s.vm.findClass ("[" ++ ty.toString) = some cA) : cA = xx_ac E t := by
  have h1 := (hK.1.2 t _ ht).2
  unfold va_RA at h1
  cases ty <;> first | exact absurd rfl (hp _) | exact Option.some.inj (h.symm.trans h1)
theorem x_newa (cx : xx_X own cc nL ret E p s m args meth c) (hR : xR E σ H) (hS0 : va_S (xA E) s.heap H locs) {atype : ArrayType} (t : Nat) (htt : t < 3 ∨ t = 7) (hty : (xx_tys E)[t]? = some (xx_ac E t, newarray.typeOf atype)) (hq : Cond.arrayClass (newarray.typeOf atype) ∈ lw_all) (hdv : t < 3 → defaultValue (newarray.typeOf atype) = .int 0) (hdl : t = 7 → defaultValue (newarray.typeOf atype) = .long 0) {n : Int32} {N : Nat} (hn : ¬ n < 0) (hN : n.toNatClampNeg = N) (hb8 : N * componentBytes (newarray.typeOf atype) ≤ 536870912) (hcells : cells + 1 ≤ R.cells) (hslots : slots + N ≤ R.slots) (hdg : decode cc pc = .ok (.newarray atype, 2))
    (kk : ∀ (H1 : Heap), xR E (xal σ (100 + t) N) H1 → va_S (xA E) s.heap H1 locs → W p l e R s m args below meth c H1 locs (cells + 1) (slots + N) Q (F0 m (pc + 2) ls (xv E (some (xn σ)) :: rest))) : W p l e R s m args below meth c H locs cells slots Q (F0 m pc ls (.int n :: rest)) := by
  obtain ⟨hx, hb, hml, hown, hts, hrt, hlk, hK, hZ⟩ := cx
  refine va_newaK hx hb (hts _ hq) rfl hdg rfl hn hN hb8 hcells hslots rfl fun H1 cA e1 z1 o1 hAr hNm => ?_
  have hcA : cA = xx_ac E t := x_newaC hK hty (fun C => by cases atype <;> exact fun h => by cases h) hNm
  subst hcA
  obtain ⟨hadr, hR1⟩ := x_born hK.2.1 hR (k := 100 + t) (len := N) z1 o1 (fun c g1 g2 => by omega) (fun u g1 g2 => by
    have : u = t := by omega
    subst this
    rw [e1]
    unfold xco
    rcases htt with h | h
    · rw [if_pos h, vp_cell_i, hdv h]
      congr 2
      funext j
      show Value.int 0 = .int (if xn σ = σ.1 then 0 else _)
      rw [if_pos (show xn σ = σ.1 from rfl)]
    · rw [if_neg (by omega), if_pos h, vp_cell_l, hdl h])
  have := kk H1 hR1 (xS_push hS0 z1 o1)
  rw [show xv E (some (xn σ)) = .ref H.size by rw [hadr]; rfl] at this
  exact this
theorem x_anew (cx : xx_X own cc nL ret E p s m args meth c) (hR : xR E σ H) (hS0 : va_S (xA E) s.heap H locs) (t : Nat) (ht : 3 ≤ t) (ht7 : t < 7) {C : String} (hty : (xx_tys E)[t]? = some (xx_ac E t, .object C)) {index : Nat} (hq : Cond.classLink own index C ∈ lw_all) (hC : C ∈ xx_ao_) {n : Int32} {N : Nat} (hn : ¬ n < 0) (hN : n.toNatClampNeg = N) (hb8 : N * 4 ≤ 536870912) (hcells : cells + 1 ≤ R.cells) (hslots : slots + N ≤ R.slots) (hdg : decode cc pc = .ok (.anewarray index, 3))
    (kk : ∀ (H1 : Heap), xR E (xal σ (100 + t) N) H1 → va_S (xA E) s.heap H1 locs → W p l e R s m args below meth c H1 locs (cells + 1) (slots + N) Q (F0 m (pc + 3) ls (xv E (some (xn σ)) :: rest))) : W p l e R s m args below meth c H locs cells slots Q (F0 m pc ls (.int n :: rest)) := by
  obtain ⟨hx, hb, hml, hown, hts, hrt, hlk, hK, hZ⟩ := cx
  subst hN
  refine W.anew hx hb hown (hts _ hq) (va_AO.use (hK.2.2.2.2.2.2.2.1 C hC)) rfl hdg rfl hn hb8 hcells hslots fun cA kA comp f1 f2 f3 f4 => ?_
  have hcA : cA = xx_ac E t := by
    obtain ⟨_, _, _, _, _, h1⟩ := (hK.1.2 t _ hty).2
    exact Option.some.inj (f1.symm.trans h1)
  subst hcA
  generalize hH1 : H.push ({ cls := xx_ac E t, slots := Array.replicate n.toNatClampNeg .null, vm := .none } : Cell) = H1
  have z1 : H1.size = H.size + 1 := by rw [← hH1, Array.size_push]
  have e1 : H1[H.size]? = some (arrV (xx_ac E t) n.toNatClampNeg (fun _ => .null)) := by rw [← hH1, Array.getElem?_push_size, ← arrV_new]
  have o1 : ∀ q : Nat, q < H.size → H1[q]? = H[q]? := fun q hq => by rw [← hH1, Array.getElem?_push, if_neg (Nat.ne_of_lt hq)]
  obtain ⟨hadr, hR1⟩ := x_born hK.2.1 hR (k := 100 + t) (len := n.toNatClampNeg) z1 o1 (fun c g1 g2 => by omega) (fun u g1 g2 => by
    have : u = t := by omega
    subst this
    rw [e1]
    unfold xco
    rw [if_neg (by omega), if_neg (by omega), vp_cell_q]
    congr 2
    funext j
    show Value.null = va_rf ((if xn σ = σ.1 then none else _).map (xr E))
    rw [if_pos (show xn σ = σ.1 from rfl)]
    rfl)
  have := kk H1 hR1 (xS_push hS0 z1 o1)
  rw [show xv E (some (xn σ)) = .ref H.size by rw [hadr]; rfl] at this
  exact this
/-- references on the stack and in locals -/
theorem x_aload_n (cx : xx_X own cc nL ret E p s m args meth c) {k : Fin 4} {i : Nat} {r : Option Nat} (hdg : decode cc pc = .ok (.aload_n k, 1)) (hi : (k : Nat) = i) (hl : ls[i]? = some (.val (xv E r)))
    (kk : W p l e R s m args below meth c H locs cells slots Q (F0 m (pc + 1) ls (xv E r :: rest))) : W p l e R s m args below meth c H locs cells slots Q (F0 m pc ls rest) := by
  cases r with
  | none => exact lv_aload_nN cx.1 cx.2.1 hdg hi hl kk
  | some a => exact lv_aload_n cx.1 cx.2.1 hdg hi hl kk
theorem x_aload (cx : xx_X own cc nL ret E p s m args meth c) {i : Nat} {r : Option Nat} (hdg : decode cc pc = .ok (.aload i, 2)) (hl : ls[i]? = some (.val (xv E r)))
    (kk : W p l e R s m args below meth c H locs cells slots Q (F0 m (pc + 2) ls (xv E r :: rest))) : W p l e R s m args below meth c H locs cells slots Q (F0 m pc ls rest) := by
  cases r with
  | none => exact lv_aloadN cx.1 cx.2.1 hdg hl kk
  | some a => exact lv_aload cx.1 cx.2.1 hdg hl kk
theorem x_astore_n (cx : xx_X own cc nL ret E p s m args meth c) {k : Fin 4} {i nL' : Nat} {r : Option Nat} {lv lv' : List (Nat × Value)} (hdg : decode cc pc = .ok (.astore_n k, 1)) (hi : (k : Nat) = i) (h : lv_has ls nL' lv) (hn : i < nL') (hl : (i, xv E r) :: lv.filter (fun q => !(q.1 == i) && !(q.1 + 1 == i && q.2.category == 2)) = lv')
    (kk : ∀ ls' : Array Slot, lv_has ls' nL' lv' → W p l e R s m args below meth c H locs cells slots Q (F0 m (pc + 1) ls' rest)) : W p l e R s m args below meth c H locs cells slots Q (F0 m pc ls (xv E r :: rest)) := by
  cases r with
  | none => exact lv_astore_nN cx.1 cx.2.1 hdg hi h hn hl kk
  | some a => exact lv_astore_n cx.1 cx.2.1 hdg hi h hn hl kk
theorem x_astore (cx : xx_X own cc nL ret E p s m args meth c) {i nL' : Nat} {r : Option Nat} {lv lv' : List (Nat × Value)} (hdg : decode cc pc = .ok (.astore i, 2)) (h : lv_has ls nL' lv) (hn : i < nL') (hl : (i, xv E r) :: lv.filter (fun q => !(q.1 == i) && !(q.1 + 1 == i && q.2.category == 2)) = lv')
    (kk : ∀ ls' : Array Slot, lv_has ls' nL' lv' → W p l e R s m args below meth c H locs cells slots Q (F0 m (pc + 2) ls' rest)) : W p l e R s m args below meth c H locs cells slots Q (F0 m pc ls (xv E r :: rest)) := by
  cases r with
  | none => exact lv_astoreN cx.1 cx.2.1 hdg h hn hl kk
  | some a => exact lv_astore cx.1 cx.2.1 hdg h hn hl kk
theorem x_ifnull (cx : xx_X own cc nL ret E p s m args meth c) {r : Option Nat} {off : Int} {tgt : Nat} (hdg : decode cc pc = .ok (.ifnull off, 3)) (ht : (pc : Int) + off = (tgt : Int)) (kt : r = none → W p l e R s m args below meth c H locs cells slots Q (F0 m tgt ls rest)) (kf : ¬ r = none → W p l e R s m args below meth c H locs cells slots Q (F0 m (pc + 3) ls rest)) : W p l e R s m args below meth c H locs cells slots Q (F0 m pc ls (xv E r :: rest)) := by
  cases r with
  | none => exact lv_ifnullN cx.1 cx.2.1 hdg ht (kt rfl)
  | some a => exact lv_ifnull cx.1 cx.2.1 hdg (kf (fun h => by cases h))
theorem x_ifnonnull (cx : xx_X own cc nL ret E p s m args meth c) {r : Option Nat} {off : Int} {tgt : Nat} (hdg : decode cc pc = .ok (.ifnonnull off, 3)) (ht : (pc : Int) + off = (tgt : Int)) (kt : ¬ r = none → W p l e R s m args below meth c H locs cells slots Q (F0 m tgt ls rest)) (kf : r = none → W p l e R s m args below meth c H locs cells slots Q (F0 m (pc + 3) ls rest)) : W p l e R s m args below meth c H locs cells slots Q (F0 m pc ls (xv E r :: rest)) := by
  cases r with
  | none => exact lv_ifnonnullN cx.1 cx.2.1 hdg (kf rfl)
  | some a => exact lv_ifnonnull cx.1 cx.2.1 hdg ht (kt (fun h => by cases h))
/-- two references that can be told apart -/
def xok (r1 r2 : Option Nat) : Prop := r1 = none ∨ r2 = none ∨ (∃ a, r1 = some a ∧ xK ≤ a) ∨ ∃ b, r2 = some b ∧ xK ≤ b
theorem xok_eq (cx : xx_X own cc nL ret E p s m args meth c) {r1 r2 : Option Nat} (h : xok r1 r2) : r1.map (xr E) = r2.map (xr E) ↔ r1 = r2 := by
  have hE := cx.2.2.2.2.2.2.2.1.2.1
  refine ⟨fun h1 => ?_, fun h1 => by rw [h1]⟩
  cases r1 with
  | none => cases r2 with
    | none => rfl
    | some b => cases h1
  | some a => cases r2 with
    | none => cases h1
    | some b =>
      have h2 : xr E a = xr E b := Option.some.inj h1
      rcases h with h | h | ⟨a', e, ha⟩ | ⟨b', e, hb⟩
      · cases h
      · cases h
      · cases e
        rw [xr_inj hE ha h2]
      · cases e
        rw [xr_inj hE hb h2.symm]
theorem x_acmp_eq (cx : xx_X own cc nL ret E p s m args meth c) {r1 r2 : Option Nat} (ho : xok r1 r2) {off : Int} {tgt : Nat} (hdg : decode cc pc = .ok (.if_acmp .eq off, 3)) (ht : (pc : Int) + off = (tgt : Int)) (kt : r1 = r2 → W p l e R s m args below meth c H locs cells slots Q (F0 m tgt ls rest)) (kf : ¬ r1 = r2 → W p l e R s m args below meth c H locs cells slots Q (F0 m (pc + 3) ls rest)) : W p l e R s m args below meth c H locs cells slots Q (F0 m pc ls (xv E r2 :: xv E r1 :: rest)) :=
  lv_acmp_eq cx.1 cx.2.1 hdg ht (fun h => kt ((xok_eq cx ho).mp h)) (fun h => kf (fun e => h ((xok_eq cx ho).mpr e)))
theorem x_acmp_ne (cx : xx_X own cc nL ret E p s m args meth c) {r1 r2 : Option Nat} (ho : xok r1 r2) {off : Int} {tgt : Nat} (hdg : decode cc pc = .ok (.if_acmp .ne off, 3)) (ht : (pc : Int) + off = (tgt : Int)) (kt : ¬ r1 = r2 → W p l e R s m args below meth c H locs cells slots Q (F0 m tgt ls rest)) (kf : r1 = r2 → W p l e R s m args below meth c H locs cells slots Q (F0 m (pc + 3) ls rest)) : W p l e R s m args below meth c H locs cells slots Q (F0 m pc ls (xv E r2 :: xv E r1 :: rest)) :=
  lv_acmp_ne cx.1 cx.2.1 hdg ht (fun h => kt (fun e => h ((xok_eq cx ho).mpr e))) (fun h => kf ((xok_eq cx ho).mp h))
theorem x_ldcS (cx : xx_X own cc nL ret E p s m args meth c) (k : Nat) (hk : k < 14) {ix : Nat} (ho : xx_so k = own) (hi : xx_si k = ix) (hdg : decode cc pc = .ok (.ldc ix, 2))
    (kk : W p l e R s m args below meth c H locs cells slots Q (F0 m (pc + 2) ls (xv E (some (2 * k)) :: rest))) : W p l e R s m args below meth c H locs cells slots Q (F0 m pc ls rest) := by
  obtain ⟨hx, hb, hml, hown, hts, hrt, hlk, hK, hZ⟩ := cx
  subst hi; subst ho
  exact va_ldcS hx hb hown (hZ.2.2.2.2.2.1 k hk) hdg kk
/-- ends -/
theorem x_iret {Qf : Int32 → XS → Prop} {v : Int32} {mc ms : Nat} (cx : xx_X own cc nL (some .int) E p s m args meth c) (hR : xR E σ H) (hS0 : va_S (xA E) s.heap H locs) (hc : cells ≤ mc) (hs : slots ≤ ms) (hw : Qf v σ) (hdg : decode cc pc = .ok (.ireturn, 1)) : W p l e R s m args below meth c H locs cells slots (MQ below (va_Qi Qf (fun σ' t => xW E σ' t) (xA E)) args s mc ms (xA E)) (F0 m pc ls [.int v]) := by
  obtain ⟨hx, hb, hml, hown, hts, hr, hlk, hK, hZ⟩ := cx
  refine W.widen hc hs ?_
  exact W.iret hx hb hr (fun t ht hW => ⟨⟨v, σ, rfl, hw, xret hR hK hZ hS0 ht hW⟩, hS0.F ht⟩) hS0.2.2 hdg
theorem x_nret {Qf : Int32 → XS → Prop} {v : Int32} {ty : FieldType} {mc ms : Nat} (cx : xx_X own cc nL (some ty) E p s m args meth c) (hR : xR E σ H) (hS0 : va_S (xA E) s.heap H locs) (hc : cells ≤ mc) (hs : slots ≤ ms) (hn : narrow ty (.int v) = .int v) (hw : Qf v σ) (hdg : decode cc pc = .ok (.ireturn, 1)) : W p l e R s m args below meth c H locs cells slots (MQ below (va_Qi Qf (fun σ' t => xW E σ' t) (xA E)) args s mc ms (xA E)) (F0 m pc ls [.int v]) := by
  obtain ⟨hx, hb, hml, hown, hts, hr, hlk, hK, hZ⟩ := cx
  refine W.widen hc hs ?_
  exact W.zret hx hb hr hn (fun t ht hW => ⟨⟨v, σ, rfl, hw, xret hR hK hZ hS0 ht hW⟩, hS0.F ht⟩) hS0.2.2 hdg
theorem x_lret {Qf : Int64 → XS → Prop} {v : Int64} {mc ms : Nat} (cx : xx_X own cc nL (some .long) E p s m args meth c) (hR : xR E σ H) (hS0 : va_S (xA E) s.heap H locs) (hc : cells ≤ mc) (hs : slots ≤ ms) (hw : Qf v σ) (hdg : decode cc pc = .ok (.lreturn, 1)) : W p l e R s m args below meth c H locs cells slots (MQ below (va_Ql Qf (fun σ' t => xW E σ' t) (xA E)) args s mc ms (xA E)) (F0 m pc ls [.long v]) := by
  obtain ⟨hx, hb, hml, hown, hts, hr, hlk, hK, hZ⟩ := cx
  refine W.widen hc hs ?_
  exact W.lret hx hb hr (fun t ht hW => ⟨⟨v, σ, rfl, hw, xret hR hK hZ hS0 ht hW⟩, hS0.F ht⟩) hS0.2.2 hdg
theorem x_aret {Qf : Option Nat → XS → Prop} {v : Option Nat} {ty : FieldType} {mc ms : Nat} (cx : xx_X own cc nL (some ty) E p s m args meth c) (hty : (∃ n, ty = .object n) ∨ ∃ t, ty = .array t) (hR : xR E σ H) (hS0 : va_S (xA E) s.heap H locs) (hc : cells ≤ mc) (hs : slots ≤ ms) (hw : Qf v σ) (hdg : decode cc pc = .ok (.areturn, 1)) : W p l e R s m args below meth c H locs cells slots (MQ below (va_Qe (xr E) Qf (fun σ' t => xW E σ' t) (xA E)) args s mc ms (xA E)) (F0 m pc ls [xv E v]) := by
  obtain ⟨hx, hb, hml, hown, hts, hr, hlk, hK, hZ⟩ := cx
  refine W.widen hc hs ?_
  exact W.aret hx hb hr hty (xv_rf E v) (fun t ht hW => ⟨⟨v, σ, rfl, hw, xret hR hK hZ hS0 ht hW⟩, hS0.F ht⟩) hS0.2.2 hdg
theorem x_vret {Qf : XS → Prop} {mc ms : Nat} (cx : xx_X own cc nL none E p s m args meth c) (hR : xR E σ H) (hS0 : va_S (xA E) s.heap H locs) (hc : cells ≤ mc) (hs : slots ≤ ms) (hw : Qf σ) (hdg : decode cc pc = .ok (.return_, 1)) : W p l e R s m args below meth c H locs cells slots (MQ below (va_Qv Qf (fun σ' t => xW E σ' t) (xA E)) args s mc ms (xA E)) (F0 m pc ls []) := by
  obtain ⟨hx, hb, hml, hown, hts, hr, hlk, hK, hZ⟩ := cx
  refine W.widen hc hs ?_
  exact W.vret hx hb hr (fun t ht hW => ⟨⟨σ, rfl, hw, xret hR hK hZ hS0 ht hW⟩, hS0.F ht⟩) hS0.2.2 hdg
theorem x_pre (cx : xx_X own cc nL ret E p s m args meth c) (hR : xR E σ H) (hS0 : va_S (xA E) s.heap H locs) (av : List Value) : ∀ U : State, U.heap = H → s.WarmedH U.vm → va_Pc av (fun U => xW E σ U) av.toArray U := by
  obtain ⟨hx, hb, hml, hown, hts, hr, hlk, hK, hZ⟩ := cx
  exact fun U hU hW => ⟨rfl, xret hR hK hZ hS0 hU hW⟩
theorem x_recv (cx : xx_X own cc nL ret E p s m args meth c) (hR : xR E σ H) {a ci : Nat} (hk : kd σ a = ci + 1) (hci : ci < 25) {q : vw_C} (hc : xx_cl[ci]? = some q) : ∃ cellB : Cell, H[xr E a]? = some cellB ∧ cellB.vm.isStatics = false ∧ s.vm.findClass q.1 = some cellB.cls := by
  obtain ⟨hx, hb, hml, hown, hts, hr, hlk, hK, hZ⟩ := cx
  obtain ⟨cell, q1, q2, q3, q4⟩ := (hR.2.2.2.2 a).1 ci hk hci
  exact ⟨cell, q1, by rw [q3]; rfl, by rw [q2]; exact (hK.1.1 ci _ hc).2.1⟩
theorem x_after {σ1 : XS} {t : State} {H1 : Heap} (ht : t.heap = H1) (h : xW E σ1 t) : xR E σ1 H1 := by rw [← ht]; exact h.1
end XR
abbrev xx_Mi (l : Launch) (y : MethodName) (ws : List Cond) (rm : Room) (E : xx_E) (av : List Value) (σ : XS) (Q : Int32 → XS → Prop) (mc ms : Nat) : Prop := Met l y ws rm (va_Pc av (fun U => xW E σ U)) (va_Qi Q (fun σ' t => xW E σ' t) (xA E)) mc ms (xA E)
abbrev xx_Ml (l : Launch) (y : MethodName) (ws : List Cond) (rm : Room) (E : xx_E) (av : List Value) (σ : XS) (Q : Int64 → XS → Prop) (mc ms : Nat) : Prop := Met l y ws rm (va_Pc av (fun U => xW E σ U)) (va_Ql Q (fun σ' t => xW E σ' t) (xA E)) mc ms (xA E)
abbrev xx_Mr (l : Launch) (y : MethodName) (ws : List Cond) (rm : Room) (E : xx_E) (av : List Value) (σ : XS) (Q : Option Nat → XS → Prop) (mc ms : Nat) : Prop := Met l y ws rm (va_Pc av (fun U => xW E σ U)) (va_Qe (xr E) Q (fun σ' t => xW E σ' t) (xA E)) mc ms (xA E)
abbrev xx_Mv (l : Launch) (y : MethodName) (ws : List Cond) (rm : Room) (E : xx_E) (av : List Value) (σ : XS) (Q : XS → Prop) (mc ms : Nat) : Prop := Met l y ws rm (va_Pc av (fun U => xW E σ U)) (va_Qv Q (fun σ' t => xW E σ' t) (xA E)) mc ms (xA E)
