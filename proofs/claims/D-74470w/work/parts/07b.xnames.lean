/-! StruckCounts -/
set_option maxRecDepth 100000
def RX0 : String := "StruckCounts"
def TX0 : u_T := fun k => match k with
  | 0 => ("StruckCounts", "text", "[B", true)
  | 1 => ("StruckCounts", "typed", "I", false)
  | 2 => ("StruckCounts", "faultKind", "I", false)
  | 3 => ("StruckCounts", "faultPlace", "I", false)
  | 4 => ("StruckCounts", "undos", "I", false)
  | 5 => ("StruckCounts", "suit", "LStruckCounts$Suit;", false)
  | 6 => ("StruckCounts", "now", "LStruckCounts$State;", true)
  | 7 => ("StruckCounts", "undone", "[LStruckCounts$State;", true)
  | 8 => ("StruckCounts", "kept", "[LStruckCounts$State;", true)
  | 9 => ("StruckCounts", "isKept", "[Z", true)
  | 10 => ("StruckCounts", "askedTop", "I", false)
  | 11 => ("StruckCounts", "askedBottom", "I", false)
  | 12 => ("StruckCounts", "injury", "[I", true)
  | 13 => ("StruckCounts", "lackFacts", "I", false)
  | 14 => ("StruckCounts", "lackSo", "I", false)
  | 15 => ("StruckCounts", "won", "[Z", true)
  | 16 => ("StruckCounts", "memo", "[I", true)
  | 17 => ("StruckCounts", "judgedAt", "[I", true)
  | 18 => ("StruckCounts", "paid", "[I", true)
  | 19 => ("StruckCounts", "outcomes", "Ljava/util/LinkedHashMap;", true)
  | 20 => ("StruckCounts", "inOrder", "[LStruckCounts$Outcome;", true)
  | 21 => ("StruckCounts", "proofFacts", "[I", true)
  | 22 => ("StruckCounts", "proofSo", "[I", true)
  | _ => ("StruckCounts", "proofMany", "I", false)
def tyX0 : Nat → FieldType := fun k => match k with
  | 0 => .array .byte
  | 1 => .int
  | 2 => .int
  | 3 => .int
  | 4 => .int
  | 5 => .object "StruckCounts$Suit"
  | 6 => .object "StruckCounts$State"
  | 7 => .array (.object "StruckCounts$State")
  | 8 => .array (.object "StruckCounts$State")
  | 9 => .array .boolean
  | 10 => .int
  | 11 => .int
  | 12 => .array .int
  | 13 => .int
  | 14 => .int
  | 15 => .array .boolean
  | 16 => .array .int
  | 17 => .array .int
  | 18 => .array .int
  | 19 => .object "java/util/LinkedHashMap"
  | 20 => .array (.object "StruckCounts$Outcome")
  | 21 => .array .int
  | 22 => .array .int
  | _ => .int
abbrev wsX00 : List Cond := u_ws RX0 TX0 24
set_option maxRecDepth 100000 in
theorem nmX0 : ∀ a, a < 24 → ∀ b, b < 24 → a ≠ b → (TX0 a).2.1 ≠ (TX0 b).2.1 := by decide +kernel
set_option maxRecDepth 100000 in
theorem tyX0_ok : ∀ k, k < 24 → parseFieldDescriptor (TX0 k).2.2.1 = some (tyX0 k) := by decide +kernel
abbrev cX0_init : ByteArray := prog_1_method_3_code
def yX0_init : MethodName := ⟨RX0, "<init>", "()V"⟩
def dkwX0_init_9 : List UInt8 := [181, 0, 83, 42, 17, 25, 161, 188, 10, 181, 0, 87, 42, 17, 25, 161, 188, 10, 181, 0, 90, 177]
abbrev dktX0_init_9 : List UInt8 := dkwX0_init_9 ++ []
def dkwX0_init_8 : List UInt8 := [181, 0, 69, 42, 187, 0, 72, 89, 17, 4, 0, 183, 0, 74, 181, 0, 77, 42, 17, 1, 0, 189, 0, 81]
abbrev dktX0_init_8 : List UInt8 := dkwX0_init_8 ++ dktX0_init_9
def dkwX0_init_7 : List UInt8 := [17, 25, 161, 188, 10, 181, 0, 63, 42, 17, 25, 161, 188, 10, 181, 0, 66, 42, 16, 8, 188, 10]
abbrev dktX0_init_7 : List UInt8 := dkwX0_init_7 ++ dktX0_init_8
def dkwX0_init_6 : List UInt8 := [182, 0, 52, 87, 42, 16, 8, 188, 10, 181, 0, 56, 42, 17, 1, 0, 188, 4, 181, 0, 60, 42]
abbrev dktX0_init_6 : List UInt8 := dkwX0_init_6 ++ dktX0_init_7
def dkwX0_init_5 : List UInt8 := [187, 0, 28, 89, 183, 0, 30, 83, 132, 1, 1, 167, 255, 235, 42, 180, 0, 31, 42, 180, 0, 24]
abbrev dktX0_init_5 : List UInt8 := dkwX0_init_5 ++ dktX0_init_6
def dkwX0_init_4 : List UInt8 := [89, 183, 0, 30, 83, 132, 1, 1, 167, 255, 234, 3, 60, 27, 5, 162, 0, 22, 42, 180, 0, 39, 27]
abbrev dktX0_init_4 : List UInt8 := dkwX0_init_4 ++ dktX0_init_5
def dkwX0_init_3 : List UInt8 := [181, 0, 46, 42, 2, 181, 0, 49, 3, 60, 27, 16, 16, 162, 0, 22, 42, 180, 0, 35, 27, 187, 0, 28]
abbrev dktX0_init_3 : List UInt8 := dkwX0_init_3 ++ dktX0_init_4
def dkwX0_init_2 : List UInt8 := [189, 0, 28, 181, 0, 35, 42, 5, 189, 0, 28, 181, 0, 39, 42, 5, 188, 4, 181, 0, 42, 42, 2]
abbrev dktX0_init_2 : List UInt8 := dkwX0_init_2 ++ dktX0_init_3
def dkwX0_init_1 : List UInt8 := [183, 0, 19, 182, 0, 20, 181, 0, 24, 42, 187, 0, 28, 89, 183, 0, 30, 181, 0, 31, 42, 16, 16]
abbrev dktX0_init_1 : List UInt8 := dkwX0_init_1 ++ dktX0_init_2
def dkwX0_init_0 : List UInt8 := [42, 183, 0, 1, 42, 17, 1, 224, 188, 8, 181, 0, 9, 42, 2, 181, 0, 13, 42, 187, 0, 17, 89]
abbrev dktX0_init_0 : List UInt8 := dkwX0_init_0 ++ dktX0_init_1
theorem dksX0_init_0 : cX0_init.data.toList.drop 0 = dktX0_init_0 := by decide +kernel
theorem dksX0_init_1 : cX0_init.data.toList.drop 23 = dktX0_init_1 := dk_seg dksX0_init_0 23 rfl rfl
theorem dksX0_init_2 : cX0_init.data.toList.drop 46 = dktX0_init_2 := dk_seg dksX0_init_1 23 rfl rfl
theorem dksX0_init_3 : cX0_init.data.toList.drop 69 = dktX0_init_3 := dk_seg dksX0_init_2 23 rfl rfl
theorem dksX0_init_4 : cX0_init.data.toList.drop 93 = dktX0_init_4 := dk_seg dksX0_init_3 24 rfl rfl
theorem dksX0_init_5 : cX0_init.data.toList.drop 116 = dktX0_init_5 := dk_seg dksX0_init_4 23 rfl rfl
theorem dksX0_init_6 : cX0_init.data.toList.drop 138 = dktX0_init_6 := dk_seg dksX0_init_5 22 rfl rfl
theorem dksX0_init_7 : cX0_init.data.toList.drop 160 = dktX0_init_7 := dk_seg dksX0_init_6 22 rfl rfl
theorem dksX0_init_8 : cX0_init.data.toList.drop 182 = dktX0_init_8 := dk_seg dksX0_init_7 22 rfl rfl
theorem dksX0_init_9 : cX0_init.data.toList.drop 206 = dktX0_init_9 := dk_seg dksX0_init_8 24 rfl rfl
theorem dX0_init_0 : decode cX0_init 0 = .ok (.aload_n 0, 1) := dk_42 (dk_at dksX0_init_0 0 rfl rfl)
theorem dX0_init_1 : decode cX0_init 1 = .ok (.invokespecial 1, 3) := dk_183 0 1 (dk_at dksX0_init_0 1 rfl rfl)
theorem dX0_init_4 : decode cX0_init 4 = .ok (.aload_n 0, 1) := dk_42 (dk_at dksX0_init_0 4 rfl rfl)
theorem dX0_init_5 : decode cX0_init 5 = .ok (.sipush 480, 3) := dk_17 1 224 (dk_at dksX0_init_0 5 rfl rfl)
theorem dX0_init_8 : decode cX0_init 8 = .ok (.newarray .byte, 2) := dk_188_8 (dk_at dksX0_init_0 8 rfl rfl)
theorem dX0_init_10 : decode cX0_init 10 = .ok (.putfield 9, 3) := dk_181 0 9 (dk_at dksX0_init_0 10 rfl rfl)
theorem dX0_init_13 : decode cX0_init 13 = .ok (.aload_n 0, 1) := dk_42 (dk_at dksX0_init_0 13 rfl rfl)
theorem dX0_init_14 : decode cX0_init 14 = .ok (.iconst (-1), 1) := dk_2 (dk_at dksX0_init_0 14 rfl rfl)
theorem dX0_init_15 : decode cX0_init 15 = .ok (.putfield 13, 3) := dk_181 0 13 (dk_at dksX0_init_0 15 rfl rfl)
theorem dX0_init_18 : decode cX0_init 18 = .ok (.aload_n 0, 1) := dk_42 (dk_at dksX0_init_0 18 rfl rfl)
theorem dX0_init_19 : decode cX0_init 19 = .ok (.new 17, 3) := dk_187 0 17 (dk_at dksX0_init_0 19 rfl rfl)
theorem dX0_init_22 : decode cX0_init 22 = .ok (.dup, 1) := dk_89 (dk_at dksX0_init_0 22 rfl rfl)
theorem dX0_init_23 : decode cX0_init 23 = .ok (.invokespecial 19, 3) := dk_183 0 19 (dk_at dksX0_init_1 0 rfl rfl)
theorem dX0_init_26 : decode cX0_init 26 = .ok (.invokevirtual 20, 3) := dk_182 0 20 (dk_at dksX0_init_1 3 rfl rfl)
theorem dX0_init_29 : decode cX0_init 29 = .ok (.putfield 24, 3) := dk_181 0 24 (dk_at dksX0_init_1 6 rfl rfl)
theorem dX0_init_32 : decode cX0_init 32 = .ok (.aload_n 0, 1) := dk_42 (dk_at dksX0_init_1 9 rfl rfl)
theorem dX0_init_33 : decode cX0_init 33 = .ok (.new 28, 3) := dk_187 0 28 (dk_at dksX0_init_1 10 rfl rfl)
theorem dX0_init_36 : decode cX0_init 36 = .ok (.dup, 1) := dk_89 (dk_at dksX0_init_1 13 rfl rfl)
theorem dX0_init_37 : decode cX0_init 37 = .ok (.invokespecial 30, 3) := dk_183 0 30 (dk_at dksX0_init_1 14 rfl rfl)
theorem dX0_init_40 : decode cX0_init 40 = .ok (.putfield 31, 3) := dk_181 0 31 (dk_at dksX0_init_1 17 rfl rfl)
theorem dX0_init_43 : decode cX0_init 43 = .ok (.aload_n 0, 1) := dk_42 (dk_at dksX0_init_1 20 rfl rfl)
theorem dX0_init_44 : decode cX0_init 44 = .ok (.bipush 16, 2) := dk_16 16 (dk_at dksX0_init_1 21 rfl rfl)
theorem dX0_init_46 : decode cX0_init 46 = .ok (.anewarray 28, 3) := dk_189 0 28 (dk_at dksX0_init_2 0 rfl rfl)
theorem dX0_init_49 : decode cX0_init 49 = .ok (.putfield 35, 3) := dk_181 0 35 (dk_at dksX0_init_2 3 rfl rfl)
theorem dX0_init_52 : decode cX0_init 52 = .ok (.aload_n 0, 1) := dk_42 (dk_at dksX0_init_2 6 rfl rfl)
theorem dX0_init_53 : decode cX0_init 53 = .ok (.iconst 2, 1) := dk_5 (dk_at dksX0_init_2 7 rfl rfl)
theorem dX0_init_54 : decode cX0_init 54 = .ok (.anewarray 28, 3) := dk_189 0 28 (dk_at dksX0_init_2 8 rfl rfl)
theorem dX0_init_57 : decode cX0_init 57 = .ok (.putfield 39, 3) := dk_181 0 39 (dk_at dksX0_init_2 11 rfl rfl)
theorem dX0_init_60 : decode cX0_init 60 = .ok (.aload_n 0, 1) := dk_42 (dk_at dksX0_init_2 14 rfl rfl)
theorem dX0_init_61 : decode cX0_init 61 = .ok (.iconst 2, 1) := dk_5 (dk_at dksX0_init_2 15 rfl rfl)
theorem dX0_init_62 : decode cX0_init 62 = .ok (.newarray .boolean, 2) := dk_188_4 (dk_at dksX0_init_2 16 rfl rfl)
theorem dX0_init_64 : decode cX0_init 64 = .ok (.putfield 42, 3) := dk_181 0 42 (dk_at dksX0_init_2 18 rfl rfl)
theorem dX0_init_67 : decode cX0_init 67 = .ok (.aload_n 0, 1) := dk_42 (dk_at dksX0_init_2 21 rfl rfl)
theorem dX0_init_68 : decode cX0_init 68 = .ok (.iconst (-1), 1) := dk_2 (dk_at dksX0_init_2 22 rfl rfl)
theorem dX0_init_69 : decode cX0_init 69 = .ok (.putfield 46, 3) := dk_181 0 46 (dk_at dksX0_init_3 0 rfl rfl)
theorem dX0_init_72 : decode cX0_init 72 = .ok (.aload_n 0, 1) := dk_42 (dk_at dksX0_init_3 3 rfl rfl)
theorem dX0_init_73 : decode cX0_init 73 = .ok (.iconst (-1), 1) := dk_2 (dk_at dksX0_init_3 4 rfl rfl)
theorem dX0_init_74 : decode cX0_init 74 = .ok (.putfield 49, 3) := dk_181 0 49 (dk_at dksX0_init_3 5 rfl rfl)
theorem dX0_init_77 : decode cX0_init 77 = .ok (.iconst 0, 1) := dk_3 (dk_at dksX0_init_3 8 rfl rfl)
theorem dX0_init_78 : decode cX0_init 78 = .ok (.istore_n 1, 1) := dk_60 (dk_at dksX0_init_3 9 rfl rfl)
theorem dX0_init_79 : decode cX0_init 79 = .ok (.iload_n 1, 1) := dk_27 (dk_at dksX0_init_3 10 rfl rfl)
theorem dX0_init_80 : decode cX0_init 80 = .ok (.bipush 16, 2) := dk_16 16 (dk_at dksX0_init_3 11 rfl rfl)
theorem dX0_init_82 : decode cX0_init 82 = .ok (.if_icmp .ge 22, 3) := dk_162 0 22 (dk_at dksX0_init_3 13 rfl rfl)
theorem dX0_init_85 : decode cX0_init 85 = .ok (.aload_n 0, 1) := dk_42 (dk_at dksX0_init_3 16 rfl rfl)
theorem dX0_init_86 : decode cX0_init 86 = .ok (.getfield 35, 3) := dk_180 0 35 (dk_at dksX0_init_3 17 rfl rfl)
theorem dX0_init_89 : decode cX0_init 89 = .ok (.iload_n 1, 1) := dk_27 (dk_at dksX0_init_3 20 rfl rfl)
theorem dX0_init_90 : decode cX0_init 90 = .ok (.new 28, 3) := dk_187 0 28 (dk_at dksX0_init_3 21 rfl rfl)
theorem dX0_init_93 : decode cX0_init 93 = .ok (.dup, 1) := dk_89 (dk_at dksX0_init_4 0 rfl rfl)
theorem dX0_init_94 : decode cX0_init 94 = .ok (.invokespecial 30, 3) := dk_183 0 30 (dk_at dksX0_init_4 1 rfl rfl)
theorem dX0_init_97 : decode cX0_init 97 = .ok (.aastore, 1) := dk_83 (dk_at dksX0_init_4 4 rfl rfl)
theorem dX0_init_98 : decode cX0_init 98 = .ok (.iinc 1 1, 3) := dk_132 1 1 (dk_at dksX0_init_4 5 rfl rfl)
theorem dX0_init_101 : decode cX0_init 101 = .ok (.goto (-22), 3) := dk_167 255 234 (dk_at dksX0_init_4 8 rfl rfl)
theorem dX0_init_104 : decode cX0_init 104 = .ok (.iconst 0, 1) := dk_3 (dk_at dksX0_init_4 11 rfl rfl)
theorem dX0_init_105 : decode cX0_init 105 = .ok (.istore_n 1, 1) := dk_60 (dk_at dksX0_init_4 12 rfl rfl)
theorem dX0_init_106 : decode cX0_init 106 = .ok (.iload_n 1, 1) := dk_27 (dk_at dksX0_init_4 13 rfl rfl)
theorem dX0_init_107 : decode cX0_init 107 = .ok (.iconst 2, 1) := dk_5 (dk_at dksX0_init_4 14 rfl rfl)
theorem dX0_init_108 : decode cX0_init 108 = .ok (.if_icmp .ge 22, 3) := dk_162 0 22 (dk_at dksX0_init_4 15 rfl rfl)
theorem dX0_init_111 : decode cX0_init 111 = .ok (.aload_n 0, 1) := dk_42 (dk_at dksX0_init_4 18 rfl rfl)
theorem dX0_init_112 : decode cX0_init 112 = .ok (.getfield 39, 3) := dk_180 0 39 (dk_at dksX0_init_4 19 rfl rfl)
theorem dX0_init_115 : decode cX0_init 115 = .ok (.iload_n 1, 1) := dk_27 (dk_at dksX0_init_4 22 rfl rfl)
theorem dX0_init_116 : decode cX0_init 116 = .ok (.new 28, 3) := dk_187 0 28 (dk_at dksX0_init_5 0 rfl rfl)
theorem dX0_init_119 : decode cX0_init 119 = .ok (.dup, 1) := dk_89 (dk_at dksX0_init_5 3 rfl rfl)
theorem dX0_init_120 : decode cX0_init 120 = .ok (.invokespecial 30, 3) := dk_183 0 30 (dk_at dksX0_init_5 4 rfl rfl)
theorem dX0_init_123 : decode cX0_init 123 = .ok (.aastore, 1) := dk_83 (dk_at dksX0_init_5 7 rfl rfl)
theorem dX0_init_124 : decode cX0_init 124 = .ok (.iinc 1 1, 3) := dk_132 1 1 (dk_at dksX0_init_5 8 rfl rfl)
theorem dX0_init_127 : decode cX0_init 127 = .ok (.goto (-21), 3) := dk_167 255 235 (dk_at dksX0_init_5 11 rfl rfl)
theorem dX0_init_130 : decode cX0_init 130 = .ok (.aload_n 0, 1) := dk_42 (dk_at dksX0_init_5 14 rfl rfl)
theorem dX0_init_131 : decode cX0_init 131 = .ok (.getfield 31, 3) := dk_180 0 31 (dk_at dksX0_init_5 15 rfl rfl)
theorem dX0_init_134 : decode cX0_init 134 = .ok (.aload_n 0, 1) := dk_42 (dk_at dksX0_init_5 18 rfl rfl)
theorem dX0_init_135 : decode cX0_init 135 = .ok (.getfield 24, 3) := dk_180 0 24 (dk_at dksX0_init_5 19 rfl rfl)
theorem dX0_init_138 : decode cX0_init 138 = .ok (.invokevirtual 52, 3) := dk_182 0 52 (dk_at dksX0_init_6 0 rfl rfl)
theorem dX0_init_141 : decode cX0_init 141 = .ok (.pop, 1) := dk_87 (dk_at dksX0_init_6 3 rfl rfl)
theorem dX0_init_142 : decode cX0_init 142 = .ok (.aload_n 0, 1) := dk_42 (dk_at dksX0_init_6 4 rfl rfl)
theorem dX0_init_143 : decode cX0_init 143 = .ok (.bipush 8, 2) := dk_16 8 (dk_at dksX0_init_6 5 rfl rfl)
theorem dX0_init_145 : decode cX0_init 145 = .ok (.newarray .int, 2) := dk_188_10 (dk_at dksX0_init_6 7 rfl rfl)
theorem dX0_init_147 : decode cX0_init 147 = .ok (.putfield 56, 3) := dk_181 0 56 (dk_at dksX0_init_6 9 rfl rfl)
theorem dX0_init_150 : decode cX0_init 150 = .ok (.aload_n 0, 1) := dk_42 (dk_at dksX0_init_6 12 rfl rfl)
theorem dX0_init_151 : decode cX0_init 151 = .ok (.sipush 256, 3) := dk_17 1 0 (dk_at dksX0_init_6 13 rfl rfl)
theorem dX0_init_154 : decode cX0_init 154 = .ok (.newarray .boolean, 2) := dk_188_4 (dk_at dksX0_init_6 16 rfl rfl)
theorem dX0_init_156 : decode cX0_init 156 = .ok (.putfield 60, 3) := dk_181 0 60 (dk_at dksX0_init_6 18 rfl rfl)
theorem dX0_init_159 : decode cX0_init 159 = .ok (.aload_n 0, 1) := dk_42 (dk_at dksX0_init_6 21 rfl rfl)
theorem dX0_init_160 : decode cX0_init 160 = .ok (.sipush 6561, 3) := dk_17 25 161 (dk_at dksX0_init_7 0 rfl rfl)
theorem dX0_init_163 : decode cX0_init 163 = .ok (.newarray .int, 2) := dk_188_10 (dk_at dksX0_init_7 3 rfl rfl)
theorem dX0_init_165 : decode cX0_init 165 = .ok (.putfield 63, 3) := dk_181 0 63 (dk_at dksX0_init_7 5 rfl rfl)
theorem dX0_init_168 : decode cX0_init 168 = .ok (.aload_n 0, 1) := dk_42 (dk_at dksX0_init_7 8 rfl rfl)
theorem dX0_init_169 : decode cX0_init 169 = .ok (.sipush 6561, 3) := dk_17 25 161 (dk_at dksX0_init_7 9 rfl rfl)
theorem dX0_init_172 : decode cX0_init 172 = .ok (.newarray .int, 2) := dk_188_10 (dk_at dksX0_init_7 12 rfl rfl)
theorem dX0_init_174 : decode cX0_init 174 = .ok (.putfield 66, 3) := dk_181 0 66 (dk_at dksX0_init_7 14 rfl rfl)
theorem dX0_init_177 : decode cX0_init 177 = .ok (.aload_n 0, 1) := dk_42 (dk_at dksX0_init_7 17 rfl rfl)
theorem dX0_init_178 : decode cX0_init 178 = .ok (.bipush 8, 2) := dk_16 8 (dk_at dksX0_init_7 18 rfl rfl)
theorem dX0_init_180 : decode cX0_init 180 = .ok (.newarray .int, 2) := dk_188_10 (dk_at dksX0_init_7 20 rfl rfl)
theorem dX0_init_182 : decode cX0_init 182 = .ok (.putfield 69, 3) := dk_181 0 69 (dk_at dksX0_init_8 0 rfl rfl)
theorem dX0_init_185 : decode cX0_init 185 = .ok (.aload_n 0, 1) := dk_42 (dk_at dksX0_init_8 3 rfl rfl)
theorem dX0_init_186 : decode cX0_init 186 = .ok (.new 72, 3) := dk_187 0 72 (dk_at dksX0_init_8 4 rfl rfl)
theorem dX0_init_189 : decode cX0_init 189 = .ok (.dup, 1) := dk_89 (dk_at dksX0_init_8 7 rfl rfl)
theorem dX0_init_190 : decode cX0_init 190 = .ok (.sipush 1024, 3) := dk_17 4 0 (dk_at dksX0_init_8 8 rfl rfl)
theorem dX0_init_193 : decode cX0_init 193 = .ok (.invokespecial 74, 3) := dk_183 0 74 (dk_at dksX0_init_8 11 rfl rfl)
theorem dX0_init_196 : decode cX0_init 196 = .ok (.putfield 77, 3) := dk_181 0 77 (dk_at dksX0_init_8 14 rfl rfl)
theorem dX0_init_199 : decode cX0_init 199 = .ok (.aload_n 0, 1) := dk_42 (dk_at dksX0_init_8 17 rfl rfl)
theorem dX0_init_200 : decode cX0_init 200 = .ok (.sipush 256, 3) := dk_17 1 0 (dk_at dksX0_init_8 18 rfl rfl)
theorem dX0_init_203 : decode cX0_init 203 = .ok (.anewarray 81, 3) := dk_189 0 81 (dk_at dksX0_init_8 21 rfl rfl)
theorem dX0_init_206 : decode cX0_init 206 = .ok (.putfield 83, 3) := dk_181 0 83 (dk_at dksX0_init_9 0 rfl rfl)
theorem dX0_init_209 : decode cX0_init 209 = .ok (.aload_n 0, 1) := dk_42 (dk_at dksX0_init_9 3 rfl rfl)
theorem dX0_init_210 : decode cX0_init 210 = .ok (.sipush 6561, 3) := dk_17 25 161 (dk_at dksX0_init_9 4 rfl rfl)
theorem dX0_init_213 : decode cX0_init 213 = .ok (.newarray .int, 2) := dk_188_10 (dk_at dksX0_init_9 7 rfl rfl)
theorem dX0_init_215 : decode cX0_init 215 = .ok (.putfield 87, 3) := dk_181 0 87 (dk_at dksX0_init_9 9 rfl rfl)
theorem dX0_init_218 : decode cX0_init 218 = .ok (.aload_n 0, 1) := dk_42 (dk_at dksX0_init_9 12 rfl rfl)
theorem dX0_init_219 : decode cX0_init 219 = .ok (.sipush 6561, 3) := dk_17 25 161 (dk_at dksX0_init_9 13 rfl rfl)
theorem dX0_init_222 : decode cX0_init 222 = .ok (.newarray .int, 2) := dk_188_10 (dk_at dksX0_init_9 16 rfl rfl)
theorem dX0_init_224 : decode cX0_init 224 = .ok (.putfield 90, 3) := dk_181 0 90 (dk_at dksX0_init_9 18 rfl rfl)
theorem dX0_init_227 : decode cX0_init 227 = .ok (.return_, 1) := dk_177 (dk_at dksX0_init_9 21 rfl rfl)
abbrev cX0_has : ByteArray := prog_1_method_2_code
def yX0_has : MethodName := ⟨RX0, "has", "(II)Z"⟩
def dkwX0_has_0 : List UInt8 := [26, 27, 122, 4, 126, 4, 160, 0, 7, 4, 167, 0, 4, 3, 172]
abbrev dktX0_has_0 : List UInt8 := dkwX0_has_0 ++ []
theorem dksX0_has_0 : cX0_has.data.toList.drop 0 = dktX0_has_0 := by decide +kernel
theorem dX0_has_0 : decode cX0_has 0 = .ok (.iload_n 0, 1) := dk_26 (dk_at dksX0_has_0 0 rfl rfl)
theorem dX0_has_1 : decode cX0_has 1 = .ok (.iload_n 1, 1) := dk_27 (dk_at dksX0_has_0 1 rfl rfl)
theorem dX0_has_2 : decode cX0_has 2 = .ok (.ishr, 1) := dk_122 (dk_at dksX0_has_0 2 rfl rfl)
theorem dX0_has_3 : decode cX0_has 3 = .ok (.iconst 1, 1) := dk_4 (dk_at dksX0_has_0 3 rfl rfl)
theorem dX0_has_4 : decode cX0_has 4 = .ok (.iand, 1) := dk_126 (dk_at dksX0_has_0 4 rfl rfl)
theorem dX0_has_5 : decode cX0_has 5 = .ok (.iconst 1, 1) := dk_4 (dk_at dksX0_has_0 5 rfl rfl)
theorem dX0_has_6 : decode cX0_has 6 = .ok (.if_icmp .ne 7, 3) := dk_160 0 7 (dk_at dksX0_has_0 6 rfl rfl)
theorem dX0_has_9 : decode cX0_has 9 = .ok (.iconst 1, 1) := dk_4 (dk_at dksX0_has_0 9 rfl rfl)
theorem dX0_has_10 : decode cX0_has 10 = .ok (.goto 4, 3) := dk_167 0 4 (dk_at dksX0_has_0 10 rfl rfl)
theorem dX0_has_13 : decode cX0_has 13 = .ok (.iconst 0, 1) := dk_3 (dk_at dksX0_has_0 13 rfl rfl)
theorem dX0_has_14 : decode cX0_has 14 = .ok (.ireturn, 1) := dk_172 (dk_at dksX0_has_0 14 rfl rfl)
abbrev cX0_sign : ByteArray := prog_1_method_4_code
def yX0_sign : MethodName := ⟨RX0, "sign", "(I)I"⟩
def dkwX0_sign_2 : List UInt8 := [132, 2, 248, 167, 255, 226, 42, 180, 0, 93, 172]
abbrev dktX0_sign_2 : List UInt8 := dkwX0_sign_2 ++ []
def dkwX0_sign_1 : List UInt8 := [180, 0, 9, 42, 180, 0, 93, 27, 28, 122, 145, 84, 42, 89, 180, 0, 93, 4, 96, 181, 0, 93]
abbrev dktX0_sign_1 : List UInt8 := dkwX0_sign_1 ++ dktX0_sign_2
def dkwX0_sign_0 : List UInt8 := [42, 180, 0, 93, 7, 96, 17, 1, 224, 164, 0, 5, 2, 172, 16, 24, 61, 28, 155, 0, 32, 42]
abbrev dktX0_sign_0 : List UInt8 := dkwX0_sign_0 ++ dktX0_sign_1
theorem dksX0_sign_0 : cX0_sign.data.toList.drop 0 = dktX0_sign_0 := by decide +kernel
theorem dksX0_sign_1 : cX0_sign.data.toList.drop 22 = dktX0_sign_1 := dk_seg dksX0_sign_0 22 rfl rfl
theorem dksX0_sign_2 : cX0_sign.data.toList.drop 44 = dktX0_sign_2 := dk_seg dksX0_sign_1 22 rfl rfl
theorem dX0_sign_0 : decode cX0_sign 0 = .ok (.aload_n 0, 1) := dk_42 (dk_at dksX0_sign_0 0 rfl rfl)
theorem dX0_sign_1 : decode cX0_sign 1 = .ok (.getfield 93, 3) := dk_180 0 93 (dk_at dksX0_sign_0 1 rfl rfl)
theorem dX0_sign_4 : decode cX0_sign 4 = .ok (.iconst 4, 1) := dk_7 (dk_at dksX0_sign_0 4 rfl rfl)
theorem dX0_sign_5 : decode cX0_sign 5 = .ok (.iadd, 1) := dk_96 (dk_at dksX0_sign_0 5 rfl rfl)
theorem dX0_sign_6 : decode cX0_sign 6 = .ok (.sipush 480, 3) := dk_17 1 224 (dk_at dksX0_sign_0 6 rfl rfl)
theorem dX0_sign_9 : decode cX0_sign 9 = .ok (.if_icmp .le 5, 3) := dk_164 0 5 (dk_at dksX0_sign_0 9 rfl rfl)
theorem dX0_sign_12 : decode cX0_sign 12 = .ok (.iconst (-1), 1) := dk_2 (dk_at dksX0_sign_0 12 rfl rfl)
theorem dX0_sign_13 : decode cX0_sign 13 = .ok (.ireturn, 1) := dk_172 (dk_at dksX0_sign_0 13 rfl rfl)
theorem dX0_sign_14 : decode cX0_sign 14 = .ok (.bipush 24, 2) := dk_16 24 (dk_at dksX0_sign_0 14 rfl rfl)
theorem dX0_sign_16 : decode cX0_sign 16 = .ok (.istore_n 2, 1) := dk_61 (dk_at dksX0_sign_0 16 rfl rfl)
theorem dX0_sign_17 : decode cX0_sign 17 = .ok (.iload_n 2, 1) := dk_28 (dk_at dksX0_sign_0 17 rfl rfl)
theorem dX0_sign_18 : decode cX0_sign 18 = .ok (.ifCond .lt 32, 3) := dk_155 0 32 (dk_at dksX0_sign_0 18 rfl rfl)
theorem dX0_sign_21 : decode cX0_sign 21 = .ok (.aload_n 0, 1) := dk_42 (dk_at dksX0_sign_0 21 rfl rfl)
theorem dX0_sign_22 : decode cX0_sign 22 = .ok (.getfield 9, 3) := dk_180 0 9 (dk_at dksX0_sign_1 0 rfl rfl)
theorem dX0_sign_25 : decode cX0_sign 25 = .ok (.aload_n 0, 1) := dk_42 (dk_at dksX0_sign_1 3 rfl rfl)
theorem dX0_sign_26 : decode cX0_sign 26 = .ok (.getfield 93, 3) := dk_180 0 93 (dk_at dksX0_sign_1 4 rfl rfl)
theorem dX0_sign_29 : decode cX0_sign 29 = .ok (.iload_n 1, 1) := dk_27 (dk_at dksX0_sign_1 7 rfl rfl)
theorem dX0_sign_30 : decode cX0_sign 30 = .ok (.iload_n 2, 1) := dk_28 (dk_at dksX0_sign_1 8 rfl rfl)
theorem dX0_sign_31 : decode cX0_sign 31 = .ok (.ishr, 1) := dk_122 (dk_at dksX0_sign_1 9 rfl rfl)
theorem dX0_sign_32 : decode cX0_sign 32 = .ok (.i2b, 1) := dk_145 (dk_at dksX0_sign_1 10 rfl rfl)
theorem dX0_sign_33 : decode cX0_sign 33 = .ok (.bastore, 1) := dk_84 (dk_at dksX0_sign_1 11 rfl rfl)
theorem dX0_sign_34 : decode cX0_sign 34 = .ok (.aload_n 0, 1) := dk_42 (dk_at dksX0_sign_1 12 rfl rfl)
theorem dX0_sign_35 : decode cX0_sign 35 = .ok (.dup, 1) := dk_89 (dk_at dksX0_sign_1 13 rfl rfl)
theorem dX0_sign_36 : decode cX0_sign 36 = .ok (.getfield 93, 3) := dk_180 0 93 (dk_at dksX0_sign_1 14 rfl rfl)
theorem dX0_sign_39 : decode cX0_sign 39 = .ok (.iconst 1, 1) := dk_4 (dk_at dksX0_sign_1 17 rfl rfl)
theorem dX0_sign_40 : decode cX0_sign 40 = .ok (.iadd, 1) := dk_96 (dk_at dksX0_sign_1 18 rfl rfl)
theorem dX0_sign_41 : decode cX0_sign 41 = .ok (.putfield 93, 3) := dk_181 0 93 (dk_at dksX0_sign_1 19 rfl rfl)
theorem dX0_sign_44 : decode cX0_sign 44 = .ok (.iinc 2 (-8), 3) := dk_132 2 248 (dk_at dksX0_sign_2 0 rfl rfl)
theorem dX0_sign_47 : decode cX0_sign 47 = .ok (.goto (-30), 3) := dk_167 255 226 (dk_at dksX0_sign_2 3 rfl rfl)
theorem dX0_sign_50 : decode cX0_sign 50 = .ok (.aload_n 0, 1) := dk_42 (dk_at dksX0_sign_2 6 rfl rfl)
theorem dX0_sign_51 : decode cX0_sign 51 = .ok (.getfield 93, 3) := dk_180 0 93 (dk_at dksX0_sign_2 7 rfl rfl)
theorem dX0_sign_54 : decode cX0_sign 54 = .ok (.ireturn, 1) := dk_172 (dk_at dksX0_sign_2 10 rfl rfl)
abbrev cX0_end : ByteArray := prog_1_method_5_code
def yX0_end : MethodName := ⟨RX0, "end", "(I)Z"⟩
def dkwX0_end_0 : List UInt8 := [27, 3, 42, 180, 0, 93, 184, 0, 96, 154, 0, 5, 3, 172, 42, 27, 181, 0, 93, 4, 172]
abbrev dktX0_end_0 : List UInt8 := dkwX0_end_0 ++ []
theorem dksX0_end_0 : cX0_end.data.toList.drop 0 = dktX0_end_0 := by decide +kernel
theorem dX0_end_0 : decode cX0_end 0 = .ok (.iload_n 1, 1) := dk_27 (dk_at dksX0_end_0 0 rfl rfl)
theorem dX0_end_1 : decode cX0_end 1 = .ok (.iconst 0, 1) := dk_3 (dk_at dksX0_end_0 1 rfl rfl)
theorem dX0_end_2 : decode cX0_end 2 = .ok (.aload_n 0, 1) := dk_42 (dk_at dksX0_end_0 2 rfl rfl)
theorem dX0_end_3 : decode cX0_end 3 = .ok (.getfield 93, 3) := dk_180 0 93 (dk_at dksX0_end_0 3 rfl rfl)
theorem dX0_end_6 : decode cX0_end 6 = .ok (.invokestatic 96, 3) := dk_184 0 96 (dk_at dksX0_end_0 6 rfl rfl)
theorem dX0_end_9 : decode cX0_end 9 = .ok (.ifCond .ne 5, 3) := dk_154 0 5 (dk_at dksX0_end_0 9 rfl rfl)
theorem dX0_end_12 : decode cX0_end 12 = .ok (.iconst 0, 1) := dk_3 (dk_at dksX0_end_0 12 rfl rfl)
theorem dX0_end_13 : decode cX0_end 13 = .ok (.ireturn, 1) := dk_172 (dk_at dksX0_end_0 13 rfl rfl)
theorem dX0_end_14 : decode cX0_end 14 = .ok (.aload_n 0, 1) := dk_42 (dk_at dksX0_end_0 14 rfl rfl)
theorem dX0_end_15 : decode cX0_end 15 = .ok (.iload_n 1, 1) := dk_27 (dk_at dksX0_end_0 15 rfl rfl)
theorem dX0_end_16 : decode cX0_end 16 = .ok (.putfield 93, 3) := dk_181 0 93 (dk_at dksX0_end_0 16 rfl rfl)
theorem dX0_end_19 : decode cX0_end 19 = .ok (.iconst 1, 1) := dk_4 (dk_at dksX0_end_0 19 rfl rfl)
theorem dX0_end_20 : decode cX0_end 20 = .ok (.ireturn, 1) := dk_172 (dk_at dksX0_end_0 20 rfl rfl)
abbrev cX0_in : ByteArray := prog_1_method_1_code
def yX0_in : MethodName := ⟨RX0, "in", "(III)Z"⟩
def dkwX0_in_0 : List UInt8 := [26, 27, 161, 0, 12, 26, 28, 163, 0, 7, 4, 167, 0, 4, 3, 172]
abbrev dktX0_in_0 : List UInt8 := dkwX0_in_0 ++ []
theorem dksX0_in_0 : cX0_in.data.toList.drop 0 = dktX0_in_0 := by decide +kernel
theorem dX0_in_0 : decode cX0_in 0 = .ok (.iload_n 0, 1) := dk_26 (dk_at dksX0_in_0 0 rfl rfl)
theorem dX0_in_1 : decode cX0_in 1 = .ok (.iload_n 1, 1) := dk_27 (dk_at dksX0_in_0 1 rfl rfl)
theorem dX0_in_2 : decode cX0_in 2 = .ok (.if_icmp .lt 12, 3) := dk_161 0 12 (dk_at dksX0_in_0 2 rfl rfl)
theorem dX0_in_5 : decode cX0_in 5 = .ok (.iload_n 0, 1) := dk_26 (dk_at dksX0_in_0 5 rfl rfl)
theorem dX0_in_6 : decode cX0_in 6 = .ok (.iload_n 2, 1) := dk_28 (dk_at dksX0_in_0 6 rfl rfl)
theorem dX0_in_7 : decode cX0_in 7 = .ok (.if_icmp .gt 7, 3) := dk_163 0 7 (dk_at dksX0_in_0 7 rfl rfl)
theorem dX0_in_10 : decode cX0_in 10 = .ok (.iconst 1, 1) := dk_4 (dk_at dksX0_in_0 10 rfl rfl)
theorem dX0_in_11 : decode cX0_in 11 = .ok (.goto 4, 3) := dk_167 0 4 (dk_at dksX0_in_0 11 rfl rfl)
theorem dX0_in_14 : decode cX0_in 14 = .ok (.iconst 0, 1) := dk_3 (dk_at dksX0_in_0 14 rfl rfl)
theorem dX0_in_15 : decode cX0_in 15 = .ok (.ireturn, 1) := dk_172 (dk_at dksX0_in_0 15 rfl rfl)
abbrev cX0_suit : ByteArray := prog_1_method_8_code
def yX0_suit : MethodName := ⟨RX0, "suit", "()I"⟩
def dkwX0_suit_3 : List UInt8 := [181, 0, 49, 42, 180, 0, 24, 180, 0, 130, 172]
abbrev dktX0_suit_3 : List UInt8 := dkwX0_suit_3 ++ []
def dkwX0_suit_2 : List UInt8 := [5, 162, 0, 16, 42, 180, 0, 42, 27, 3, 84, 132, 1, 1, 167, 255, 241, 42, 2, 181, 0, 46, 42, 2]
abbrev dktX0_suit_2 : List UInt8 := dkwX0_suit_2 ++ dktX0_suit_3
def dkwX0_suit_1 : List UInt8 := [182, 0, 123, 172, 42, 180, 0, 31, 42, 180, 0, 24, 182, 0, 52, 87, 42, 3, 181, 0, 127, 3, 60, 27]
abbrev dktX0_suit_1 : List UInt8 := dkwX0_suit_1 ++ dktX0_suit_2
def dkwX0_suit_0 : List UInt8 := [42, 42, 187, 0, 17, 89, 183, 0, 19, 182, 0, 116, 182, 0, 120, 181, 0, 24, 167, 0, 10, 76, 42, 43]
abbrev dktX0_suit_0 : List UInt8 := dkwX0_suit_0 ++ dktX0_suit_1
theorem dksX0_suit_0 : cX0_suit.data.toList.drop 0 = dktX0_suit_0 := by decide +kernel
theorem dksX0_suit_1 : cX0_suit.data.toList.drop 24 = dktX0_suit_1 := dk_seg dksX0_suit_0 24 rfl rfl
theorem dksX0_suit_2 : cX0_suit.data.toList.drop 48 = dktX0_suit_2 := dk_seg dksX0_suit_1 24 rfl rfl
theorem dksX0_suit_3 : cX0_suit.data.toList.drop 72 = dktX0_suit_3 := dk_seg dksX0_suit_2 24 rfl rfl
theorem dX0_suit_0 : decode cX0_suit 0 = .ok (.aload_n 0, 1) := dk_42 (dk_at dksX0_suit_0 0 rfl rfl)
theorem dX0_suit_1 : decode cX0_suit 1 = .ok (.aload_n 0, 1) := dk_42 (dk_at dksX0_suit_0 1 rfl rfl)
theorem dX0_suit_2 : decode cX0_suit 2 = .ok (.new 17, 3) := dk_187 0 17 (dk_at dksX0_suit_0 2 rfl rfl)
theorem dX0_suit_5 : decode cX0_suit 5 = .ok (.dup, 1) := dk_89 (dk_at dksX0_suit_0 5 rfl rfl)
theorem dX0_suit_6 : decode cX0_suit 6 = .ok (.invokespecial 19, 3) := dk_183 0 19 (dk_at dksX0_suit_0 6 rfl rfl)
theorem dX0_suit_9 : decode cX0_suit 9 = .ok (.invokevirtual 116, 3) := dk_182 0 116 (dk_at dksX0_suit_0 9 rfl rfl)
theorem dX0_suit_12 : decode cX0_suit 12 = .ok (.invokevirtual 120, 3) := dk_182 0 120 (dk_at dksX0_suit_0 12 rfl rfl)
theorem dX0_suit_15 : decode cX0_suit 15 = .ok (.putfield 24, 3) := dk_181 0 24 (dk_at dksX0_suit_0 15 rfl rfl)
theorem dX0_suit_18 : decode cX0_suit 18 = .ok (.goto 10, 3) := dk_167 0 10 (dk_at dksX0_suit_0 18 rfl rfl)
theorem dX0_suit_21 : decode cX0_suit 21 = .ok (.astore_n 1, 1) := dk_76 (dk_at dksX0_suit_0 21 rfl rfl)
theorem dX0_suit_22 : decode cX0_suit 22 = .ok (.aload_n 0, 1) := dk_42 (dk_at dksX0_suit_0 22 rfl rfl)
theorem dX0_suit_23 : decode cX0_suit 23 = .ok (.aload_n 1, 1) := dk_43 (dk_at dksX0_suit_0 23 rfl rfl)
theorem dX0_suit_24 : decode cX0_suit 24 = .ok (.invokevirtual 123, 3) := dk_182 0 123 (dk_at dksX0_suit_1 0 rfl rfl)
theorem dX0_suit_27 : decode cX0_suit 27 = .ok (.ireturn, 1) := dk_172 (dk_at dksX0_suit_1 3 rfl rfl)
theorem dX0_suit_28 : decode cX0_suit 28 = .ok (.aload_n 0, 1) := dk_42 (dk_at dksX0_suit_1 4 rfl rfl)
theorem dX0_suit_29 : decode cX0_suit 29 = .ok (.getfield 31, 3) := dk_180 0 31 (dk_at dksX0_suit_1 5 rfl rfl)
theorem dX0_suit_32 : decode cX0_suit 32 = .ok (.aload_n 0, 1) := dk_42 (dk_at dksX0_suit_1 8 rfl rfl)
theorem dX0_suit_33 : decode cX0_suit 33 = .ok (.getfield 24, 3) := dk_180 0 24 (dk_at dksX0_suit_1 9 rfl rfl)
theorem dX0_suit_36 : decode cX0_suit 36 = .ok (.invokevirtual 52, 3) := dk_182 0 52 (dk_at dksX0_suit_1 12 rfl rfl)
theorem dX0_suit_39 : decode cX0_suit 39 = .ok (.pop, 1) := dk_87 (dk_at dksX0_suit_1 15 rfl rfl)
theorem dX0_suit_40 : decode cX0_suit 40 = .ok (.aload_n 0, 1) := dk_42 (dk_at dksX0_suit_1 16 rfl rfl)
theorem dX0_suit_41 : decode cX0_suit 41 = .ok (.iconst 0, 1) := dk_3 (dk_at dksX0_suit_1 17 rfl rfl)
theorem dX0_suit_42 : decode cX0_suit 42 = .ok (.putfield 127, 3) := dk_181 0 127 (dk_at dksX0_suit_1 18 rfl rfl)
theorem dX0_suit_45 : decode cX0_suit 45 = .ok (.iconst 0, 1) := dk_3 (dk_at dksX0_suit_1 21 rfl rfl)
theorem dX0_suit_46 : decode cX0_suit 46 = .ok (.istore_n 1, 1) := dk_60 (dk_at dksX0_suit_1 22 rfl rfl)
theorem dX0_suit_47 : decode cX0_suit 47 = .ok (.iload_n 1, 1) := dk_27 (dk_at dksX0_suit_1 23 rfl rfl)
theorem dX0_suit_48 : decode cX0_suit 48 = .ok (.iconst 2, 1) := dk_5 (dk_at dksX0_suit_2 0 rfl rfl)
theorem dX0_suit_49 : decode cX0_suit 49 = .ok (.if_icmp .ge 16, 3) := dk_162 0 16 (dk_at dksX0_suit_2 1 rfl rfl)
theorem dX0_suit_52 : decode cX0_suit 52 = .ok (.aload_n 0, 1) := dk_42 (dk_at dksX0_suit_2 4 rfl rfl)
theorem dX0_suit_53 : decode cX0_suit 53 = .ok (.getfield 42, 3) := dk_180 0 42 (dk_at dksX0_suit_2 5 rfl rfl)
theorem dX0_suit_56 : decode cX0_suit 56 = .ok (.iload_n 1, 1) := dk_27 (dk_at dksX0_suit_2 8 rfl rfl)
theorem dX0_suit_57 : decode cX0_suit 57 = .ok (.iconst 0, 1) := dk_3 (dk_at dksX0_suit_2 9 rfl rfl)
theorem dX0_suit_58 : decode cX0_suit 58 = .ok (.bastore, 1) := dk_84 (dk_at dksX0_suit_2 10 rfl rfl)
theorem dX0_suit_59 : decode cX0_suit 59 = .ok (.iinc 1 1, 3) := dk_132 1 1 (dk_at dksX0_suit_2 11 rfl rfl)
theorem dX0_suit_62 : decode cX0_suit 62 = .ok (.goto (-15), 3) := dk_167 255 241 (dk_at dksX0_suit_2 14 rfl rfl)
theorem dX0_suit_65 : decode cX0_suit 65 = .ok (.aload_n 0, 1) := dk_42 (dk_at dksX0_suit_2 17 rfl rfl)
theorem dX0_suit_66 : decode cX0_suit 66 = .ok (.iconst (-1), 1) := dk_2 (dk_at dksX0_suit_2 18 rfl rfl)
theorem dX0_suit_67 : decode cX0_suit 67 = .ok (.putfield 46, 3) := dk_181 0 46 (dk_at dksX0_suit_2 19 rfl rfl)
theorem dX0_suit_70 : decode cX0_suit 70 = .ok (.aload_n 0, 1) := dk_42 (dk_at dksX0_suit_2 22 rfl rfl)
theorem dX0_suit_71 : decode cX0_suit 71 = .ok (.iconst (-1), 1) := dk_2 (dk_at dksX0_suit_2 23 rfl rfl)
theorem dX0_suit_72 : decode cX0_suit 72 = .ok (.putfield 49, 3) := dk_181 0 49 (dk_at dksX0_suit_3 0 rfl rfl)
theorem dX0_suit_75 : decode cX0_suit 75 = .ok (.aload_n 0, 1) := dk_42 (dk_at dksX0_suit_3 3 rfl rfl)
theorem dX0_suit_76 : decode cX0_suit 76 = .ok (.getfield 24, 3) := dk_180 0 24 (dk_at dksX0_suit_3 4 rfl rfl)
theorem dX0_suit_79 : decode cX0_suit 79 = .ok (.getfield 130, 3) := dk_180 0 130 (dk_at dksX0_suit_3 7 rfl rfl)
theorem dX0_suit_82 : decode cX0_suit 82 = .ok (.ireturn, 1) := dk_172 (dk_at dksX0_suit_3 10 rfl rfl)
abbrev cX0_reads : ByteArray := prog_1_method_6_code
def yX0_reads : MethodName := ⟨RX0, "reads", "(LStruckCounts$Suit;)LStruckCounts$Reader;"⟩
def dkwX0_reads_1 : List UInt8 := [42, 180, 0, 9, 28, 43, 183, 0, 105, 176]
abbrev dktX0_reads_1 : List UInt8 := dkwX0_reads_1 ++ []
def dkwX0_reads_0 : List UInt8 := [42, 180, 0, 93, 61, 42, 3, 181, 0, 93, 42, 3, 181, 0, 100, 42, 2, 181, 0, 13, 187, 0, 103, 89]
abbrev dktX0_reads_0 : List UInt8 := dkwX0_reads_0 ++ dktX0_reads_1
theorem dksX0_reads_0 : cX0_reads.data.toList.drop 0 = dktX0_reads_0 := by decide +kernel
theorem dksX0_reads_1 : cX0_reads.data.toList.drop 24 = dktX0_reads_1 := dk_seg dksX0_reads_0 24 rfl rfl
theorem dX0_reads_0 : decode cX0_reads 0 = .ok (.aload_n 0, 1) := dk_42 (dk_at dksX0_reads_0 0 rfl rfl)
theorem dX0_reads_1 : decode cX0_reads 1 = .ok (.getfield 93, 3) := dk_180 0 93 (dk_at dksX0_reads_0 1 rfl rfl)
theorem dX0_reads_4 : decode cX0_reads 4 = .ok (.istore_n 2, 1) := dk_61 (dk_at dksX0_reads_0 4 rfl rfl)
theorem dX0_reads_5 : decode cX0_reads 5 = .ok (.aload_n 0, 1) := dk_42 (dk_at dksX0_reads_0 5 rfl rfl)
theorem dX0_reads_6 : decode cX0_reads 6 = .ok (.iconst 0, 1) := dk_3 (dk_at dksX0_reads_0 6 rfl rfl)
theorem dX0_reads_7 : decode cX0_reads 7 = .ok (.putfield 93, 3) := dk_181 0 93 (dk_at dksX0_reads_0 7 rfl rfl)
theorem dX0_reads_10 : decode cX0_reads 10 = .ok (.aload_n 0, 1) := dk_42 (dk_at dksX0_reads_0 10 rfl rfl)
theorem dX0_reads_11 : decode cX0_reads 11 = .ok (.iconst 0, 1) := dk_3 (dk_at dksX0_reads_0 11 rfl rfl)
theorem dX0_reads_12 : decode cX0_reads 12 = .ok (.putfield 100, 3) := dk_181 0 100 (dk_at dksX0_reads_0 12 rfl rfl)
theorem dX0_reads_15 : decode cX0_reads 15 = .ok (.aload_n 0, 1) := dk_42 (dk_at dksX0_reads_0 15 rfl rfl)
theorem dX0_reads_16 : decode cX0_reads 16 = .ok (.iconst (-1), 1) := dk_2 (dk_at dksX0_reads_0 16 rfl rfl)
theorem dX0_reads_17 : decode cX0_reads 17 = .ok (.putfield 13, 3) := dk_181 0 13 (dk_at dksX0_reads_0 17 rfl rfl)
theorem dX0_reads_20 : decode cX0_reads 20 = .ok (.new 103, 3) := dk_187 0 103 (dk_at dksX0_reads_0 20 rfl rfl)
theorem dX0_reads_23 : decode cX0_reads 23 = .ok (.dup, 1) := dk_89 (dk_at dksX0_reads_0 23 rfl rfl)
theorem dX0_reads_24 : decode cX0_reads 24 = .ok (.aload_n 0, 1) := dk_42 (dk_at dksX0_reads_1 0 rfl rfl)
theorem dX0_reads_25 : decode cX0_reads 25 = .ok (.getfield 9, 3) := dk_180 0 9 (dk_at dksX0_reads_1 1 rfl rfl)
theorem dX0_reads_28 : decode cX0_reads 28 = .ok (.iload_n 2, 1) := dk_28 (dk_at dksX0_reads_1 4 rfl rfl)
theorem dX0_reads_29 : decode cX0_reads 29 = .ok (.aload_n 1, 1) := dk_43 (dk_at dksX0_reads_1 5 rfl rfl)
theorem dX0_reads_30 : decode cX0_reads 30 = .ok (.invokespecial 105, 3) := dk_183 0 105 (dk_at dksX0_reads_1 6 rfl rfl)
theorem dX0_reads_33 : decode cX0_reads 33 = .ok (.areturn, 1) := dk_176 (dk_at dksX0_reads_1 9 rfl rfl)
abbrev cX0_fails : ByteArray := prog_1_method_7_code
def yX0_fails : MethodName := ⟨RX0, "fails", "(LStruckCounts$Fault;)I"⟩
def dkwX0_fails_0 : List UInt8 := [42, 43, 180, 0, 108, 181, 0, 100, 42, 43, 180, 0, 113, 181, 0, 13, 2, 172]
abbrev dktX0_fails_0 : List UInt8 := dkwX0_fails_0 ++ []
theorem dksX0_fails_0 : cX0_fails.data.toList.drop 0 = dktX0_fails_0 := by decide +kernel
theorem dX0_fails_0 : decode cX0_fails 0 = .ok (.aload_n 0, 1) := dk_42 (dk_at dksX0_fails_0 0 rfl rfl)
theorem dX0_fails_1 : decode cX0_fails 1 = .ok (.aload_n 1, 1) := dk_43 (dk_at dksX0_fails_0 1 rfl rfl)
theorem dX0_fails_2 : decode cX0_fails 2 = .ok (.getfield 108, 3) := dk_180 0 108 (dk_at dksX0_fails_0 2 rfl rfl)
theorem dX0_fails_5 : decode cX0_fails 5 = .ok (.putfield 100, 3) := dk_181 0 100 (dk_at dksX0_fails_0 5 rfl rfl)
theorem dX0_fails_8 : decode cX0_fails 8 = .ok (.aload_n 0, 1) := dk_42 (dk_at dksX0_fails_0 8 rfl rfl)
theorem dX0_fails_9 : decode cX0_fails 9 = .ok (.aload_n 1, 1) := dk_43 (dk_at dksX0_fails_0 9 rfl rfl)
theorem dX0_fails_10 : decode cX0_fails 10 = .ok (.getfield 113, 3) := dk_180 0 113 (dk_at dksX0_fails_0 10 rfl rfl)
theorem dX0_fails_13 : decode cX0_fails 13 = .ok (.putfield 13, 3) := dk_181 0 13 (dk_at dksX0_fails_0 13 rfl rfl)
theorem dX0_fails_16 : decode cX0_fails 16 = .ok (.iconst (-1), 1) := dk_2 (dk_at dksX0_fails_0 16 rfl rfl)
theorem dX0_fails_17 : decode cX0_fails 17 = .ok (.ireturn, 1) := dk_172 (dk_at dksX0_fails_0 17 rfl rfl)
abbrev cX0_fault : ByteArray := prog_1_method_9_code
def yX0_fault : MethodName := ⟨RX0, "fault", "(I)I"⟩
def dkwX0_fault_1 : List UInt8 := [172]
abbrev dktX0_fault_1 : List UInt8 := dkwX0_fault_1 ++ []
def dkwX0_fault_0 : List UInt8 := [27, 154, 0, 10, 42, 180, 0, 100, 167, 0, 16, 27, 4, 160, 0, 10, 42, 180, 0, 13, 167, 0, 4, 2]
abbrev dktX0_fault_0 : List UInt8 := dkwX0_fault_0 ++ dktX0_fault_1
theorem dksX0_fault_0 : cX0_fault.data.toList.drop 0 = dktX0_fault_0 := by decide +kernel
theorem dksX0_fault_1 : cX0_fault.data.toList.drop 24 = dktX0_fault_1 := dk_seg dksX0_fault_0 24 rfl rfl
theorem dX0_fault_0 : decode cX0_fault 0 = .ok (.iload_n 1, 1) := dk_27 (dk_at dksX0_fault_0 0 rfl rfl)
theorem dX0_fault_1 : decode cX0_fault 1 = .ok (.ifCond .ne 10, 3) := dk_154 0 10 (dk_at dksX0_fault_0 1 rfl rfl)
theorem dX0_fault_4 : decode cX0_fault 4 = .ok (.aload_n 0, 1) := dk_42 (dk_at dksX0_fault_0 4 rfl rfl)
theorem dX0_fault_5 : decode cX0_fault 5 = .ok (.getfield 100, 3) := dk_180 0 100 (dk_at dksX0_fault_0 5 rfl rfl)
theorem dX0_fault_8 : decode cX0_fault 8 = .ok (.goto 16, 3) := dk_167 0 16 (dk_at dksX0_fault_0 8 rfl rfl)
theorem dX0_fault_11 : decode cX0_fault 11 = .ok (.iload_n 1, 1) := dk_27 (dk_at dksX0_fault_0 11 rfl rfl)
theorem dX0_fault_12 : decode cX0_fault 12 = .ok (.iconst 1, 1) := dk_4 (dk_at dksX0_fault_0 12 rfl rfl)
theorem dX0_fault_13 : decode cX0_fault 13 = .ok (.if_icmp .ne 10, 3) := dk_160 0 10 (dk_at dksX0_fault_0 13 rfl rfl)
theorem dX0_fault_16 : decode cX0_fault 16 = .ok (.aload_n 0, 1) := dk_42 (dk_at dksX0_fault_0 16 rfl rfl)
theorem dX0_fault_17 : decode cX0_fault 17 = .ok (.getfield 13, 3) := dk_180 0 13 (dk_at dksX0_fault_0 17 rfl rfl)
theorem dX0_fault_20 : decode cX0_fault 20 = .ok (.goto 4, 3) := dk_167 0 4 (dk_at dksX0_fault_0 20 rfl rfl)
theorem dX0_fault_23 : decode cX0_fault 23 = .ok (.iconst (-1), 1) := dk_2 (dk_at dksX0_fault_0 23 rfl rfl)
theorem dX0_fault_24 : decode cX0_fault 24 = .ok (.ireturn, 1) := dk_172 (dk_at dksX0_fault_1 0 rfl rfl)
abbrev cX0_fact : ByteArray := prog_1_method_30_code
def yX0_fact : MethodName := ⟨RX0, "fact", "(II)I"⟩
def dkwX0_fact_4 : List UInt8 := [184, 0, 223, 153, 0, 7, 4, 167, 0, 4, 3, 172, 42, 27, 182, 1, 31, 172, 2, 172]
abbrev dktX0_fact_4 : List UInt8 := dkwX0_fact_4 ++ []
def dkwX0_fact_3 : List UInt8 := [180, 0, 149, 27, 184, 0, 223, 154, 0, 7, 5, 167, 0, 22, 42, 180, 0, 31, 180, 0, 152, 27]
abbrev dktX0_fact_3 : List UInt8 := dkwX0_fact_3 ++ dktX0_fact_4
def dkwX0_fact_2 : List UInt8 := [42, 180, 0, 24, 180, 1, 25, 27, 46, 172, 42, 180, 0, 31, 180, 1, 28, 27, 46, 172, 42, 180, 0, 31]
abbrev dktX0_fact_2 : List UInt8 := dkwX0_fact_2 ++ dktX0_fact_3
def dkwX0_fact_1 : List UInt8 := [170, 0, 0, 0, 93, 0, 0, 0, 0, 0, 0, 0, 3, 0, 0, 0, 29, 0, 0, 0, 39, 0, 0, 0, 49, 0, 0, 0, 87]
abbrev dktX0_fact_1 : List UInt8 := dkwX0_fact_1 ++ dktX0_fact_2
def dkwX0_fact_0 : List UInt8 := [42, 27, 182, 1, 21, 154, 0, 5, 2, 172, 28]
abbrev dktX0_fact_0 : List UInt8 := dkwX0_fact_0 ++ dktX0_fact_1
theorem dksX0_fact_0 : cX0_fact.data.toList.drop 0 = dktX0_fact_0 := by decide +kernel
theorem dksX0_fact_1 : cX0_fact.data.toList.drop 11 = dktX0_fact_1 := dk_seg dksX0_fact_0 11 rfl rfl
theorem dksX0_fact_2 : cX0_fact.data.toList.drop 40 = dktX0_fact_2 := dk_seg dksX0_fact_1 29 rfl rfl
theorem dksX0_fact_3 : cX0_fact.data.toList.drop 64 = dktX0_fact_3 := dk_seg dksX0_fact_2 24 rfl rfl
theorem dksX0_fact_4 : cX0_fact.data.toList.drop 86 = dktX0_fact_4 := dk_seg dksX0_fact_3 22 rfl rfl
theorem dX0_fact_0 : decode cX0_fact 0 = .ok (.aload_n 0, 1) := dk_42 (dk_at dksX0_fact_0 0 rfl rfl)
theorem dX0_fact_1 : decode cX0_fact 1 = .ok (.iload_n 1, 1) := dk_27 (dk_at dksX0_fact_0 1 rfl rfl)
theorem dX0_fact_2 : decode cX0_fact 2 = .ok (.invokevirtual 277, 3) := dk_182 1 21 (dk_at dksX0_fact_0 2 rfl rfl)
theorem dX0_fact_5 : decode cX0_fact 5 = .ok (.ifCond .ne 5, 3) := dk_154 0 5 (dk_at dksX0_fact_0 5 rfl rfl)
theorem dX0_fact_8 : decode cX0_fact 8 = .ok (.iconst (-1), 1) := dk_2 (dk_at dksX0_fact_0 8 rfl rfl)
theorem dX0_fact_9 : decode cX0_fact 9 = .ok (.ireturn, 1) := dk_172 (dk_at dksX0_fact_0 9 rfl rfl)
theorem dX0_fact_10 : decode cX0_fact 10 = .ok (.iload_n 2, 1) := dk_28 (dk_at dksX0_fact_0 10 rfl rfl)
theorem dX0_fact_11 : decode cX0_fact 11 = .ok (.tableswitch 93 0 3 #[29, 39, 49, 87], 29) := by decide +kernel
theorem dX0_fact_40 : decode cX0_fact 40 = .ok (.aload_n 0, 1) := dk_42 (dk_at dksX0_fact_2 0 rfl rfl)
theorem dX0_fact_41 : decode cX0_fact 41 = .ok (.getfield 24, 3) := dk_180 0 24 (dk_at dksX0_fact_2 1 rfl rfl)
theorem dX0_fact_44 : decode cX0_fact 44 = .ok (.getfield 281, 3) := dk_180 1 25 (dk_at dksX0_fact_2 4 rfl rfl)
theorem dX0_fact_47 : decode cX0_fact 47 = .ok (.iload_n 1, 1) := dk_27 (dk_at dksX0_fact_2 7 rfl rfl)
theorem dX0_fact_48 : decode cX0_fact 48 = .ok (.iaload, 1) := dk_46 (dk_at dksX0_fact_2 8 rfl rfl)
theorem dX0_fact_49 : decode cX0_fact 49 = .ok (.ireturn, 1) := dk_172 (dk_at dksX0_fact_2 9 rfl rfl)
theorem dX0_fact_50 : decode cX0_fact 50 = .ok (.aload_n 0, 1) := dk_42 (dk_at dksX0_fact_2 10 rfl rfl)
theorem dX0_fact_51 : decode cX0_fact 51 = .ok (.getfield 31, 3) := dk_180 0 31 (dk_at dksX0_fact_2 11 rfl rfl)
theorem dX0_fact_54 : decode cX0_fact 54 = .ok (.getfield 284, 3) := dk_180 1 28 (dk_at dksX0_fact_2 14 rfl rfl)
theorem dX0_fact_57 : decode cX0_fact 57 = .ok (.iload_n 1, 1) := dk_27 (dk_at dksX0_fact_2 17 rfl rfl)
theorem dX0_fact_58 : decode cX0_fact 58 = .ok (.iaload, 1) := dk_46 (dk_at dksX0_fact_2 18 rfl rfl)
theorem dX0_fact_59 : decode cX0_fact 59 = .ok (.ireturn, 1) := dk_172 (dk_at dksX0_fact_2 19 rfl rfl)
theorem dX0_fact_60 : decode cX0_fact 60 = .ok (.aload_n 0, 1) := dk_42 (dk_at dksX0_fact_2 20 rfl rfl)
theorem dX0_fact_61 : decode cX0_fact 61 = .ok (.getfield 31, 3) := dk_180 0 31 (dk_at dksX0_fact_2 21 rfl rfl)
theorem dX0_fact_64 : decode cX0_fact 64 = .ok (.getfield 149, 3) := dk_180 0 149 (dk_at dksX0_fact_3 0 rfl rfl)
theorem dX0_fact_67 : decode cX0_fact 67 = .ok (.iload_n 1, 1) := dk_27 (dk_at dksX0_fact_3 3 rfl rfl)
theorem dX0_fact_68 : decode cX0_fact 68 = .ok (.invokestatic 223, 3) := dk_184 0 223 (dk_at dksX0_fact_3 4 rfl rfl)
theorem dX0_fact_71 : decode cX0_fact 71 = .ok (.ifCond .ne 7, 3) := dk_154 0 7 (dk_at dksX0_fact_3 7 rfl rfl)
theorem dX0_fact_74 : decode cX0_fact 74 = .ok (.iconst 2, 1) := dk_5 (dk_at dksX0_fact_3 10 rfl rfl)
theorem dX0_fact_75 : decode cX0_fact 75 = .ok (.goto 22, 3) := dk_167 0 22 (dk_at dksX0_fact_3 11 rfl rfl)
theorem dX0_fact_78 : decode cX0_fact 78 = .ok (.aload_n 0, 1) := dk_42 (dk_at dksX0_fact_3 14 rfl rfl)
theorem dX0_fact_79 : decode cX0_fact 79 = .ok (.getfield 31, 3) := dk_180 0 31 (dk_at dksX0_fact_3 15 rfl rfl)
theorem dX0_fact_82 : decode cX0_fact 82 = .ok (.getfield 152, 3) := dk_180 0 152 (dk_at dksX0_fact_3 18 rfl rfl)
theorem dX0_fact_85 : decode cX0_fact 85 = .ok (.iload_n 1, 1) := dk_27 (dk_at dksX0_fact_3 21 rfl rfl)
theorem dX0_fact_86 : decode cX0_fact 86 = .ok (.invokestatic 223, 3) := dk_184 0 223 (dk_at dksX0_fact_4 0 rfl rfl)
theorem dX0_fact_89 : decode cX0_fact 89 = .ok (.ifCond .eq 7, 3) := dk_153 0 7 (dk_at dksX0_fact_4 3 rfl rfl)
theorem dX0_fact_92 : decode cX0_fact 92 = .ok (.iconst 1, 1) := dk_4 (dk_at dksX0_fact_4 6 rfl rfl)
theorem dX0_fact_93 : decode cX0_fact 93 = .ok (.goto 4, 3) := dk_167 0 4 (dk_at dksX0_fact_4 7 rfl rfl)
theorem dX0_fact_96 : decode cX0_fact 96 = .ok (.iconst 0, 1) := dk_3 (dk_at dksX0_fact_4 10 rfl rfl)
theorem dX0_fact_97 : decode cX0_fact 97 = .ok (.ireturn, 1) := dk_172 (dk_at dksX0_fact_4 11 rfl rfl)
theorem dX0_fact_98 : decode cX0_fact 98 = .ok (.aload_n 0, 1) := dk_42 (dk_at dksX0_fact_4 12 rfl rfl)
theorem dX0_fact_99 : decode cX0_fact 99 = .ok (.iload_n 1, 1) := dk_27 (dk_at dksX0_fact_4 13 rfl rfl)
theorem dX0_fact_100 : decode cX0_fact 100 = .ok (.invokevirtual 287, 3) := dk_182 1 31 (dk_at dksX0_fact_4 14 rfl rfl)
theorem dX0_fact_103 : decode cX0_fact 103 = .ok (.ireturn, 1) := dk_172 (dk_at dksX0_fact_4 17 rfl rfl)
theorem dX0_fact_104 : decode cX0_fact 104 = .ok (.iconst (-1), 1) := dk_2 (dk_at dksX0_fact_4 18 rfl rfl)
theorem dX0_fact_105 : decode cX0_fact 105 = .ok (.ireturn, 1) := dk_172 (dk_at dksX0_fact_4 19 rfl rfl)
abbrev cX0_isFact : ByteArray := prog_1_method_10_code
def yX0_isFact : MethodName := ⟨RX0, "isFact", "(I)Z"⟩
def dkwX0_isFact_0 : List UInt8 := [27, 3, 42, 180, 0, 24, 180, 0, 133, 4, 100, 184, 0, 96, 172]
abbrev dktX0_isFact_0 : List UInt8 := dkwX0_isFact_0 ++ []
theorem dksX0_isFact_0 : cX0_isFact.data.toList.drop 0 = dktX0_isFact_0 := by decide +kernel
theorem dX0_isFact_0 : decode cX0_isFact 0 = .ok (.iload_n 1, 1) := dk_27 (dk_at dksX0_isFact_0 0 rfl rfl)
theorem dX0_isFact_1 : decode cX0_isFact 1 = .ok (.iconst 0, 1) := dk_3 (dk_at dksX0_isFact_0 1 rfl rfl)
theorem dX0_isFact_2 : decode cX0_isFact 2 = .ok (.aload_n 0, 1) := dk_42 (dk_at dksX0_isFact_0 2 rfl rfl)
theorem dX0_isFact_3 : decode cX0_isFact 3 = .ok (.getfield 24, 3) := dk_180 0 24 (dk_at dksX0_isFact_0 3 rfl rfl)
theorem dX0_isFact_6 : decode cX0_isFact 6 = .ok (.getfield 133, 3) := dk_180 0 133 (dk_at dksX0_isFact_0 6 rfl rfl)
theorem dX0_isFact_9 : decode cX0_isFact 9 = .ok (.iconst 1, 1) := dk_4 (dk_at dksX0_isFact_0 9 rfl rfl)
theorem dX0_isFact_10 : decode cX0_isFact 10 = .ok (.isub, 1) := dk_100 (dk_at dksX0_isFact_0 10 rfl rfl)
theorem dX0_isFact_11 : decode cX0_isFact 11 = .ok (.invokestatic 96, 3) := dk_184 0 96 (dk_at dksX0_isFact_0 11 rfl rfl)
theorem dX0_isFact_14 : decode cX0_isFact 14 = .ok (.ireturn, 1) := dk_172 (dk_at dksX0_isFact_0 14 rfl rfl)
abbrev cX0_sayers : ByteArray := prog_1_method_29_code
def yX0_sayers : MethodName := ⟨RX0, "sayers", "(I)I"⟩
def dkwX0_sayers_2 : List UInt8 := [172]
abbrev dktX0_sayers_2 : List UInt8 := dkwX0_sayers_2 ++ []
def dkwX0_sayers_1 : List UInt8 := [46, 27, 184, 0, 223, 153, 0, 9, 4, 29, 120, 167, 0, 4, 3, 128, 61, 132, 3, 1, 167, 255, 216, 28]
abbrev dktX0_sayers_1 : List UInt8 := dkwX0_sayers_1 ++ dktX0_sayers_2
def dkwX0_sayers_0 : List UInt8 := [3, 61, 3, 62, 29, 42, 180, 0, 31, 180, 0, 136, 162, 0, 35, 28, 42, 180, 0, 31, 180, 0, 195, 29]
abbrev dktX0_sayers_0 : List UInt8 := dkwX0_sayers_0 ++ dktX0_sayers_1
theorem dksX0_sayers_0 : cX0_sayers.data.toList.drop 0 = dktX0_sayers_0 := by decide +kernel
theorem dksX0_sayers_1 : cX0_sayers.data.toList.drop 24 = dktX0_sayers_1 := dk_seg dksX0_sayers_0 24 rfl rfl
theorem dksX0_sayers_2 : cX0_sayers.data.toList.drop 48 = dktX0_sayers_2 := dk_seg dksX0_sayers_1 24 rfl rfl
theorem dX0_sayers_0 : decode cX0_sayers 0 = .ok (.iconst 0, 1) := dk_3 (dk_at dksX0_sayers_0 0 rfl rfl)
theorem dX0_sayers_1 : decode cX0_sayers 1 = .ok (.istore_n 2, 1) := dk_61 (dk_at dksX0_sayers_0 1 rfl rfl)
theorem dX0_sayers_2 : decode cX0_sayers 2 = .ok (.iconst 0, 1) := dk_3 (dk_at dksX0_sayers_0 2 rfl rfl)
theorem dX0_sayers_3 : decode cX0_sayers 3 = .ok (.istore_n 3, 1) := dk_62 (dk_at dksX0_sayers_0 3 rfl rfl)
theorem dX0_sayers_4 : decode cX0_sayers 4 = .ok (.iload_n 3, 1) := dk_29 (dk_at dksX0_sayers_0 4 rfl rfl)
theorem dX0_sayers_5 : decode cX0_sayers 5 = .ok (.aload_n 0, 1) := dk_42 (dk_at dksX0_sayers_0 5 rfl rfl)
theorem dX0_sayers_6 : decode cX0_sayers 6 = .ok (.getfield 31, 3) := dk_180 0 31 (dk_at dksX0_sayers_0 6 rfl rfl)
theorem dX0_sayers_9 : decode cX0_sayers 9 = .ok (.getfield 136, 3) := dk_180 0 136 (dk_at dksX0_sayers_0 9 rfl rfl)
theorem dX0_sayers_12 : decode cX0_sayers 12 = .ok (.if_icmp .ge 35, 3) := dk_162 0 35 (dk_at dksX0_sayers_0 12 rfl rfl)
theorem dX0_sayers_15 : decode cX0_sayers 15 = .ok (.iload_n 2, 1) := dk_28 (dk_at dksX0_sayers_0 15 rfl rfl)
theorem dX0_sayers_16 : decode cX0_sayers 16 = .ok (.aload_n 0, 1) := dk_42 (dk_at dksX0_sayers_0 16 rfl rfl)
theorem dX0_sayers_17 : decode cX0_sayers 17 = .ok (.getfield 31, 3) := dk_180 0 31 (dk_at dksX0_sayers_0 17 rfl rfl)
theorem dX0_sayers_20 : decode cX0_sayers 20 = .ok (.getfield 195, 3) := dk_180 0 195 (dk_at dksX0_sayers_0 20 rfl rfl)
theorem dX0_sayers_23 : decode cX0_sayers 23 = .ok (.iload_n 3, 1) := dk_29 (dk_at dksX0_sayers_0 23 rfl rfl)
theorem dX0_sayers_24 : decode cX0_sayers 24 = .ok (.iaload, 1) := dk_46 (dk_at dksX0_sayers_1 0 rfl rfl)
theorem dX0_sayers_25 : decode cX0_sayers 25 = .ok (.iload_n 1, 1) := dk_27 (dk_at dksX0_sayers_1 1 rfl rfl)
theorem dX0_sayers_26 : decode cX0_sayers 26 = .ok (.invokestatic 223, 3) := dk_184 0 223 (dk_at dksX0_sayers_1 2 rfl rfl)
theorem dX0_sayers_29 : decode cX0_sayers 29 = .ok (.ifCond .eq 9, 3) := dk_153 0 9 (dk_at dksX0_sayers_1 5 rfl rfl)
theorem dX0_sayers_32 : decode cX0_sayers 32 = .ok (.iconst 1, 1) := dk_4 (dk_at dksX0_sayers_1 8 rfl rfl)
theorem dX0_sayers_33 : decode cX0_sayers 33 = .ok (.iload_n 3, 1) := dk_29 (dk_at dksX0_sayers_1 9 rfl rfl)
theorem dX0_sayers_34 : decode cX0_sayers 34 = .ok (.ishl, 1) := dk_120 (dk_at dksX0_sayers_1 10 rfl rfl)
theorem dX0_sayers_35 : decode cX0_sayers 35 = .ok (.goto 4, 3) := dk_167 0 4 (dk_at dksX0_sayers_1 11 rfl rfl)
theorem dX0_sayers_38 : decode cX0_sayers 38 = .ok (.iconst 0, 1) := dk_3 (dk_at dksX0_sayers_1 14 rfl rfl)
theorem dX0_sayers_39 : decode cX0_sayers 39 = .ok (.ior, 1) := dk_128 (dk_at dksX0_sayers_1 15 rfl rfl)
theorem dX0_sayers_40 : decode cX0_sayers 40 = .ok (.istore_n 2, 1) := dk_61 (dk_at dksX0_sayers_1 16 rfl rfl)
theorem dX0_sayers_41 : decode cX0_sayers 41 = .ok (.iinc 3 1, 3) := dk_132 3 1 (dk_at dksX0_sayers_1 17 rfl rfl)
theorem dX0_sayers_44 : decode cX0_sayers 44 = .ok (.goto (-40), 3) := dk_167 255 216 (dk_at dksX0_sayers_1 20 rfl rfl)
theorem dX0_sayers_47 : decode cX0_sayers 47 = .ok (.iload_n 2, 1) := dk_28 (dk_at dksX0_sayers_1 23 rfl rfl)
theorem dX0_sayers_48 : decode cX0_sayers 48 = .ok (.ireturn, 1) := dk_172 (dk_at dksX0_sayers_2 0 rfl rfl)
abbrev cX0_of : ByteArray := prog_1_method_31_code
def yX0_of : MethodName := ⟨RX0, "of", "(II)I"⟩
def dkwX0_of_7 : List UInt8 := [46, 172, 2, 172]
abbrev dktX0_of_7 : List UInt8 := dkwX0_of_7 ++ []
def dkwX0_of_6 : List UInt8 := [180, 0, 31, 180, 0, 247, 27, 46, 172, 42, 27, 182, 0, 254, 172, 42, 182, 1, 40, 42, 180, 0, 56, 27]
abbrev dktX0_of_6 : List UInt8 := dkwX0_of_6 ++ dktX0_of_7
def dkwX0_of_5 : List UInt8 := [42, 27, 182, 0, 178, 180, 0, 185, 182, 0, 159, 172, 42, 180, 0, 31, 180, 0, 195, 27, 46, 172, 42]
abbrev dktX0_of_5 : List UInt8 := dkwX0_of_5 ++ dktX0_of_6
def dkwX0_of_4 : List UInt8 := [180, 0, 31, 180, 0, 195, 27, 46, 182, 0, 241, 172, 42, 27, 182, 0, 178, 180, 0, 182, 182, 0, 159, 172]
abbrev dktX0_of_4 : List UInt8 := dkwX0_of_4 ++ dktX0_of_5
def dkwX0_of_3 : List UInt8 := [180, 0, 192, 27, 46, 172, 42, 27, 42, 180, 0, 31, 180, 0, 195, 27, 46, 182, 0, 204, 172, 42, 27, 42]
abbrev dktX0_of_3 : List UInt8 := dkwX0_of_3 ++ dktX0_of_4
def dkwX0_of_2 : List UInt8 := [42, 180, 0, 31, 180, 1, 37, 27, 46, 172, 42, 180, 0, 31, 180, 0, 213, 27, 46, 172, 42, 180, 0, 31]
abbrev dktX0_of_2 : List UInt8 := dkwX0_of_2 ++ dktX0_of_3
def dkwX0_of_1 : List UInt8 := [170, 0, 0, 0, 178, 0, 0, 0, 0, 0, 0, 0, 10, 0, 0, 0, 57, 0, 0, 0, 67, 0, 0, 0, 77, 0, 0, 0, 87, 0, 0, 0, 102, 0, 0, 0, 117, 0, 0, 0, 129, 0, 0, 0, 141, 0, 0, 0, 151, 0, 0, 0, 161, 0, 0, 0, 167]
abbrev dktX0_of_1 : List UInt8 := dkwX0_of_1 ++ dktX0_of_2
def dkwX0_of_0 : List UInt8 := [42, 27, 182, 1, 34, 154, 0, 5, 2, 172, 28]
abbrev dktX0_of_0 : List UInt8 := dkwX0_of_0 ++ dktX0_of_1
theorem dksX0_of_0 : cX0_of.data.toList.drop 0 = dktX0_of_0 := by decide +kernel
theorem dksX0_of_1 : cX0_of.data.toList.drop 11 = dktX0_of_1 := dk_seg dksX0_of_0 11 rfl rfl
theorem dksX0_of_2 : cX0_of.data.toList.drop 68 = dktX0_of_2 := dk_seg dksX0_of_1 57 rfl rfl
theorem dksX0_of_3 : cX0_of.data.toList.drop 92 = dktX0_of_3 := dk_seg dksX0_of_2 24 rfl rfl
theorem dksX0_of_4 : cX0_of.data.toList.drop 116 = dktX0_of_4 := dk_seg dksX0_of_3 24 rfl rfl
theorem dksX0_of_5 : cX0_of.data.toList.drop 140 = dktX0_of_5 := dk_seg dksX0_of_4 24 rfl rfl
theorem dksX0_of_6 : cX0_of.data.toList.drop 163 = dktX0_of_6 := dk_seg dksX0_of_5 23 rfl rfl
theorem dksX0_of_7 : cX0_of.data.toList.drop 187 = dktX0_of_7 := dk_seg dksX0_of_6 24 rfl rfl
theorem dX0_of_0 : decode cX0_of 0 = .ok (.aload_n 0, 1) := dk_42 (dk_at dksX0_of_0 0 rfl rfl)
theorem dX0_of_1 : decode cX0_of 1 = .ok (.iload_n 1, 1) := dk_27 (dk_at dksX0_of_0 1 rfl rfl)
theorem dX0_of_2 : decode cX0_of 2 = .ok (.invokevirtual 290, 3) := dk_182 1 34 (dk_at dksX0_of_0 2 rfl rfl)
theorem dX0_of_5 : decode cX0_of 5 = .ok (.ifCond .ne 5, 3) := dk_154 0 5 (dk_at dksX0_of_0 5 rfl rfl)
theorem dX0_of_8 : decode cX0_of 8 = .ok (.iconst (-1), 1) := dk_2 (dk_at dksX0_of_0 8 rfl rfl)
theorem dX0_of_9 : decode cX0_of 9 = .ok (.ireturn, 1) := dk_172 (dk_at dksX0_of_0 9 rfl rfl)
theorem dX0_of_10 : decode cX0_of 10 = .ok (.iload_n 2, 1) := dk_28 (dk_at dksX0_of_0 10 rfl rfl)
theorem dX0_of_11 : decode cX0_of 11 = .ok (.tableswitch 178 0 10 #[57, 67, 77, 87, 102, 117, 129, 141, 151, 161, 167], 57) := by decide +kernel
theorem dX0_of_68 : decode cX0_of 68 = .ok (.aload_n 0, 1) := dk_42 (dk_at dksX0_of_2 0 rfl rfl)
theorem dX0_of_69 : decode cX0_of 69 = .ok (.getfield 31, 3) := dk_180 0 31 (dk_at dksX0_of_2 1 rfl rfl)
theorem dX0_of_72 : decode cX0_of 72 = .ok (.getfield 293, 3) := dk_180 1 37 (dk_at dksX0_of_2 4 rfl rfl)
theorem dX0_of_75 : decode cX0_of 75 = .ok (.iload_n 1, 1) := dk_27 (dk_at dksX0_of_2 7 rfl rfl)
theorem dX0_of_76 : decode cX0_of 76 = .ok (.iaload, 1) := dk_46 (dk_at dksX0_of_2 8 rfl rfl)
theorem dX0_of_77 : decode cX0_of 77 = .ok (.ireturn, 1) := dk_172 (dk_at dksX0_of_2 9 rfl rfl)
theorem dX0_of_78 : decode cX0_of 78 = .ok (.aload_n 0, 1) := dk_42 (dk_at dksX0_of_2 10 rfl rfl)
theorem dX0_of_79 : decode cX0_of 79 = .ok (.getfield 31, 3) := dk_180 0 31 (dk_at dksX0_of_2 11 rfl rfl)
theorem dX0_of_82 : decode cX0_of 82 = .ok (.getfield 213, 3) := dk_180 0 213 (dk_at dksX0_of_2 14 rfl rfl)
theorem dX0_of_85 : decode cX0_of 85 = .ok (.iload_n 1, 1) := dk_27 (dk_at dksX0_of_2 17 rfl rfl)
theorem dX0_of_86 : decode cX0_of 86 = .ok (.iaload, 1) := dk_46 (dk_at dksX0_of_2 18 rfl rfl)
theorem dX0_of_87 : decode cX0_of 87 = .ok (.ireturn, 1) := dk_172 (dk_at dksX0_of_2 19 rfl rfl)
theorem dX0_of_88 : decode cX0_of 88 = .ok (.aload_n 0, 1) := dk_42 (dk_at dksX0_of_2 20 rfl rfl)
theorem dX0_of_89 : decode cX0_of 89 = .ok (.getfield 31, 3) := dk_180 0 31 (dk_at dksX0_of_2 21 rfl rfl)
theorem dX0_of_92 : decode cX0_of 92 = .ok (.getfield 192, 3) := dk_180 0 192 (dk_at dksX0_of_3 0 rfl rfl)
theorem dX0_of_95 : decode cX0_of 95 = .ok (.iload_n 1, 1) := dk_27 (dk_at dksX0_of_3 3 rfl rfl)
theorem dX0_of_96 : decode cX0_of 96 = .ok (.iaload, 1) := dk_46 (dk_at dksX0_of_3 4 rfl rfl)
theorem dX0_of_97 : decode cX0_of 97 = .ok (.ireturn, 1) := dk_172 (dk_at dksX0_of_3 5 rfl rfl)
theorem dX0_of_98 : decode cX0_of 98 = .ok (.aload_n 0, 1) := dk_42 (dk_at dksX0_of_3 6 rfl rfl)
theorem dX0_of_99 : decode cX0_of 99 = .ok (.iload_n 1, 1) := dk_27 (dk_at dksX0_of_3 7 rfl rfl)
theorem dX0_of_100 : decode cX0_of 100 = .ok (.aload_n 0, 1) := dk_42 (dk_at dksX0_of_3 8 rfl rfl)
theorem dX0_of_101 : decode cX0_of 101 = .ok (.getfield 31, 3) := dk_180 0 31 (dk_at dksX0_of_3 9 rfl rfl)
theorem dX0_of_104 : decode cX0_of 104 = .ok (.getfield 195, 3) := dk_180 0 195 (dk_at dksX0_of_3 12 rfl rfl)
theorem dX0_of_107 : decode cX0_of 107 = .ok (.iload_n 1, 1) := dk_27 (dk_at dksX0_of_3 15 rfl rfl)
theorem dX0_of_108 : decode cX0_of 108 = .ok (.iaload, 1) := dk_46 (dk_at dksX0_of_3 16 rfl rfl)
theorem dX0_of_109 : decode cX0_of 109 = .ok (.invokevirtual 204, 3) := dk_182 0 204 (dk_at dksX0_of_3 17 rfl rfl)
theorem dX0_of_112 : decode cX0_of 112 = .ok (.ireturn, 1) := dk_172 (dk_at dksX0_of_3 20 rfl rfl)
theorem dX0_of_113 : decode cX0_of 113 = .ok (.aload_n 0, 1) := dk_42 (dk_at dksX0_of_3 21 rfl rfl)
theorem dX0_of_114 : decode cX0_of 114 = .ok (.iload_n 1, 1) := dk_27 (dk_at dksX0_of_3 22 rfl rfl)
theorem dX0_of_115 : decode cX0_of 115 = .ok (.aload_n 0, 1) := dk_42 (dk_at dksX0_of_3 23 rfl rfl)
theorem dX0_of_116 : decode cX0_of 116 = .ok (.getfield 31, 3) := dk_180 0 31 (dk_at dksX0_of_4 0 rfl rfl)
theorem dX0_of_119 : decode cX0_of 119 = .ok (.getfield 195, 3) := dk_180 0 195 (dk_at dksX0_of_4 3 rfl rfl)
theorem dX0_of_122 : decode cX0_of 122 = .ok (.iload_n 1, 1) := dk_27 (dk_at dksX0_of_4 6 rfl rfl)
theorem dX0_of_123 : decode cX0_of 123 = .ok (.iaload, 1) := dk_46 (dk_at dksX0_of_4 7 rfl rfl)
theorem dX0_of_124 : decode cX0_of 124 = .ok (.invokevirtual 241, 3) := dk_182 0 241 (dk_at dksX0_of_4 8 rfl rfl)
theorem dX0_of_127 : decode cX0_of 127 = .ok (.ireturn, 1) := dk_172 (dk_at dksX0_of_4 11 rfl rfl)
theorem dX0_of_128 : decode cX0_of 128 = .ok (.aload_n 0, 1) := dk_42 (dk_at dksX0_of_4 12 rfl rfl)
theorem dX0_of_129 : decode cX0_of 129 = .ok (.iload_n 1, 1) := dk_27 (dk_at dksX0_of_4 13 rfl rfl)
theorem dX0_of_130 : decode cX0_of 130 = .ok (.invokevirtual 178, 3) := dk_182 0 178 (dk_at dksX0_of_4 14 rfl rfl)
theorem dX0_of_133 : decode cX0_of 133 = .ok (.getfield 182, 3) := dk_180 0 182 (dk_at dksX0_of_4 17 rfl rfl)
theorem dX0_of_136 : decode cX0_of 136 = .ok (.invokevirtual 159, 3) := dk_182 0 159 (dk_at dksX0_of_4 20 rfl rfl)
theorem dX0_of_139 : decode cX0_of 139 = .ok (.ireturn, 1) := dk_172 (dk_at dksX0_of_4 23 rfl rfl)
theorem dX0_of_140 : decode cX0_of 140 = .ok (.aload_n 0, 1) := dk_42 (dk_at dksX0_of_5 0 rfl rfl)
theorem dX0_of_141 : decode cX0_of 141 = .ok (.iload_n 1, 1) := dk_27 (dk_at dksX0_of_5 1 rfl rfl)
theorem dX0_of_142 : decode cX0_of 142 = .ok (.invokevirtual 178, 3) := dk_182 0 178 (dk_at dksX0_of_5 2 rfl rfl)
theorem dX0_of_145 : decode cX0_of 145 = .ok (.getfield 185, 3) := dk_180 0 185 (dk_at dksX0_of_5 5 rfl rfl)
theorem dX0_of_148 : decode cX0_of 148 = .ok (.invokevirtual 159, 3) := dk_182 0 159 (dk_at dksX0_of_5 8 rfl rfl)
theorem dX0_of_151 : decode cX0_of 151 = .ok (.ireturn, 1) := dk_172 (dk_at dksX0_of_5 11 rfl rfl)
theorem dX0_of_152 : decode cX0_of 152 = .ok (.aload_n 0, 1) := dk_42 (dk_at dksX0_of_5 12 rfl rfl)
theorem dX0_of_153 : decode cX0_of 153 = .ok (.getfield 31, 3) := dk_180 0 31 (dk_at dksX0_of_5 13 rfl rfl)
theorem dX0_of_156 : decode cX0_of 156 = .ok (.getfield 195, 3) := dk_180 0 195 (dk_at dksX0_of_5 16 rfl rfl)
theorem dX0_of_159 : decode cX0_of 159 = .ok (.iload_n 1, 1) := dk_27 (dk_at dksX0_of_5 19 rfl rfl)
theorem dX0_of_160 : decode cX0_of 160 = .ok (.iaload, 1) := dk_46 (dk_at dksX0_of_5 20 rfl rfl)
theorem dX0_of_161 : decode cX0_of 161 = .ok (.ireturn, 1) := dk_172 (dk_at dksX0_of_5 21 rfl rfl)
theorem dX0_of_162 : decode cX0_of 162 = .ok (.aload_n 0, 1) := dk_42 (dk_at dksX0_of_5 22 rfl rfl)
theorem dX0_of_163 : decode cX0_of 163 = .ok (.getfield 31, 3) := dk_180 0 31 (dk_at dksX0_of_6 0 rfl rfl)
theorem dX0_of_166 : decode cX0_of 166 = .ok (.getfield 247, 3) := dk_180 0 247 (dk_at dksX0_of_6 3 rfl rfl)
theorem dX0_of_169 : decode cX0_of 169 = .ok (.iload_n 1, 1) := dk_27 (dk_at dksX0_of_6 6 rfl rfl)
theorem dX0_of_170 : decode cX0_of 170 = .ok (.iaload, 1) := dk_46 (dk_at dksX0_of_6 7 rfl rfl)
theorem dX0_of_171 : decode cX0_of 171 = .ok (.ireturn, 1) := dk_172 (dk_at dksX0_of_6 8 rfl rfl)
theorem dX0_of_172 : decode cX0_of 172 = .ok (.aload_n 0, 1) := dk_42 (dk_at dksX0_of_6 9 rfl rfl)
theorem dX0_of_173 : decode cX0_of 173 = .ok (.iload_n 1, 1) := dk_27 (dk_at dksX0_of_6 10 rfl rfl)
theorem dX0_of_174 : decode cX0_of 174 = .ok (.invokevirtual 254, 3) := dk_182 0 254 (dk_at dksX0_of_6 11 rfl rfl)
theorem dX0_of_177 : decode cX0_of 177 = .ok (.ireturn, 1) := dk_172 (dk_at dksX0_of_6 14 rfl rfl)
theorem dX0_of_178 : decode cX0_of 178 = .ok (.aload_n 0, 1) := dk_42 (dk_at dksX0_of_6 15 rfl rfl)
theorem dX0_of_179 : decode cX0_of 179 = .ok (.invokevirtual 296, 3) := dk_182 1 40 (dk_at dksX0_of_6 16 rfl rfl)
theorem dX0_of_182 : decode cX0_of 182 = .ok (.aload_n 0, 1) := dk_42 (dk_at dksX0_of_6 19 rfl rfl)
theorem dX0_of_183 : decode cX0_of 183 = .ok (.getfield 56, 3) := dk_180 0 56 (dk_at dksX0_of_6 20 rfl rfl)
theorem dX0_of_186 : decode cX0_of 186 = .ok (.iload_n 1, 1) := dk_27 (dk_at dksX0_of_6 23 rfl rfl)
theorem dX0_of_187 : decode cX0_of 187 = .ok (.iaload, 1) := dk_46 (dk_at dksX0_of_7 0 rfl rfl)
theorem dX0_of_188 : decode cX0_of 188 = .ok (.ireturn, 1) := dk_172 (dk_at dksX0_of_7 1 rfl rfl)
theorem dX0_of_189 : decode cX0_of 189 = .ok (.iconst (-1), 1) := dk_2 (dk_at dksX0_of_7 2 rfl rfl)
theorem dX0_of_190 : decode cX0_of 190 = .ok (.ireturn, 1) := dk_172 (dk_at dksX0_of_7 3 rfl rfl)
abbrev cX0_isCount : ByteArray := prog_1_method_11_code
def yX0_isCount : MethodName := ⟨RX0, "isCount", "(I)Z"⟩
def dkwX0_isCount_0 : List UInt8 := [27, 3, 42, 180, 0, 31, 180, 0, 136, 4, 100, 184, 0, 96, 172]
abbrev dktX0_isCount_0 : List UInt8 := dkwX0_isCount_0 ++ []
theorem dksX0_isCount_0 : cX0_isCount.data.toList.drop 0 = dktX0_isCount_0 := by decide +kernel
theorem dX0_isCount_0 : decode cX0_isCount 0 = .ok (.iload_n 1, 1) := dk_27 (dk_at dksX0_isCount_0 0 rfl rfl)
theorem dX0_isCount_1 : decode cX0_isCount 1 = .ok (.iconst 0, 1) := dk_3 (dk_at dksX0_isCount_0 1 rfl rfl)
theorem dX0_isCount_2 : decode cX0_isCount 2 = .ok (.aload_n 0, 1) := dk_42 (dk_at dksX0_isCount_0 2 rfl rfl)
theorem dX0_isCount_3 : decode cX0_isCount 3 = .ok (.getfield 31, 3) := dk_180 0 31 (dk_at dksX0_isCount_0 3 rfl rfl)
theorem dX0_isCount_6 : decode cX0_isCount 6 = .ok (.getfield 136, 3) := dk_180 0 136 (dk_at dksX0_isCount_0 6 rfl rfl)
theorem dX0_isCount_9 : decode cX0_isCount 9 = .ok (.iconst 1, 1) := dk_4 (dk_at dksX0_isCount_0 9 rfl rfl)
theorem dX0_isCount_10 : decode cX0_isCount 10 = .ok (.isub, 1) := dk_100 (dk_at dksX0_isCount_0 10 rfl rfl)
theorem dX0_isCount_11 : decode cX0_isCount 11 = .ok (.invokestatic 96, 3) := dk_184 0 96 (dk_at dksX0_isCount_0 11 rfl rfl)
theorem dX0_isCount_14 : decode cX0_isCount 14 = .ok (.ireturn, 1) := dk_172 (dk_at dksX0_isCount_0 14 rfl rfl)
abbrev cX0_back : ByteArray := prog_1_method_19_code
def yX0_back : MethodName := ⟨RX0, "back", "(II)I"⟩
def dkwX0_back_4 : List UInt8 := [182, 0, 204, 184, 0, 208, 62, 132, 4, 1, 167, 255, 167, 29, 172]
abbrev dktX0_back_4 : List UInt8 := dkwX0_back_4 ++ []
def dkwX0_back_3 : List UInt8 := [104, 28, 184, 0, 198, 161, 0, 24, 29, 42, 21, 4, 42, 180, 0, 31, 180, 0, 195, 21, 4, 46]
abbrev dktX0_back_3 : List UInt8 := dkwX0_back_3 ++ dktX0_back_4
def dkwX0_back_2 : List UInt8 := [27, 46, 161, 0, 6, 167, 0, 48, 5, 28, 42, 180, 0, 31, 180, 0, 195, 21, 4, 46, 126, 184, 0, 198]
abbrev dktX0_back_2 : List UInt8 := dkwX0_back_2 ++ dktX0_back_3
def dkwX0_back_1 : List UInt8 := [162, 0, 83, 28, 153, 0, 79, 42, 180, 0, 31, 180, 0, 192, 21, 4, 46, 42, 180, 0, 31, 180, 0, 192]
abbrev dktX0_back_1 : List UInt8 := dkwX0_back_1 ++ dktX0_back_2
def dkwX0_back_0 : List UInt8 := [42, 180, 0, 31, 180, 0, 192, 27, 46, 62, 3, 54, 4, 21, 4, 42, 180, 0, 31, 180, 0, 136]
abbrev dktX0_back_0 : List UInt8 := dkwX0_back_0 ++ dktX0_back_1
theorem dksX0_back_0 : cX0_back.data.toList.drop 0 = dktX0_back_0 := by decide +kernel
theorem dksX0_back_1 : cX0_back.data.toList.drop 22 = dktX0_back_1 := dk_seg dksX0_back_0 22 rfl rfl
theorem dksX0_back_2 : cX0_back.data.toList.drop 46 = dktX0_back_2 := dk_seg dksX0_back_1 24 rfl rfl
theorem dksX0_back_3 : cX0_back.data.toList.drop 70 = dktX0_back_3 := dk_seg dksX0_back_2 24 rfl rfl
theorem dksX0_back_4 : cX0_back.data.toList.drop 92 = dktX0_back_4 := dk_seg dksX0_back_3 22 rfl rfl
theorem dX0_back_0 : decode cX0_back 0 = .ok (.aload_n 0, 1) := dk_42 (dk_at dksX0_back_0 0 rfl rfl)
theorem dX0_back_1 : decode cX0_back 1 = .ok (.getfield 31, 3) := dk_180 0 31 (dk_at dksX0_back_0 1 rfl rfl)
theorem dX0_back_4 : decode cX0_back 4 = .ok (.getfield 192, 3) := dk_180 0 192 (dk_at dksX0_back_0 4 rfl rfl)
theorem dX0_back_7 : decode cX0_back 7 = .ok (.iload_n 1, 1) := dk_27 (dk_at dksX0_back_0 7 rfl rfl)
theorem dX0_back_8 : decode cX0_back 8 = .ok (.iaload, 1) := dk_46 (dk_at dksX0_back_0 8 rfl rfl)
theorem dX0_back_9 : decode cX0_back 9 = .ok (.istore_n 3, 1) := dk_62 (dk_at dksX0_back_0 9 rfl rfl)
theorem dX0_back_10 : decode cX0_back 10 = .ok (.iconst 0, 1) := dk_3 (dk_at dksX0_back_0 10 rfl rfl)
theorem dX0_back_11 : decode cX0_back 11 = .ok (.istore 4, 2) := dk_54 4 (dk_at dksX0_back_0 11 rfl rfl)
theorem dX0_back_13 : decode cX0_back 13 = .ok (.iload 4, 2) := dk_21 4 (dk_at dksX0_back_0 13 rfl rfl)
theorem dX0_back_15 : decode cX0_back 15 = .ok (.aload_n 0, 1) := dk_42 (dk_at dksX0_back_0 15 rfl rfl)
theorem dX0_back_16 : decode cX0_back 16 = .ok (.getfield 31, 3) := dk_180 0 31 (dk_at dksX0_back_0 16 rfl rfl)
theorem dX0_back_19 : decode cX0_back 19 = .ok (.getfield 136, 3) := dk_180 0 136 (dk_at dksX0_back_0 19 rfl rfl)
theorem dX0_back_22 : decode cX0_back 22 = .ok (.if_icmp .ge 83, 3) := dk_162 0 83 (dk_at dksX0_back_1 0 rfl rfl)
theorem dX0_back_25 : decode cX0_back 25 = .ok (.iload_n 2, 1) := dk_28 (dk_at dksX0_back_1 3 rfl rfl)
theorem dX0_back_26 : decode cX0_back 26 = .ok (.ifCond .eq 79, 3) := dk_153 0 79 (dk_at dksX0_back_1 4 rfl rfl)
theorem dX0_back_29 : decode cX0_back 29 = .ok (.aload_n 0, 1) := dk_42 (dk_at dksX0_back_1 7 rfl rfl)
theorem dX0_back_30 : decode cX0_back 30 = .ok (.getfield 31, 3) := dk_180 0 31 (dk_at dksX0_back_1 8 rfl rfl)
theorem dX0_back_33 : decode cX0_back 33 = .ok (.getfield 192, 3) := dk_180 0 192 (dk_at dksX0_back_1 11 rfl rfl)
theorem dX0_back_36 : decode cX0_back 36 = .ok (.iload 4, 2) := dk_21 4 (dk_at dksX0_back_1 14 rfl rfl)
theorem dX0_back_38 : decode cX0_back 38 = .ok (.iaload, 1) := dk_46 (dk_at dksX0_back_1 16 rfl rfl)
theorem dX0_back_39 : decode cX0_back 39 = .ok (.aload_n 0, 1) := dk_42 (dk_at dksX0_back_1 17 rfl rfl)
theorem dX0_back_40 : decode cX0_back 40 = .ok (.getfield 31, 3) := dk_180 0 31 (dk_at dksX0_back_1 18 rfl rfl)
theorem dX0_back_43 : decode cX0_back 43 = .ok (.getfield 192, 3) := dk_180 0 192 (dk_at dksX0_back_1 21 rfl rfl)
theorem dX0_back_46 : decode cX0_back 46 = .ok (.iload_n 1, 1) := dk_27 (dk_at dksX0_back_2 0 rfl rfl)
theorem dX0_back_47 : decode cX0_back 47 = .ok (.iaload, 1) := dk_46 (dk_at dksX0_back_2 1 rfl rfl)
theorem dX0_back_48 : decode cX0_back 48 = .ok (.if_icmp .lt 6, 3) := dk_161 0 6 (dk_at dksX0_back_2 2 rfl rfl)
theorem dX0_back_51 : decode cX0_back 51 = .ok (.goto 48, 3) := dk_167 0 48 (dk_at dksX0_back_2 5 rfl rfl)
theorem dX0_back_54 : decode cX0_back 54 = .ok (.iconst 2, 1) := dk_5 (dk_at dksX0_back_2 8 rfl rfl)
theorem dX0_back_55 : decode cX0_back 55 = .ok (.iload_n 2, 1) := dk_28 (dk_at dksX0_back_2 9 rfl rfl)
theorem dX0_back_56 : decode cX0_back 56 = .ok (.aload_n 0, 1) := dk_42 (dk_at dksX0_back_2 10 rfl rfl)
theorem dX0_back_57 : decode cX0_back 57 = .ok (.getfield 31, 3) := dk_180 0 31 (dk_at dksX0_back_2 11 rfl rfl)
theorem dX0_back_60 : decode cX0_back 60 = .ok (.getfield 195, 3) := dk_180 0 195 (dk_at dksX0_back_2 14 rfl rfl)
theorem dX0_back_63 : decode cX0_back 63 = .ok (.iload 4, 2) := dk_21 4 (dk_at dksX0_back_2 17 rfl rfl)
theorem dX0_back_65 : decode cX0_back 65 = .ok (.iaload, 1) := dk_46 (dk_at dksX0_back_2 19 rfl rfl)
theorem dX0_back_66 : decode cX0_back 66 = .ok (.iand, 1) := dk_126 (dk_at dksX0_back_2 20 rfl rfl)
theorem dX0_back_67 : decode cX0_back 67 = .ok (.invokestatic 198, 3) := dk_184 0 198 (dk_at dksX0_back_2 21 rfl rfl)
theorem dX0_back_70 : decode cX0_back 70 = .ok (.imul, 1) := dk_104 (dk_at dksX0_back_3 0 rfl rfl)
theorem dX0_back_71 : decode cX0_back 71 = .ok (.iload_n 2, 1) := dk_28 (dk_at dksX0_back_3 1 rfl rfl)
theorem dX0_back_72 : decode cX0_back 72 = .ok (.invokestatic 198, 3) := dk_184 0 198 (dk_at dksX0_back_3 2 rfl rfl)
theorem dX0_back_75 : decode cX0_back 75 = .ok (.if_icmp .lt 24, 3) := dk_161 0 24 (dk_at dksX0_back_3 5 rfl rfl)
theorem dX0_back_78 : decode cX0_back 78 = .ok (.iload_n 3, 1) := dk_29 (dk_at dksX0_back_3 8 rfl rfl)
theorem dX0_back_79 : decode cX0_back 79 = .ok (.aload_n 0, 1) := dk_42 (dk_at dksX0_back_3 9 rfl rfl)
theorem dX0_back_80 : decode cX0_back 80 = .ok (.iload 4, 2) := dk_21 4 (dk_at dksX0_back_3 10 rfl rfl)
theorem dX0_back_82 : decode cX0_back 82 = .ok (.aload_n 0, 1) := dk_42 (dk_at dksX0_back_3 12 rfl rfl)
theorem dX0_back_83 : decode cX0_back 83 = .ok (.getfield 31, 3) := dk_180 0 31 (dk_at dksX0_back_3 13 rfl rfl)
theorem dX0_back_86 : decode cX0_back 86 = .ok (.getfield 195, 3) := dk_180 0 195 (dk_at dksX0_back_3 16 rfl rfl)
theorem dX0_back_89 : decode cX0_back 89 = .ok (.iload 4, 2) := dk_21 4 (dk_at dksX0_back_3 19 rfl rfl)
theorem dX0_back_91 : decode cX0_back 91 = .ok (.iaload, 1) := dk_46 (dk_at dksX0_back_3 21 rfl rfl)
theorem dX0_back_92 : decode cX0_back 92 = .ok (.invokevirtual 204, 3) := dk_182 0 204 (dk_at dksX0_back_4 0 rfl rfl)
theorem dX0_back_95 : decode cX0_back 95 = .ok (.invokestatic 208, 3) := dk_184 0 208 (dk_at dksX0_back_4 3 rfl rfl)
theorem dX0_back_98 : decode cX0_back 98 = .ok (.istore_n 3, 1) := dk_62 (dk_at dksX0_back_4 6 rfl rfl)
theorem dX0_back_99 : decode cX0_back 99 = .ok (.iinc 4 1, 3) := dk_132 4 1 (dk_at dksX0_back_4 7 rfl rfl)
theorem dX0_back_102 : decode cX0_back 102 = .ok (.goto (-89), 3) := dk_167 255 167 (dk_at dksX0_back_4 10 rfl rfl)
theorem dX0_back_105 : decode cX0_back 105 = .ok (.iload_n 3, 1) := dk_29 (dk_at dksX0_back_4 13 rfl rfl)
theorem dX0_back_106 : decode cX0_back 106 = .ok (.ireturn, 1) := dk_172 (dk_at dksX0_back_4 14 rfl rfl)
abbrev cX0_age : ByteArray := prog_1_method_20_code
def yX0_age : MethodName := ⟨RX0, "age", "(II)I"⟩
def dkwX0_age_0 : List UInt8 := [42, 180, 0, 31, 180, 0, 213, 27, 46, 42, 27, 28, 182, 0, 204, 96, 172]
abbrev dktX0_age_0 : List UInt8 := dkwX0_age_0 ++ []
theorem dksX0_age_0 : cX0_age.data.toList.drop 0 = dktX0_age_0 := by decide +kernel
theorem dX0_age_0 : decode cX0_age 0 = .ok (.aload_n 0, 1) := dk_42 (dk_at dksX0_age_0 0 rfl rfl)
theorem dX0_age_1 : decode cX0_age 1 = .ok (.getfield 31, 3) := dk_180 0 31 (dk_at dksX0_age_0 1 rfl rfl)
theorem dX0_age_4 : decode cX0_age 4 = .ok (.getfield 213, 3) := dk_180 0 213 (dk_at dksX0_age_0 4 rfl rfl)
theorem dX0_age_7 : decode cX0_age 7 = .ok (.iload_n 1, 1) := dk_27 (dk_at dksX0_age_0 7 rfl rfl)
theorem dX0_age_8 : decode cX0_age 8 = .ok (.iaload, 1) := dk_46 (dk_at dksX0_age_0 8 rfl rfl)
theorem dX0_age_9 : decode cX0_age 9 = .ok (.aload_n 0, 1) := dk_42 (dk_at dksX0_age_0 9 rfl rfl)
theorem dX0_age_10 : decode cX0_age 10 = .ok (.iload_n 1, 1) := dk_27 (dk_at dksX0_age_0 10 rfl rfl)
theorem dX0_age_11 : decode cX0_age 11 = .ok (.iload_n 2, 1) := dk_28 (dk_at dksX0_age_0 11 rfl rfl)
theorem dX0_age_12 : decode cX0_age 12 = .ok (.invokevirtual 204, 3) := dk_182 0 204 (dk_at dksX0_age_0 12 rfl rfl)
theorem dX0_age_15 : decode cX0_age 15 = .ok (.iadd, 1) := dk_96 (dk_at dksX0_age_0 15 rfl rfl)
theorem dX0_age_16 : decode cX0_age 16 = .ok (.ireturn, 1) := dk_172 (dk_at dksX0_age_0 16 rfl rfl)
abbrev cX0_told : ByteArray := prog_1_method_16_code
def yX0_told : MethodName := ⟨RX0, "told", "(I)LStruckCounts$Told;"⟩
def dkwX0_told_1 : List UInt8 := [46, 61, 167, 255, 232, 42, 180, 0, 24, 180, 0, 155, 28, 182, 0, 167, 192, 0, 171, 176]
abbrev dktX0_told_1 : List UInt8 := dkwX0_told_1 ++ []
def dkwX0_told_0 : List UInt8 := [27, 61, 28, 42, 180, 0, 24, 180, 0, 155, 182, 0, 159, 161, 0, 16, 42, 180, 0, 31, 180, 0, 164, 28]
abbrev dktX0_told_0 : List UInt8 := dkwX0_told_0 ++ dktX0_told_1
theorem dksX0_told_0 : cX0_told.data.toList.drop 0 = dktX0_told_0 := by decide +kernel
theorem dksX0_told_1 : cX0_told.data.toList.drop 24 = dktX0_told_1 := dk_seg dksX0_told_0 24 rfl rfl
theorem dX0_told_0 : decode cX0_told 0 = .ok (.iload_n 1, 1) := dk_27 (dk_at dksX0_told_0 0 rfl rfl)
theorem dX0_told_1 : decode cX0_told 1 = .ok (.istore_n 2, 1) := dk_61 (dk_at dksX0_told_0 1 rfl rfl)
theorem dX0_told_2 : decode cX0_told 2 = .ok (.iload_n 2, 1) := dk_28 (dk_at dksX0_told_0 2 rfl rfl)
theorem dX0_told_3 : decode cX0_told 3 = .ok (.aload_n 0, 1) := dk_42 (dk_at dksX0_told_0 3 rfl rfl)
theorem dX0_told_4 : decode cX0_told 4 = .ok (.getfield 24, 3) := dk_180 0 24 (dk_at dksX0_told_0 4 rfl rfl)
theorem dX0_told_7 : decode cX0_told 7 = .ok (.getfield 155, 3) := dk_180 0 155 (dk_at dksX0_told_0 7 rfl rfl)
theorem dX0_told_10 : decode cX0_told 10 = .ok (.invokevirtual 159, 3) := dk_182 0 159 (dk_at dksX0_told_0 10 rfl rfl)
theorem dX0_told_13 : decode cX0_told 13 = .ok (.if_icmp .lt 16, 3) := dk_161 0 16 (dk_at dksX0_told_0 13 rfl rfl)
theorem dX0_told_16 : decode cX0_told 16 = .ok (.aload_n 0, 1) := dk_42 (dk_at dksX0_told_0 16 rfl rfl)
theorem dX0_told_17 : decode cX0_told 17 = .ok (.getfield 31, 3) := dk_180 0 31 (dk_at dksX0_told_0 17 rfl rfl)
theorem dX0_told_20 : decode cX0_told 20 = .ok (.getfield 164, 3) := dk_180 0 164 (dk_at dksX0_told_0 20 rfl rfl)
theorem dX0_told_23 : decode cX0_told 23 = .ok (.iload_n 2, 1) := dk_28 (dk_at dksX0_told_0 23 rfl rfl)
theorem dX0_told_24 : decode cX0_told 24 = .ok (.iaload, 1) := dk_46 (dk_at dksX0_told_1 0 rfl rfl)
theorem dX0_told_25 : decode cX0_told 25 = .ok (.istore_n 2, 1) := dk_61 (dk_at dksX0_told_1 1 rfl rfl)
theorem dX0_told_26 : decode cX0_told 26 = .ok (.goto (-24), 3) := dk_167 255 232 (dk_at dksX0_told_1 2 rfl rfl)
theorem dX0_told_29 : decode cX0_told 29 = .ok (.aload_n 0, 1) := dk_42 (dk_at dksX0_told_1 5 rfl rfl)
theorem dX0_told_30 : decode cX0_told 30 = .ok (.getfield 24, 3) := dk_180 0 24 (dk_at dksX0_told_1 6 rfl rfl)
theorem dX0_told_33 : decode cX0_told 33 = .ok (.getfield 155, 3) := dk_180 0 155 (dk_at dksX0_told_1 9 rfl rfl)
theorem dX0_told_36 : decode cX0_told 36 = .ok (.iload_n 2, 1) := dk_28 (dk_at dksX0_told_1 12 rfl rfl)
theorem dX0_told_37 : decode cX0_told 37 = .ok (.invokevirtual 167, 3) := dk_182 0 167 (dk_at dksX0_told_1 13 rfl rfl)
theorem dX0_told_40 : decode cX0_told 40 = .ok (.checkcast 171, 3) := dk_192 0 171 (dk_at dksX0_told_1 16 rfl rfl)
theorem dX0_told_43 : decode cX0_told 43 = .ok (.areturn, 1) := dk_176 (dk_at dksX0_told_1 19 rfl rfl)
abbrev cX0_failing : ByteArray := prog_1_method_25_code
def yX0_failing : MethodName := ⟨RX0, "failing", "(I)I"⟩
def dkwX0_failing_0 : List UInt8 := [42, 27, 42, 180, 0, 31, 180, 0, 195, 27, 46, 42, 180, 0, 31, 180, 0, 247, 27, 46, 182, 0, 250, 172]
abbrev dktX0_failing_0 : List UInt8 := dkwX0_failing_0 ++ []
theorem dksX0_failing_0 : cX0_failing.data.toList.drop 0 = dktX0_failing_0 := by decide +kernel
theorem dX0_failing_0 : decode cX0_failing 0 = .ok (.aload_n 0, 1) := dk_42 (dk_at dksX0_failing_0 0 rfl rfl)
theorem dX0_failing_1 : decode cX0_failing 1 = .ok (.iload_n 1, 1) := dk_27 (dk_at dksX0_failing_0 1 rfl rfl)
theorem dX0_failing_2 : decode cX0_failing 2 = .ok (.aload_n 0, 1) := dk_42 (dk_at dksX0_failing_0 2 rfl rfl)
theorem dX0_failing_3 : decode cX0_failing 3 = .ok (.getfield 31, 3) := dk_180 0 31 (dk_at dksX0_failing_0 3 rfl rfl)
theorem dX0_failing_6 : decode cX0_failing 6 = .ok (.getfield 195, 3) := dk_180 0 195 (dk_at dksX0_failing_0 6 rfl rfl)
theorem dX0_failing_9 : decode cX0_failing 9 = .ok (.iload_n 1, 1) := dk_27 (dk_at dksX0_failing_0 9 rfl rfl)
theorem dX0_failing_10 : decode cX0_failing 10 = .ok (.iaload, 1) := dk_46 (dk_at dksX0_failing_0 10 rfl rfl)
theorem dX0_failing_11 : decode cX0_failing 11 = .ok (.aload_n 0, 1) := dk_42 (dk_at dksX0_failing_0 11 rfl rfl)
theorem dX0_failing_12 : decode cX0_failing 12 = .ok (.getfield 31, 3) := dk_180 0 31 (dk_at dksX0_failing_0 12 rfl rfl)
theorem dX0_failing_15 : decode cX0_failing 15 = .ok (.getfield 247, 3) := dk_180 0 247 (dk_at dksX0_failing_0 15 rfl rfl)
theorem dX0_failing_18 : decode cX0_failing 18 = .ok (.iload_n 1, 1) := dk_27 (dk_at dksX0_failing_0 18 rfl rfl)
theorem dX0_failing_19 : decode cX0_failing 19 = .ok (.iaload, 1) := dk_46 (dk_at dksX0_failing_0 19 rfl rfl)
theorem dX0_failing_20 : decode cX0_failing 20 = .ok (.invokevirtual 250, 3) := dk_182 0 250 (dk_at dksX0_failing_0 20 rfl rfl)
theorem dX0_failing_23 : decode cX0_failing 23 = .ok (.ireturn, 1) := dk_172 (dk_at dksX0_failing_0 23 rfl rfl)
abbrev cX0_failing_2 : ByteArray := prog_1_method_24_code
def yX0_failing_2 : MethodName := ⟨RX0, "failing", "(III)I"⟩
def dkwX0_failing_2_4 : List UInt8 := [16, 6, 167, 0, 4, 3, 172]
abbrev dktX0_failing_2_4 : List UInt8 := dkwX0_failing_2_4 ++ []
def dkwX0_failing_2_3 : List UInt8 := [182, 0, 238, 153, 0, 5, 8, 172, 42, 27, 28, 182, 0, 241, 42, 180, 0, 24, 180, 0, 244, 164, 0, 8]
abbrev dktX0_failing_2_3 : List UInt8 := dkwX0_failing_2_3 ++ dktX0_failing_2_4
def dkwX0_failing_2_2 : List UInt8 := [6, 172, 42, 25, 4, 180, 0, 182, 182, 0, 234, 153, 0, 5, 7, 172, 42, 25, 4, 180, 0, 185, 28, 29]
abbrev dktX0_failing_2_2 : List UInt8 := dkwX0_failing_2_2 ++ dktX0_failing_2_3
def dkwX0_failing_2_1 : List UInt8 := [28, 29, 182, 0, 227, 154, 0, 5, 5, 172, 42, 25, 4, 180, 0, 182, 28, 29, 182, 0, 230, 154, 0, 5]
abbrev dktX0_failing_2_1 : List UInt8 := dkwX0_failing_2_1 ++ dktX0_failing_2_2
def dkwX0_failing_2_0 : List UInt8 := [42, 27, 182, 0, 178, 58, 4, 42, 180, 0, 31, 180, 0, 220, 27, 184, 0, 223, 153, 0, 5, 4, 172, 42]
abbrev dktX0_failing_2_0 : List UInt8 := dkwX0_failing_2_0 ++ dktX0_failing_2_1
theorem dksX0_failing_2_0 : cX0_failing_2.data.toList.drop 0 = dktX0_failing_2_0 := by decide +kernel
theorem dksX0_failing_2_1 : cX0_failing_2.data.toList.drop 24 = dktX0_failing_2_1 := dk_seg dksX0_failing_2_0 24 rfl rfl
theorem dksX0_failing_2_2 : cX0_failing_2.data.toList.drop 48 = dktX0_failing_2_2 := dk_seg dksX0_failing_2_1 24 rfl rfl
theorem dksX0_failing_2_3 : cX0_failing_2.data.toList.drop 72 = dktX0_failing_2_3 := dk_seg dksX0_failing_2_2 24 rfl rfl
theorem dksX0_failing_2_4 : cX0_failing_2.data.toList.drop 96 = dktX0_failing_2_4 := dk_seg dksX0_failing_2_3 24 rfl rfl
theorem dX0_failing_2_0 : decode cX0_failing_2 0 = .ok (.aload_n 0, 1) := dk_42 (dk_at dksX0_failing_2_0 0 rfl rfl)
theorem dX0_failing_2_1 : decode cX0_failing_2 1 = .ok (.iload_n 1, 1) := dk_27 (dk_at dksX0_failing_2_0 1 rfl rfl)
theorem dX0_failing_2_2 : decode cX0_failing_2 2 = .ok (.invokevirtual 178, 3) := dk_182 0 178 (dk_at dksX0_failing_2_0 2 rfl rfl)
theorem dX0_failing_2_5 : decode cX0_failing_2 5 = .ok (.astore 4, 2) := dk_58 4 (dk_at dksX0_failing_2_0 5 rfl rfl)
theorem dX0_failing_2_7 : decode cX0_failing_2 7 = .ok (.aload_n 0, 1) := dk_42 (dk_at dksX0_failing_2_0 7 rfl rfl)
theorem dX0_failing_2_8 : decode cX0_failing_2 8 = .ok (.getfield 31, 3) := dk_180 0 31 (dk_at dksX0_failing_2_0 8 rfl rfl)
theorem dX0_failing_2_11 : decode cX0_failing_2 11 = .ok (.getfield 220, 3) := dk_180 0 220 (dk_at dksX0_failing_2_0 11 rfl rfl)
theorem dX0_failing_2_14 : decode cX0_failing_2 14 = .ok (.iload_n 1, 1) := dk_27 (dk_at dksX0_failing_2_0 14 rfl rfl)
theorem dX0_failing_2_15 : decode cX0_failing_2 15 = .ok (.invokestatic 223, 3) := dk_184 0 223 (dk_at dksX0_failing_2_0 15 rfl rfl)
theorem dX0_failing_2_18 : decode cX0_failing_2 18 = .ok (.ifCond .eq 5, 3) := dk_153 0 5 (dk_at dksX0_failing_2_0 18 rfl rfl)
theorem dX0_failing_2_21 : decode cX0_failing_2 21 = .ok (.iconst 1, 1) := dk_4 (dk_at dksX0_failing_2_0 21 rfl rfl)
theorem dX0_failing_2_22 : decode cX0_failing_2 22 = .ok (.ireturn, 1) := dk_172 (dk_at dksX0_failing_2_0 22 rfl rfl)
theorem dX0_failing_2_23 : decode cX0_failing_2 23 = .ok (.aload_n 0, 1) := dk_42 (dk_at dksX0_failing_2_0 23 rfl rfl)
theorem dX0_failing_2_24 : decode cX0_failing_2 24 = .ok (.iload_n 2, 1) := dk_28 (dk_at dksX0_failing_2_1 0 rfl rfl)
theorem dX0_failing_2_25 : decode cX0_failing_2 25 = .ok (.iload_n 3, 1) := dk_29 (dk_at dksX0_failing_2_1 1 rfl rfl)
theorem dX0_failing_2_26 : decode cX0_failing_2 26 = .ok (.invokevirtual 227, 3) := dk_182 0 227 (dk_at dksX0_failing_2_1 2 rfl rfl)
theorem dX0_failing_2_29 : decode cX0_failing_2 29 = .ok (.ifCond .ne 5, 3) := dk_154 0 5 (dk_at dksX0_failing_2_1 5 rfl rfl)
theorem dX0_failing_2_32 : decode cX0_failing_2 32 = .ok (.iconst 2, 1) := dk_5 (dk_at dksX0_failing_2_1 8 rfl rfl)
theorem dX0_failing_2_33 : decode cX0_failing_2 33 = .ok (.ireturn, 1) := dk_172 (dk_at dksX0_failing_2_1 9 rfl rfl)
theorem dX0_failing_2_34 : decode cX0_failing_2 34 = .ok (.aload_n 0, 1) := dk_42 (dk_at dksX0_failing_2_1 10 rfl rfl)
theorem dX0_failing_2_35 : decode cX0_failing_2 35 = .ok (.aload 4, 2) := dk_25 4 (dk_at dksX0_failing_2_1 11 rfl rfl)
theorem dX0_failing_2_37 : decode cX0_failing_2 37 = .ok (.getfield 182, 3) := dk_180 0 182 (dk_at dksX0_failing_2_1 13 rfl rfl)
theorem dX0_failing_2_40 : decode cX0_failing_2 40 = .ok (.iload_n 2, 1) := dk_28 (dk_at dksX0_failing_2_1 16 rfl rfl)
theorem dX0_failing_2_41 : decode cX0_failing_2 41 = .ok (.iload_n 3, 1) := dk_29 (dk_at dksX0_failing_2_1 17 rfl rfl)
theorem dX0_failing_2_42 : decode cX0_failing_2 42 = .ok (.invokevirtual 230, 3) := dk_182 0 230 (dk_at dksX0_failing_2_1 18 rfl rfl)
theorem dX0_failing_2_45 : decode cX0_failing_2 45 = .ok (.ifCond .ne 5, 3) := dk_154 0 5 (dk_at dksX0_failing_2_1 21 rfl rfl)
theorem dX0_failing_2_48 : decode cX0_failing_2 48 = .ok (.iconst 3, 1) := dk_6 (dk_at dksX0_failing_2_2 0 rfl rfl)
theorem dX0_failing_2_49 : decode cX0_failing_2 49 = .ok (.ireturn, 1) := dk_172 (dk_at dksX0_failing_2_2 1 rfl rfl)
theorem dX0_failing_2_50 : decode cX0_failing_2 50 = .ok (.aload_n 0, 1) := dk_42 (dk_at dksX0_failing_2_2 2 rfl rfl)
theorem dX0_failing_2_51 : decode cX0_failing_2 51 = .ok (.aload 4, 2) := dk_25 4 (dk_at dksX0_failing_2_2 3 rfl rfl)
theorem dX0_failing_2_53 : decode cX0_failing_2 53 = .ok (.getfield 182, 3) := dk_180 0 182 (dk_at dksX0_failing_2_2 5 rfl rfl)
theorem dX0_failing_2_56 : decode cX0_failing_2 56 = .ok (.invokevirtual 234, 3) := dk_182 0 234 (dk_at dksX0_failing_2_2 8 rfl rfl)
theorem dX0_failing_2_59 : decode cX0_failing_2 59 = .ok (.ifCond .eq 5, 3) := dk_153 0 5 (dk_at dksX0_failing_2_2 11 rfl rfl)
theorem dX0_failing_2_62 : decode cX0_failing_2 62 = .ok (.iconst 4, 1) := dk_7 (dk_at dksX0_failing_2_2 14 rfl rfl)
theorem dX0_failing_2_63 : decode cX0_failing_2 63 = .ok (.ireturn, 1) := dk_172 (dk_at dksX0_failing_2_2 15 rfl rfl)
theorem dX0_failing_2_64 : decode cX0_failing_2 64 = .ok (.aload_n 0, 1) := dk_42 (dk_at dksX0_failing_2_2 16 rfl rfl)
theorem dX0_failing_2_65 : decode cX0_failing_2 65 = .ok (.aload 4, 2) := dk_25 4 (dk_at dksX0_failing_2_2 17 rfl rfl)
theorem dX0_failing_2_67 : decode cX0_failing_2 67 = .ok (.getfield 185, 3) := dk_180 0 185 (dk_at dksX0_failing_2_2 19 rfl rfl)
theorem dX0_failing_2_70 : decode cX0_failing_2 70 = .ok (.iload_n 2, 1) := dk_28 (dk_at dksX0_failing_2_2 22 rfl rfl)
theorem dX0_failing_2_71 : decode cX0_failing_2 71 = .ok (.iload_n 3, 1) := dk_29 (dk_at dksX0_failing_2_2 23 rfl rfl)
theorem dX0_failing_2_72 : decode cX0_failing_2 72 = .ok (.invokevirtual 238, 3) := dk_182 0 238 (dk_at dksX0_failing_2_3 0 rfl rfl)
theorem dX0_failing_2_75 : decode cX0_failing_2 75 = .ok (.ifCond .eq 5, 3) := dk_153 0 5 (dk_at dksX0_failing_2_3 3 rfl rfl)
theorem dX0_failing_2_78 : decode cX0_failing_2 78 = .ok (.iconst 5, 1) := dk_8 (dk_at dksX0_failing_2_3 6 rfl rfl)
theorem dX0_failing_2_79 : decode cX0_failing_2 79 = .ok (.ireturn, 1) := dk_172 (dk_at dksX0_failing_2_3 7 rfl rfl)
theorem dX0_failing_2_80 : decode cX0_failing_2 80 = .ok (.aload_n 0, 1) := dk_42 (dk_at dksX0_failing_2_3 8 rfl rfl)
theorem dX0_failing_2_81 : decode cX0_failing_2 81 = .ok (.iload_n 1, 1) := dk_27 (dk_at dksX0_failing_2_3 9 rfl rfl)
theorem dX0_failing_2_82 : decode cX0_failing_2 82 = .ok (.iload_n 2, 1) := dk_28 (dk_at dksX0_failing_2_3 10 rfl rfl)
theorem dX0_failing_2_83 : decode cX0_failing_2 83 = .ok (.invokevirtual 241, 3) := dk_182 0 241 (dk_at dksX0_failing_2_3 11 rfl rfl)
theorem dX0_failing_2_86 : decode cX0_failing_2 86 = .ok (.aload_n 0, 1) := dk_42 (dk_at dksX0_failing_2_3 14 rfl rfl)
theorem dX0_failing_2_87 : decode cX0_failing_2 87 = .ok (.getfield 24, 3) := dk_180 0 24 (dk_at dksX0_failing_2_3 15 rfl rfl)
theorem dX0_failing_2_90 : decode cX0_failing_2 90 = .ok (.getfield 244, 3) := dk_180 0 244 (dk_at dksX0_failing_2_3 18 rfl rfl)
theorem dX0_failing_2_93 : decode cX0_failing_2 93 = .ok (.if_icmp .le 8, 3) := dk_164 0 8 (dk_at dksX0_failing_2_3 21 rfl rfl)
theorem dX0_failing_2_96 : decode cX0_failing_2 96 = .ok (.bipush 6, 2) := dk_16 6 (dk_at dksX0_failing_2_4 0 rfl rfl)
theorem dX0_failing_2_98 : decode cX0_failing_2 98 = .ok (.goto 4, 3) := dk_167 0 4 (dk_at dksX0_failing_2_4 2 rfl rfl)
theorem dX0_failing_2_101 : decode cX0_failing_2 101 = .ok (.iconst 0, 1) := dk_3 (dk_at dksX0_failing_2_4 5 rfl rfl)
theorem dX0_failing_2_102 : decode cX0_failing_2 102 = .ok (.ireturn, 1) := dk_172 (dk_at dksX0_failing_2_4 6 rfl rfl)
abbrev cX0_isLeft : ByteArray := prog_1_method_13_code
def yX0_isLeft : MethodName := ⟨RX0, "isLeft", "(II)Z"⟩
def dkwX0_isLeft_1 : List UInt8 := [172, 132, 3, 1, 167, 255, 230, 3, 172]
abbrev dktX0_isLeft_1 : List UInt8 := dkwX0_isLeft_1 ++ []
def dkwX0_isLeft_0 : List UInt8 := [3, 62, 29, 42, 180, 0, 24, 182, 0, 142, 162, 0, 21, 42, 29, 27, 28, 182, 0, 146, 153, 0, 5, 4]
abbrev dktX0_isLeft_0 : List UInt8 := dkwX0_isLeft_0 ++ dktX0_isLeft_1
theorem dksX0_isLeft_0 : cX0_isLeft.data.toList.drop 0 = dktX0_isLeft_0 := by decide +kernel
theorem dksX0_isLeft_1 : cX0_isLeft.data.toList.drop 24 = dktX0_isLeft_1 := dk_seg dksX0_isLeft_0 24 rfl rfl
theorem dX0_isLeft_0 : decode cX0_isLeft 0 = .ok (.iconst 0, 1) := dk_3 (dk_at dksX0_isLeft_0 0 rfl rfl)
theorem dX0_isLeft_1 : decode cX0_isLeft 1 = .ok (.istore_n 3, 1) := dk_62 (dk_at dksX0_isLeft_0 1 rfl rfl)
theorem dX0_isLeft_2 : decode cX0_isLeft 2 = .ok (.iload_n 3, 1) := dk_29 (dk_at dksX0_isLeft_0 2 rfl rfl)
theorem dX0_isLeft_3 : decode cX0_isLeft 3 = .ok (.aload_n 0, 1) := dk_42 (dk_at dksX0_isLeft_0 3 rfl rfl)
theorem dX0_isLeft_4 : decode cX0_isLeft 4 = .ok (.getfield 24, 3) := dk_180 0 24 (dk_at dksX0_isLeft_0 4 rfl rfl)
theorem dX0_isLeft_7 : decode cX0_isLeft 7 = .ok (.invokevirtual 142, 3) := dk_182 0 142 (dk_at dksX0_isLeft_0 7 rfl rfl)
theorem dX0_isLeft_10 : decode cX0_isLeft 10 = .ok (.if_icmp .ge 21, 3) := dk_162 0 21 (dk_at dksX0_isLeft_0 10 rfl rfl)
theorem dX0_isLeft_13 : decode cX0_isLeft 13 = .ok (.aload_n 0, 1) := dk_42 (dk_at dksX0_isLeft_0 13 rfl rfl)
theorem dX0_isLeft_14 : decode cX0_isLeft 14 = .ok (.iload_n 3, 1) := dk_29 (dk_at dksX0_isLeft_0 14 rfl rfl)
theorem dX0_isLeft_15 : decode cX0_isLeft 15 = .ok (.iload_n 1, 1) := dk_27 (dk_at dksX0_isLeft_0 15 rfl rfl)
theorem dX0_isLeft_16 : decode cX0_isLeft 16 = .ok (.iload_n 2, 1) := dk_28 (dk_at dksX0_isLeft_0 16 rfl rfl)
theorem dX0_isLeft_17 : decode cX0_isLeft 17 = .ok (.invokevirtual 146, 3) := dk_182 0 146 (dk_at dksX0_isLeft_0 17 rfl rfl)
theorem dX0_isLeft_20 : decode cX0_isLeft 20 = .ok (.ifCond .eq 5, 3) := dk_153 0 5 (dk_at dksX0_isLeft_0 20 rfl rfl)
theorem dX0_isLeft_23 : decode cX0_isLeft 23 = .ok (.iconst 1, 1) := dk_4 (dk_at dksX0_isLeft_0 23 rfl rfl)
theorem dX0_isLeft_24 : decode cX0_isLeft 24 = .ok (.ireturn, 1) := dk_172 (dk_at dksX0_isLeft_1 0 rfl rfl)
theorem dX0_isLeft_25 : decode cX0_isLeft 25 = .ok (.iinc 3 1, 3) := dk_132 3 1 (dk_at dksX0_isLeft_1 1 rfl rfl)
theorem dX0_isLeft_28 : decode cX0_isLeft 28 = .ok (.goto (-26), 3) := dk_167 255 230 (dk_at dksX0_isLeft_1 4 rfl rfl)
theorem dX0_isLeft_31 : decode cX0_isLeft 31 = .ok (.iconst 0, 1) := dk_3 (dk_at dksX0_isLeft_1 7 rfl rfl)
theorem dX0_isLeft_32 : decode cX0_isLeft 32 = .ok (.ireturn, 1) := dk_172 (dk_at dksX0_isLeft_1 8 rfl rfl)
abbrev cX0_agrees : ByteArray := prog_1_method_12_code
def yX0_agrees : MethodName := ⟨RX0, "agrees", "(III)Z"⟩
def dkwX0_agrees_1 : List UInt8 := [3, 172]
abbrev dktX0_agrees_1 : List UInt8 := dkwX0_agrees_1 ++ []
def dkwX0_agrees_0 : List UInt8 := [42, 180, 0, 24, 180, 0, 139, 27, 51, 153, 0, 15, 27, 29, 130, 28, 126, 154, 0, 7, 4, 167, 0, 4]
abbrev dktX0_agrees_0 : List UInt8 := dkwX0_agrees_0 ++ dktX0_agrees_1
theorem dksX0_agrees_0 : cX0_agrees.data.toList.drop 0 = dktX0_agrees_0 := by decide +kernel
theorem dksX0_agrees_1 : cX0_agrees.data.toList.drop 24 = dktX0_agrees_1 := dk_seg dksX0_agrees_0 24 rfl rfl
theorem dX0_agrees_0 : decode cX0_agrees 0 = .ok (.aload_n 0, 1) := dk_42 (dk_at dksX0_agrees_0 0 rfl rfl)
theorem dX0_agrees_1 : decode cX0_agrees 1 = .ok (.getfield 24, 3) := dk_180 0 24 (dk_at dksX0_agrees_0 1 rfl rfl)
theorem dX0_agrees_4 : decode cX0_agrees 4 = .ok (.getfield 139, 3) := dk_180 0 139 (dk_at dksX0_agrees_0 4 rfl rfl)
theorem dX0_agrees_7 : decode cX0_agrees 7 = .ok (.iload_n 1, 1) := dk_27 (dk_at dksX0_agrees_0 7 rfl rfl)
theorem dX0_agrees_8 : decode cX0_agrees 8 = .ok (.baload, 1) := dk_51 (dk_at dksX0_agrees_0 8 rfl rfl)
theorem dX0_agrees_9 : decode cX0_agrees 9 = .ok (.ifCond .eq 15, 3) := dk_153 0 15 (dk_at dksX0_agrees_0 9 rfl rfl)
theorem dX0_agrees_12 : decode cX0_agrees 12 = .ok (.iload_n 1, 1) := dk_27 (dk_at dksX0_agrees_0 12 rfl rfl)
theorem dX0_agrees_13 : decode cX0_agrees 13 = .ok (.iload_n 3, 1) := dk_29 (dk_at dksX0_agrees_0 13 rfl rfl)
theorem dX0_agrees_14 : decode cX0_agrees 14 = .ok (.ixor, 1) := dk_130 (dk_at dksX0_agrees_0 14 rfl rfl)
theorem dX0_agrees_15 : decode cX0_agrees 15 = .ok (.iload_n 2, 1) := dk_28 (dk_at dksX0_agrees_0 15 rfl rfl)
theorem dX0_agrees_16 : decode cX0_agrees 16 = .ok (.iand, 1) := dk_126 (dk_at dksX0_agrees_0 16 rfl rfl)
theorem dX0_agrees_17 : decode cX0_agrees 17 = .ok (.ifCond .ne 7, 3) := dk_154 0 7 (dk_at dksX0_agrees_0 17 rfl rfl)
theorem dX0_agrees_20 : decode cX0_agrees 20 = .ok (.iconst 1, 1) := dk_4 (dk_at dksX0_agrees_0 20 rfl rfl)
theorem dX0_agrees_21 : decode cX0_agrees 21 = .ok (.goto 4, 3) := dk_167 0 4 (dk_at dksX0_agrees_0 21 rfl rfl)
theorem dX0_agrees_24 : decode cX0_agrees 24 = .ok (.iconst 0, 1) := dk_3 (dk_at dksX0_agrees_1 0 rfl rfl)
theorem dX0_agrees_25 : decode cX0_agrees 25 = .ok (.ireturn, 1) := dk_172 (dk_at dksX0_agrees_1 1 rfl rfl)
abbrev cX0_areSure : ByteArray := prog_1_method_21_code
def yX0_areSure : MethodName := ⟨RX0, "areSure", "(Ljava/util/ArrayList;II)Z"⟩
def dkwX0_areSure_1 : List UInt8 := [180, 0, 175, 28, 29, 182, 0, 216, 4, 159, 0, 5, 3, 172, 132, 4, 1, 167, 255, 220, 4, 172]
abbrev dktX0_areSure_1 : List UInt8 := dkwX0_areSure_1 ++ []
def dkwX0_areSure_0 : List UInt8 := [3, 54, 4, 21, 4, 43, 182, 0, 159, 162, 0, 33, 42, 43, 21, 4, 182, 0, 167, 192, 0, 173]
abbrev dktX0_areSure_0 : List UInt8 := dkwX0_areSure_0 ++ dktX0_areSure_1
theorem dksX0_areSure_0 : cX0_areSure.data.toList.drop 0 = dktX0_areSure_0 := by decide +kernel
theorem dksX0_areSure_1 : cX0_areSure.data.toList.drop 22 = dktX0_areSure_1 := dk_seg dksX0_areSure_0 22 rfl rfl
theorem dX0_areSure_0 : decode cX0_areSure 0 = .ok (.iconst 0, 1) := dk_3 (dk_at dksX0_areSure_0 0 rfl rfl)
theorem dX0_areSure_1 : decode cX0_areSure 1 = .ok (.istore 4, 2) := dk_54 4 (dk_at dksX0_areSure_0 1 rfl rfl)
theorem dX0_areSure_3 : decode cX0_areSure 3 = .ok (.iload 4, 2) := dk_21 4 (dk_at dksX0_areSure_0 3 rfl rfl)
theorem dX0_areSure_5 : decode cX0_areSure 5 = .ok (.aload_n 1, 1) := dk_43 (dk_at dksX0_areSure_0 5 rfl rfl)
theorem dX0_areSure_6 : decode cX0_areSure 6 = .ok (.invokevirtual 159, 3) := dk_182 0 159 (dk_at dksX0_areSure_0 6 rfl rfl)
theorem dX0_areSure_9 : decode cX0_areSure 9 = .ok (.if_icmp .ge 33, 3) := dk_162 0 33 (dk_at dksX0_areSure_0 9 rfl rfl)
theorem dX0_areSure_12 : decode cX0_areSure 12 = .ok (.aload_n 0, 1) := dk_42 (dk_at dksX0_areSure_0 12 rfl rfl)
theorem dX0_areSure_13 : decode cX0_areSure 13 = .ok (.aload_n 1, 1) := dk_43 (dk_at dksX0_areSure_0 13 rfl rfl)
theorem dX0_areSure_14 : decode cX0_areSure 14 = .ok (.iload 4, 2) := dk_21 4 (dk_at dksX0_areSure_0 14 rfl rfl)
theorem dX0_areSure_16 : decode cX0_areSure 16 = .ok (.invokevirtual 167, 3) := dk_182 0 167 (dk_at dksX0_areSure_0 16 rfl rfl)
theorem dX0_areSure_19 : decode cX0_areSure 19 = .ok (.checkcast 173, 3) := dk_192 0 173 (dk_at dksX0_areSure_0 19 rfl rfl)
theorem dX0_areSure_22 : decode cX0_areSure 22 = .ok (.getfield 175, 3) := dk_180 0 175 (dk_at dksX0_areSure_1 0 rfl rfl)
theorem dX0_areSure_25 : decode cX0_areSure 25 = .ok (.iload_n 2, 1) := dk_28 (dk_at dksX0_areSure_1 3 rfl rfl)
theorem dX0_areSure_26 : decode cX0_areSure 26 = .ok (.iload_n 3, 1) := dk_29 (dk_at dksX0_areSure_1 4 rfl rfl)
theorem dX0_areSure_27 : decode cX0_areSure 27 = .ok (.invokevirtual 216, 3) := dk_182 0 216 (dk_at dksX0_areSure_1 5 rfl rfl)
theorem dX0_areSure_30 : decode cX0_areSure 30 = .ok (.iconst 1, 1) := dk_4 (dk_at dksX0_areSure_1 8 rfl rfl)
theorem dX0_areSure_31 : decode cX0_areSure 31 = .ok (.if_icmp .eq 5, 3) := dk_159 0 5 (dk_at dksX0_areSure_1 9 rfl rfl)
theorem dX0_areSure_34 : decode cX0_areSure 34 = .ok (.iconst 0, 1) := dk_3 (dk_at dksX0_areSure_1 12 rfl rfl)
theorem dX0_areSure_35 : decode cX0_areSure 35 = .ok (.ireturn, 1) := dk_172 (dk_at dksX0_areSure_1 13 rfl rfl)
theorem dX0_areSure_36 : decode cX0_areSure 36 = .ok (.iinc 4 1, 3) := dk_132 4 1 (dk_at dksX0_areSure_1 14 rfl rfl)
theorem dX0_areSure_39 : decode cX0_areSure 39 = .ok (.goto (-36), 3) := dk_167 255 220 (dk_at dksX0_areSure_1 17 rfl rfl)
theorem dX0_areSure_42 : decode cX0_areSure 42 = .ok (.iconst 1, 1) := dk_4 (dk_at dksX0_areSure_1 20 rfl rfl)
theorem dX0_areSure_43 : decode cX0_areSure 43 = .ok (.ireturn, 1) := dk_172 (dk_at dksX0_areSure_1 21 rfl rfl)
abbrev cX0_holdsIn : ByteArray := prog_1_method_15_code
def yX0_holdsIn : MethodName := ⟨RX0, "holdsIn", "([ZII)I"⟩
def dkwX0_holdsIn_4 : List UInt8 := [167, 0, 4, 3, 172]
abbrev dktX0_holdsIn_4 : List UInt8 := dkwX0_holdsIn_4 ++ []
def dkwX0_holdsIn_3 : List UInt8 := [54, 5, 132, 6, 1, 167, 255, 189, 21, 5, 153, 0, 7, 4, 167, 0, 13, 21, 4, 153, 0, 7, 5]
abbrev dktX0_holdsIn_3 : List UInt8 := dkwX0_holdsIn_3 ++ dktX0_holdsIn_4
def dkwX0_holdsIn_2 : List UInt8 := [167, 0, 4, 3, 54, 4, 21, 5, 153, 0, 14, 43, 21, 6, 51, 153, 0, 7, 4, 167, 0, 4, 3]
abbrev dktX0_holdsIn_2 : List UInt8 := dkwX0_holdsIn_2 ++ dktX0_holdsIn_3
def dkwX0_holdsIn_1 : List UInt8 := [28, 29, 182, 0, 146, 154, 0, 6, 167, 0, 41, 21, 4, 154, 0, 10, 43, 21, 6, 51, 153, 0, 7, 4]
abbrev dktX0_holdsIn_1 : List UInt8 := dkwX0_holdsIn_1 ++ dktX0_holdsIn_2
def dkwX0_holdsIn_0 : List UInt8 := [3, 54, 4, 4, 54, 5, 3, 54, 6, 21, 6, 42, 180, 0, 24, 182, 0, 142, 162, 0, 61, 42, 21, 6]
abbrev dktX0_holdsIn_0 : List UInt8 := dkwX0_holdsIn_0 ++ dktX0_holdsIn_1
theorem dksX0_holdsIn_0 : cX0_holdsIn.data.toList.drop 0 = dktX0_holdsIn_0 := by decide +kernel
theorem dksX0_holdsIn_1 : cX0_holdsIn.data.toList.drop 24 = dktX0_holdsIn_1 := dk_seg dksX0_holdsIn_0 24 rfl rfl
theorem dksX0_holdsIn_2 : cX0_holdsIn.data.toList.drop 48 = dktX0_holdsIn_2 := dk_seg dksX0_holdsIn_1 24 rfl rfl
theorem dksX0_holdsIn_3 : cX0_holdsIn.data.toList.drop 71 = dktX0_holdsIn_3 := dk_seg dksX0_holdsIn_2 23 rfl rfl
theorem dksX0_holdsIn_4 : cX0_holdsIn.data.toList.drop 94 = dktX0_holdsIn_4 := dk_seg dksX0_holdsIn_3 23 rfl rfl
theorem dX0_holdsIn_0 : decode cX0_holdsIn 0 = .ok (.iconst 0, 1) := dk_3 (dk_at dksX0_holdsIn_0 0 rfl rfl)
theorem dX0_holdsIn_1 : decode cX0_holdsIn 1 = .ok (.istore 4, 2) := dk_54 4 (dk_at dksX0_holdsIn_0 1 rfl rfl)
theorem dX0_holdsIn_3 : decode cX0_holdsIn 3 = .ok (.iconst 1, 1) := dk_4 (dk_at dksX0_holdsIn_0 3 rfl rfl)
theorem dX0_holdsIn_4 : decode cX0_holdsIn 4 = .ok (.istore 5, 2) := dk_54 5 (dk_at dksX0_holdsIn_0 4 rfl rfl)
theorem dX0_holdsIn_6 : decode cX0_holdsIn 6 = .ok (.iconst 0, 1) := dk_3 (dk_at dksX0_holdsIn_0 6 rfl rfl)
theorem dX0_holdsIn_7 : decode cX0_holdsIn 7 = .ok (.istore 6, 2) := dk_54 6 (dk_at dksX0_holdsIn_0 7 rfl rfl)
theorem dX0_holdsIn_9 : decode cX0_holdsIn 9 = .ok (.iload 6, 2) := dk_21 6 (dk_at dksX0_holdsIn_0 9 rfl rfl)
theorem dX0_holdsIn_11 : decode cX0_holdsIn 11 = .ok (.aload_n 0, 1) := dk_42 (dk_at dksX0_holdsIn_0 11 rfl rfl)
theorem dX0_holdsIn_12 : decode cX0_holdsIn 12 = .ok (.getfield 24, 3) := dk_180 0 24 (dk_at dksX0_holdsIn_0 12 rfl rfl)
theorem dX0_holdsIn_15 : decode cX0_holdsIn 15 = .ok (.invokevirtual 142, 3) := dk_182 0 142 (dk_at dksX0_holdsIn_0 15 rfl rfl)
theorem dX0_holdsIn_18 : decode cX0_holdsIn 18 = .ok (.if_icmp .ge 61, 3) := dk_162 0 61 (dk_at dksX0_holdsIn_0 18 rfl rfl)
theorem dX0_holdsIn_21 : decode cX0_holdsIn 21 = .ok (.aload_n 0, 1) := dk_42 (dk_at dksX0_holdsIn_0 21 rfl rfl)
theorem dX0_holdsIn_22 : decode cX0_holdsIn 22 = .ok (.iload 6, 2) := dk_21 6 (dk_at dksX0_holdsIn_0 22 rfl rfl)
theorem dX0_holdsIn_24 : decode cX0_holdsIn 24 = .ok (.iload_n 2, 1) := dk_28 (dk_at dksX0_holdsIn_1 0 rfl rfl)
theorem dX0_holdsIn_25 : decode cX0_holdsIn 25 = .ok (.iload_n 3, 1) := dk_29 (dk_at dksX0_holdsIn_1 1 rfl rfl)
theorem dX0_holdsIn_26 : decode cX0_holdsIn 26 = .ok (.invokevirtual 146, 3) := dk_182 0 146 (dk_at dksX0_holdsIn_1 2 rfl rfl)
theorem dX0_holdsIn_29 : decode cX0_holdsIn 29 = .ok (.ifCond .ne 6, 3) := dk_154 0 6 (dk_at dksX0_holdsIn_1 5 rfl rfl)
theorem dX0_holdsIn_32 : decode cX0_holdsIn 32 = .ok (.goto 41, 3) := dk_167 0 41 (dk_at dksX0_holdsIn_1 8 rfl rfl)
theorem dX0_holdsIn_35 : decode cX0_holdsIn 35 = .ok (.iload 4, 2) := dk_21 4 (dk_at dksX0_holdsIn_1 11 rfl rfl)
theorem dX0_holdsIn_37 : decode cX0_holdsIn 37 = .ok (.ifCond .ne 10, 3) := dk_154 0 10 (dk_at dksX0_holdsIn_1 13 rfl rfl)
theorem dX0_holdsIn_40 : decode cX0_holdsIn 40 = .ok (.aload_n 1, 1) := dk_43 (dk_at dksX0_holdsIn_1 16 rfl rfl)
theorem dX0_holdsIn_41 : decode cX0_holdsIn 41 = .ok (.iload 6, 2) := dk_21 6 (dk_at dksX0_holdsIn_1 17 rfl rfl)
theorem dX0_holdsIn_43 : decode cX0_holdsIn 43 = .ok (.baload, 1) := dk_51 (dk_at dksX0_holdsIn_1 19 rfl rfl)
theorem dX0_holdsIn_44 : decode cX0_holdsIn 44 = .ok (.ifCond .eq 7, 3) := dk_153 0 7 (dk_at dksX0_holdsIn_1 20 rfl rfl)
theorem dX0_holdsIn_47 : decode cX0_holdsIn 47 = .ok (.iconst 1, 1) := dk_4 (dk_at dksX0_holdsIn_1 23 rfl rfl)
theorem dX0_holdsIn_48 : decode cX0_holdsIn 48 = .ok (.goto 4, 3) := dk_167 0 4 (dk_at dksX0_holdsIn_2 0 rfl rfl)
theorem dX0_holdsIn_51 : decode cX0_holdsIn 51 = .ok (.iconst 0, 1) := dk_3 (dk_at dksX0_holdsIn_2 3 rfl rfl)
theorem dX0_holdsIn_52 : decode cX0_holdsIn 52 = .ok (.istore 4, 2) := dk_54 4 (dk_at dksX0_holdsIn_2 4 rfl rfl)
theorem dX0_holdsIn_54 : decode cX0_holdsIn 54 = .ok (.iload 5, 2) := dk_21 5 (dk_at dksX0_holdsIn_2 6 rfl rfl)
theorem dX0_holdsIn_56 : decode cX0_holdsIn 56 = .ok (.ifCond .eq 14, 3) := dk_153 0 14 (dk_at dksX0_holdsIn_2 8 rfl rfl)
theorem dX0_holdsIn_59 : decode cX0_holdsIn 59 = .ok (.aload_n 1, 1) := dk_43 (dk_at dksX0_holdsIn_2 11 rfl rfl)
theorem dX0_holdsIn_60 : decode cX0_holdsIn 60 = .ok (.iload 6, 2) := dk_21 6 (dk_at dksX0_holdsIn_2 12 rfl rfl)
theorem dX0_holdsIn_62 : decode cX0_holdsIn 62 = .ok (.baload, 1) := dk_51 (dk_at dksX0_holdsIn_2 14 rfl rfl)
theorem dX0_holdsIn_63 : decode cX0_holdsIn 63 = .ok (.ifCond .eq 7, 3) := dk_153 0 7 (dk_at dksX0_holdsIn_2 15 rfl rfl)
theorem dX0_holdsIn_66 : decode cX0_holdsIn 66 = .ok (.iconst 1, 1) := dk_4 (dk_at dksX0_holdsIn_2 18 rfl rfl)
theorem dX0_holdsIn_67 : decode cX0_holdsIn 67 = .ok (.goto 4, 3) := dk_167 0 4 (dk_at dksX0_holdsIn_2 19 rfl rfl)
theorem dX0_holdsIn_70 : decode cX0_holdsIn 70 = .ok (.iconst 0, 1) := dk_3 (dk_at dksX0_holdsIn_2 22 rfl rfl)
theorem dX0_holdsIn_71 : decode cX0_holdsIn 71 = .ok (.istore 5, 2) := dk_54 5 (dk_at dksX0_holdsIn_3 0 rfl rfl)
theorem dX0_holdsIn_73 : decode cX0_holdsIn 73 = .ok (.iinc 6 1, 3) := dk_132 6 1 (dk_at dksX0_holdsIn_3 2 rfl rfl)
theorem dX0_holdsIn_76 : decode cX0_holdsIn 76 = .ok (.goto (-67), 3) := dk_167 255 189 (dk_at dksX0_holdsIn_3 5 rfl rfl)
theorem dX0_holdsIn_79 : decode cX0_holdsIn 79 = .ok (.iload 5, 2) := dk_21 5 (dk_at dksX0_holdsIn_3 8 rfl rfl)
theorem dX0_holdsIn_81 : decode cX0_holdsIn 81 = .ok (.ifCond .eq 7, 3) := dk_153 0 7 (dk_at dksX0_holdsIn_3 10 rfl rfl)
theorem dX0_holdsIn_84 : decode cX0_holdsIn 84 = .ok (.iconst 1, 1) := dk_4 (dk_at dksX0_holdsIn_3 13 rfl rfl)
theorem dX0_holdsIn_85 : decode cX0_holdsIn 85 = .ok (.goto 13, 3) := dk_167 0 13 (dk_at dksX0_holdsIn_3 14 rfl rfl)
theorem dX0_holdsIn_88 : decode cX0_holdsIn 88 = .ok (.iload 4, 2) := dk_21 4 (dk_at dksX0_holdsIn_3 17 rfl rfl)
theorem dX0_holdsIn_90 : decode cX0_holdsIn 90 = .ok (.ifCond .eq 7, 3) := dk_153 0 7 (dk_at dksX0_holdsIn_3 19 rfl rfl)
theorem dX0_holdsIn_93 : decode cX0_holdsIn 93 = .ok (.iconst 2, 1) := dk_5 (dk_at dksX0_holdsIn_3 22 rfl rfl)
theorem dX0_holdsIn_94 : decode cX0_holdsIn 94 = .ok (.goto 4, 3) := dk_167 0 4 (dk_at dksX0_holdsIn_4 0 rfl rfl)
theorem dX0_holdsIn_97 : decode cX0_holdsIn 97 = .ok (.iconst 0, 1) := dk_3 (dk_at dksX0_holdsIn_4 3 rfl rfl)
theorem dX0_holdsIn_98 : decode cX0_holdsIn 98 = .ok (.ireturn, 1) := dk_172 (dk_at dksX0_holdsIn_4 4 rfl rfl)
abbrev cX0_isAway : ByteArray := prog_1_method_22_code
def yX0_isAway : MethodName := ⟨RX0, "isAway", "(Ljava/util/ArrayList;)Z"⟩
def dkwX0_isAway_2 : List UInt8 := [167, 255, 211, 3, 172]
abbrev dktX0_isAway_2 : List UInt8 := dkwX0_isAway_2 ++ []
def dkwX0_isAway_1 : List UInt8 := [180, 0, 31, 180, 0, 149, 42, 180, 0, 31, 180, 0, 152, 182, 0, 216, 154, 0, 5, 4, 172, 132, 2, 1]
abbrev dktX0_isAway_1 : List UInt8 := dkwX0_isAway_1 ++ dktX0_isAway_2
def dkwX0_isAway_0 : List UInt8 := [3, 61, 28, 43, 182, 0, 159, 162, 0, 43, 42, 43, 28, 182, 0, 167, 192, 0, 173, 180, 0, 175, 42]
abbrev dktX0_isAway_0 : List UInt8 := dkwX0_isAway_0 ++ dktX0_isAway_1
theorem dksX0_isAway_0 : cX0_isAway.data.toList.drop 0 = dktX0_isAway_0 := by decide +kernel
theorem dksX0_isAway_1 : cX0_isAway.data.toList.drop 23 = dktX0_isAway_1 := dk_seg dksX0_isAway_0 23 rfl rfl
theorem dksX0_isAway_2 : cX0_isAway.data.toList.drop 47 = dktX0_isAway_2 := dk_seg dksX0_isAway_1 24 rfl rfl
theorem dX0_isAway_0 : decode cX0_isAway 0 = .ok (.iconst 0, 1) := dk_3 (dk_at dksX0_isAway_0 0 rfl rfl)
theorem dX0_isAway_1 : decode cX0_isAway 1 = .ok (.istore_n 2, 1) := dk_61 (dk_at dksX0_isAway_0 1 rfl rfl)
theorem dX0_isAway_2 : decode cX0_isAway 2 = .ok (.iload_n 2, 1) := dk_28 (dk_at dksX0_isAway_0 2 rfl rfl)
theorem dX0_isAway_3 : decode cX0_isAway 3 = .ok (.aload_n 1, 1) := dk_43 (dk_at dksX0_isAway_0 3 rfl rfl)
theorem dX0_isAway_4 : decode cX0_isAway 4 = .ok (.invokevirtual 159, 3) := dk_182 0 159 (dk_at dksX0_isAway_0 4 rfl rfl)
theorem dX0_isAway_7 : decode cX0_isAway 7 = .ok (.if_icmp .ge 43, 3) := dk_162 0 43 (dk_at dksX0_isAway_0 7 rfl rfl)
theorem dX0_isAway_10 : decode cX0_isAway 10 = .ok (.aload_n 0, 1) := dk_42 (dk_at dksX0_isAway_0 10 rfl rfl)
theorem dX0_isAway_11 : decode cX0_isAway 11 = .ok (.aload_n 1, 1) := dk_43 (dk_at dksX0_isAway_0 11 rfl rfl)
theorem dX0_isAway_12 : decode cX0_isAway 12 = .ok (.iload_n 2, 1) := dk_28 (dk_at dksX0_isAway_0 12 rfl rfl)
theorem dX0_isAway_13 : decode cX0_isAway 13 = .ok (.invokevirtual 167, 3) := dk_182 0 167 (dk_at dksX0_isAway_0 13 rfl rfl)
theorem dX0_isAway_16 : decode cX0_isAway 16 = .ok (.checkcast 173, 3) := dk_192 0 173 (dk_at dksX0_isAway_0 16 rfl rfl)
theorem dX0_isAway_19 : decode cX0_isAway 19 = .ok (.getfield 175, 3) := dk_180 0 175 (dk_at dksX0_isAway_0 19 rfl rfl)
theorem dX0_isAway_22 : decode cX0_isAway 22 = .ok (.aload_n 0, 1) := dk_42 (dk_at dksX0_isAway_0 22 rfl rfl)
theorem dX0_isAway_23 : decode cX0_isAway 23 = .ok (.getfield 31, 3) := dk_180 0 31 (dk_at dksX0_isAway_1 0 rfl rfl)
theorem dX0_isAway_26 : decode cX0_isAway 26 = .ok (.getfield 149, 3) := dk_180 0 149 (dk_at dksX0_isAway_1 3 rfl rfl)
theorem dX0_isAway_29 : decode cX0_isAway 29 = .ok (.aload_n 0, 1) := dk_42 (dk_at dksX0_isAway_1 6 rfl rfl)
theorem dX0_isAway_30 : decode cX0_isAway 30 = .ok (.getfield 31, 3) := dk_180 0 31 (dk_at dksX0_isAway_1 7 rfl rfl)
theorem dX0_isAway_33 : decode cX0_isAway 33 = .ok (.getfield 152, 3) := dk_180 0 152 (dk_at dksX0_isAway_1 10 rfl rfl)
theorem dX0_isAway_36 : decode cX0_isAway 36 = .ok (.invokevirtual 216, 3) := dk_182 0 216 (dk_at dksX0_isAway_1 13 rfl rfl)
theorem dX0_isAway_39 : decode cX0_isAway 39 = .ok (.ifCond .ne 5, 3) := dk_154 0 5 (dk_at dksX0_isAway_1 16 rfl rfl)
theorem dX0_isAway_42 : decode cX0_isAway 42 = .ok (.iconst 1, 1) := dk_4 (dk_at dksX0_isAway_1 19 rfl rfl)
theorem dX0_isAway_43 : decode cX0_isAway 43 = .ok (.ireturn, 1) := dk_172 (dk_at dksX0_isAway_1 20 rfl rfl)
theorem dX0_isAway_44 : decode cX0_isAway 44 = .ok (.iinc 2 1, 3) := dk_132 2 1 (dk_at dksX0_isAway_1 21 rfl rfl)
theorem dX0_isAway_47 : decode cX0_isAway 47 = .ok (.goto (-45), 3) := dk_167 255 211 (dk_at dksX0_isAway_2 0 rfl rfl)
theorem dX0_isAway_50 : decode cX0_isAway 50 = .ok (.iconst 0, 1) := dk_3 (dk_at dksX0_isAway_2 3 rfl rfl)
theorem dX0_isAway_51 : decode cX0_isAway 51 = .ok (.ireturn, 1) := dk_172 (dk_at dksX0_isAway_2 4 rfl rfl)
abbrev cX0_isBarred : ByteArray := prog_1_method_23_code
def yX0_isBarred : MethodName := ⟨RX0, "isBarred", "(Ljava/util/ArrayList;II)Z"⟩
def dkwX0_isBarred_2 : List UInt8 := [42, 180, 0, 31, 180, 0, 152, 182, 0, 216, 4, 160, 0, 5, 4, 172, 132, 4, 1, 167, 255, 192, 3, 172]
abbrev dktX0_isBarred_2 : List UInt8 := dkwX0_isBarred_2 ++ []
def dkwX0_isBarred_1 : List UInt8 := [58, 5, 42, 25, 5, 28, 29, 182, 0, 216, 4, 159, 0, 27, 42, 25, 5, 42, 180, 0, 31, 180, 0, 149]
abbrev dktX0_isBarred_1 : List UInt8 := dkwX0_isBarred_1 ++ dktX0_isBarred_2
def dkwX0_isBarred_0 : List UInt8 := [3, 54, 4, 21, 4, 43, 182, 0, 159, 162, 0, 61, 43, 21, 4, 182, 0, 167, 192, 0, 173, 180, 0, 175]
abbrev dktX0_isBarred_0 : List UInt8 := dkwX0_isBarred_0 ++ dktX0_isBarred_1
theorem dksX0_isBarred_0 : cX0_isBarred.data.toList.drop 0 = dktX0_isBarred_0 := by decide +kernel
theorem dksX0_isBarred_1 : cX0_isBarred.data.toList.drop 24 = dktX0_isBarred_1 := dk_seg dksX0_isBarred_0 24 rfl rfl
theorem dksX0_isBarred_2 : cX0_isBarred.data.toList.drop 48 = dktX0_isBarred_2 := dk_seg dksX0_isBarred_1 24 rfl rfl
theorem dX0_isBarred_0 : decode cX0_isBarred 0 = .ok (.iconst 0, 1) := dk_3 (dk_at dksX0_isBarred_0 0 rfl rfl)
theorem dX0_isBarred_1 : decode cX0_isBarred 1 = .ok (.istore 4, 2) := dk_54 4 (dk_at dksX0_isBarred_0 1 rfl rfl)
theorem dX0_isBarred_3 : decode cX0_isBarred 3 = .ok (.iload 4, 2) := dk_21 4 (dk_at dksX0_isBarred_0 3 rfl rfl)
theorem dX0_isBarred_5 : decode cX0_isBarred 5 = .ok (.aload_n 1, 1) := dk_43 (dk_at dksX0_isBarred_0 5 rfl rfl)
theorem dX0_isBarred_6 : decode cX0_isBarred 6 = .ok (.invokevirtual 159, 3) := dk_182 0 159 (dk_at dksX0_isBarred_0 6 rfl rfl)
theorem dX0_isBarred_9 : decode cX0_isBarred 9 = .ok (.if_icmp .ge 61, 3) := dk_162 0 61 (dk_at dksX0_isBarred_0 9 rfl rfl)
theorem dX0_isBarred_12 : decode cX0_isBarred 12 = .ok (.aload_n 1, 1) := dk_43 (dk_at dksX0_isBarred_0 12 rfl rfl)
theorem dX0_isBarred_13 : decode cX0_isBarred 13 = .ok (.iload 4, 2) := dk_21 4 (dk_at dksX0_isBarred_0 13 rfl rfl)
theorem dX0_isBarred_15 : decode cX0_isBarred 15 = .ok (.invokevirtual 167, 3) := dk_182 0 167 (dk_at dksX0_isBarred_0 15 rfl rfl)
theorem dX0_isBarred_18 : decode cX0_isBarred 18 = .ok (.checkcast 173, 3) := dk_192 0 173 (dk_at dksX0_isBarred_0 18 rfl rfl)
theorem dX0_isBarred_21 : decode cX0_isBarred 21 = .ok (.getfield 175, 3) := dk_180 0 175 (dk_at dksX0_isBarred_0 21 rfl rfl)
theorem dX0_isBarred_24 : decode cX0_isBarred 24 = .ok (.astore 5, 2) := dk_58 5 (dk_at dksX0_isBarred_1 0 rfl rfl)
theorem dX0_isBarred_26 : decode cX0_isBarred 26 = .ok (.aload_n 0, 1) := dk_42 (dk_at dksX0_isBarred_1 2 rfl rfl)
theorem dX0_isBarred_27 : decode cX0_isBarred 27 = .ok (.aload 5, 2) := dk_25 5 (dk_at dksX0_isBarred_1 3 rfl rfl)
theorem dX0_isBarred_29 : decode cX0_isBarred 29 = .ok (.iload_n 2, 1) := dk_28 (dk_at dksX0_isBarred_1 5 rfl rfl)
theorem dX0_isBarred_30 : decode cX0_isBarred 30 = .ok (.iload_n 3, 1) := dk_29 (dk_at dksX0_isBarred_1 6 rfl rfl)
theorem dX0_isBarred_31 : decode cX0_isBarred 31 = .ok (.invokevirtual 216, 3) := dk_182 0 216 (dk_at dksX0_isBarred_1 7 rfl rfl)
theorem dX0_isBarred_34 : decode cX0_isBarred 34 = .ok (.iconst 1, 1) := dk_4 (dk_at dksX0_isBarred_1 10 rfl rfl)
theorem dX0_isBarred_35 : decode cX0_isBarred 35 = .ok (.if_icmp .eq 27, 3) := dk_159 0 27 (dk_at dksX0_isBarred_1 11 rfl rfl)
theorem dX0_isBarred_38 : decode cX0_isBarred 38 = .ok (.aload_n 0, 1) := dk_42 (dk_at dksX0_isBarred_1 14 rfl rfl)
theorem dX0_isBarred_39 : decode cX0_isBarred 39 = .ok (.aload 5, 2) := dk_25 5 (dk_at dksX0_isBarred_1 15 rfl rfl)
theorem dX0_isBarred_41 : decode cX0_isBarred 41 = .ok (.aload_n 0, 1) := dk_42 (dk_at dksX0_isBarred_1 17 rfl rfl)
theorem dX0_isBarred_42 : decode cX0_isBarred 42 = .ok (.getfield 31, 3) := dk_180 0 31 (dk_at dksX0_isBarred_1 18 rfl rfl)
theorem dX0_isBarred_45 : decode cX0_isBarred 45 = .ok (.getfield 149, 3) := dk_180 0 149 (dk_at dksX0_isBarred_1 21 rfl rfl)
theorem dX0_isBarred_48 : decode cX0_isBarred 48 = .ok (.aload_n 0, 1) := dk_42 (dk_at dksX0_isBarred_2 0 rfl rfl)
theorem dX0_isBarred_49 : decode cX0_isBarred 49 = .ok (.getfield 31, 3) := dk_180 0 31 (dk_at dksX0_isBarred_2 1 rfl rfl)
theorem dX0_isBarred_52 : decode cX0_isBarred 52 = .ok (.getfield 152, 3) := dk_180 0 152 (dk_at dksX0_isBarred_2 4 rfl rfl)
theorem dX0_isBarred_55 : decode cX0_isBarred 55 = .ok (.invokevirtual 216, 3) := dk_182 0 216 (dk_at dksX0_isBarred_2 7 rfl rfl)
theorem dX0_isBarred_58 : decode cX0_isBarred 58 = .ok (.iconst 1, 1) := dk_4 (dk_at dksX0_isBarred_2 10 rfl rfl)
theorem dX0_isBarred_59 : decode cX0_isBarred 59 = .ok (.if_icmp .ne 5, 3) := dk_160 0 5 (dk_at dksX0_isBarred_2 11 rfl rfl)
theorem dX0_isBarred_62 : decode cX0_isBarred 62 = .ok (.iconst 1, 1) := dk_4 (dk_at dksX0_isBarred_2 14 rfl rfl)
theorem dX0_isBarred_63 : decode cX0_isBarred 63 = .ok (.ireturn, 1) := dk_172 (dk_at dksX0_isBarred_2 15 rfl rfl)
theorem dX0_isBarred_64 : decode cX0_isBarred 64 = .ok (.iinc 4 1, 3) := dk_132 4 1 (dk_at dksX0_isBarred_2 16 rfl rfl)
theorem dX0_isBarred_67 : decode cX0_isBarred 67 = .ok (.goto (-64), 3) := dk_167 255 192 (dk_at dksX0_isBarred_2 19 rfl rfl)
theorem dX0_isBarred_70 : decode cX0_isBarred 70 = .ok (.iconst 0, 1) := dk_3 (dk_at dksX0_isBarred_2 22 rfl rfl)
theorem dX0_isBarred_71 : decode cX0_isBarred 71 = .ok (.ireturn, 1) := dk_172 (dk_at dksX0_isBarred_2 23 rfl rfl)
abbrev cX0_laysInjuries : ByteArray := prog_1_method_28_code
def yX0_laysInjuries : MethodName := ⟨RX0, "laysInjuries", "()V"⟩
def dkwX0_laysInjuries_5 : List UInt8 := [132, 3, 1, 167, 255, 186, 132, 2, 1, 167, 255, 167, 167, 255, 156, 177]
abbrev dktX0_laysInjuries_5 : List UInt8 := dkwX0_laysInjuries_5 ++ []
def dkwX0_laysInjuries_4 : List UInt8 := [184, 0, 208, 54, 4, 42, 180, 0, 56, 28, 21, 4, 79, 42, 180, 0, 56, 29, 21, 4, 79, 4, 60]
abbrev dktX0_laysInjuries_4 : List UInt8 := dkwX0_laysInjuries_4 ++ dktX0_laysInjuries_5
def dkwX0_laysInjuries_3 : List UInt8 := [29, 182, 1, 18, 154, 0, 6, 167, 0, 38, 42, 180, 0, 56, 28, 46, 42, 180, 0, 56, 29, 46]
abbrev dktX0_laysInjuries_3 : List UInt8 := dkwX0_laysInjuries_3 ++ dktX0_laysInjuries_4
def dkwX0_laysInjuries_2 : List UInt8 := [3, 62, 29, 28, 162, 0, 71, 42, 180, 0, 56, 28, 46, 42, 180, 0, 56, 29, 46, 159, 0, 50, 42, 28]
abbrev dktX0_laysInjuries_2 : List UInt8 := dkwX0_laysInjuries_2 ++ dktX0_laysInjuries_3
def dkwX0_laysInjuries_1 : List UInt8 := [167, 255, 235, 4, 60, 27, 153, 0, 102, 3, 60, 3, 61, 28, 42, 180, 0, 31, 180, 0, 136, 162, 0, 84]
abbrev dktX0_laysInjuries_1 : List UInt8 := dkwX0_laysInjuries_1 ++ dktX0_laysInjuries_2
def dkwX0_laysInjuries_0 : List UInt8 := [3, 60, 27, 42, 180, 0, 31, 180, 0, 136, 162, 0, 16, 42, 180, 0, 56, 27, 27, 79, 132, 1, 1]
abbrev dktX0_laysInjuries_0 : List UInt8 := dkwX0_laysInjuries_0 ++ dktX0_laysInjuries_1
theorem dksX0_laysInjuries_0 : cX0_laysInjuries.data.toList.drop 0 = dktX0_laysInjuries_0 := by decide +kernel
theorem dksX0_laysInjuries_1 : cX0_laysInjuries.data.toList.drop 23 = dktX0_laysInjuries_1 := dk_seg dksX0_laysInjuries_0 23 rfl rfl
theorem dksX0_laysInjuries_2 : cX0_laysInjuries.data.toList.drop 47 = dktX0_laysInjuries_2 := dk_seg dksX0_laysInjuries_1 24 rfl rfl
theorem dksX0_laysInjuries_3 : cX0_laysInjuries.data.toList.drop 71 = dktX0_laysInjuries_3 := dk_seg dksX0_laysInjuries_2 24 rfl rfl
theorem dksX0_laysInjuries_4 : cX0_laysInjuries.data.toList.drop 93 = dktX0_laysInjuries_4 := dk_seg dksX0_laysInjuries_3 22 rfl rfl
theorem dksX0_laysInjuries_5 : cX0_laysInjuries.data.toList.drop 116 = dktX0_laysInjuries_5 := dk_seg dksX0_laysInjuries_4 23 rfl rfl
theorem dX0_laysInjuries_0 : decode cX0_laysInjuries 0 = .ok (.iconst 0, 1) := dk_3 (dk_at dksX0_laysInjuries_0 0 rfl rfl)
theorem dX0_laysInjuries_1 : decode cX0_laysInjuries 1 = .ok (.istore_n 1, 1) := dk_60 (dk_at dksX0_laysInjuries_0 1 rfl rfl)
theorem dX0_laysInjuries_2 : decode cX0_laysInjuries 2 = .ok (.iload_n 1, 1) := dk_27 (dk_at dksX0_laysInjuries_0 2 rfl rfl)
theorem dX0_laysInjuries_3 : decode cX0_laysInjuries 3 = .ok (.aload_n 0, 1) := dk_42 (dk_at dksX0_laysInjuries_0 3 rfl rfl)
theorem dX0_laysInjuries_4 : decode cX0_laysInjuries 4 = .ok (.getfield 31, 3) := dk_180 0 31 (dk_at dksX0_laysInjuries_0 4 rfl rfl)
theorem dX0_laysInjuries_7 : decode cX0_laysInjuries 7 = .ok (.getfield 136, 3) := dk_180 0 136 (dk_at dksX0_laysInjuries_0 7 rfl rfl)
theorem dX0_laysInjuries_10 : decode cX0_laysInjuries 10 = .ok (.if_icmp .ge 16, 3) := dk_162 0 16 (dk_at dksX0_laysInjuries_0 10 rfl rfl)
theorem dX0_laysInjuries_13 : decode cX0_laysInjuries 13 = .ok (.aload_n 0, 1) := dk_42 (dk_at dksX0_laysInjuries_0 13 rfl rfl)
theorem dX0_laysInjuries_14 : decode cX0_laysInjuries 14 = .ok (.getfield 56, 3) := dk_180 0 56 (dk_at dksX0_laysInjuries_0 14 rfl rfl)
theorem dX0_laysInjuries_17 : decode cX0_laysInjuries 17 = .ok (.iload_n 1, 1) := dk_27 (dk_at dksX0_laysInjuries_0 17 rfl rfl)
theorem dX0_laysInjuries_18 : decode cX0_laysInjuries 18 = .ok (.iload_n 1, 1) := dk_27 (dk_at dksX0_laysInjuries_0 18 rfl rfl)
theorem dX0_laysInjuries_19 : decode cX0_laysInjuries 19 = .ok (.iastore, 1) := dk_79 (dk_at dksX0_laysInjuries_0 19 rfl rfl)
theorem dX0_laysInjuries_20 : decode cX0_laysInjuries 20 = .ok (.iinc 1 1, 3) := dk_132 1 1 (dk_at dksX0_laysInjuries_0 20 rfl rfl)
theorem dX0_laysInjuries_23 : decode cX0_laysInjuries 23 = .ok (.goto (-21), 3) := dk_167 255 235 (dk_at dksX0_laysInjuries_1 0 rfl rfl)
theorem dX0_laysInjuries_26 : decode cX0_laysInjuries 26 = .ok (.iconst 1, 1) := dk_4 (dk_at dksX0_laysInjuries_1 3 rfl rfl)
theorem dX0_laysInjuries_27 : decode cX0_laysInjuries 27 = .ok (.istore_n 1, 1) := dk_60 (dk_at dksX0_laysInjuries_1 4 rfl rfl)
theorem dX0_laysInjuries_28 : decode cX0_laysInjuries 28 = .ok (.iload_n 1, 1) := dk_27 (dk_at dksX0_laysInjuries_1 5 rfl rfl)
theorem dX0_laysInjuries_29 : decode cX0_laysInjuries 29 = .ok (.ifCond .eq 102, 3) := dk_153 0 102 (dk_at dksX0_laysInjuries_1 6 rfl rfl)
theorem dX0_laysInjuries_32 : decode cX0_laysInjuries 32 = .ok (.iconst 0, 1) := dk_3 (dk_at dksX0_laysInjuries_1 9 rfl rfl)
theorem dX0_laysInjuries_33 : decode cX0_laysInjuries 33 = .ok (.istore_n 1, 1) := dk_60 (dk_at dksX0_laysInjuries_1 10 rfl rfl)
theorem dX0_laysInjuries_34 : decode cX0_laysInjuries 34 = .ok (.iconst 0, 1) := dk_3 (dk_at dksX0_laysInjuries_1 11 rfl rfl)
theorem dX0_laysInjuries_35 : decode cX0_laysInjuries 35 = .ok (.istore_n 2, 1) := dk_61 (dk_at dksX0_laysInjuries_1 12 rfl rfl)
theorem dX0_laysInjuries_36 : decode cX0_laysInjuries 36 = .ok (.iload_n 2, 1) := dk_28 (dk_at dksX0_laysInjuries_1 13 rfl rfl)
theorem dX0_laysInjuries_37 : decode cX0_laysInjuries 37 = .ok (.aload_n 0, 1) := dk_42 (dk_at dksX0_laysInjuries_1 14 rfl rfl)
theorem dX0_laysInjuries_38 : decode cX0_laysInjuries 38 = .ok (.getfield 31, 3) := dk_180 0 31 (dk_at dksX0_laysInjuries_1 15 rfl rfl)
theorem dX0_laysInjuries_41 : decode cX0_laysInjuries 41 = .ok (.getfield 136, 3) := dk_180 0 136 (dk_at dksX0_laysInjuries_1 18 rfl rfl)
theorem dX0_laysInjuries_44 : decode cX0_laysInjuries 44 = .ok (.if_icmp .ge 84, 3) := dk_162 0 84 (dk_at dksX0_laysInjuries_1 21 rfl rfl)
theorem dX0_laysInjuries_47 : decode cX0_laysInjuries 47 = .ok (.iconst 0, 1) := dk_3 (dk_at dksX0_laysInjuries_2 0 rfl rfl)
theorem dX0_laysInjuries_48 : decode cX0_laysInjuries 48 = .ok (.istore_n 3, 1) := dk_62 (dk_at dksX0_laysInjuries_2 1 rfl rfl)
theorem dX0_laysInjuries_49 : decode cX0_laysInjuries 49 = .ok (.iload_n 3, 1) := dk_29 (dk_at dksX0_laysInjuries_2 2 rfl rfl)
theorem dX0_laysInjuries_50 : decode cX0_laysInjuries 50 = .ok (.iload_n 2, 1) := dk_28 (dk_at dksX0_laysInjuries_2 3 rfl rfl)
theorem dX0_laysInjuries_51 : decode cX0_laysInjuries 51 = .ok (.if_icmp .ge 71, 3) := dk_162 0 71 (dk_at dksX0_laysInjuries_2 4 rfl rfl)
theorem dX0_laysInjuries_54 : decode cX0_laysInjuries 54 = .ok (.aload_n 0, 1) := dk_42 (dk_at dksX0_laysInjuries_2 7 rfl rfl)
theorem dX0_laysInjuries_55 : decode cX0_laysInjuries 55 = .ok (.getfield 56, 3) := dk_180 0 56 (dk_at dksX0_laysInjuries_2 8 rfl rfl)
theorem dX0_laysInjuries_58 : decode cX0_laysInjuries 58 = .ok (.iload_n 2, 1) := dk_28 (dk_at dksX0_laysInjuries_2 11 rfl rfl)
theorem dX0_laysInjuries_59 : decode cX0_laysInjuries 59 = .ok (.iaload, 1) := dk_46 (dk_at dksX0_laysInjuries_2 12 rfl rfl)
theorem dX0_laysInjuries_60 : decode cX0_laysInjuries 60 = .ok (.aload_n 0, 1) := dk_42 (dk_at dksX0_laysInjuries_2 13 rfl rfl)
theorem dX0_laysInjuries_61 : decode cX0_laysInjuries 61 = .ok (.getfield 56, 3) := dk_180 0 56 (dk_at dksX0_laysInjuries_2 14 rfl rfl)
theorem dX0_laysInjuries_64 : decode cX0_laysInjuries 64 = .ok (.iload_n 3, 1) := dk_29 (dk_at dksX0_laysInjuries_2 17 rfl rfl)
theorem dX0_laysInjuries_65 : decode cX0_laysInjuries 65 = .ok (.iaload, 1) := dk_46 (dk_at dksX0_laysInjuries_2 18 rfl rfl)
theorem dX0_laysInjuries_66 : decode cX0_laysInjuries 66 = .ok (.if_icmp .eq 50, 3) := dk_159 0 50 (dk_at dksX0_laysInjuries_2 19 rfl rfl)
theorem dX0_laysInjuries_69 : decode cX0_laysInjuries 69 = .ok (.aload_n 0, 1) := dk_42 (dk_at dksX0_laysInjuries_2 22 rfl rfl)
theorem dX0_laysInjuries_70 : decode cX0_laysInjuries 70 = .ok (.iload_n 2, 1) := dk_28 (dk_at dksX0_laysInjuries_2 23 rfl rfl)
theorem dX0_laysInjuries_71 : decode cX0_laysInjuries 71 = .ok (.iload_n 3, 1) := dk_29 (dk_at dksX0_laysInjuries_3 0 rfl rfl)
theorem dX0_laysInjuries_72 : decode cX0_laysInjuries 72 = .ok (.invokevirtual 274, 3) := dk_182 1 18 (dk_at dksX0_laysInjuries_3 1 rfl rfl)
theorem dX0_laysInjuries_75 : decode cX0_laysInjuries 75 = .ok (.ifCond .ne 6, 3) := dk_154 0 6 (dk_at dksX0_laysInjuries_3 4 rfl rfl)
theorem dX0_laysInjuries_78 : decode cX0_laysInjuries 78 = .ok (.goto 38, 3) := dk_167 0 38 (dk_at dksX0_laysInjuries_3 7 rfl rfl)
theorem dX0_laysInjuries_81 : decode cX0_laysInjuries 81 = .ok (.aload_n 0, 1) := dk_42 (dk_at dksX0_laysInjuries_3 10 rfl rfl)
theorem dX0_laysInjuries_82 : decode cX0_laysInjuries 82 = .ok (.getfield 56, 3) := dk_180 0 56 (dk_at dksX0_laysInjuries_3 11 rfl rfl)
theorem dX0_laysInjuries_85 : decode cX0_laysInjuries 85 = .ok (.iload_n 2, 1) := dk_28 (dk_at dksX0_laysInjuries_3 14 rfl rfl)
theorem dX0_laysInjuries_86 : decode cX0_laysInjuries 86 = .ok (.iaload, 1) := dk_46 (dk_at dksX0_laysInjuries_3 15 rfl rfl)
theorem dX0_laysInjuries_87 : decode cX0_laysInjuries 87 = .ok (.aload_n 0, 1) := dk_42 (dk_at dksX0_laysInjuries_3 16 rfl rfl)
theorem dX0_laysInjuries_88 : decode cX0_laysInjuries 88 = .ok (.getfield 56, 3) := dk_180 0 56 (dk_at dksX0_laysInjuries_3 17 rfl rfl)
theorem dX0_laysInjuries_91 : decode cX0_laysInjuries 91 = .ok (.iload_n 3, 1) := dk_29 (dk_at dksX0_laysInjuries_3 20 rfl rfl)
theorem dX0_laysInjuries_92 : decode cX0_laysInjuries 92 = .ok (.iaload, 1) := dk_46 (dk_at dksX0_laysInjuries_3 21 rfl rfl)
theorem dX0_laysInjuries_93 : decode cX0_laysInjuries 93 = .ok (.invokestatic 208, 3) := dk_184 0 208 (dk_at dksX0_laysInjuries_4 0 rfl rfl)
theorem dX0_laysInjuries_96 : decode cX0_laysInjuries 96 = .ok (.istore 4, 2) := dk_54 4 (dk_at dksX0_laysInjuries_4 3 rfl rfl)
theorem dX0_laysInjuries_98 : decode cX0_laysInjuries 98 = .ok (.aload_n 0, 1) := dk_42 (dk_at dksX0_laysInjuries_4 5 rfl rfl)
theorem dX0_laysInjuries_99 : decode cX0_laysInjuries 99 = .ok (.getfield 56, 3) := dk_180 0 56 (dk_at dksX0_laysInjuries_4 6 rfl rfl)
theorem dX0_laysInjuries_102 : decode cX0_laysInjuries 102 = .ok (.iload_n 2, 1) := dk_28 (dk_at dksX0_laysInjuries_4 9 rfl rfl)
theorem dX0_laysInjuries_103 : decode cX0_laysInjuries 103 = .ok (.iload 4, 2) := dk_21 4 (dk_at dksX0_laysInjuries_4 10 rfl rfl)
theorem dX0_laysInjuries_105 : decode cX0_laysInjuries 105 = .ok (.iastore, 1) := dk_79 (dk_at dksX0_laysInjuries_4 12 rfl rfl)
theorem dX0_laysInjuries_106 : decode cX0_laysInjuries 106 = .ok (.aload_n 0, 1) := dk_42 (dk_at dksX0_laysInjuries_4 13 rfl rfl)
theorem dX0_laysInjuries_107 : decode cX0_laysInjuries 107 = .ok (.getfield 56, 3) := dk_180 0 56 (dk_at dksX0_laysInjuries_4 14 rfl rfl)
theorem dX0_laysInjuries_110 : decode cX0_laysInjuries 110 = .ok (.iload_n 3, 1) := dk_29 (dk_at dksX0_laysInjuries_4 17 rfl rfl)
theorem dX0_laysInjuries_111 : decode cX0_laysInjuries 111 = .ok (.iload 4, 2) := dk_21 4 (dk_at dksX0_laysInjuries_4 18 rfl rfl)
theorem dX0_laysInjuries_113 : decode cX0_laysInjuries 113 = .ok (.iastore, 1) := dk_79 (dk_at dksX0_laysInjuries_4 20 rfl rfl)
theorem dX0_laysInjuries_114 : decode cX0_laysInjuries 114 = .ok (.iconst 1, 1) := dk_4 (dk_at dksX0_laysInjuries_4 21 rfl rfl)
theorem dX0_laysInjuries_115 : decode cX0_laysInjuries 115 = .ok (.istore_n 1, 1) := dk_60 (dk_at dksX0_laysInjuries_4 22 rfl rfl)
theorem dX0_laysInjuries_116 : decode cX0_laysInjuries 116 = .ok (.iinc 3 1, 3) := dk_132 3 1 (dk_at dksX0_laysInjuries_5 0 rfl rfl)
theorem dX0_laysInjuries_119 : decode cX0_laysInjuries 119 = .ok (.goto (-70), 3) := dk_167 255 186 (dk_at dksX0_laysInjuries_5 3 rfl rfl)
theorem dX0_laysInjuries_122 : decode cX0_laysInjuries 122 = .ok (.iinc 2 1, 3) := dk_132 2 1 (dk_at dksX0_laysInjuries_5 6 rfl rfl)
theorem dX0_laysInjuries_125 : decode cX0_laysInjuries 125 = .ok (.goto (-89), 3) := dk_167 255 167 (dk_at dksX0_laysInjuries_5 9 rfl rfl)
theorem dX0_laysInjuries_128 : decode cX0_laysInjuries 128 = .ok (.goto (-100), 3) := dk_167 255 156 (dk_at dksX0_laysInjuries_5 12 rfl rfl)
theorem dX0_laysInjuries_131 : decode cX0_laysInjuries 131 = .ok (.return_, 1) := dk_177 (dk_at dksX0_laysInjuries_5 15 rfl rfl)
abbrev cX0_areSame : ByteArray := prog_1_method_27_code
def yX0_areSame : MethodName := ⟨RX0, "areSame", "(II)Z"⟩
def dkwX0_areSame_3 : List UInt8 := [167, 0, 4, 3, 172]
abbrev dktX0_areSame_3 : List UInt8 := dkwX0_areSame_3 ++ []
def dkwX0_areSame_2 : List UInt8 := [180, 0, 24, 180, 1, 3, 187, 1, 7, 89, 27, 28, 183, 1, 9, 182, 1, 12, 153, 0, 7, 4]
abbrev dktX0_areSame_2 : List UInt8 := dkwX0_areSame_2 ++ dktX0_areSame_3
def dkwX0_areSame_1 : List UInt8 := [160, 0, 5, 4, 172, 27, 28, 184, 1, 0, 42, 180, 0, 24, 180, 0, 155, 182, 0, 159, 162, 0, 29, 42]
abbrev dktX0_areSame_1 : List UInt8 := dkwX0_areSame_1 ++ dktX0_areSame_2
def dkwX0_areSame_0 : List UInt8 := [42, 180, 0, 31, 180, 0, 164, 27, 46, 28, 159, 0, 16, 42, 180, 0, 31, 180, 0, 164, 28, 46, 27]
abbrev dktX0_areSame_0 : List UInt8 := dkwX0_areSame_0 ++ dktX0_areSame_1
theorem dksX0_areSame_0 : cX0_areSame.data.toList.drop 0 = dktX0_areSame_0 := by decide +kernel
theorem dksX0_areSame_1 : cX0_areSame.data.toList.drop 23 = dktX0_areSame_1 := dk_seg dksX0_areSame_0 23 rfl rfl
theorem dksX0_areSame_2 : cX0_areSame.data.toList.drop 47 = dktX0_areSame_2 := dk_seg dksX0_areSame_1 24 rfl rfl
theorem dksX0_areSame_3 : cX0_areSame.data.toList.drop 69 = dktX0_areSame_3 := dk_seg dksX0_areSame_2 22 rfl rfl
theorem dX0_areSame_0 : decode cX0_areSame 0 = .ok (.aload_n 0, 1) := dk_42 (dk_at dksX0_areSame_0 0 rfl rfl)
theorem dX0_areSame_1 : decode cX0_areSame 1 = .ok (.getfield 31, 3) := dk_180 0 31 (dk_at dksX0_areSame_0 1 rfl rfl)
theorem dX0_areSame_4 : decode cX0_areSame 4 = .ok (.getfield 164, 3) := dk_180 0 164 (dk_at dksX0_areSame_0 4 rfl rfl)
theorem dX0_areSame_7 : decode cX0_areSame 7 = .ok (.iload_n 1, 1) := dk_27 (dk_at dksX0_areSame_0 7 rfl rfl)
theorem dX0_areSame_8 : decode cX0_areSame 8 = .ok (.iaload, 1) := dk_46 (dk_at dksX0_areSame_0 8 rfl rfl)
theorem dX0_areSame_9 : decode cX0_areSame 9 = .ok (.iload_n 2, 1) := dk_28 (dk_at dksX0_areSame_0 9 rfl rfl)
theorem dX0_areSame_10 : decode cX0_areSame 10 = .ok (.if_icmp .eq 16, 3) := dk_159 0 16 (dk_at dksX0_areSame_0 10 rfl rfl)
theorem dX0_areSame_13 : decode cX0_areSame 13 = .ok (.aload_n 0, 1) := dk_42 (dk_at dksX0_areSame_0 13 rfl rfl)
theorem dX0_areSame_14 : decode cX0_areSame 14 = .ok (.getfield 31, 3) := dk_180 0 31 (dk_at dksX0_areSame_0 14 rfl rfl)
theorem dX0_areSame_17 : decode cX0_areSame 17 = .ok (.getfield 164, 3) := dk_180 0 164 (dk_at dksX0_areSame_0 17 rfl rfl)
theorem dX0_areSame_20 : decode cX0_areSame 20 = .ok (.iload_n 2, 1) := dk_28 (dk_at dksX0_areSame_0 20 rfl rfl)
theorem dX0_areSame_21 : decode cX0_areSame 21 = .ok (.iaload, 1) := dk_46 (dk_at dksX0_areSame_0 21 rfl rfl)
theorem dX0_areSame_22 : decode cX0_areSame 22 = .ok (.iload_n 1, 1) := dk_27 (dk_at dksX0_areSame_0 22 rfl rfl)
theorem dX0_areSame_23 : decode cX0_areSame 23 = .ok (.if_icmp .ne 5, 3) := dk_160 0 5 (dk_at dksX0_areSame_1 0 rfl rfl)
theorem dX0_areSame_26 : decode cX0_areSame 26 = .ok (.iconst 1, 1) := dk_4 (dk_at dksX0_areSame_1 3 rfl rfl)
theorem dX0_areSame_27 : decode cX0_areSame 27 = .ok (.ireturn, 1) := dk_172 (dk_at dksX0_areSame_1 4 rfl rfl)
theorem dX0_areSame_28 : decode cX0_areSame 28 = .ok (.iload_n 1, 1) := dk_27 (dk_at dksX0_areSame_1 5 rfl rfl)
theorem dX0_areSame_29 : decode cX0_areSame 29 = .ok (.iload_n 2, 1) := dk_28 (dk_at dksX0_areSame_1 6 rfl rfl)
theorem dX0_areSame_30 : decode cX0_areSame 30 = .ok (.invokestatic 256, 3) := dk_184 1 0 (dk_at dksX0_areSame_1 7 rfl rfl)
theorem dX0_areSame_33 : decode cX0_areSame 33 = .ok (.aload_n 0, 1) := dk_42 (dk_at dksX0_areSame_1 10 rfl rfl)
theorem dX0_areSame_34 : decode cX0_areSame 34 = .ok (.getfield 24, 3) := dk_180 0 24 (dk_at dksX0_areSame_1 11 rfl rfl)
theorem dX0_areSame_37 : decode cX0_areSame 37 = .ok (.getfield 155, 3) := dk_180 0 155 (dk_at dksX0_areSame_1 14 rfl rfl)
theorem dX0_areSame_40 : decode cX0_areSame 40 = .ok (.invokevirtual 159, 3) := dk_182 0 159 (dk_at dksX0_areSame_1 17 rfl rfl)
theorem dX0_areSame_43 : decode cX0_areSame 43 = .ok (.if_icmp .ge 29, 3) := dk_162 0 29 (dk_at dksX0_areSame_1 20 rfl rfl)
theorem dX0_areSame_46 : decode cX0_areSame 46 = .ok (.aload_n 0, 1) := dk_42 (dk_at dksX0_areSame_1 23 rfl rfl)
theorem dX0_areSame_47 : decode cX0_areSame 47 = .ok (.getfield 24, 3) := dk_180 0 24 (dk_at dksX0_areSame_2 0 rfl rfl)
theorem dX0_areSame_50 : decode cX0_areSame 50 = .ok (.getfield 259, 3) := dk_180 1 3 (dk_at dksX0_areSame_2 3 rfl rfl)
theorem dX0_areSame_53 : decode cX0_areSame 53 = .ok (.new 263, 3) := dk_187 1 7 (dk_at dksX0_areSame_2 6 rfl rfl)
theorem dX0_areSame_56 : decode cX0_areSame 56 = .ok (.dup, 1) := dk_89 (dk_at dksX0_areSame_2 9 rfl rfl)
theorem dX0_areSame_57 : decode cX0_areSame 57 = .ok (.iload_n 1, 1) := dk_27 (dk_at dksX0_areSame_2 10 rfl rfl)
theorem dX0_areSame_58 : decode cX0_areSame 58 = .ok (.iload_n 2, 1) := dk_28 (dk_at dksX0_areSame_2 11 rfl rfl)
theorem dX0_areSame_59 : decode cX0_areSame 59 = .ok (.invokespecial 265, 3) := dk_183 1 9 (dk_at dksX0_areSame_2 12 rfl rfl)
theorem dX0_areSame_62 : decode cX0_areSame 62 = .ok (.invokevirtual 268, 3) := dk_182 1 12 (dk_at dksX0_areSame_2 15 rfl rfl)
theorem dX0_areSame_65 : decode cX0_areSame 65 = .ok (.ifCond .eq 7, 3) := dk_153 0 7 (dk_at dksX0_areSame_2 18 rfl rfl)
theorem dX0_areSame_68 : decode cX0_areSame 68 = .ok (.iconst 1, 1) := dk_4 (dk_at dksX0_areSame_2 21 rfl rfl)
theorem dX0_areSame_69 : decode cX0_areSame 69 = .ok (.goto 4, 3) := dk_167 0 4 (dk_at dksX0_areSame_3 0 rfl rfl)
theorem dX0_areSame_72 : decode cX0_areSame 72 = .ok (.iconst 0, 1) := dk_3 (dk_at dksX0_areSame_3 3 rfl rfl)
theorem dX0_areSame_73 : decode cX0_areSame 73 = .ok (.ireturn, 1) := dk_172 (dk_at dksX0_areSame_3 4 rfl rfl)
abbrev cX0_element : ByteArray := prog_1_method_33_code
def yX0_element : MethodName := ⟨RX0, "element", "(III)I"⟩
def dkwX0_element_1 : List UInt8 := [167, 0, 4, 2, 172]
abbrev dktX0_element_1 : List UInt8 := dkwX0_element_1 ++ []
def dkwX0_element_0 : List UInt8 := [42, 27, 182, 1, 34, 153, 0, 21, 42, 42, 27, 182, 0, 178, 180, 0, 182, 27, 28, 29, 182, 1, 52]
abbrev dktX0_element_0 : List UInt8 := dkwX0_element_0 ++ dktX0_element_1
theorem dksX0_element_0 : cX0_element.data.toList.drop 0 = dktX0_element_0 := by decide +kernel
theorem dksX0_element_1 : cX0_element.data.toList.drop 23 = dktX0_element_1 := dk_seg dksX0_element_0 23 rfl rfl
theorem dX0_element_0 : decode cX0_element 0 = .ok (.aload_n 0, 1) := dk_42 (dk_at dksX0_element_0 0 rfl rfl)
theorem dX0_element_1 : decode cX0_element 1 = .ok (.iload_n 1, 1) := dk_27 (dk_at dksX0_element_0 1 rfl rfl)
theorem dX0_element_2 : decode cX0_element 2 = .ok (.invokevirtual 290, 3) := dk_182 1 34 (dk_at dksX0_element_0 2 rfl rfl)
theorem dX0_element_5 : decode cX0_element 5 = .ok (.ifCond .eq 21, 3) := dk_153 0 21 (dk_at dksX0_element_0 5 rfl rfl)
theorem dX0_element_8 : decode cX0_element 8 = .ok (.aload_n 0, 1) := dk_42 (dk_at dksX0_element_0 8 rfl rfl)
theorem dX0_element_9 : decode cX0_element 9 = .ok (.aload_n 0, 1) := dk_42 (dk_at dksX0_element_0 9 rfl rfl)
theorem dX0_element_10 : decode cX0_element 10 = .ok (.iload_n 1, 1) := dk_27 (dk_at dksX0_element_0 10 rfl rfl)
theorem dX0_element_11 : decode cX0_element 11 = .ok (.invokevirtual 178, 3) := dk_182 0 178 (dk_at dksX0_element_0 11 rfl rfl)
theorem dX0_element_14 : decode cX0_element 14 = .ok (.getfield 182, 3) := dk_180 0 182 (dk_at dksX0_element_0 14 rfl rfl)
theorem dX0_element_17 : decode cX0_element 17 = .ok (.iload_n 1, 1) := dk_27 (dk_at dksX0_element_0 17 rfl rfl)
theorem dX0_element_18 : decode cX0_element 18 = .ok (.iload_n 2, 1) := dk_28 (dk_at dksX0_element_0 18 rfl rfl)
theorem dX0_element_19 : decode cX0_element 19 = .ok (.iload_n 3, 1) := dk_29 (dk_at dksX0_element_0 19 rfl rfl)
theorem dX0_element_20 : decode cX0_element 20 = .ok (.invokevirtual 308, 3) := dk_182 1 52 (dk_at dksX0_element_0 20 rfl rfl)
theorem dX0_element_23 : decode cX0_element 23 = .ok (.goto 4, 3) := dk_167 0 4 (dk_at dksX0_element_1 0 rfl rfl)
theorem dX0_element_26 : decode cX0_element 26 = .ok (.iconst (-1), 1) := dk_2 (dk_at dksX0_element_1 3 rfl rfl)
theorem dX0_element_27 : decode cX0_element 27 = .ok (.ireturn, 1) := dk_172 (dk_at dksX0_element_1 4 rfl rfl)
abbrev cX0_looks : ByteArray := prog_1_method_32_code
def yX0_looks : MethodName := ⟨RX0, "looks", "(Ljava/util/ArrayList;III)I"⟩
def dkwX0_looks_5 : List UInt8 := [180, 0, 175, 42, 180, 0, 31, 180, 0, 149, 42, 180, 0, 31, 180, 0, 152, 182, 0, 216, 172]
abbrev dktX0_looks_5 : List UInt8 := dkwX0_looks_5 ++ []
def dkwX0_looks_4 : List UInt8 := [180, 0, 31, 180, 0, 247, 28, 46, 182, 0, 216, 4, 160, 0, 7, 4, 167, 0, 4, 3, 172, 42, 25, 5]
abbrev dktX0_looks_4 : List UInt8 := dkwX0_looks_4 ++ dktX0_looks_5
def dkwX0_looks_3 : List UInt8 := [21, 4, 4, 160, 0, 40, 42, 25, 5, 180, 0, 175, 42, 180, 0, 31, 180, 0, 195, 28, 46, 42]
abbrev dktX0_looks_3 : List UInt8 := dkwX0_looks_3 ++ dktX0_looks_4
def dkwX0_looks_2 : List UInt8 := [180, 0, 31, 180, 0, 195, 28, 46, 42, 180, 0, 31, 180, 0, 247, 28, 46, 185, 1, 47, 3, 0, 172]
abbrev dktX0_looks_2 : List UInt8 := dkwX0_looks_2 ++ dktX0_looks_3
def dkwX0_looks_1 : List UInt8 := [2, 172, 43, 29, 182, 0, 167, 192, 0, 173, 58, 5, 21, 4, 154, 0, 32, 25, 5, 180, 1, 43, 42]
abbrev dktX0_looks_1 : List UInt8 := dkwX0_looks_1 ++ dktX0_looks_2
def dkwX0_looks_0 : List UInt8 := [29, 3, 43, 182, 0, 159, 4, 100, 184, 0, 96, 153, 0, 13, 21, 4, 3, 5, 184, 0, 96, 154, 0, 5]
abbrev dktX0_looks_0 : List UInt8 := dkwX0_looks_0 ++ dktX0_looks_1
theorem dksX0_looks_0 : cX0_looks.data.toList.drop 0 = dktX0_looks_0 := by decide +kernel
theorem dksX0_looks_1 : cX0_looks.data.toList.drop 24 = dktX0_looks_1 := dk_seg dksX0_looks_0 24 rfl rfl
theorem dksX0_looks_2 : cX0_looks.data.toList.drop 47 = dktX0_looks_2 := dk_seg dksX0_looks_1 23 rfl rfl
theorem dksX0_looks_3 : cX0_looks.data.toList.drop 70 = dktX0_looks_3 := dk_seg dksX0_looks_2 23 rfl rfl
theorem dksX0_looks_4 : cX0_looks.data.toList.drop 92 = dktX0_looks_4 := dk_seg dksX0_looks_3 22 rfl rfl
theorem dksX0_looks_5 : cX0_looks.data.toList.drop 116 = dktX0_looks_5 := dk_seg dksX0_looks_4 24 rfl rfl
theorem dX0_looks_0 : decode cX0_looks 0 = .ok (.iload_n 3, 1) := dk_29 (dk_at dksX0_looks_0 0 rfl rfl)
theorem dX0_looks_1 : decode cX0_looks 1 = .ok (.iconst 0, 1) := dk_3 (dk_at dksX0_looks_0 1 rfl rfl)
theorem dX0_looks_2 : decode cX0_looks 2 = .ok (.aload_n 1, 1) := dk_43 (dk_at dksX0_looks_0 2 rfl rfl)
theorem dX0_looks_3 : decode cX0_looks 3 = .ok (.invokevirtual 159, 3) := dk_182 0 159 (dk_at dksX0_looks_0 3 rfl rfl)
theorem dX0_looks_6 : decode cX0_looks 6 = .ok (.iconst 1, 1) := dk_4 (dk_at dksX0_looks_0 6 rfl rfl)
theorem dX0_looks_7 : decode cX0_looks 7 = .ok (.isub, 1) := dk_100 (dk_at dksX0_looks_0 7 rfl rfl)
theorem dX0_looks_8 : decode cX0_looks 8 = .ok (.invokestatic 96, 3) := dk_184 0 96 (dk_at dksX0_looks_0 8 rfl rfl)
theorem dX0_looks_11 : decode cX0_looks 11 = .ok (.ifCond .eq 13, 3) := dk_153 0 13 (dk_at dksX0_looks_0 11 rfl rfl)
theorem dX0_looks_14 : decode cX0_looks 14 = .ok (.iload 4, 2) := dk_21 4 (dk_at dksX0_looks_0 14 rfl rfl)
theorem dX0_looks_16 : decode cX0_looks 16 = .ok (.iconst 0, 1) := dk_3 (dk_at dksX0_looks_0 16 rfl rfl)
theorem dX0_looks_17 : decode cX0_looks 17 = .ok (.iconst 2, 1) := dk_5 (dk_at dksX0_looks_0 17 rfl rfl)
theorem dX0_looks_18 : decode cX0_looks 18 = .ok (.invokestatic 96, 3) := dk_184 0 96 (dk_at dksX0_looks_0 18 rfl rfl)
theorem dX0_looks_21 : decode cX0_looks 21 = .ok (.ifCond .ne 5, 3) := dk_154 0 5 (dk_at dksX0_looks_0 21 rfl rfl)
theorem dX0_looks_24 : decode cX0_looks 24 = .ok (.iconst (-1), 1) := dk_2 (dk_at dksX0_looks_1 0 rfl rfl)
theorem dX0_looks_25 : decode cX0_looks 25 = .ok (.ireturn, 1) := dk_172 (dk_at dksX0_looks_1 1 rfl rfl)
theorem dX0_looks_26 : decode cX0_looks 26 = .ok (.aload_n 1, 1) := dk_43 (dk_at dksX0_looks_1 2 rfl rfl)
theorem dX0_looks_27 : decode cX0_looks 27 = .ok (.iload_n 3, 1) := dk_29 (dk_at dksX0_looks_1 3 rfl rfl)
theorem dX0_looks_28 : decode cX0_looks 28 = .ok (.invokevirtual 167, 3) := dk_182 0 167 (dk_at dksX0_looks_1 4 rfl rfl)
theorem dX0_looks_31 : decode cX0_looks 31 = .ok (.checkcast 173, 3) := dk_192 0 173 (dk_at dksX0_looks_1 7 rfl rfl)
theorem dX0_looks_34 : decode cX0_looks 34 = .ok (.astore 5, 2) := dk_58 5 (dk_at dksX0_looks_1 10 rfl rfl)
theorem dX0_looks_36 : decode cX0_looks 36 = .ok (.iload 4, 2) := dk_21 4 (dk_at dksX0_looks_1 12 rfl rfl)
theorem dX0_looks_38 : decode cX0_looks 38 = .ok (.ifCond .ne 32, 3) := dk_154 0 32 (dk_at dksX0_looks_1 14 rfl rfl)
theorem dX0_looks_41 : decode cX0_looks 41 = .ok (.aload 5, 2) := dk_25 5 (dk_at dksX0_looks_1 17 rfl rfl)
theorem dX0_looks_43 : decode cX0_looks 43 = .ok (.getfield 299, 3) := dk_180 1 43 (dk_at dksX0_looks_1 19 rfl rfl)
theorem dX0_looks_46 : decode cX0_looks 46 = .ok (.aload_n 0, 1) := dk_42 (dk_at dksX0_looks_1 22 rfl rfl)
theorem dX0_looks_47 : decode cX0_looks 47 = .ok (.getfield 31, 3) := dk_180 0 31 (dk_at dksX0_looks_2 0 rfl rfl)
theorem dX0_looks_50 : decode cX0_looks 50 = .ok (.getfield 195, 3) := dk_180 0 195 (dk_at dksX0_looks_2 3 rfl rfl)
theorem dX0_looks_53 : decode cX0_looks 53 = .ok (.iload_n 2, 1) := dk_28 (dk_at dksX0_looks_2 6 rfl rfl)
theorem dX0_looks_54 : decode cX0_looks 54 = .ok (.iaload, 1) := dk_46 (dk_at dksX0_looks_2 7 rfl rfl)
theorem dX0_looks_55 : decode cX0_looks 55 = .ok (.aload_n 0, 1) := dk_42 (dk_at dksX0_looks_2 8 rfl rfl)
theorem dX0_looks_56 : decode cX0_looks 56 = .ok (.getfield 31, 3) := dk_180 0 31 (dk_at dksX0_looks_2 9 rfl rfl)
theorem dX0_looks_59 : decode cX0_looks 59 = .ok (.getfield 247, 3) := dk_180 0 247 (dk_at dksX0_looks_2 12 rfl rfl)
theorem dX0_looks_62 : decode cX0_looks 62 = .ok (.iload_n 2, 1) := dk_28 (dk_at dksX0_looks_2 15 rfl rfl)
theorem dX0_looks_63 : decode cX0_looks 63 = .ok (.iaload, 1) := dk_46 (dk_at dksX0_looks_2 16 rfl rfl)
theorem dX0_looks_64 : decode cX0_looks 64 = .ok (.invokeinterface 303 3, 5) := by decide +kernel
theorem dX0_looks_69 : decode cX0_looks 69 = .ok (.ireturn, 1) := dk_172 (dk_at dksX0_looks_2 22 rfl rfl)
theorem dX0_looks_70 : decode cX0_looks 70 = .ok (.iload 4, 2) := dk_21 4 (dk_at dksX0_looks_3 0 rfl rfl)
theorem dX0_looks_72 : decode cX0_looks 72 = .ok (.iconst 1, 1) := dk_4 (dk_at dksX0_looks_3 2 rfl rfl)
theorem dX0_looks_73 : decode cX0_looks 73 = .ok (.if_icmp .ne 40, 3) := dk_160 0 40 (dk_at dksX0_looks_3 3 rfl rfl)
theorem dX0_looks_76 : decode cX0_looks 76 = .ok (.aload_n 0, 1) := dk_42 (dk_at dksX0_looks_3 6 rfl rfl)
theorem dX0_looks_77 : decode cX0_looks 77 = .ok (.aload 5, 2) := dk_25 5 (dk_at dksX0_looks_3 7 rfl rfl)
theorem dX0_looks_79 : decode cX0_looks 79 = .ok (.getfield 175, 3) := dk_180 0 175 (dk_at dksX0_looks_3 9 rfl rfl)
theorem dX0_looks_82 : decode cX0_looks 82 = .ok (.aload_n 0, 1) := dk_42 (dk_at dksX0_looks_3 12 rfl rfl)
theorem dX0_looks_83 : decode cX0_looks 83 = .ok (.getfield 31, 3) := dk_180 0 31 (dk_at dksX0_looks_3 13 rfl rfl)
theorem dX0_looks_86 : decode cX0_looks 86 = .ok (.getfield 195, 3) := dk_180 0 195 (dk_at dksX0_looks_3 16 rfl rfl)
theorem dX0_looks_89 : decode cX0_looks 89 = .ok (.iload_n 2, 1) := dk_28 (dk_at dksX0_looks_3 19 rfl rfl)
theorem dX0_looks_90 : decode cX0_looks 90 = .ok (.iaload, 1) := dk_46 (dk_at dksX0_looks_3 20 rfl rfl)
theorem dX0_looks_91 : decode cX0_looks 91 = .ok (.aload_n 0, 1) := dk_42 (dk_at dksX0_looks_3 21 rfl rfl)
theorem dX0_looks_92 : decode cX0_looks 92 = .ok (.getfield 31, 3) := dk_180 0 31 (dk_at dksX0_looks_4 0 rfl rfl)
theorem dX0_looks_95 : decode cX0_looks 95 = .ok (.getfield 247, 3) := dk_180 0 247 (dk_at dksX0_looks_4 3 rfl rfl)
theorem dX0_looks_98 : decode cX0_looks 98 = .ok (.iload_n 2, 1) := dk_28 (dk_at dksX0_looks_4 6 rfl rfl)
theorem dX0_looks_99 : decode cX0_looks 99 = .ok (.iaload, 1) := dk_46 (dk_at dksX0_looks_4 7 rfl rfl)
theorem dX0_looks_100 : decode cX0_looks 100 = .ok (.invokevirtual 216, 3) := dk_182 0 216 (dk_at dksX0_looks_4 8 rfl rfl)
theorem dX0_looks_103 : decode cX0_looks 103 = .ok (.iconst 1, 1) := dk_4 (dk_at dksX0_looks_4 11 rfl rfl)
theorem dX0_looks_104 : decode cX0_looks 104 = .ok (.if_icmp .ne 7, 3) := dk_160 0 7 (dk_at dksX0_looks_4 12 rfl rfl)
theorem dX0_looks_107 : decode cX0_looks 107 = .ok (.iconst 1, 1) := dk_4 (dk_at dksX0_looks_4 15 rfl rfl)
theorem dX0_looks_108 : decode cX0_looks 108 = .ok (.goto 4, 3) := dk_167 0 4 (dk_at dksX0_looks_4 16 rfl rfl)
theorem dX0_looks_111 : decode cX0_looks 111 = .ok (.iconst 0, 1) := dk_3 (dk_at dksX0_looks_4 19 rfl rfl)
theorem dX0_looks_112 : decode cX0_looks 112 = .ok (.ireturn, 1) := dk_172 (dk_at dksX0_looks_4 20 rfl rfl)
theorem dX0_looks_113 : decode cX0_looks 113 = .ok (.aload_n 0, 1) := dk_42 (dk_at dksX0_looks_4 21 rfl rfl)
theorem dX0_looks_114 : decode cX0_looks 114 = .ok (.aload 5, 2) := dk_25 5 (dk_at dksX0_looks_4 22 rfl rfl)
theorem dX0_looks_116 : decode cX0_looks 116 = .ok (.getfield 175, 3) := dk_180 0 175 (dk_at dksX0_looks_5 0 rfl rfl)
theorem dX0_looks_119 : decode cX0_looks 119 = .ok (.aload_n 0, 1) := dk_42 (dk_at dksX0_looks_5 3 rfl rfl)
theorem dX0_looks_120 : decode cX0_looks 120 = .ok (.getfield 31, 3) := dk_180 0 31 (dk_at dksX0_looks_5 4 rfl rfl)
theorem dX0_looks_123 : decode cX0_looks 123 = .ok (.getfield 149, 3) := dk_180 0 149 (dk_at dksX0_looks_5 7 rfl rfl)
theorem dX0_looks_126 : decode cX0_looks 126 = .ok (.aload_n 0, 1) := dk_42 (dk_at dksX0_looks_5 10 rfl rfl)
theorem dX0_looks_127 : decode cX0_looks 127 = .ok (.getfield 31, 3) := dk_180 0 31 (dk_at dksX0_looks_5 11 rfl rfl)
theorem dX0_looks_130 : decode cX0_looks 130 = .ok (.getfield 152, 3) := dk_180 0 152 (dk_at dksX0_looks_5 14 rfl rfl)
theorem dX0_looks_133 : decode cX0_looks 133 = .ok (.invokevirtual 216, 3) := dk_182 0 216 (dk_at dksX0_looks_5 17 rfl rfl)
theorem dX0_looks_136 : decode cX0_looks 136 = .ok (.ireturn, 1) := dk_172 (dk_at dksX0_looks_5 20 rfl rfl)
abbrev cX0_bar : ByteArray := prog_1_method_34_code
def yX0_bar : MethodName := ⟨RX0, "bar", "(III)I"⟩
def dkwX0_bar_1 : List UInt8 := [167, 0, 4, 2, 172]
abbrev dktX0_bar_1 : List UInt8 := dkwX0_bar_1 ++ []
def dkwX0_bar_0 : List UInt8 := [42, 27, 182, 1, 34, 153, 0, 21, 42, 42, 27, 182, 0, 178, 180, 0, 185, 27, 28, 29, 182, 1, 52]
abbrev dktX0_bar_0 : List UInt8 := dkwX0_bar_0 ++ dktX0_bar_1
theorem dksX0_bar_0 : cX0_bar.data.toList.drop 0 = dktX0_bar_0 := by decide +kernel
theorem dksX0_bar_1 : cX0_bar.data.toList.drop 23 = dktX0_bar_1 := dk_seg dksX0_bar_0 23 rfl rfl
theorem dX0_bar_0 : decode cX0_bar 0 = .ok (.aload_n 0, 1) := dk_42 (dk_at dksX0_bar_0 0 rfl rfl)
theorem dX0_bar_1 : decode cX0_bar 1 = .ok (.iload_n 1, 1) := dk_27 (dk_at dksX0_bar_0 1 rfl rfl)
theorem dX0_bar_2 : decode cX0_bar 2 = .ok (.invokevirtual 290, 3) := dk_182 1 34 (dk_at dksX0_bar_0 2 rfl rfl)
theorem dX0_bar_5 : decode cX0_bar 5 = .ok (.ifCond .eq 21, 3) := dk_153 0 21 (dk_at dksX0_bar_0 5 rfl rfl)
theorem dX0_bar_8 : decode cX0_bar 8 = .ok (.aload_n 0, 1) := dk_42 (dk_at dksX0_bar_0 8 rfl rfl)
theorem dX0_bar_9 : decode cX0_bar 9 = .ok (.aload_n 0, 1) := dk_42 (dk_at dksX0_bar_0 9 rfl rfl)
theorem dX0_bar_10 : decode cX0_bar 10 = .ok (.iload_n 1, 1) := dk_27 (dk_at dksX0_bar_0 10 rfl rfl)
theorem dX0_bar_11 : decode cX0_bar 11 = .ok (.invokevirtual 178, 3) := dk_182 0 178 (dk_at dksX0_bar_0 11 rfl rfl)
theorem dX0_bar_14 : decode cX0_bar 14 = .ok (.getfield 185, 3) := dk_180 0 185 (dk_at dksX0_bar_0 14 rfl rfl)
theorem dX0_bar_17 : decode cX0_bar 17 = .ok (.iload_n 1, 1) := dk_27 (dk_at dksX0_bar_0 17 rfl rfl)
theorem dX0_bar_18 : decode cX0_bar 18 = .ok (.iload_n 2, 1) := dk_28 (dk_at dksX0_bar_0 18 rfl rfl)
theorem dX0_bar_19 : decode cX0_bar 19 = .ok (.iload_n 3, 1) := dk_29 (dk_at dksX0_bar_0 19 rfl rfl)
theorem dX0_bar_20 : decode cX0_bar 20 = .ok (.invokevirtual 308, 3) := dk_182 1 52 (dk_at dksX0_bar_0 20 rfl rfl)
theorem dX0_bar_23 : decode cX0_bar 23 = .ok (.goto 4, 3) := dk_167 0 4 (dk_at dksX0_bar_1 0 rfl rfl)
theorem dX0_bar_26 : decode cX0_bar 26 = .ok (.iconst (-1), 1) := dk_2 (dk_at dksX0_bar_1 3 rfl rfl)
theorem dX0_bar_27 : decode cX0_bar 27 = .ok (.ireturn, 1) := dk_172 (dk_at dksX0_bar_1 4 rfl rfl)
abbrev cX0_answer : ByteArray := prog_1_method_37_code
def yX0_answer : MethodName := ⟨RX0, "answer", "(II)I"⟩
def dkwX0_answer_6 : List UInt8 := [180, 0, 133, 182, 1, 75, 172]
abbrev dktX0_answer_6 : List UInt8 := dkwX0_answer_6 ++ []
def dkwX0_answer_5 : List UInt8 := [182, 1, 71, 167, 0, 13, 42, 180, 0, 31, 180, 1, 28, 27, 28, 79, 42, 180, 0, 31, 42, 180, 0, 24]
abbrev dktX0_answer_5 : List UInt8 := dkwX0_answer_5 ++ dktX0_answer_6
def dkwX0_answer_4 : List UInt8 := [182, 1, 68, 28, 5, 162, 0, 25, 42, 180, 0, 31, 27, 28, 4, 160, 0, 7, 4, 167, 0, 4, 3, 4]
abbrev dktX0_answer_4 : List UInt8 := dkwX0_answer_4 ++ dktX0_answer_5
def dkwX0_answer_3 : List UInt8 := [42, 27, 28, 4, 160, 0, 7, 4, 167, 0, 4, 3, 182, 1, 64, 154, 0, 6, 16, 252, 172, 42]
abbrev dktX0_answer_3 : List UInt8 := dkwX0_answer_3 ++ dktX0_answer_4
def dkwX0_answer_2 : List UInt8 := [164, 0, 19, 42, 180, 0, 31, 180, 1, 28, 27, 46, 28, 160, 0, 6, 16, 253, 172, 28, 5, 162, 0, 24]
abbrev dktX0_answer_2 : List UInt8 := dkwX0_answer_2 ++ dktX0_answer_3
def dkwX0_answer_1 : List UInt8 := [180, 1, 60, 153, 0, 6, 16, 254, 172, 42, 180, 0, 31, 180, 1, 28, 27, 46, 4, 159, 0, 21, 28, 4]
abbrev dktX0_answer_1 : List UInt8 := dkwX0_answer_1 ++ dktX0_answer_2
def dkwX0_answer_0 : List UInt8 := [42, 27, 182, 1, 21, 153, 0, 12, 28, 3, 6, 184, 0, 96, 154, 0, 5, 2, 172, 42, 180, 0, 31]
abbrev dktX0_answer_0 : List UInt8 := dkwX0_answer_0 ++ dktX0_answer_1
theorem dksX0_answer_0 : cX0_answer.data.toList.drop 0 = dktX0_answer_0 := by decide +kernel
theorem dksX0_answer_1 : cX0_answer.data.toList.drop 23 = dktX0_answer_1 := dk_seg dksX0_answer_0 23 rfl rfl
theorem dksX0_answer_2 : cX0_answer.data.toList.drop 47 = dktX0_answer_2 := dk_seg dksX0_answer_1 24 rfl rfl
theorem dksX0_answer_3 : cX0_answer.data.toList.drop 71 = dktX0_answer_3 := dk_seg dksX0_answer_2 24 rfl rfl
theorem dksX0_answer_4 : cX0_answer.data.toList.drop 93 = dktX0_answer_4 := dk_seg dksX0_answer_3 22 rfl rfl
theorem dksX0_answer_5 : cX0_answer.data.toList.drop 117 = dktX0_answer_5 := dk_seg dksX0_answer_4 24 rfl rfl
theorem dksX0_answer_6 : cX0_answer.data.toList.drop 141 = dktX0_answer_6 := dk_seg dksX0_answer_5 24 rfl rfl
theorem dX0_answer_0 : decode cX0_answer 0 = .ok (.aload_n 0, 1) := dk_42 (dk_at dksX0_answer_0 0 rfl rfl)
theorem dX0_answer_1 : decode cX0_answer 1 = .ok (.iload_n 1, 1) := dk_27 (dk_at dksX0_answer_0 1 rfl rfl)
theorem dX0_answer_2 : decode cX0_answer 2 = .ok (.invokevirtual 277, 3) := dk_182 1 21 (dk_at dksX0_answer_0 2 rfl rfl)
theorem dX0_answer_5 : decode cX0_answer 5 = .ok (.ifCond .eq 12, 3) := dk_153 0 12 (dk_at dksX0_answer_0 5 rfl rfl)
theorem dX0_answer_8 : decode cX0_answer 8 = .ok (.iload_n 2, 1) := dk_28 (dk_at dksX0_answer_0 8 rfl rfl)
theorem dX0_answer_9 : decode cX0_answer 9 = .ok (.iconst 0, 1) := dk_3 (dk_at dksX0_answer_0 9 rfl rfl)
theorem dX0_answer_10 : decode cX0_answer 10 = .ok (.iconst 3, 1) := dk_6 (dk_at dksX0_answer_0 10 rfl rfl)
theorem dX0_answer_11 : decode cX0_answer 11 = .ok (.invokestatic 96, 3) := dk_184 0 96 (dk_at dksX0_answer_0 11 rfl rfl)
theorem dX0_answer_14 : decode cX0_answer 14 = .ok (.ifCond .ne 5, 3) := dk_154 0 5 (dk_at dksX0_answer_0 14 rfl rfl)
theorem dX0_answer_17 : decode cX0_answer 17 = .ok (.iconst (-1), 1) := dk_2 (dk_at dksX0_answer_0 17 rfl rfl)
theorem dX0_answer_18 : decode cX0_answer 18 = .ok (.ireturn, 1) := dk_172 (dk_at dksX0_answer_0 18 rfl rfl)
theorem dX0_answer_19 : decode cX0_answer 19 = .ok (.aload_n 0, 1) := dk_42 (dk_at dksX0_answer_0 19 rfl rfl)
theorem dX0_answer_20 : decode cX0_answer 20 = .ok (.getfield 31, 3) := dk_180 0 31 (dk_at dksX0_answer_0 20 rfl rfl)
theorem dX0_answer_23 : decode cX0_answer 23 = .ok (.getfield 316, 3) := dk_180 1 60 (dk_at dksX0_answer_1 0 rfl rfl)
theorem dX0_answer_26 : decode cX0_answer 26 = .ok (.ifCond .eq 6, 3) := dk_153 0 6 (dk_at dksX0_answer_1 3 rfl rfl)
theorem dX0_answer_29 : decode cX0_answer 29 = .ok (.bipush (-2), 2) := dk_16 254 (dk_at dksX0_answer_1 6 rfl rfl)
theorem dX0_answer_31 : decode cX0_answer 31 = .ok (.ireturn, 1) := dk_172 (dk_at dksX0_answer_1 8 rfl rfl)
theorem dX0_answer_32 : decode cX0_answer 32 = .ok (.aload_n 0, 1) := dk_42 (dk_at dksX0_answer_1 9 rfl rfl)
theorem dX0_answer_33 : decode cX0_answer 33 = .ok (.getfield 31, 3) := dk_180 0 31 (dk_at dksX0_answer_1 10 rfl rfl)
theorem dX0_answer_36 : decode cX0_answer 36 = .ok (.getfield 284, 3) := dk_180 1 28 (dk_at dksX0_answer_1 13 rfl rfl)
theorem dX0_answer_39 : decode cX0_answer 39 = .ok (.iload_n 1, 1) := dk_27 (dk_at dksX0_answer_1 16 rfl rfl)
theorem dX0_answer_40 : decode cX0_answer 40 = .ok (.iaload, 1) := dk_46 (dk_at dksX0_answer_1 17 rfl rfl)
theorem dX0_answer_41 : decode cX0_answer 41 = .ok (.iconst 1, 1) := dk_4 (dk_at dksX0_answer_1 18 rfl rfl)
theorem dX0_answer_42 : decode cX0_answer 42 = .ok (.if_icmp .eq 21, 3) := dk_159 0 21 (dk_at dksX0_answer_1 19 rfl rfl)
theorem dX0_answer_45 : decode cX0_answer 45 = .ok (.iload_n 2, 1) := dk_28 (dk_at dksX0_answer_1 22 rfl rfl)
theorem dX0_answer_46 : decode cX0_answer 46 = .ok (.iconst 1, 1) := dk_4 (dk_at dksX0_answer_1 23 rfl rfl)
theorem dX0_answer_47 : decode cX0_answer 47 = .ok (.if_icmp .le 19, 3) := dk_164 0 19 (dk_at dksX0_answer_2 0 rfl rfl)
theorem dX0_answer_50 : decode cX0_answer 50 = .ok (.aload_n 0, 1) := dk_42 (dk_at dksX0_answer_2 3 rfl rfl)
theorem dX0_answer_51 : decode cX0_answer 51 = .ok (.getfield 31, 3) := dk_180 0 31 (dk_at dksX0_answer_2 4 rfl rfl)
theorem dX0_answer_54 : decode cX0_answer 54 = .ok (.getfield 284, 3) := dk_180 1 28 (dk_at dksX0_answer_2 7 rfl rfl)
theorem dX0_answer_57 : decode cX0_answer 57 = .ok (.iload_n 1, 1) := dk_27 (dk_at dksX0_answer_2 10 rfl rfl)
theorem dX0_answer_58 : decode cX0_answer 58 = .ok (.iaload, 1) := dk_46 (dk_at dksX0_answer_2 11 rfl rfl)
theorem dX0_answer_59 : decode cX0_answer 59 = .ok (.iload_n 2, 1) := dk_28 (dk_at dksX0_answer_2 12 rfl rfl)
theorem dX0_answer_60 : decode cX0_answer 60 = .ok (.if_icmp .ne 6, 3) := dk_160 0 6 (dk_at dksX0_answer_2 13 rfl rfl)
theorem dX0_answer_63 : decode cX0_answer 63 = .ok (.bipush (-3), 2) := dk_16 253 (dk_at dksX0_answer_2 16 rfl rfl)
theorem dX0_answer_65 : decode cX0_answer 65 = .ok (.ireturn, 1) := dk_172 (dk_at dksX0_answer_2 18 rfl rfl)
theorem dX0_answer_66 : decode cX0_answer 66 = .ok (.iload_n 2, 1) := dk_28 (dk_at dksX0_answer_2 19 rfl rfl)
theorem dX0_answer_67 : decode cX0_answer 67 = .ok (.iconst 2, 1) := dk_5 (dk_at dksX0_answer_2 20 rfl rfl)
theorem dX0_answer_68 : decode cX0_answer 68 = .ok (.if_icmp .ge 24, 3) := dk_162 0 24 (dk_at dksX0_answer_2 21 rfl rfl)
theorem dX0_answer_71 : decode cX0_answer 71 = .ok (.aload_n 0, 1) := dk_42 (dk_at dksX0_answer_3 0 rfl rfl)
theorem dX0_answer_72 : decode cX0_answer 72 = .ok (.iload_n 1, 1) := dk_27 (dk_at dksX0_answer_3 1 rfl rfl)
theorem dX0_answer_73 : decode cX0_answer 73 = .ok (.iload_n 2, 1) := dk_28 (dk_at dksX0_answer_3 2 rfl rfl)
theorem dX0_answer_74 : decode cX0_answer 74 = .ok (.iconst 1, 1) := dk_4 (dk_at dksX0_answer_3 3 rfl rfl)
theorem dX0_answer_75 : decode cX0_answer 75 = .ok (.if_icmp .ne 7, 3) := dk_160 0 7 (dk_at dksX0_answer_3 4 rfl rfl)
theorem dX0_answer_78 : decode cX0_answer 78 = .ok (.iconst 1, 1) := dk_4 (dk_at dksX0_answer_3 7 rfl rfl)
theorem dX0_answer_79 : decode cX0_answer 79 = .ok (.goto 4, 3) := dk_167 0 4 (dk_at dksX0_answer_3 8 rfl rfl)
theorem dX0_answer_82 : decode cX0_answer 82 = .ok (.iconst 0, 1) := dk_3 (dk_at dksX0_answer_3 11 rfl rfl)
theorem dX0_answer_83 : decode cX0_answer 83 = .ok (.invokevirtual 320, 3) := dk_182 1 64 (dk_at dksX0_answer_3 12 rfl rfl)
theorem dX0_answer_86 : decode cX0_answer 86 = .ok (.ifCond .ne 6, 3) := dk_154 0 6 (dk_at dksX0_answer_3 15 rfl rfl)
theorem dX0_answer_89 : decode cX0_answer 89 = .ok (.bipush (-4), 2) := dk_16 252 (dk_at dksX0_answer_3 18 rfl rfl)
theorem dX0_answer_91 : decode cX0_answer 91 = .ok (.ireturn, 1) := dk_172 (dk_at dksX0_answer_3 20 rfl rfl)
theorem dX0_answer_92 : decode cX0_answer 92 = .ok (.aload_n 0, 1) := dk_42 (dk_at dksX0_answer_3 21 rfl rfl)
theorem dX0_answer_93 : decode cX0_answer 93 = .ok (.invokevirtual 324, 3) := dk_182 1 68 (dk_at dksX0_answer_4 0 rfl rfl)
theorem dX0_answer_96 : decode cX0_answer 96 = .ok (.iload_n 2, 1) := dk_28 (dk_at dksX0_answer_4 3 rfl rfl)
theorem dX0_answer_97 : decode cX0_answer 97 = .ok (.iconst 2, 1) := dk_5 (dk_at dksX0_answer_4 4 rfl rfl)
theorem dX0_answer_98 : decode cX0_answer 98 = .ok (.if_icmp .ge 25, 3) := dk_162 0 25 (dk_at dksX0_answer_4 5 rfl rfl)
theorem dX0_answer_101 : decode cX0_answer 101 = .ok (.aload_n 0, 1) := dk_42 (dk_at dksX0_answer_4 8 rfl rfl)
theorem dX0_answer_102 : decode cX0_answer 102 = .ok (.getfield 31, 3) := dk_180 0 31 (dk_at dksX0_answer_4 9 rfl rfl)
theorem dX0_answer_105 : decode cX0_answer 105 = .ok (.iload_n 1, 1) := dk_27 (dk_at dksX0_answer_4 12 rfl rfl)
theorem dX0_answer_106 : decode cX0_answer 106 = .ok (.iload_n 2, 1) := dk_28 (dk_at dksX0_answer_4 13 rfl rfl)
theorem dX0_answer_107 : decode cX0_answer 107 = .ok (.iconst 1, 1) := dk_4 (dk_at dksX0_answer_4 14 rfl rfl)
theorem dX0_answer_108 : decode cX0_answer 108 = .ok (.if_icmp .ne 7, 3) := dk_160 0 7 (dk_at dksX0_answer_4 15 rfl rfl)
theorem dX0_answer_111 : decode cX0_answer 111 = .ok (.iconst 1, 1) := dk_4 (dk_at dksX0_answer_4 18 rfl rfl)
theorem dX0_answer_112 : decode cX0_answer 112 = .ok (.goto 4, 3) := dk_167 0 4 (dk_at dksX0_answer_4 19 rfl rfl)
theorem dX0_answer_115 : decode cX0_answer 115 = .ok (.iconst 0, 1) := dk_3 (dk_at dksX0_answer_4 22 rfl rfl)
theorem dX0_answer_116 : decode cX0_answer 116 = .ok (.iconst 1, 1) := dk_4 (dk_at dksX0_answer_4 23 rfl rfl)
theorem dX0_answer_117 : decode cX0_answer 117 = .ok (.invokevirtual 327, 3) := dk_182 1 71 (dk_at dksX0_answer_5 0 rfl rfl)
theorem dX0_answer_120 : decode cX0_answer 120 = .ok (.goto 13, 3) := dk_167 0 13 (dk_at dksX0_answer_5 3 rfl rfl)
theorem dX0_answer_123 : decode cX0_answer 123 = .ok (.aload_n 0, 1) := dk_42 (dk_at dksX0_answer_5 6 rfl rfl)
theorem dX0_answer_124 : decode cX0_answer 124 = .ok (.getfield 31, 3) := dk_180 0 31 (dk_at dksX0_answer_5 7 rfl rfl)
theorem dX0_answer_127 : decode cX0_answer 127 = .ok (.getfield 284, 3) := dk_180 1 28 (dk_at dksX0_answer_5 10 rfl rfl)
theorem dX0_answer_130 : decode cX0_answer 130 = .ok (.iload_n 1, 1) := dk_27 (dk_at dksX0_answer_5 13 rfl rfl)
theorem dX0_answer_131 : decode cX0_answer 131 = .ok (.iload_n 2, 1) := dk_28 (dk_at dksX0_answer_5 14 rfl rfl)
theorem dX0_answer_132 : decode cX0_answer 132 = .ok (.iastore, 1) := dk_79 (dk_at dksX0_answer_5 15 rfl rfl)
theorem dX0_answer_133 : decode cX0_answer 133 = .ok (.aload_n 0, 1) := dk_42 (dk_at dksX0_answer_5 16 rfl rfl)
theorem dX0_answer_134 : decode cX0_answer 134 = .ok (.getfield 31, 3) := dk_180 0 31 (dk_at dksX0_answer_5 17 rfl rfl)
theorem dX0_answer_137 : decode cX0_answer 137 = .ok (.aload_n 0, 1) := dk_42 (dk_at dksX0_answer_5 20 rfl rfl)
theorem dX0_answer_138 : decode cX0_answer 138 = .ok (.getfield 24, 3) := dk_180 0 24 (dk_at dksX0_answer_5 21 rfl rfl)
theorem dX0_answer_141 : decode cX0_answer 141 = .ok (.getfield 133, 3) := dk_180 0 133 (dk_at dksX0_answer_6 0 rfl rfl)
theorem dX0_answer_144 : decode cX0_answer 144 = .ok (.invokevirtual 331, 3) := dk_182 1 75 (dk_at dksX0_answer_6 3 rfl rfl)
theorem dX0_answer_147 : decode cX0_answer 147 = .ok (.ireturn, 1) := dk_172 (dk_at dksX0_answer_6 6 rfl rfl)
abbrev cX0_mayKnow : ByteArray := prog_1_method_36_code
def yX0_mayKnow : MethodName := ⟨RX0, "mayKnow", "(IZ)Z"⟩
def dkwX0_mayKnow_1 : List UInt8 := [27, 120, 167, 0, 4, 3, 128, 182, 0, 227, 172]
abbrev dktX0_mayKnow_1 : List UInt8 := dkwX0_mayKnow_1 ++ []
def dkwX0_mayKnow_0 : List UInt8 := [42, 42, 180, 0, 31, 180, 0, 149, 4, 27, 120, 128, 42, 180, 0, 31, 180, 0, 152, 28, 153, 0, 9, 4]
abbrev dktX0_mayKnow_0 : List UInt8 := dkwX0_mayKnow_0 ++ dktX0_mayKnow_1
theorem dksX0_mayKnow_0 : cX0_mayKnow.data.toList.drop 0 = dktX0_mayKnow_0 := by decide +kernel
theorem dksX0_mayKnow_1 : cX0_mayKnow.data.toList.drop 24 = dktX0_mayKnow_1 := dk_seg dksX0_mayKnow_0 24 rfl rfl
theorem dX0_mayKnow_0 : decode cX0_mayKnow 0 = .ok (.aload_n 0, 1) := dk_42 (dk_at dksX0_mayKnow_0 0 rfl rfl)
theorem dX0_mayKnow_1 : decode cX0_mayKnow 1 = .ok (.aload_n 0, 1) := dk_42 (dk_at dksX0_mayKnow_0 1 rfl rfl)
theorem dX0_mayKnow_2 : decode cX0_mayKnow 2 = .ok (.getfield 31, 3) := dk_180 0 31 (dk_at dksX0_mayKnow_0 2 rfl rfl)
theorem dX0_mayKnow_5 : decode cX0_mayKnow 5 = .ok (.getfield 149, 3) := dk_180 0 149 (dk_at dksX0_mayKnow_0 5 rfl rfl)
theorem dX0_mayKnow_8 : decode cX0_mayKnow 8 = .ok (.iconst 1, 1) := dk_4 (dk_at dksX0_mayKnow_0 8 rfl rfl)
theorem dX0_mayKnow_9 : decode cX0_mayKnow 9 = .ok (.iload_n 1, 1) := dk_27 (dk_at dksX0_mayKnow_0 9 rfl rfl)
theorem dX0_mayKnow_10 : decode cX0_mayKnow 10 = .ok (.ishl, 1) := dk_120 (dk_at dksX0_mayKnow_0 10 rfl rfl)
theorem dX0_mayKnow_11 : decode cX0_mayKnow 11 = .ok (.ior, 1) := dk_128 (dk_at dksX0_mayKnow_0 11 rfl rfl)
theorem dX0_mayKnow_12 : decode cX0_mayKnow 12 = .ok (.aload_n 0, 1) := dk_42 (dk_at dksX0_mayKnow_0 12 rfl rfl)
theorem dX0_mayKnow_13 : decode cX0_mayKnow 13 = .ok (.getfield 31, 3) := dk_180 0 31 (dk_at dksX0_mayKnow_0 13 rfl rfl)
theorem dX0_mayKnow_16 : decode cX0_mayKnow 16 = .ok (.getfield 152, 3) := dk_180 0 152 (dk_at dksX0_mayKnow_0 16 rfl rfl)
theorem dX0_mayKnow_19 : decode cX0_mayKnow 19 = .ok (.iload_n 2, 1) := dk_28 (dk_at dksX0_mayKnow_0 19 rfl rfl)
theorem dX0_mayKnow_20 : decode cX0_mayKnow 20 = .ok (.ifCond .eq 9, 3) := dk_153 0 9 (dk_at dksX0_mayKnow_0 20 rfl rfl)
theorem dX0_mayKnow_23 : decode cX0_mayKnow 23 = .ok (.iconst 1, 1) := dk_4 (dk_at dksX0_mayKnow_0 23 rfl rfl)
theorem dX0_mayKnow_24 : decode cX0_mayKnow 24 = .ok (.iload_n 1, 1) := dk_27 (dk_at dksX0_mayKnow_1 0 rfl rfl)
theorem dX0_mayKnow_25 : decode cX0_mayKnow 25 = .ok (.ishl, 1) := dk_120 (dk_at dksX0_mayKnow_1 1 rfl rfl)
theorem dX0_mayKnow_26 : decode cX0_mayKnow 26 = .ok (.goto 4, 3) := dk_167 0 4 (dk_at dksX0_mayKnow_1 2 rfl rfl)
theorem dX0_mayKnow_29 : decode cX0_mayKnow 29 = .ok (.iconst 0, 1) := dk_3 (dk_at dksX0_mayKnow_1 5 rfl rfl)
theorem dX0_mayKnow_30 : decode cX0_mayKnow 30 = .ok (.ior, 1) := dk_128 (dk_at dksX0_mayKnow_1 6 rfl rfl)
theorem dX0_mayKnow_31 : decode cX0_mayKnow 31 = .ok (.invokevirtual 227, 3) := dk_182 0 227 (dk_at dksX0_mayKnow_1 7 rfl rfl)
theorem dX0_mayKnow_34 : decode cX0_mayKnow 34 = .ok (.ireturn, 1) := dk_172 (dk_at dksX0_mayKnow_1 10 rfl rfl)
abbrev cX0_keeps : ByteArray := prog_1_method_35_code
def yX0_keeps : MethodName := ⟨RX0, "keeps", "()V"⟩
def dkwX0_keeps_3 : List UInt8 := [180, 0, 31, 182, 1, 56, 42, 89, 180, 0, 127, 4, 96, 181, 0, 127, 177]
abbrev dktX0_keeps_3 : List UInt8 := dkwX0_keeps_3 ++ []
def dkwX0_keeps_2 : List UInt8 := [16, 15, 43, 83, 42, 89, 180, 0, 127, 4, 100, 181, 0, 127, 42, 180, 0, 35, 42, 180, 0, 127, 50, 42]
abbrev dktX0_keeps_2 : List UInt8 := dkwX0_keeps_2 ++ dktX0_keeps_3
def dkwX0_keeps_1 : List UInt8 := [42, 180, 0, 35, 28, 4, 100, 42, 180, 0, 35, 28, 50, 83, 132, 2, 1, 167, 255, 233, 42, 180, 0, 35]
abbrev dktX0_keeps_1 : List UInt8 := dkwX0_keeps_1 ++ dktX0_keeps_2
def dkwX0_keeps_0 : List UInt8 := [42, 180, 0, 127, 16, 16, 160, 0, 56, 42, 180, 0, 35, 3, 50, 76, 4, 61, 28, 16, 16, 162, 0, 23]
abbrev dktX0_keeps_0 : List UInt8 := dkwX0_keeps_0 ++ dktX0_keeps_1
theorem dksX0_keeps_0 : cX0_keeps.data.toList.drop 0 = dktX0_keeps_0 := by decide +kernel
theorem dksX0_keeps_1 : cX0_keeps.data.toList.drop 24 = dktX0_keeps_1 := dk_seg dksX0_keeps_0 24 rfl rfl
theorem dksX0_keeps_2 : cX0_keeps.data.toList.drop 48 = dktX0_keeps_2 := dk_seg dksX0_keeps_1 24 rfl rfl
theorem dksX0_keeps_3 : cX0_keeps.data.toList.drop 72 = dktX0_keeps_3 := dk_seg dksX0_keeps_2 24 rfl rfl
theorem dX0_keeps_0 : decode cX0_keeps 0 = .ok (.aload_n 0, 1) := dk_42 (dk_at dksX0_keeps_0 0 rfl rfl)
theorem dX0_keeps_1 : decode cX0_keeps 1 = .ok (.getfield 127, 3) := dk_180 0 127 (dk_at dksX0_keeps_0 1 rfl rfl)
theorem dX0_keeps_4 : decode cX0_keeps 4 = .ok (.bipush 16, 2) := dk_16 16 (dk_at dksX0_keeps_0 4 rfl rfl)
theorem dX0_keeps_6 : decode cX0_keeps 6 = .ok (.if_icmp .ne 56, 3) := dk_160 0 56 (dk_at dksX0_keeps_0 6 rfl rfl)
theorem dX0_keeps_9 : decode cX0_keeps 9 = .ok (.aload_n 0, 1) := dk_42 (dk_at dksX0_keeps_0 9 rfl rfl)
theorem dX0_keeps_10 : decode cX0_keeps 10 = .ok (.getfield 35, 3) := dk_180 0 35 (dk_at dksX0_keeps_0 10 rfl rfl)
theorem dX0_keeps_13 : decode cX0_keeps 13 = .ok (.iconst 0, 1) := dk_3 (dk_at dksX0_keeps_0 13 rfl rfl)
theorem dX0_keeps_14 : decode cX0_keeps 14 = .ok (.aaload, 1) := dk_50 (dk_at dksX0_keeps_0 14 rfl rfl)
theorem dX0_keeps_15 : decode cX0_keeps 15 = .ok (.astore_n 1, 1) := dk_76 (dk_at dksX0_keeps_0 15 rfl rfl)
theorem dX0_keeps_16 : decode cX0_keeps 16 = .ok (.iconst 1, 1) := dk_4 (dk_at dksX0_keeps_0 16 rfl rfl)
theorem dX0_keeps_17 : decode cX0_keeps 17 = .ok (.istore_n 2, 1) := dk_61 (dk_at dksX0_keeps_0 17 rfl rfl)
theorem dX0_keeps_18 : decode cX0_keeps 18 = .ok (.iload_n 2, 1) := dk_28 (dk_at dksX0_keeps_0 18 rfl rfl)
theorem dX0_keeps_19 : decode cX0_keeps 19 = .ok (.bipush 16, 2) := dk_16 16 (dk_at dksX0_keeps_0 19 rfl rfl)
theorem dX0_keeps_21 : decode cX0_keeps 21 = .ok (.if_icmp .ge 23, 3) := dk_162 0 23 (dk_at dksX0_keeps_0 21 rfl rfl)
theorem dX0_keeps_24 : decode cX0_keeps 24 = .ok (.aload_n 0, 1) := dk_42 (dk_at dksX0_keeps_1 0 rfl rfl)
theorem dX0_keeps_25 : decode cX0_keeps 25 = .ok (.getfield 35, 3) := dk_180 0 35 (dk_at dksX0_keeps_1 1 rfl rfl)
theorem dX0_keeps_28 : decode cX0_keeps 28 = .ok (.iload_n 2, 1) := dk_28 (dk_at dksX0_keeps_1 4 rfl rfl)
theorem dX0_keeps_29 : decode cX0_keeps 29 = .ok (.iconst 1, 1) := dk_4 (dk_at dksX0_keeps_1 5 rfl rfl)
theorem dX0_keeps_30 : decode cX0_keeps 30 = .ok (.isub, 1) := dk_100 (dk_at dksX0_keeps_1 6 rfl rfl)
theorem dX0_keeps_31 : decode cX0_keeps 31 = .ok (.aload_n 0, 1) := dk_42 (dk_at dksX0_keeps_1 7 rfl rfl)
theorem dX0_keeps_32 : decode cX0_keeps 32 = .ok (.getfield 35, 3) := dk_180 0 35 (dk_at dksX0_keeps_1 8 rfl rfl)
theorem dX0_keeps_35 : decode cX0_keeps 35 = .ok (.iload_n 2, 1) := dk_28 (dk_at dksX0_keeps_1 11 rfl rfl)
theorem dX0_keeps_36 : decode cX0_keeps 36 = .ok (.aaload, 1) := dk_50 (dk_at dksX0_keeps_1 12 rfl rfl)
theorem dX0_keeps_37 : decode cX0_keeps 37 = .ok (.aastore, 1) := dk_83 (dk_at dksX0_keeps_1 13 rfl rfl)
theorem dX0_keeps_38 : decode cX0_keeps 38 = .ok (.iinc 2 1, 3) := dk_132 2 1 (dk_at dksX0_keeps_1 14 rfl rfl)
theorem dX0_keeps_41 : decode cX0_keeps 41 = .ok (.goto (-23), 3) := dk_167 255 233 (dk_at dksX0_keeps_1 17 rfl rfl)
theorem dX0_keeps_44 : decode cX0_keeps 44 = .ok (.aload_n 0, 1) := dk_42 (dk_at dksX0_keeps_1 20 rfl rfl)
theorem dX0_keeps_45 : decode cX0_keeps 45 = .ok (.getfield 35, 3) := dk_180 0 35 (dk_at dksX0_keeps_1 21 rfl rfl)
theorem dX0_keeps_48 : decode cX0_keeps 48 = .ok (.bipush 15, 2) := dk_16 15 (dk_at dksX0_keeps_2 0 rfl rfl)
theorem dX0_keeps_50 : decode cX0_keeps 50 = .ok (.aload_n 1, 1) := dk_43 (dk_at dksX0_keeps_2 2 rfl rfl)
theorem dX0_keeps_51 : decode cX0_keeps 51 = .ok (.aastore, 1) := dk_83 (dk_at dksX0_keeps_2 3 rfl rfl)
theorem dX0_keeps_52 : decode cX0_keeps 52 = .ok (.aload_n 0, 1) := dk_42 (dk_at dksX0_keeps_2 4 rfl rfl)
theorem dX0_keeps_53 : decode cX0_keeps 53 = .ok (.dup, 1) := dk_89 (dk_at dksX0_keeps_2 5 rfl rfl)
theorem dX0_keeps_54 : decode cX0_keeps 54 = .ok (.getfield 127, 3) := dk_180 0 127 (dk_at dksX0_keeps_2 6 rfl rfl)
theorem dX0_keeps_57 : decode cX0_keeps 57 = .ok (.iconst 1, 1) := dk_4 (dk_at dksX0_keeps_2 9 rfl rfl)
theorem dX0_keeps_58 : decode cX0_keeps 58 = .ok (.isub, 1) := dk_100 (dk_at dksX0_keeps_2 10 rfl rfl)
theorem dX0_keeps_59 : decode cX0_keeps 59 = .ok (.putfield 127, 3) := dk_181 0 127 (dk_at dksX0_keeps_2 11 rfl rfl)
theorem dX0_keeps_62 : decode cX0_keeps 62 = .ok (.aload_n 0, 1) := dk_42 (dk_at dksX0_keeps_2 14 rfl rfl)
theorem dX0_keeps_63 : decode cX0_keeps 63 = .ok (.getfield 35, 3) := dk_180 0 35 (dk_at dksX0_keeps_2 15 rfl rfl)
theorem dX0_keeps_66 : decode cX0_keeps 66 = .ok (.aload_n 0, 1) := dk_42 (dk_at dksX0_keeps_2 18 rfl rfl)
theorem dX0_keeps_67 : decode cX0_keeps 67 = .ok (.getfield 127, 3) := dk_180 0 127 (dk_at dksX0_keeps_2 19 rfl rfl)
theorem dX0_keeps_70 : decode cX0_keeps 70 = .ok (.aaload, 1) := dk_50 (dk_at dksX0_keeps_2 22 rfl rfl)
theorem dX0_keeps_71 : decode cX0_keeps 71 = .ok (.aload_n 0, 1) := dk_42 (dk_at dksX0_keeps_2 23 rfl rfl)
theorem dX0_keeps_72 : decode cX0_keeps 72 = .ok (.getfield 31, 3) := dk_180 0 31 (dk_at dksX0_keeps_3 0 rfl rfl)
theorem dX0_keeps_75 : decode cX0_keeps 75 = .ok (.invokevirtual 312, 3) := dk_182 1 56 (dk_at dksX0_keeps_3 3 rfl rfl)
theorem dX0_keeps_78 : decode cX0_keeps 78 = .ok (.aload_n 0, 1) := dk_42 (dk_at dksX0_keeps_3 6 rfl rfl)
theorem dX0_keeps_79 : decode cX0_keeps 79 = .ok (.dup, 1) := dk_89 (dk_at dksX0_keeps_3 7 rfl rfl)
theorem dX0_keeps_80 : decode cX0_keeps 80 = .ok (.getfield 127, 3) := dk_180 0 127 (dk_at dksX0_keeps_3 8 rfl rfl)
theorem dX0_keeps_83 : decode cX0_keeps 83 = .ok (.iconst 1, 1) := dk_4 (dk_at dksX0_keeps_3 11 rfl rfl)
theorem dX0_keeps_84 : decode cX0_keeps 84 = .ok (.iadd, 1) := dk_96 (dk_at dksX0_keeps_3 12 rfl rfl)
theorem dX0_keeps_85 : decode cX0_keeps 85 = .ok (.putfield 127, 3) := dk_181 0 127 (dk_at dksX0_keeps_3 13 rfl rfl)
theorem dX0_keeps_88 : decode cX0_keeps 88 = .ok (.return_, 1) := dk_177 (dk_at dksX0_keeps_3 16 rfl rfl)
abbrev cX0_withdraw : ByteArray := prog_1_method_38_code
def yX0_withdraw : MethodName := ⟨RX0, "withdraw", "(I)I"⟩
def dkwX0_withdraw_4 : List UInt8 := [180, 0, 133, 182, 1, 75, 172]
abbrev dktX0_withdraw_4 : List UInt8 := dkwX0_withdraw_4 ++ []
def dkwX0_withdraw_3 : List UInt8 := [180, 0, 31, 89, 180, 0, 152, 4, 27, 120, 2, 130, 126, 181, 0, 152, 42, 180, 0, 31, 42, 180, 0, 24]
abbrev dktX0_withdraw_3 : List UInt8 := dkwX0_withdraw_3 ++ dktX0_withdraw_4
def dkwX0_withdraw_2 : List UInt8 := [180, 1, 28, 27, 3, 79, 42, 180, 0, 31, 89, 180, 0, 149, 4, 27, 120, 2, 130, 126, 181, 0, 149, 42]
abbrev dktX0_withdraw_2 : List UInt8 := dkwX0_withdraw_2 ++ dktX0_withdraw_3
def dkwX0_withdraw_1 : List UInt8 := [180, 0, 31, 180, 1, 28, 27, 46, 4, 159, 0, 6, 16, 253, 172, 42, 182, 1, 68, 42, 180, 0, 31]
abbrev dktX0_withdraw_1 : List UInt8 := dkwX0_withdraw_1 ++ dktX0_withdraw_2
def dkwX0_withdraw_0 : List UInt8 := [42, 27, 182, 1, 21, 154, 0, 5, 2, 172, 42, 180, 0, 31, 180, 1, 60, 153, 0, 6, 16, 254, 172, 42]
abbrev dktX0_withdraw_0 : List UInt8 := dkwX0_withdraw_0 ++ dktX0_withdraw_1
theorem dksX0_withdraw_0 : cX0_withdraw.data.toList.drop 0 = dktX0_withdraw_0 := by decide +kernel
theorem dksX0_withdraw_1 : cX0_withdraw.data.toList.drop 24 = dktX0_withdraw_1 := dk_seg dksX0_withdraw_0 24 rfl rfl
theorem dksX0_withdraw_2 : cX0_withdraw.data.toList.drop 47 = dktX0_withdraw_2 := dk_seg dksX0_withdraw_1 23 rfl rfl
theorem dksX0_withdraw_3 : cX0_withdraw.data.toList.drop 71 = dktX0_withdraw_3 := dk_seg dksX0_withdraw_2 24 rfl rfl
theorem dksX0_withdraw_4 : cX0_withdraw.data.toList.drop 95 = dktX0_withdraw_4 := dk_seg dksX0_withdraw_3 24 rfl rfl
theorem dX0_withdraw_0 : decode cX0_withdraw 0 = .ok (.aload_n 0, 1) := dk_42 (dk_at dksX0_withdraw_0 0 rfl rfl)
theorem dX0_withdraw_1 : decode cX0_withdraw 1 = .ok (.iload_n 1, 1) := dk_27 (dk_at dksX0_withdraw_0 1 rfl rfl)
theorem dX0_withdraw_2 : decode cX0_withdraw 2 = .ok (.invokevirtual 277, 3) := dk_182 1 21 (dk_at dksX0_withdraw_0 2 rfl rfl)
theorem dX0_withdraw_5 : decode cX0_withdraw 5 = .ok (.ifCond .ne 5, 3) := dk_154 0 5 (dk_at dksX0_withdraw_0 5 rfl rfl)
theorem dX0_withdraw_8 : decode cX0_withdraw 8 = .ok (.iconst (-1), 1) := dk_2 (dk_at dksX0_withdraw_0 8 rfl rfl)
theorem dX0_withdraw_9 : decode cX0_withdraw 9 = .ok (.ireturn, 1) := dk_172 (dk_at dksX0_withdraw_0 9 rfl rfl)
theorem dX0_withdraw_10 : decode cX0_withdraw 10 = .ok (.aload_n 0, 1) := dk_42 (dk_at dksX0_withdraw_0 10 rfl rfl)
theorem dX0_withdraw_11 : decode cX0_withdraw 11 = .ok (.getfield 31, 3) := dk_180 0 31 (dk_at dksX0_withdraw_0 11 rfl rfl)
theorem dX0_withdraw_14 : decode cX0_withdraw 14 = .ok (.getfield 316, 3) := dk_180 1 60 (dk_at dksX0_withdraw_0 14 rfl rfl)
theorem dX0_withdraw_17 : decode cX0_withdraw 17 = .ok (.ifCond .eq 6, 3) := dk_153 0 6 (dk_at dksX0_withdraw_0 17 rfl rfl)
theorem dX0_withdraw_20 : decode cX0_withdraw 20 = .ok (.bipush (-2), 2) := dk_16 254 (dk_at dksX0_withdraw_0 20 rfl rfl)
theorem dX0_withdraw_22 : decode cX0_withdraw 22 = .ok (.ireturn, 1) := dk_172 (dk_at dksX0_withdraw_0 22 rfl rfl)
theorem dX0_withdraw_23 : decode cX0_withdraw 23 = .ok (.aload_n 0, 1) := dk_42 (dk_at dksX0_withdraw_0 23 rfl rfl)
theorem dX0_withdraw_24 : decode cX0_withdraw 24 = .ok (.getfield 31, 3) := dk_180 0 31 (dk_at dksX0_withdraw_1 0 rfl rfl)
theorem dX0_withdraw_27 : decode cX0_withdraw 27 = .ok (.getfield 284, 3) := dk_180 1 28 (dk_at dksX0_withdraw_1 3 rfl rfl)
theorem dX0_withdraw_30 : decode cX0_withdraw 30 = .ok (.iload_n 1, 1) := dk_27 (dk_at dksX0_withdraw_1 6 rfl rfl)
theorem dX0_withdraw_31 : decode cX0_withdraw 31 = .ok (.iaload, 1) := dk_46 (dk_at dksX0_withdraw_1 7 rfl rfl)
theorem dX0_withdraw_32 : decode cX0_withdraw 32 = .ok (.iconst 1, 1) := dk_4 (dk_at dksX0_withdraw_1 8 rfl rfl)
theorem dX0_withdraw_33 : decode cX0_withdraw 33 = .ok (.if_icmp .eq 6, 3) := dk_159 0 6 (dk_at dksX0_withdraw_1 9 rfl rfl)
theorem dX0_withdraw_36 : decode cX0_withdraw 36 = .ok (.bipush (-3), 2) := dk_16 253 (dk_at dksX0_withdraw_1 12 rfl rfl)
theorem dX0_withdraw_38 : decode cX0_withdraw 38 = .ok (.ireturn, 1) := dk_172 (dk_at dksX0_withdraw_1 14 rfl rfl)
theorem dX0_withdraw_39 : decode cX0_withdraw 39 = .ok (.aload_n 0, 1) := dk_42 (dk_at dksX0_withdraw_1 15 rfl rfl)
theorem dX0_withdraw_40 : decode cX0_withdraw 40 = .ok (.invokevirtual 324, 3) := dk_182 1 68 (dk_at dksX0_withdraw_1 16 rfl rfl)
theorem dX0_withdraw_43 : decode cX0_withdraw 43 = .ok (.aload_n 0, 1) := dk_42 (dk_at dksX0_withdraw_1 19 rfl rfl)
theorem dX0_withdraw_44 : decode cX0_withdraw 44 = .ok (.getfield 31, 3) := dk_180 0 31 (dk_at dksX0_withdraw_1 20 rfl rfl)
theorem dX0_withdraw_47 : decode cX0_withdraw 47 = .ok (.getfield 284, 3) := dk_180 1 28 (dk_at dksX0_withdraw_2 0 rfl rfl)
theorem dX0_withdraw_50 : decode cX0_withdraw 50 = .ok (.iload_n 1, 1) := dk_27 (dk_at dksX0_withdraw_2 3 rfl rfl)
theorem dX0_withdraw_51 : decode cX0_withdraw 51 = .ok (.iconst 0, 1) := dk_3 (dk_at dksX0_withdraw_2 4 rfl rfl)
theorem dX0_withdraw_52 : decode cX0_withdraw 52 = .ok (.iastore, 1) := dk_79 (dk_at dksX0_withdraw_2 5 rfl rfl)
theorem dX0_withdraw_53 : decode cX0_withdraw 53 = .ok (.aload_n 0, 1) := dk_42 (dk_at dksX0_withdraw_2 6 rfl rfl)
theorem dX0_withdraw_54 : decode cX0_withdraw 54 = .ok (.getfield 31, 3) := dk_180 0 31 (dk_at dksX0_withdraw_2 7 rfl rfl)
theorem dX0_withdraw_57 : decode cX0_withdraw 57 = .ok (.dup, 1) := dk_89 (dk_at dksX0_withdraw_2 10 rfl rfl)
theorem dX0_withdraw_58 : decode cX0_withdraw 58 = .ok (.getfield 149, 3) := dk_180 0 149 (dk_at dksX0_withdraw_2 11 rfl rfl)
theorem dX0_withdraw_61 : decode cX0_withdraw 61 = .ok (.iconst 1, 1) := dk_4 (dk_at dksX0_withdraw_2 14 rfl rfl)
theorem dX0_withdraw_62 : decode cX0_withdraw 62 = .ok (.iload_n 1, 1) := dk_27 (dk_at dksX0_withdraw_2 15 rfl rfl)
theorem dX0_withdraw_63 : decode cX0_withdraw 63 = .ok (.ishl, 1) := dk_120 (dk_at dksX0_withdraw_2 16 rfl rfl)
theorem dX0_withdraw_64 : decode cX0_withdraw 64 = .ok (.iconst (-1), 1) := dk_2 (dk_at dksX0_withdraw_2 17 rfl rfl)
theorem dX0_withdraw_65 : decode cX0_withdraw 65 = .ok (.ixor, 1) := dk_130 (dk_at dksX0_withdraw_2 18 rfl rfl)
theorem dX0_withdraw_66 : decode cX0_withdraw 66 = .ok (.iand, 1) := dk_126 (dk_at dksX0_withdraw_2 19 rfl rfl)
theorem dX0_withdraw_67 : decode cX0_withdraw 67 = .ok (.putfield 149, 3) := dk_181 0 149 (dk_at dksX0_withdraw_2 20 rfl rfl)
theorem dX0_withdraw_70 : decode cX0_withdraw 70 = .ok (.aload_n 0, 1) := dk_42 (dk_at dksX0_withdraw_2 23 rfl rfl)
theorem dX0_withdraw_71 : decode cX0_withdraw 71 = .ok (.getfield 31, 3) := dk_180 0 31 (dk_at dksX0_withdraw_3 0 rfl rfl)
theorem dX0_withdraw_74 : decode cX0_withdraw 74 = .ok (.dup, 1) := dk_89 (dk_at dksX0_withdraw_3 3 rfl rfl)
theorem dX0_withdraw_75 : decode cX0_withdraw 75 = .ok (.getfield 152, 3) := dk_180 0 152 (dk_at dksX0_withdraw_3 4 rfl rfl)
theorem dX0_withdraw_78 : decode cX0_withdraw 78 = .ok (.iconst 1, 1) := dk_4 (dk_at dksX0_withdraw_3 7 rfl rfl)
theorem dX0_withdraw_79 : decode cX0_withdraw 79 = .ok (.iload_n 1, 1) := dk_27 (dk_at dksX0_withdraw_3 8 rfl rfl)
theorem dX0_withdraw_80 : decode cX0_withdraw 80 = .ok (.ishl, 1) := dk_120 (dk_at dksX0_withdraw_3 9 rfl rfl)
theorem dX0_withdraw_81 : decode cX0_withdraw 81 = .ok (.iconst (-1), 1) := dk_2 (dk_at dksX0_withdraw_3 10 rfl rfl)
theorem dX0_withdraw_82 : decode cX0_withdraw 82 = .ok (.ixor, 1) := dk_130 (dk_at dksX0_withdraw_3 11 rfl rfl)
theorem dX0_withdraw_83 : decode cX0_withdraw 83 = .ok (.iand, 1) := dk_126 (dk_at dksX0_withdraw_3 12 rfl rfl)
theorem dX0_withdraw_84 : decode cX0_withdraw 84 = .ok (.putfield 152, 3) := dk_181 0 152 (dk_at dksX0_withdraw_3 13 rfl rfl)
theorem dX0_withdraw_87 : decode cX0_withdraw 87 = .ok (.aload_n 0, 1) := dk_42 (dk_at dksX0_withdraw_3 16 rfl rfl)
theorem dX0_withdraw_88 : decode cX0_withdraw 88 = .ok (.getfield 31, 3) := dk_180 0 31 (dk_at dksX0_withdraw_3 17 rfl rfl)
theorem dX0_withdraw_91 : decode cX0_withdraw 91 = .ok (.aload_n 0, 1) := dk_42 (dk_at dksX0_withdraw_3 20 rfl rfl)
theorem dX0_withdraw_92 : decode cX0_withdraw 92 = .ok (.getfield 24, 3) := dk_180 0 24 (dk_at dksX0_withdraw_3 21 rfl rfl)
theorem dX0_withdraw_95 : decode cX0_withdraw 95 = .ok (.getfield 133, 3) := dk_180 0 133 (dk_at dksX0_withdraw_4 0 rfl rfl)
theorem dX0_withdraw_98 : decode cX0_withdraw 98 = .ok (.invokevirtual 331, 3) := dk_182 1 75 (dk_at dksX0_withdraw_4 3 rfl rfl)
theorem dX0_withdraw_101 : decode cX0_withdraw 101 = .ok (.ireturn, 1) := dk_172 (dk_at dksX0_withdraw_4 6 rfl rfl)
abbrev cX0_close : ByteArray := prog_1_method_40_code
def yX0_close : MethodName := ⟨RX0, "close", "()I"⟩
def dkwX0_close_5 : List UInt8 := [167, 255, 160, 42, 180, 0, 31, 4, 181, 1, 60, 27, 172]
abbrev dktX0_close_5 : List UInt8 := dkwX0_close_5 ++ []
def dkwX0_close_4 : List UInt8 := [4, 182, 1, 71, 132, 1, 1, 167, 0, 13, 42, 180, 0, 31, 180, 1, 28, 28, 6, 79, 132, 2, 1]
abbrev dktX0_close_4 : List UInt8 := dkwX0_close_4 ++ dktX0_close_5
def dkwX0_close_3 : List UInt8 := [46, 28, 184, 0, 223, 54, 4, 42, 28, 21, 4, 182, 1, 64, 153, 0, 20, 42, 180, 0, 31, 28, 21, 4]
abbrev dktX0_close_3 : List UInt8 := dkwX0_close_3 ++ dktX0_close_4
def dkwX0_close_2 : List UInt8 := [182, 1, 78, 167, 0, 4, 2, 62, 29, 2, 160, 0, 6, 167, 0, 55, 42, 180, 0, 31, 180, 0, 247, 29]
abbrev dktX0_close_2 : List UInt8 := dkwX0_close_2 ++ dktX0_close_3
def dkwX0_close_1 : List UInt8 := [180, 0, 24, 180, 0, 133, 162, 0, 91, 42, 180, 0, 31, 180, 1, 28, 28, 46, 154, 0, 11, 42, 28]
abbrev dktX0_close_1 : List UInt8 := dkwX0_close_1 ++ dktX0_close_2
def dkwX0_close_0 : List UInt8 := [42, 180, 0, 31, 180, 1, 60, 153, 0, 6, 16, 254, 172, 42, 182, 1, 68, 3, 60, 3, 61, 28, 42]
abbrev dktX0_close_0 : List UInt8 := dkwX0_close_0 ++ dktX0_close_1
theorem dksX0_close_0 : cX0_close.data.toList.drop 0 = dktX0_close_0 := by decide +kernel
theorem dksX0_close_1 : cX0_close.data.toList.drop 23 = dktX0_close_1 := dk_seg dksX0_close_0 23 rfl rfl
theorem dksX0_close_2 : cX0_close.data.toList.drop 46 = dktX0_close_2 := dk_seg dksX0_close_1 23 rfl rfl
theorem dksX0_close_3 : cX0_close.data.toList.drop 70 = dktX0_close_3 := dk_seg dksX0_close_2 24 rfl rfl
theorem dksX0_close_4 : cX0_close.data.toList.drop 94 = dktX0_close_4 := dk_seg dksX0_close_3 24 rfl rfl
theorem dksX0_close_5 : cX0_close.data.toList.drop 117 = dktX0_close_5 := dk_seg dksX0_close_4 23 rfl rfl
theorem dX0_close_0 : decode cX0_close 0 = .ok (.aload_n 0, 1) := dk_42 (dk_at dksX0_close_0 0 rfl rfl)
theorem dX0_close_1 : decode cX0_close 1 = .ok (.getfield 31, 3) := dk_180 0 31 (dk_at dksX0_close_0 1 rfl rfl)
theorem dX0_close_4 : decode cX0_close 4 = .ok (.getfield 316, 3) := dk_180 1 60 (dk_at dksX0_close_0 4 rfl rfl)
theorem dX0_close_7 : decode cX0_close 7 = .ok (.ifCond .eq 6, 3) := dk_153 0 6 (dk_at dksX0_close_0 7 rfl rfl)
theorem dX0_close_10 : decode cX0_close 10 = .ok (.bipush (-2), 2) := dk_16 254 (dk_at dksX0_close_0 10 rfl rfl)
theorem dX0_close_12 : decode cX0_close 12 = .ok (.ireturn, 1) := dk_172 (dk_at dksX0_close_0 12 rfl rfl)
theorem dX0_close_13 : decode cX0_close 13 = .ok (.aload_n 0, 1) := dk_42 (dk_at dksX0_close_0 13 rfl rfl)
theorem dX0_close_14 : decode cX0_close 14 = .ok (.invokevirtual 324, 3) := dk_182 1 68 (dk_at dksX0_close_0 14 rfl rfl)
theorem dX0_close_17 : decode cX0_close 17 = .ok (.iconst 0, 1) := dk_3 (dk_at dksX0_close_0 17 rfl rfl)
theorem dX0_close_18 : decode cX0_close 18 = .ok (.istore_n 1, 1) := dk_60 (dk_at dksX0_close_0 18 rfl rfl)
theorem dX0_close_19 : decode cX0_close 19 = .ok (.iconst 0, 1) := dk_3 (dk_at dksX0_close_0 19 rfl rfl)
theorem dX0_close_20 : decode cX0_close 20 = .ok (.istore_n 2, 1) := dk_61 (dk_at dksX0_close_0 20 rfl rfl)
theorem dX0_close_21 : decode cX0_close 21 = .ok (.iload_n 2, 1) := dk_28 (dk_at dksX0_close_0 21 rfl rfl)
theorem dX0_close_22 : decode cX0_close 22 = .ok (.aload_n 0, 1) := dk_42 (dk_at dksX0_close_0 22 rfl rfl)
theorem dX0_close_23 : decode cX0_close 23 = .ok (.getfield 24, 3) := dk_180 0 24 (dk_at dksX0_close_1 0 rfl rfl)
theorem dX0_close_26 : decode cX0_close 26 = .ok (.getfield 133, 3) := dk_180 0 133 (dk_at dksX0_close_1 3 rfl rfl)
theorem dX0_close_29 : decode cX0_close 29 = .ok (.if_icmp .ge 91, 3) := dk_162 0 91 (dk_at dksX0_close_1 6 rfl rfl)
theorem dX0_close_32 : decode cX0_close 32 = .ok (.aload_n 0, 1) := dk_42 (dk_at dksX0_close_1 9 rfl rfl)
theorem dX0_close_33 : decode cX0_close 33 = .ok (.getfield 31, 3) := dk_180 0 31 (dk_at dksX0_close_1 10 rfl rfl)
theorem dX0_close_36 : decode cX0_close 36 = .ok (.getfield 284, 3) := dk_180 1 28 (dk_at dksX0_close_1 13 rfl rfl)
theorem dX0_close_39 : decode cX0_close 39 = .ok (.iload_n 2, 1) := dk_28 (dk_at dksX0_close_1 16 rfl rfl)
theorem dX0_close_40 : decode cX0_close 40 = .ok (.iaload, 1) := dk_46 (dk_at dksX0_close_1 17 rfl rfl)
theorem dX0_close_41 : decode cX0_close 41 = .ok (.ifCond .ne 11, 3) := dk_154 0 11 (dk_at dksX0_close_1 18 rfl rfl)
theorem dX0_close_44 : decode cX0_close 44 = .ok (.aload_n 0, 1) := dk_42 (dk_at dksX0_close_1 21 rfl rfl)
theorem dX0_close_45 : decode cX0_close 45 = .ok (.iload_n 2, 1) := dk_28 (dk_at dksX0_close_1 22 rfl rfl)
theorem dX0_close_46 : decode cX0_close 46 = .ok (.invokevirtual 334, 3) := dk_182 1 78 (dk_at dksX0_close_2 0 rfl rfl)
theorem dX0_close_49 : decode cX0_close 49 = .ok (.goto 4, 3) := dk_167 0 4 (dk_at dksX0_close_2 3 rfl rfl)
theorem dX0_close_52 : decode cX0_close 52 = .ok (.iconst (-1), 1) := dk_2 (dk_at dksX0_close_2 6 rfl rfl)
theorem dX0_close_53 : decode cX0_close 53 = .ok (.istore_n 3, 1) := dk_62 (dk_at dksX0_close_2 7 rfl rfl)
theorem dX0_close_54 : decode cX0_close 54 = .ok (.iload_n 3, 1) := dk_29 (dk_at dksX0_close_2 8 rfl rfl)
theorem dX0_close_55 : decode cX0_close 55 = .ok (.iconst (-1), 1) := dk_2 (dk_at dksX0_close_2 9 rfl rfl)
theorem dX0_close_56 : decode cX0_close 56 = .ok (.if_icmp .ne 6, 3) := dk_160 0 6 (dk_at dksX0_close_2 10 rfl rfl)
theorem dX0_close_59 : decode cX0_close 59 = .ok (.goto 55, 3) := dk_167 0 55 (dk_at dksX0_close_2 13 rfl rfl)
theorem dX0_close_62 : decode cX0_close 62 = .ok (.aload_n 0, 1) := dk_42 (dk_at dksX0_close_2 16 rfl rfl)
theorem dX0_close_63 : decode cX0_close 63 = .ok (.getfield 31, 3) := dk_180 0 31 (dk_at dksX0_close_2 17 rfl rfl)
theorem dX0_close_66 : decode cX0_close 66 = .ok (.getfield 247, 3) := dk_180 0 247 (dk_at dksX0_close_2 20 rfl rfl)
theorem dX0_close_69 : decode cX0_close 69 = .ok (.iload_n 3, 1) := dk_29 (dk_at dksX0_close_2 23 rfl rfl)
theorem dX0_close_70 : decode cX0_close 70 = .ok (.iaload, 1) := dk_46 (dk_at dksX0_close_3 0 rfl rfl)
theorem dX0_close_71 : decode cX0_close 71 = .ok (.iload_n 2, 1) := dk_28 (dk_at dksX0_close_3 1 rfl rfl)
theorem dX0_close_72 : decode cX0_close 72 = .ok (.invokestatic 223, 3) := dk_184 0 223 (dk_at dksX0_close_3 2 rfl rfl)
theorem dX0_close_75 : decode cX0_close 75 = .ok (.istore 4, 2) := dk_54 4 (dk_at dksX0_close_3 5 rfl rfl)
theorem dX0_close_77 : decode cX0_close 77 = .ok (.aload_n 0, 1) := dk_42 (dk_at dksX0_close_3 7 rfl rfl)
theorem dX0_close_78 : decode cX0_close 78 = .ok (.iload_n 2, 1) := dk_28 (dk_at dksX0_close_3 8 rfl rfl)
theorem dX0_close_79 : decode cX0_close 79 = .ok (.iload 4, 2) := dk_21 4 (dk_at dksX0_close_3 9 rfl rfl)
theorem dX0_close_81 : decode cX0_close 81 = .ok (.invokevirtual 320, 3) := dk_182 1 64 (dk_at dksX0_close_3 11 rfl rfl)
theorem dX0_close_84 : decode cX0_close 84 = .ok (.ifCond .eq 20, 3) := dk_153 0 20 (dk_at dksX0_close_3 14 rfl rfl)
theorem dX0_close_87 : decode cX0_close 87 = .ok (.aload_n 0, 1) := dk_42 (dk_at dksX0_close_3 17 rfl rfl)
theorem dX0_close_88 : decode cX0_close 88 = .ok (.getfield 31, 3) := dk_180 0 31 (dk_at dksX0_close_3 18 rfl rfl)
theorem dX0_close_91 : decode cX0_close 91 = .ok (.iload_n 2, 1) := dk_28 (dk_at dksX0_close_3 21 rfl rfl)
theorem dX0_close_92 : decode cX0_close 92 = .ok (.iload 4, 2) := dk_21 4 (dk_at dksX0_close_3 22 rfl rfl)
theorem dX0_close_94 : decode cX0_close 94 = .ok (.iconst 1, 1) := dk_4 (dk_at dksX0_close_4 0 rfl rfl)
theorem dX0_close_95 : decode cX0_close 95 = .ok (.invokevirtual 327, 3) := dk_182 1 71 (dk_at dksX0_close_4 1 rfl rfl)
theorem dX0_close_98 : decode cX0_close 98 = .ok (.iinc 1 1, 3) := dk_132 1 1 (dk_at dksX0_close_4 4 rfl rfl)
theorem dX0_close_101 : decode cX0_close 101 = .ok (.goto 13, 3) := dk_167 0 13 (dk_at dksX0_close_4 7 rfl rfl)
theorem dX0_close_104 : decode cX0_close 104 = .ok (.aload_n 0, 1) := dk_42 (dk_at dksX0_close_4 10 rfl rfl)
theorem dX0_close_105 : decode cX0_close 105 = .ok (.getfield 31, 3) := dk_180 0 31 (dk_at dksX0_close_4 11 rfl rfl)
theorem dX0_close_108 : decode cX0_close 108 = .ok (.getfield 284, 3) := dk_180 1 28 (dk_at dksX0_close_4 14 rfl rfl)
theorem dX0_close_111 : decode cX0_close 111 = .ok (.iload_n 2, 1) := dk_28 (dk_at dksX0_close_4 17 rfl rfl)
theorem dX0_close_112 : decode cX0_close 112 = .ok (.iconst 3, 1) := dk_6 (dk_at dksX0_close_4 18 rfl rfl)
theorem dX0_close_113 : decode cX0_close 113 = .ok (.iastore, 1) := dk_79 (dk_at dksX0_close_4 19 rfl rfl)
theorem dX0_close_114 : decode cX0_close 114 = .ok (.iinc 2 1, 3) := dk_132 2 1 (dk_at dksX0_close_4 20 rfl rfl)
theorem dX0_close_117 : decode cX0_close 117 = .ok (.goto (-96), 3) := dk_167 255 160 (dk_at dksX0_close_5 0 rfl rfl)
theorem dX0_close_120 : decode cX0_close 120 = .ok (.aload_n 0, 1) := dk_42 (dk_at dksX0_close_5 3 rfl rfl)
theorem dX0_close_121 : decode cX0_close 121 = .ok (.getfield 31, 3) := dk_180 0 31 (dk_at dksX0_close_5 4 rfl rfl)
theorem dX0_close_124 : decode cX0_close 124 = .ok (.iconst 1, 1) := dk_4 (dk_at dksX0_close_5 7 rfl rfl)
theorem dX0_close_125 : decode cX0_close 125 = .ok (.putfield 316, 3) := dk_181 1 60 (dk_at dksX0_close_5 8 rfl rfl)
theorem dX0_close_128 : decode cX0_close 128 = .ok (.iload_n 1, 1) := dk_27 (dk_at dksX0_close_5 11 rfl rfl)
theorem dX0_close_129 : decode cX0_close 129 = .ok (.ireturn, 1) := dk_172 (dk_at dksX0_close_5 12 rfl rfl)
abbrev cX0_firstSayer : ByteArray := prog_1_method_39_code
def yX0_firstSayer : MethodName := ⟨RX0, "firstSayer", "(I)I"⟩
def dkwX0_firstSayer_2 : List UInt8 := [167, 255, 210, 2, 172]
abbrev dktX0_firstSayer_2 : List UInt8 := dkwX0_firstSayer_2 ++ []
def dkwX0_firstSayer_1 : List UInt8 := [154, 0, 21, 42, 180, 0, 31, 180, 0, 195, 28, 46, 27, 184, 0, 223, 153, 0, 5, 28, 172, 132, 2, 1]
abbrev dktX0_firstSayer_1 : List UInt8 := dkwX0_firstSayer_1 ++ dktX0_firstSayer_2
def dkwX0_firstSayer_0 : List UInt8 := [3, 61, 28, 42, 180, 0, 31, 180, 0, 136, 162, 0, 41, 42, 180, 0, 31, 180, 0, 220, 28, 184, 0, 223]
abbrev dktX0_firstSayer_0 : List UInt8 := dkwX0_firstSayer_0 ++ dktX0_firstSayer_1
theorem dksX0_firstSayer_0 : cX0_firstSayer.data.toList.drop 0 = dktX0_firstSayer_0 := by decide +kernel
theorem dksX0_firstSayer_1 : cX0_firstSayer.data.toList.drop 24 = dktX0_firstSayer_1 := dk_seg dksX0_firstSayer_0 24 rfl rfl
theorem dksX0_firstSayer_2 : cX0_firstSayer.data.toList.drop 48 = dktX0_firstSayer_2 := dk_seg dksX0_firstSayer_1 24 rfl rfl
theorem dX0_firstSayer_0 : decode cX0_firstSayer 0 = .ok (.iconst 0, 1) := dk_3 (dk_at dksX0_firstSayer_0 0 rfl rfl)
theorem dX0_firstSayer_1 : decode cX0_firstSayer 1 = .ok (.istore_n 2, 1) := dk_61 (dk_at dksX0_firstSayer_0 1 rfl rfl)
theorem dX0_firstSayer_2 : decode cX0_firstSayer 2 = .ok (.iload_n 2, 1) := dk_28 (dk_at dksX0_firstSayer_0 2 rfl rfl)
theorem dX0_firstSayer_3 : decode cX0_firstSayer 3 = .ok (.aload_n 0, 1) := dk_42 (dk_at dksX0_firstSayer_0 3 rfl rfl)
theorem dX0_firstSayer_4 : decode cX0_firstSayer 4 = .ok (.getfield 31, 3) := dk_180 0 31 (dk_at dksX0_firstSayer_0 4 rfl rfl)
theorem dX0_firstSayer_7 : decode cX0_firstSayer 7 = .ok (.getfield 136, 3) := dk_180 0 136 (dk_at dksX0_firstSayer_0 7 rfl rfl)
theorem dX0_firstSayer_10 : decode cX0_firstSayer 10 = .ok (.if_icmp .ge 41, 3) := dk_162 0 41 (dk_at dksX0_firstSayer_0 10 rfl rfl)
theorem dX0_firstSayer_13 : decode cX0_firstSayer 13 = .ok (.aload_n 0, 1) := dk_42 (dk_at dksX0_firstSayer_0 13 rfl rfl)
theorem dX0_firstSayer_14 : decode cX0_firstSayer 14 = .ok (.getfield 31, 3) := dk_180 0 31 (dk_at dksX0_firstSayer_0 14 rfl rfl)
theorem dX0_firstSayer_17 : decode cX0_firstSayer 17 = .ok (.getfield 220, 3) := dk_180 0 220 (dk_at dksX0_firstSayer_0 17 rfl rfl)
theorem dX0_firstSayer_20 : decode cX0_firstSayer 20 = .ok (.iload_n 2, 1) := dk_28 (dk_at dksX0_firstSayer_0 20 rfl rfl)
theorem dX0_firstSayer_21 : decode cX0_firstSayer 21 = .ok (.invokestatic 223, 3) := dk_184 0 223 (dk_at dksX0_firstSayer_0 21 rfl rfl)
theorem dX0_firstSayer_24 : decode cX0_firstSayer 24 = .ok (.ifCond .ne 21, 3) := dk_154 0 21 (dk_at dksX0_firstSayer_1 0 rfl rfl)
theorem dX0_firstSayer_27 : decode cX0_firstSayer 27 = .ok (.aload_n 0, 1) := dk_42 (dk_at dksX0_firstSayer_1 3 rfl rfl)
theorem dX0_firstSayer_28 : decode cX0_firstSayer 28 = .ok (.getfield 31, 3) := dk_180 0 31 (dk_at dksX0_firstSayer_1 4 rfl rfl)
theorem dX0_firstSayer_31 : decode cX0_firstSayer 31 = .ok (.getfield 195, 3) := dk_180 0 195 (dk_at dksX0_firstSayer_1 7 rfl rfl)
theorem dX0_firstSayer_34 : decode cX0_firstSayer 34 = .ok (.iload_n 2, 1) := dk_28 (dk_at dksX0_firstSayer_1 10 rfl rfl)
theorem dX0_firstSayer_35 : decode cX0_firstSayer 35 = .ok (.iaload, 1) := dk_46 (dk_at dksX0_firstSayer_1 11 rfl rfl)
theorem dX0_firstSayer_36 : decode cX0_firstSayer 36 = .ok (.iload_n 1, 1) := dk_27 (dk_at dksX0_firstSayer_1 12 rfl rfl)
theorem dX0_firstSayer_37 : decode cX0_firstSayer 37 = .ok (.invokestatic 223, 3) := dk_184 0 223 (dk_at dksX0_firstSayer_1 13 rfl rfl)
theorem dX0_firstSayer_40 : decode cX0_firstSayer 40 = .ok (.ifCond .eq 5, 3) := dk_153 0 5 (dk_at dksX0_firstSayer_1 16 rfl rfl)
theorem dX0_firstSayer_43 : decode cX0_firstSayer 43 = .ok (.iload_n 2, 1) := dk_28 (dk_at dksX0_firstSayer_1 19 rfl rfl)
theorem dX0_firstSayer_44 : decode cX0_firstSayer 44 = .ok (.ireturn, 1) := dk_172 (dk_at dksX0_firstSayer_1 20 rfl rfl)
theorem dX0_firstSayer_45 : decode cX0_firstSayer 45 = .ok (.iinc 2 1, 3) := dk_132 2 1 (dk_at dksX0_firstSayer_1 21 rfl rfl)
theorem dX0_firstSayer_48 : decode cX0_firstSayer 48 = .ok (.goto (-46), 3) := dk_167 255 210 (dk_at dksX0_firstSayer_2 0 rfl rfl)
theorem dX0_firstSayer_51 : decode cX0_firstSayer 51 = .ok (.iconst (-1), 1) := dk_2 (dk_at dksX0_firstSayer_2 3 rfl rfl)
theorem dX0_firstSayer_52 : decode cX0_firstSayer 52 = .ok (.ireturn, 1) := dk_172 (dk_at dksX0_firstSayer_2 4 rfl rfl)
abbrev cX0_find : ByteArray := prog_1_method_41_code
def yX0_find : MethodName := ⟨RX0, "find", "(IZ)I"⟩
def dkwX0_find_3 : List UInt8 := [180, 0, 133, 42, 180, 0, 31, 180, 0, 149, 184, 0, 198, 100, 172]
abbrev dktX0_find_3 : List UInt8 := dkwX0_find_3 ++ []
def dkwX0_find_2 : List UInt8 := [154, 0, 6, 16, 252, 172, 42, 182, 1, 68, 42, 180, 0, 31, 27, 28, 7, 182, 1, 71, 42, 180, 0, 24]
abbrev dktX0_find_2 : List UInt8 := dkwX0_find_2 ++ dktX0_find_3
def dkwX0_find_1 : List UInt8 := [180, 0, 31, 180, 0, 149, 27, 184, 0, 223, 153, 0, 6, 16, 253, 172, 42, 27, 28, 182, 1, 64]
abbrev dktX0_find_1 : List UInt8 := dkwX0_find_1 ++ dktX0_find_2
def dkwX0_find_0 : List UInt8 := [42, 27, 182, 1, 21, 154, 0, 5, 2, 172, 42, 180, 0, 31, 180, 1, 60, 154, 0, 6, 16, 254, 172, 42]
abbrev dktX0_find_0 : List UInt8 := dkwX0_find_0 ++ dktX0_find_1
theorem dksX0_find_0 : cX0_find.data.toList.drop 0 = dktX0_find_0 := by decide +kernel
theorem dksX0_find_1 : cX0_find.data.toList.drop 24 = dktX0_find_1 := dk_seg dksX0_find_0 24 rfl rfl
theorem dksX0_find_2 : cX0_find.data.toList.drop 46 = dktX0_find_2 := dk_seg dksX0_find_1 22 rfl rfl
theorem dksX0_find_3 : cX0_find.data.toList.drop 70 = dktX0_find_3 := dk_seg dksX0_find_2 24 rfl rfl
theorem dX0_find_0 : decode cX0_find 0 = .ok (.aload_n 0, 1) := dk_42 (dk_at dksX0_find_0 0 rfl rfl)
theorem dX0_find_1 : decode cX0_find 1 = .ok (.iload_n 1, 1) := dk_27 (dk_at dksX0_find_0 1 rfl rfl)
theorem dX0_find_2 : decode cX0_find 2 = .ok (.invokevirtual 277, 3) := dk_182 1 21 (dk_at dksX0_find_0 2 rfl rfl)
theorem dX0_find_5 : decode cX0_find 5 = .ok (.ifCond .ne 5, 3) := dk_154 0 5 (dk_at dksX0_find_0 5 rfl rfl)
theorem dX0_find_8 : decode cX0_find 8 = .ok (.iconst (-1), 1) := dk_2 (dk_at dksX0_find_0 8 rfl rfl)
theorem dX0_find_9 : decode cX0_find 9 = .ok (.ireturn, 1) := dk_172 (dk_at dksX0_find_0 9 rfl rfl)
theorem dX0_find_10 : decode cX0_find 10 = .ok (.aload_n 0, 1) := dk_42 (dk_at dksX0_find_0 10 rfl rfl)
theorem dX0_find_11 : decode cX0_find 11 = .ok (.getfield 31, 3) := dk_180 0 31 (dk_at dksX0_find_0 11 rfl rfl)
theorem dX0_find_14 : decode cX0_find 14 = .ok (.getfield 316, 3) := dk_180 1 60 (dk_at dksX0_find_0 14 rfl rfl)
theorem dX0_find_17 : decode cX0_find 17 = .ok (.ifCond .ne 6, 3) := dk_154 0 6 (dk_at dksX0_find_0 17 rfl rfl)
theorem dX0_find_20 : decode cX0_find 20 = .ok (.bipush (-2), 2) := dk_16 254 (dk_at dksX0_find_0 20 rfl rfl)
theorem dX0_find_22 : decode cX0_find 22 = .ok (.ireturn, 1) := dk_172 (dk_at dksX0_find_0 22 rfl rfl)
theorem dX0_find_23 : decode cX0_find 23 = .ok (.aload_n 0, 1) := dk_42 (dk_at dksX0_find_0 23 rfl rfl)
theorem dX0_find_24 : decode cX0_find 24 = .ok (.getfield 31, 3) := dk_180 0 31 (dk_at dksX0_find_1 0 rfl rfl)
theorem dX0_find_27 : decode cX0_find 27 = .ok (.getfield 149, 3) := dk_180 0 149 (dk_at dksX0_find_1 3 rfl rfl)
theorem dX0_find_30 : decode cX0_find 30 = .ok (.iload_n 1, 1) := dk_27 (dk_at dksX0_find_1 6 rfl rfl)
theorem dX0_find_31 : decode cX0_find 31 = .ok (.invokestatic 223, 3) := dk_184 0 223 (dk_at dksX0_find_1 7 rfl rfl)
theorem dX0_find_34 : decode cX0_find 34 = .ok (.ifCond .eq 6, 3) := dk_153 0 6 (dk_at dksX0_find_1 10 rfl rfl)
theorem dX0_find_37 : decode cX0_find 37 = .ok (.bipush (-3), 2) := dk_16 253 (dk_at dksX0_find_1 13 rfl rfl)
theorem dX0_find_39 : decode cX0_find 39 = .ok (.ireturn, 1) := dk_172 (dk_at dksX0_find_1 15 rfl rfl)
theorem dX0_find_40 : decode cX0_find 40 = .ok (.aload_n 0, 1) := dk_42 (dk_at dksX0_find_1 16 rfl rfl)
theorem dX0_find_41 : decode cX0_find 41 = .ok (.iload_n 1, 1) := dk_27 (dk_at dksX0_find_1 17 rfl rfl)
theorem dX0_find_42 : decode cX0_find 42 = .ok (.iload_n 2, 1) := dk_28 (dk_at dksX0_find_1 18 rfl rfl)
theorem dX0_find_43 : decode cX0_find 43 = .ok (.invokevirtual 320, 3) := dk_182 1 64 (dk_at dksX0_find_1 19 rfl rfl)
theorem dX0_find_46 : decode cX0_find 46 = .ok (.ifCond .ne 6, 3) := dk_154 0 6 (dk_at dksX0_find_2 0 rfl rfl)
theorem dX0_find_49 : decode cX0_find 49 = .ok (.bipush (-4), 2) := dk_16 252 (dk_at dksX0_find_2 3 rfl rfl)
theorem dX0_find_51 : decode cX0_find 51 = .ok (.ireturn, 1) := dk_172 (dk_at dksX0_find_2 5 rfl rfl)
theorem dX0_find_52 : decode cX0_find 52 = .ok (.aload_n 0, 1) := dk_42 (dk_at dksX0_find_2 6 rfl rfl)
theorem dX0_find_53 : decode cX0_find 53 = .ok (.invokevirtual 324, 3) := dk_182 1 68 (dk_at dksX0_find_2 7 rfl rfl)
theorem dX0_find_56 : decode cX0_find 56 = .ok (.aload_n 0, 1) := dk_42 (dk_at dksX0_find_2 10 rfl rfl)
theorem dX0_find_57 : decode cX0_find 57 = .ok (.getfield 31, 3) := dk_180 0 31 (dk_at dksX0_find_2 11 rfl rfl)
theorem dX0_find_60 : decode cX0_find 60 = .ok (.iload_n 1, 1) := dk_27 (dk_at dksX0_find_2 14 rfl rfl)
theorem dX0_find_61 : decode cX0_find 61 = .ok (.iload_n 2, 1) := dk_28 (dk_at dksX0_find_2 15 rfl rfl)
theorem dX0_find_62 : decode cX0_find 62 = .ok (.iconst 4, 1) := dk_7 (dk_at dksX0_find_2 16 rfl rfl)
theorem dX0_find_63 : decode cX0_find 63 = .ok (.invokevirtual 327, 3) := dk_182 1 71 (dk_at dksX0_find_2 17 rfl rfl)
theorem dX0_find_66 : decode cX0_find 66 = .ok (.aload_n 0, 1) := dk_42 (dk_at dksX0_find_2 20 rfl rfl)
theorem dX0_find_67 : decode cX0_find 67 = .ok (.getfield 24, 3) := dk_180 0 24 (dk_at dksX0_find_2 21 rfl rfl)
theorem dX0_find_70 : decode cX0_find 70 = .ok (.getfield 133, 3) := dk_180 0 133 (dk_at dksX0_find_3 0 rfl rfl)
theorem dX0_find_73 : decode cX0_find 73 = .ok (.aload_n 0, 1) := dk_42 (dk_at dksX0_find_3 3 rfl rfl)
theorem dX0_find_74 : decode cX0_find 74 = .ok (.getfield 31, 3) := dk_180 0 31 (dk_at dksX0_find_3 4 rfl rfl)
theorem dX0_find_77 : decode cX0_find 77 = .ok (.getfield 149, 3) := dk_180 0 149 (dk_at dksX0_find_3 7 rfl rfl)
theorem dX0_find_80 : decode cX0_find 80 = .ok (.invokestatic 198, 3) := dk_184 0 198 (dk_at dksX0_find_3 10 rfl rfl)
theorem dX0_find_83 : decode cX0_find 83 = .ok (.isub, 1) := dk_100 (dk_at dksX0_find_3 13 rfl rfl)
theorem dX0_find_84 : decode cX0_find 84 = .ok (.ireturn, 1) := dk_172 (dk_at dksX0_find_3 14 rfl rfl)
abbrev cX0_say : ByteArray := prog_1_method_43_code
def yX0_say : MethodName := ⟨RX0, "say", "(III)I"⟩
def dkwX0_say_8 : List UInt8 := [180, 0, 247, 27, 46, 21, 4, 2, 130, 126, 79, 42, 180, 0, 31, 180, 0, 195, 27, 46, 184, 0, 198, 172]
abbrev dktX0_say_8 : List UInt8 := dkwX0_say_8 ++ []
def dkwX0_say_7 : List UInt8 := [29, 4, 160, 0, 18, 42, 180, 0, 31, 180, 0, 247, 27, 46, 21, 4, 128, 167, 0, 17, 42, 180, 0, 31]
abbrev dktX0_say_7 : List UInt8 := dkwX0_say_7 ++ dktX0_say_8
def dkwX0_say_6 : List UInt8 := [167, 0, 15, 42, 180, 0, 31, 180, 0, 195, 27, 46, 21, 4, 128, 79, 42, 180, 0, 31, 180, 0, 247, 27]
abbrev dktX0_say_6 : List UInt8 := dkwX0_say_6 ++ dktX0_say_7
def dkwX0_say_5 : List UInt8 := [180, 0, 195, 27, 29, 5, 160, 0, 20, 42, 180, 0, 31, 180, 0, 195, 27, 46, 21, 4, 2, 130, 126]
abbrev dktX0_say_5 : List UInt8 := dkwX0_say_5 ++ dktX0_say_6
def dkwX0_say_4 : List UInt8 := [167, 0, 4, 3, 159, 0, 6, 16, 252, 172, 42, 182, 1, 68, 4, 28, 120, 54, 4, 42, 180, 0, 31]
abbrev dktX0_say_4 : List UInt8 := dkwX0_say_4 ++ dktX0_say_5
def dkwX0_say_3 : List UInt8 := [184, 0, 223, 153, 0, 30, 42, 180, 0, 31, 180, 0, 152, 28, 184, 0, 223, 29, 4, 160, 0, 7, 4]
abbrev dktX0_say_3 : List UInt8 := dkwX0_say_3 ++ dktX0_say_4
def dkwX0_say_2 : List UInt8 := [28, 29, 182, 1, 81, 153, 0, 6, 16, 253, 172, 29, 5, 162, 0, 44, 42, 180, 0, 31, 180, 0, 149, 28]
abbrev dktX0_say_2 : List UInt8 := dkwX0_say_2 ++ dktX0_say_3
def dkwX0_say_1 : List UInt8 := [154, 0, 5, 2, 172, 42, 180, 0, 31, 180, 0, 220, 27, 184, 0, 223, 153, 0, 6, 16, 254, 172, 42, 27]
abbrev dktX0_say_1 : List UInt8 := dkwX0_say_1 ++ dktX0_say_2
def dkwX0_say_0 : List UInt8 := [42, 27, 182, 1, 34, 153, 0, 20, 42, 28, 182, 1, 21, 153, 0, 12, 29, 3, 5, 184, 0, 96]
abbrev dktX0_say_0 : List UInt8 := dkwX0_say_0 ++ dktX0_say_1
theorem dksX0_say_0 : cX0_say.data.toList.drop 0 = dktX0_say_0 := by decide +kernel
theorem dksX0_say_1 : cX0_say.data.toList.drop 22 = dktX0_say_1 := dk_seg dksX0_say_0 22 rfl rfl
theorem dksX0_say_2 : cX0_say.data.toList.drop 46 = dktX0_say_2 := dk_seg dksX0_say_1 24 rfl rfl
theorem dksX0_say_3 : cX0_say.data.toList.drop 70 = dktX0_say_3 := dk_seg dksX0_say_2 24 rfl rfl
theorem dksX0_say_4 : cX0_say.data.toList.drop 93 = dktX0_say_4 := dk_seg dksX0_say_3 23 rfl rfl
theorem dksX0_say_5 : cX0_say.data.toList.drop 116 = dktX0_say_5 := dk_seg dksX0_say_4 23 rfl rfl
theorem dksX0_say_6 : cX0_say.data.toList.drop 139 = dktX0_say_6 := dk_seg dksX0_say_5 23 rfl rfl
theorem dksX0_say_7 : cX0_say.data.toList.drop 163 = dktX0_say_7 := dk_seg dksX0_say_6 24 rfl rfl
theorem dksX0_say_8 : cX0_say.data.toList.drop 187 = dktX0_say_8 := dk_seg dksX0_say_7 24 rfl rfl
theorem dX0_say_0 : decode cX0_say 0 = .ok (.aload_n 0, 1) := dk_42 (dk_at dksX0_say_0 0 rfl rfl)
theorem dX0_say_1 : decode cX0_say 1 = .ok (.iload_n 1, 1) := dk_27 (dk_at dksX0_say_0 1 rfl rfl)
theorem dX0_say_2 : decode cX0_say 2 = .ok (.invokevirtual 290, 3) := dk_182 1 34 (dk_at dksX0_say_0 2 rfl rfl)
theorem dX0_say_5 : decode cX0_say 5 = .ok (.ifCond .eq 20, 3) := dk_153 0 20 (dk_at dksX0_say_0 5 rfl rfl)
theorem dX0_say_8 : decode cX0_say 8 = .ok (.aload_n 0, 1) := dk_42 (dk_at dksX0_say_0 8 rfl rfl)
theorem dX0_say_9 : decode cX0_say 9 = .ok (.iload_n 2, 1) := dk_28 (dk_at dksX0_say_0 9 rfl rfl)
theorem dX0_say_10 : decode cX0_say 10 = .ok (.invokevirtual 277, 3) := dk_182 1 21 (dk_at dksX0_say_0 10 rfl rfl)
theorem dX0_say_13 : decode cX0_say 13 = .ok (.ifCond .eq 12, 3) := dk_153 0 12 (dk_at dksX0_say_0 13 rfl rfl)
theorem dX0_say_16 : decode cX0_say 16 = .ok (.iload_n 3, 1) := dk_29 (dk_at dksX0_say_0 16 rfl rfl)
theorem dX0_say_17 : decode cX0_say 17 = .ok (.iconst 0, 1) := dk_3 (dk_at dksX0_say_0 17 rfl rfl)
theorem dX0_say_18 : decode cX0_say 18 = .ok (.iconst 2, 1) := dk_5 (dk_at dksX0_say_0 18 rfl rfl)
theorem dX0_say_19 : decode cX0_say 19 = .ok (.invokestatic 96, 3) := dk_184 0 96 (dk_at dksX0_say_0 19 rfl rfl)
theorem dX0_say_22 : decode cX0_say 22 = .ok (.ifCond .ne 5, 3) := dk_154 0 5 (dk_at dksX0_say_1 0 rfl rfl)
theorem dX0_say_25 : decode cX0_say 25 = .ok (.iconst (-1), 1) := dk_2 (dk_at dksX0_say_1 3 rfl rfl)
theorem dX0_say_26 : decode cX0_say 26 = .ok (.ireturn, 1) := dk_172 (dk_at dksX0_say_1 4 rfl rfl)
theorem dX0_say_27 : decode cX0_say 27 = .ok (.aload_n 0, 1) := dk_42 (dk_at dksX0_say_1 5 rfl rfl)
theorem dX0_say_28 : decode cX0_say 28 = .ok (.getfield 31, 3) := dk_180 0 31 (dk_at dksX0_say_1 6 rfl rfl)
theorem dX0_say_31 : decode cX0_say 31 = .ok (.getfield 220, 3) := dk_180 0 220 (dk_at dksX0_say_1 9 rfl rfl)
theorem dX0_say_34 : decode cX0_say 34 = .ok (.iload_n 1, 1) := dk_27 (dk_at dksX0_say_1 12 rfl rfl)
theorem dX0_say_35 : decode cX0_say 35 = .ok (.invokestatic 223, 3) := dk_184 0 223 (dk_at dksX0_say_1 13 rfl rfl)
theorem dX0_say_38 : decode cX0_say 38 = .ok (.ifCond .eq 6, 3) := dk_153 0 6 (dk_at dksX0_say_1 16 rfl rfl)
theorem dX0_say_41 : decode cX0_say 41 = .ok (.bipush (-2), 2) := dk_16 254 (dk_at dksX0_say_1 19 rfl rfl)
theorem dX0_say_43 : decode cX0_say 43 = .ok (.ireturn, 1) := dk_172 (dk_at dksX0_say_1 21 rfl rfl)
theorem dX0_say_44 : decode cX0_say 44 = .ok (.aload_n 0, 1) := dk_42 (dk_at dksX0_say_1 22 rfl rfl)
theorem dX0_say_45 : decode cX0_say 45 = .ok (.iload_n 1, 1) := dk_27 (dk_at dksX0_say_1 23 rfl rfl)
theorem dX0_say_46 : decode cX0_say 46 = .ok (.iload_n 2, 1) := dk_28 (dk_at dksX0_say_2 0 rfl rfl)
theorem dX0_say_47 : decode cX0_say 47 = .ok (.iload_n 3, 1) := dk_29 (dk_at dksX0_say_2 1 rfl rfl)
theorem dX0_say_48 : decode cX0_say 48 = .ok (.invokevirtual 337, 3) := dk_182 1 81 (dk_at dksX0_say_2 2 rfl rfl)
theorem dX0_say_51 : decode cX0_say 51 = .ok (.ifCond .eq 6, 3) := dk_153 0 6 (dk_at dksX0_say_2 5 rfl rfl)
theorem dX0_say_54 : decode cX0_say 54 = .ok (.bipush (-3), 2) := dk_16 253 (dk_at dksX0_say_2 8 rfl rfl)
theorem dX0_say_56 : decode cX0_say 56 = .ok (.ireturn, 1) := dk_172 (dk_at dksX0_say_2 10 rfl rfl)
theorem dX0_say_57 : decode cX0_say 57 = .ok (.iload_n 3, 1) := dk_29 (dk_at dksX0_say_2 11 rfl rfl)
theorem dX0_say_58 : decode cX0_say 58 = .ok (.iconst 2, 1) := dk_5 (dk_at dksX0_say_2 12 rfl rfl)
theorem dX0_say_59 : decode cX0_say 59 = .ok (.if_icmp .ge 44, 3) := dk_162 0 44 (dk_at dksX0_say_2 13 rfl rfl)
theorem dX0_say_62 : decode cX0_say 62 = .ok (.aload_n 0, 1) := dk_42 (dk_at dksX0_say_2 16 rfl rfl)
theorem dX0_say_63 : decode cX0_say 63 = .ok (.getfield 31, 3) := dk_180 0 31 (dk_at dksX0_say_2 17 rfl rfl)
theorem dX0_say_66 : decode cX0_say 66 = .ok (.getfield 149, 3) := dk_180 0 149 (dk_at dksX0_say_2 20 rfl rfl)
theorem dX0_say_69 : decode cX0_say 69 = .ok (.iload_n 2, 1) := dk_28 (dk_at dksX0_say_2 23 rfl rfl)
theorem dX0_say_70 : decode cX0_say 70 = .ok (.invokestatic 223, 3) := dk_184 0 223 (dk_at dksX0_say_3 0 rfl rfl)
theorem dX0_say_73 : decode cX0_say 73 = .ok (.ifCond .eq 30, 3) := dk_153 0 30 (dk_at dksX0_say_3 3 rfl rfl)
theorem dX0_say_76 : decode cX0_say 76 = .ok (.aload_n 0, 1) := dk_42 (dk_at dksX0_say_3 6 rfl rfl)
theorem dX0_say_77 : decode cX0_say 77 = .ok (.getfield 31, 3) := dk_180 0 31 (dk_at dksX0_say_3 7 rfl rfl)
theorem dX0_say_80 : decode cX0_say 80 = .ok (.getfield 152, 3) := dk_180 0 152 (dk_at dksX0_say_3 10 rfl rfl)
theorem dX0_say_83 : decode cX0_say 83 = .ok (.iload_n 2, 1) := dk_28 (dk_at dksX0_say_3 13 rfl rfl)
theorem dX0_say_84 : decode cX0_say 84 = .ok (.invokestatic 223, 3) := dk_184 0 223 (dk_at dksX0_say_3 14 rfl rfl)
theorem dX0_say_87 : decode cX0_say 87 = .ok (.iload_n 3, 1) := dk_29 (dk_at dksX0_say_3 17 rfl rfl)
theorem dX0_say_88 : decode cX0_say 88 = .ok (.iconst 1, 1) := dk_4 (dk_at dksX0_say_3 18 rfl rfl)
theorem dX0_say_89 : decode cX0_say 89 = .ok (.if_icmp .ne 7, 3) := dk_160 0 7 (dk_at dksX0_say_3 19 rfl rfl)
theorem dX0_say_92 : decode cX0_say 92 = .ok (.iconst 1, 1) := dk_4 (dk_at dksX0_say_3 22 rfl rfl)
theorem dX0_say_93 : decode cX0_say 93 = .ok (.goto 4, 3) := dk_167 0 4 (dk_at dksX0_say_4 0 rfl rfl)
theorem dX0_say_96 : decode cX0_say 96 = .ok (.iconst 0, 1) := dk_3 (dk_at dksX0_say_4 3 rfl rfl)
theorem dX0_say_97 : decode cX0_say 97 = .ok (.if_icmp .eq 6, 3) := dk_159 0 6 (dk_at dksX0_say_4 4 rfl rfl)
theorem dX0_say_100 : decode cX0_say 100 = .ok (.bipush (-4), 2) := dk_16 252 (dk_at dksX0_say_4 7 rfl rfl)
theorem dX0_say_102 : decode cX0_say 102 = .ok (.ireturn, 1) := dk_172 (dk_at dksX0_say_4 9 rfl rfl)
theorem dX0_say_103 : decode cX0_say 103 = .ok (.aload_n 0, 1) := dk_42 (dk_at dksX0_say_4 10 rfl rfl)
theorem dX0_say_104 : decode cX0_say 104 = .ok (.invokevirtual 324, 3) := dk_182 1 68 (dk_at dksX0_say_4 11 rfl rfl)
theorem dX0_say_107 : decode cX0_say 107 = .ok (.iconst 1, 1) := dk_4 (dk_at dksX0_say_4 14 rfl rfl)
theorem dX0_say_108 : decode cX0_say 108 = .ok (.iload_n 2, 1) := dk_28 (dk_at dksX0_say_4 15 rfl rfl)
theorem dX0_say_109 : decode cX0_say 109 = .ok (.ishl, 1) := dk_120 (dk_at dksX0_say_4 16 rfl rfl)
theorem dX0_say_110 : decode cX0_say 110 = .ok (.istore 4, 2) := dk_54 4 (dk_at dksX0_say_4 17 rfl rfl)
theorem dX0_say_112 : decode cX0_say 112 = .ok (.aload_n 0, 1) := dk_42 (dk_at dksX0_say_4 19 rfl rfl)
theorem dX0_say_113 : decode cX0_say 113 = .ok (.getfield 31, 3) := dk_180 0 31 (dk_at dksX0_say_4 20 rfl rfl)
theorem dX0_say_116 : decode cX0_say 116 = .ok (.getfield 195, 3) := dk_180 0 195 (dk_at dksX0_say_5 0 rfl rfl)
theorem dX0_say_119 : decode cX0_say 119 = .ok (.iload_n 1, 1) := dk_27 (dk_at dksX0_say_5 3 rfl rfl)
theorem dX0_say_120 : decode cX0_say 120 = .ok (.iload_n 3, 1) := dk_29 (dk_at dksX0_say_5 4 rfl rfl)
theorem dX0_say_121 : decode cX0_say 121 = .ok (.iconst 2, 1) := dk_5 (dk_at dksX0_say_5 5 rfl rfl)
theorem dX0_say_122 : decode cX0_say 122 = .ok (.if_icmp .ne 20, 3) := dk_160 0 20 (dk_at dksX0_say_5 6 rfl rfl)
theorem dX0_say_125 : decode cX0_say 125 = .ok (.aload_n 0, 1) := dk_42 (dk_at dksX0_say_5 9 rfl rfl)
theorem dX0_say_126 : decode cX0_say 126 = .ok (.getfield 31, 3) := dk_180 0 31 (dk_at dksX0_say_5 10 rfl rfl)
theorem dX0_say_129 : decode cX0_say 129 = .ok (.getfield 195, 3) := dk_180 0 195 (dk_at dksX0_say_5 13 rfl rfl)
theorem dX0_say_132 : decode cX0_say 132 = .ok (.iload_n 1, 1) := dk_27 (dk_at dksX0_say_5 16 rfl rfl)
theorem dX0_say_133 : decode cX0_say 133 = .ok (.iaload, 1) := dk_46 (dk_at dksX0_say_5 17 rfl rfl)
theorem dX0_say_134 : decode cX0_say 134 = .ok (.iload 4, 2) := dk_21 4 (dk_at dksX0_say_5 18 rfl rfl)
theorem dX0_say_136 : decode cX0_say 136 = .ok (.iconst (-1), 1) := dk_2 (dk_at dksX0_say_5 20 rfl rfl)
theorem dX0_say_137 : decode cX0_say 137 = .ok (.ixor, 1) := dk_130 (dk_at dksX0_say_5 21 rfl rfl)
theorem dX0_say_138 : decode cX0_say 138 = .ok (.iand, 1) := dk_126 (dk_at dksX0_say_5 22 rfl rfl)
theorem dX0_say_139 : decode cX0_say 139 = .ok (.goto 15, 3) := dk_167 0 15 (dk_at dksX0_say_6 0 rfl rfl)
theorem dX0_say_142 : decode cX0_say 142 = .ok (.aload_n 0, 1) := dk_42 (dk_at dksX0_say_6 3 rfl rfl)
theorem dX0_say_143 : decode cX0_say 143 = .ok (.getfield 31, 3) := dk_180 0 31 (dk_at dksX0_say_6 4 rfl rfl)
theorem dX0_say_146 : decode cX0_say 146 = .ok (.getfield 195, 3) := dk_180 0 195 (dk_at dksX0_say_6 7 rfl rfl)
theorem dX0_say_149 : decode cX0_say 149 = .ok (.iload_n 1, 1) := dk_27 (dk_at dksX0_say_6 10 rfl rfl)
theorem dX0_say_150 : decode cX0_say 150 = .ok (.iaload, 1) := dk_46 (dk_at dksX0_say_6 11 rfl rfl)
theorem dX0_say_151 : decode cX0_say 151 = .ok (.iload 4, 2) := dk_21 4 (dk_at dksX0_say_6 12 rfl rfl)
theorem dX0_say_153 : decode cX0_say 153 = .ok (.ior, 1) := dk_128 (dk_at dksX0_say_6 14 rfl rfl)
theorem dX0_say_154 : decode cX0_say 154 = .ok (.iastore, 1) := dk_79 (dk_at dksX0_say_6 15 rfl rfl)
theorem dX0_say_155 : decode cX0_say 155 = .ok (.aload_n 0, 1) := dk_42 (dk_at dksX0_say_6 16 rfl rfl)
theorem dX0_say_156 : decode cX0_say 156 = .ok (.getfield 31, 3) := dk_180 0 31 (dk_at dksX0_say_6 17 rfl rfl)
theorem dX0_say_159 : decode cX0_say 159 = .ok (.getfield 247, 3) := dk_180 0 247 (dk_at dksX0_say_6 20 rfl rfl)
theorem dX0_say_162 : decode cX0_say 162 = .ok (.iload_n 1, 1) := dk_27 (dk_at dksX0_say_6 23 rfl rfl)
theorem dX0_say_163 : decode cX0_say 163 = .ok (.iload_n 3, 1) := dk_29 (dk_at dksX0_say_7 0 rfl rfl)
theorem dX0_say_164 : decode cX0_say 164 = .ok (.iconst 1, 1) := dk_4 (dk_at dksX0_say_7 1 rfl rfl)
theorem dX0_say_165 : decode cX0_say 165 = .ok (.if_icmp .ne 18, 3) := dk_160 0 18 (dk_at dksX0_say_7 2 rfl rfl)
theorem dX0_say_168 : decode cX0_say 168 = .ok (.aload_n 0, 1) := dk_42 (dk_at dksX0_say_7 5 rfl rfl)
theorem dX0_say_169 : decode cX0_say 169 = .ok (.getfield 31, 3) := dk_180 0 31 (dk_at dksX0_say_7 6 rfl rfl)
theorem dX0_say_172 : decode cX0_say 172 = .ok (.getfield 247, 3) := dk_180 0 247 (dk_at dksX0_say_7 9 rfl rfl)
theorem dX0_say_175 : decode cX0_say 175 = .ok (.iload_n 1, 1) := dk_27 (dk_at dksX0_say_7 12 rfl rfl)
theorem dX0_say_176 : decode cX0_say 176 = .ok (.iaload, 1) := dk_46 (dk_at dksX0_say_7 13 rfl rfl)
theorem dX0_say_177 : decode cX0_say 177 = .ok (.iload 4, 2) := dk_21 4 (dk_at dksX0_say_7 14 rfl rfl)
theorem dX0_say_179 : decode cX0_say 179 = .ok (.ior, 1) := dk_128 (dk_at dksX0_say_7 16 rfl rfl)
theorem dX0_say_180 : decode cX0_say 180 = .ok (.goto 17, 3) := dk_167 0 17 (dk_at dksX0_say_7 17 rfl rfl)
theorem dX0_say_183 : decode cX0_say 183 = .ok (.aload_n 0, 1) := dk_42 (dk_at dksX0_say_7 20 rfl rfl)
theorem dX0_say_184 : decode cX0_say 184 = .ok (.getfield 31, 3) := dk_180 0 31 (dk_at dksX0_say_7 21 rfl rfl)
theorem dX0_say_187 : decode cX0_say 187 = .ok (.getfield 247, 3) := dk_180 0 247 (dk_at dksX0_say_8 0 rfl rfl)
theorem dX0_say_190 : decode cX0_say 190 = .ok (.iload_n 1, 1) := dk_27 (dk_at dksX0_say_8 3 rfl rfl)
theorem dX0_say_191 : decode cX0_say 191 = .ok (.iaload, 1) := dk_46 (dk_at dksX0_say_8 4 rfl rfl)
theorem dX0_say_192 : decode cX0_say 192 = .ok (.iload 4, 2) := dk_21 4 (dk_at dksX0_say_8 5 rfl rfl)
theorem dX0_say_194 : decode cX0_say 194 = .ok (.iconst (-1), 1) := dk_2 (dk_at dksX0_say_8 7 rfl rfl)
theorem dX0_say_195 : decode cX0_say 195 = .ok (.ixor, 1) := dk_130 (dk_at dksX0_say_8 8 rfl rfl)
theorem dX0_say_196 : decode cX0_say 196 = .ok (.iand, 1) := dk_126 (dk_at dksX0_say_8 9 rfl rfl)
theorem dX0_say_197 : decode cX0_say 197 = .ok (.iastore, 1) := dk_79 (dk_at dksX0_say_8 10 rfl rfl)
theorem dX0_say_198 : decode cX0_say 198 = .ok (.aload_n 0, 1) := dk_42 (dk_at dksX0_say_8 11 rfl rfl)
theorem dX0_say_199 : decode cX0_say 199 = .ok (.getfield 31, 3) := dk_180 0 31 (dk_at dksX0_say_8 12 rfl rfl)
theorem dX0_say_202 : decode cX0_say 202 = .ok (.getfield 195, 3) := dk_180 0 195 (dk_at dksX0_say_8 15 rfl rfl)
theorem dX0_say_205 : decode cX0_say 205 = .ok (.iload_n 1, 1) := dk_27 (dk_at dksX0_say_8 18 rfl rfl)
theorem dX0_say_206 : decode cX0_say 206 = .ok (.iaload, 1) := dk_46 (dk_at dksX0_say_8 19 rfl rfl)
theorem dX0_say_207 : decode cX0_say 207 = .ok (.invokestatic 198, 3) := dk_184 0 198 (dk_at dksX0_say_8 20 rfl rfl)
theorem dX0_say_210 : decode cX0_say 210 = .ok (.ireturn, 1) := dk_172 (dk_at dksX0_say_8 23 rfl rfl)
abbrev cX0_saysSo : ByteArray := prog_1_method_42_code
def yX0_saysSo : MethodName := ⟨RX0, "saysSo", "(III)Z"⟩
def dkwX0_saysSo_2 : List UInt8 := [4, 160, 0, 7, 4, 167, 0, 4, 3, 160, 0, 7, 4, 167, 0, 4, 3, 172]
abbrev dktX0_saysSo_2 : List UInt8 := dkwX0_saysSo_2 ++ []
def dkwX0_saysSo_1 : List UInt8 := [167, 0, 4, 3, 172, 29, 5, 162, 0, 33, 42, 180, 0, 31, 180, 0, 247, 27, 46, 28, 184, 0, 223, 29]
abbrev dktX0_saysSo_1 : List UInt8 := dkwX0_saysSo_1 ++ dktX0_saysSo_2
def dkwX0_saysSo_0 : List UInt8 := [42, 180, 0, 31, 180, 0, 195, 27, 46, 28, 184, 0, 223, 154, 0, 14, 29, 5, 160, 0, 7, 4]
abbrev dktX0_saysSo_0 : List UInt8 := dkwX0_saysSo_0 ++ dktX0_saysSo_1
theorem dksX0_saysSo_0 : cX0_saysSo.data.toList.drop 0 = dktX0_saysSo_0 := by decide +kernel
theorem dksX0_saysSo_1 : cX0_saysSo.data.toList.drop 22 = dktX0_saysSo_1 := dk_seg dksX0_saysSo_0 22 rfl rfl
theorem dksX0_saysSo_2 : cX0_saysSo.data.toList.drop 46 = dktX0_saysSo_2 := dk_seg dksX0_saysSo_1 24 rfl rfl
theorem dX0_saysSo_0 : decode cX0_saysSo 0 = .ok (.aload_n 0, 1) := dk_42 (dk_at dksX0_saysSo_0 0 rfl rfl)
theorem dX0_saysSo_1 : decode cX0_saysSo 1 = .ok (.getfield 31, 3) := dk_180 0 31 (dk_at dksX0_saysSo_0 1 rfl rfl)
theorem dX0_saysSo_4 : decode cX0_saysSo 4 = .ok (.getfield 195, 3) := dk_180 0 195 (dk_at dksX0_saysSo_0 4 rfl rfl)
theorem dX0_saysSo_7 : decode cX0_saysSo 7 = .ok (.iload_n 1, 1) := dk_27 (dk_at dksX0_saysSo_0 7 rfl rfl)
theorem dX0_saysSo_8 : decode cX0_saysSo 8 = .ok (.iaload, 1) := dk_46 (dk_at dksX0_saysSo_0 8 rfl rfl)
theorem dX0_saysSo_9 : decode cX0_saysSo 9 = .ok (.iload_n 2, 1) := dk_28 (dk_at dksX0_saysSo_0 9 rfl rfl)
theorem dX0_saysSo_10 : decode cX0_saysSo 10 = .ok (.invokestatic 223, 3) := dk_184 0 223 (dk_at dksX0_saysSo_0 10 rfl rfl)
theorem dX0_saysSo_13 : decode cX0_saysSo 13 = .ok (.ifCond .ne 14, 3) := dk_154 0 14 (dk_at dksX0_saysSo_0 13 rfl rfl)
theorem dX0_saysSo_16 : decode cX0_saysSo 16 = .ok (.iload_n 3, 1) := dk_29 (dk_at dksX0_saysSo_0 16 rfl rfl)
theorem dX0_saysSo_17 : decode cX0_saysSo 17 = .ok (.iconst 2, 1) := dk_5 (dk_at dksX0_saysSo_0 17 rfl rfl)
theorem dX0_saysSo_18 : decode cX0_saysSo 18 = .ok (.if_icmp .ne 7, 3) := dk_160 0 7 (dk_at dksX0_saysSo_0 18 rfl rfl)
theorem dX0_saysSo_21 : decode cX0_saysSo 21 = .ok (.iconst 1, 1) := dk_4 (dk_at dksX0_saysSo_0 21 rfl rfl)
theorem dX0_saysSo_22 : decode cX0_saysSo 22 = .ok (.goto 4, 3) := dk_167 0 4 (dk_at dksX0_saysSo_1 0 rfl rfl)
theorem dX0_saysSo_25 : decode cX0_saysSo 25 = .ok (.iconst 0, 1) := dk_3 (dk_at dksX0_saysSo_1 3 rfl rfl)
theorem dX0_saysSo_26 : decode cX0_saysSo 26 = .ok (.ireturn, 1) := dk_172 (dk_at dksX0_saysSo_1 4 rfl rfl)
theorem dX0_saysSo_27 : decode cX0_saysSo 27 = .ok (.iload_n 3, 1) := dk_29 (dk_at dksX0_saysSo_1 5 rfl rfl)
theorem dX0_saysSo_28 : decode cX0_saysSo 28 = .ok (.iconst 2, 1) := dk_5 (dk_at dksX0_saysSo_1 6 rfl rfl)
theorem dX0_saysSo_29 : decode cX0_saysSo 29 = .ok (.if_icmp .ge 33, 3) := dk_162 0 33 (dk_at dksX0_saysSo_1 7 rfl rfl)
theorem dX0_saysSo_32 : decode cX0_saysSo 32 = .ok (.aload_n 0, 1) := dk_42 (dk_at dksX0_saysSo_1 10 rfl rfl)
theorem dX0_saysSo_33 : decode cX0_saysSo 33 = .ok (.getfield 31, 3) := dk_180 0 31 (dk_at dksX0_saysSo_1 11 rfl rfl)
theorem dX0_saysSo_36 : decode cX0_saysSo 36 = .ok (.getfield 247, 3) := dk_180 0 247 (dk_at dksX0_saysSo_1 14 rfl rfl)
theorem dX0_saysSo_39 : decode cX0_saysSo 39 = .ok (.iload_n 1, 1) := dk_27 (dk_at dksX0_saysSo_1 17 rfl rfl)
theorem dX0_saysSo_40 : decode cX0_saysSo 40 = .ok (.iaload, 1) := dk_46 (dk_at dksX0_saysSo_1 18 rfl rfl)
theorem dX0_saysSo_41 : decode cX0_saysSo 41 = .ok (.iload_n 2, 1) := dk_28 (dk_at dksX0_saysSo_1 19 rfl rfl)
theorem dX0_saysSo_42 : decode cX0_saysSo 42 = .ok (.invokestatic 223, 3) := dk_184 0 223 (dk_at dksX0_saysSo_1 20 rfl rfl)
theorem dX0_saysSo_45 : decode cX0_saysSo 45 = .ok (.iload_n 3, 1) := dk_29 (dk_at dksX0_saysSo_1 23 rfl rfl)
theorem dX0_saysSo_46 : decode cX0_saysSo 46 = .ok (.iconst 1, 1) := dk_4 (dk_at dksX0_saysSo_2 0 rfl rfl)
theorem dX0_saysSo_47 : decode cX0_saysSo 47 = .ok (.if_icmp .ne 7, 3) := dk_160 0 7 (dk_at dksX0_saysSo_2 1 rfl rfl)
theorem dX0_saysSo_50 : decode cX0_saysSo 50 = .ok (.iconst 1, 1) := dk_4 (dk_at dksX0_saysSo_2 4 rfl rfl)
theorem dX0_saysSo_51 : decode cX0_saysSo 51 = .ok (.goto 4, 3) := dk_167 0 4 (dk_at dksX0_saysSo_2 5 rfl rfl)
theorem dX0_saysSo_54 : decode cX0_saysSo 54 = .ok (.iconst 0, 1) := dk_3 (dk_at dksX0_saysSo_2 8 rfl rfl)
theorem dX0_saysSo_55 : decode cX0_saysSo 55 = .ok (.if_icmp .ne 7, 3) := dk_160 0 7 (dk_at dksX0_saysSo_2 9 rfl rfl)
theorem dX0_saysSo_58 : decode cX0_saysSo 58 = .ok (.iconst 1, 1) := dk_4 (dk_at dksX0_saysSo_2 12 rfl rfl)
theorem dX0_saysSo_59 : decode cX0_saysSo 59 = .ok (.goto 4, 3) := dk_167 0 4 (dk_at dksX0_saysSo_2 13 rfl rfl)
theorem dX0_saysSo_62 : decode cX0_saysSo 62 = .ok (.iconst 0, 1) := dk_3 (dk_at dksX0_saysSo_2 16 rfl rfl)
theorem dX0_saysSo_63 : decode cX0_saysSo 63 = .ok (.ireturn, 1) := dk_172 (dk_at dksX0_saysSo_2 17 rfl rfl)
abbrev cX0_add : ByteArray := prog_1_method_44_code
def yX0_add : MethodName := ⟨RX0, "add", "(III)I"⟩
def dkwX0_add_4 : List UInt8 := [100, 172]
abbrev dktX0_add_4 : List UInt8 := dkwX0_add_4 ++ []
def dkwX0_add_3 : List UInt8 := [182, 1, 87, 42, 180, 0, 31, 89, 180, 0, 136, 4, 96, 181, 0, 136, 42, 180, 0, 31, 180, 0, 136, 4]
abbrev dktX0_add_3 : List UInt8 := dkwX0_add_3 ++ dktX0_add_4
def dkwX0_add_2 : List UInt8 := [182, 1, 68, 42, 180, 0, 31, 42, 180, 0, 31, 180, 0, 136, 27, 28, 29, 42, 180, 0, 31, 180, 1, 84]
abbrev dktX0_add_2 : List UInt8 := dkwX0_add_2 ++ dktX0_add_3
def dkwX0_add_1 : List UInt8 := [184, 0, 96, 154, 0, 5, 2, 172, 42, 180, 0, 31, 180, 0, 136, 16, 8, 160, 0, 6, 16, 254, 172, 42]
abbrev dktX0_add_1 : List UInt8 := dkwX0_add_1 ++ dktX0_add_2
def dkwX0_add_0 : List UInt8 := [42, 27, 182, 1, 34, 153, 0, 25, 28, 3, 17, 3, 231, 184, 0, 96, 153, 0, 14, 29, 3, 17, 3, 231]
abbrev dktX0_add_0 : List UInt8 := dkwX0_add_0 ++ dktX0_add_1
theorem dksX0_add_0 : cX0_add.data.toList.drop 0 = dktX0_add_0 := by decide +kernel
theorem dksX0_add_1 : cX0_add.data.toList.drop 24 = dktX0_add_1 := dk_seg dksX0_add_0 24 rfl rfl
theorem dksX0_add_2 : cX0_add.data.toList.drop 48 = dktX0_add_2 := dk_seg dksX0_add_1 24 rfl rfl
theorem dksX0_add_3 : cX0_add.data.toList.drop 72 = dktX0_add_3 := dk_seg dksX0_add_2 24 rfl rfl
theorem dksX0_add_4 : cX0_add.data.toList.drop 96 = dktX0_add_4 := dk_seg dksX0_add_3 24 rfl rfl
theorem dX0_add_0 : decode cX0_add 0 = .ok (.aload_n 0, 1) := dk_42 (dk_at dksX0_add_0 0 rfl rfl)
theorem dX0_add_1 : decode cX0_add 1 = .ok (.iload_n 1, 1) := dk_27 (dk_at dksX0_add_0 1 rfl rfl)
theorem dX0_add_2 : decode cX0_add 2 = .ok (.invokevirtual 290, 3) := dk_182 1 34 (dk_at dksX0_add_0 2 rfl rfl)
theorem dX0_add_5 : decode cX0_add 5 = .ok (.ifCond .eq 25, 3) := dk_153 0 25 (dk_at dksX0_add_0 5 rfl rfl)
theorem dX0_add_8 : decode cX0_add 8 = .ok (.iload_n 2, 1) := dk_28 (dk_at dksX0_add_0 8 rfl rfl)
theorem dX0_add_9 : decode cX0_add 9 = .ok (.iconst 0, 1) := dk_3 (dk_at dksX0_add_0 9 rfl rfl)
theorem dX0_add_10 : decode cX0_add 10 = .ok (.sipush 999, 3) := dk_17 3 231 (dk_at dksX0_add_0 10 rfl rfl)
theorem dX0_add_13 : decode cX0_add 13 = .ok (.invokestatic 96, 3) := dk_184 0 96 (dk_at dksX0_add_0 13 rfl rfl)
theorem dX0_add_16 : decode cX0_add 16 = .ok (.ifCond .eq 14, 3) := dk_153 0 14 (dk_at dksX0_add_0 16 rfl rfl)
theorem dX0_add_19 : decode cX0_add 19 = .ok (.iload_n 3, 1) := dk_29 (dk_at dksX0_add_0 19 rfl rfl)
theorem dX0_add_20 : decode cX0_add 20 = .ok (.iconst 0, 1) := dk_3 (dk_at dksX0_add_0 20 rfl rfl)
theorem dX0_add_21 : decode cX0_add 21 = .ok (.sipush 999, 3) := dk_17 3 231 (dk_at dksX0_add_0 21 rfl rfl)
theorem dX0_add_24 : decode cX0_add 24 = .ok (.invokestatic 96, 3) := dk_184 0 96 (dk_at dksX0_add_1 0 rfl rfl)
theorem dX0_add_27 : decode cX0_add 27 = .ok (.ifCond .ne 5, 3) := dk_154 0 5 (dk_at dksX0_add_1 3 rfl rfl)
theorem dX0_add_30 : decode cX0_add 30 = .ok (.iconst (-1), 1) := dk_2 (dk_at dksX0_add_1 6 rfl rfl)
theorem dX0_add_31 : decode cX0_add 31 = .ok (.ireturn, 1) := dk_172 (dk_at dksX0_add_1 7 rfl rfl)
theorem dX0_add_32 : decode cX0_add 32 = .ok (.aload_n 0, 1) := dk_42 (dk_at dksX0_add_1 8 rfl rfl)
theorem dX0_add_33 : decode cX0_add 33 = .ok (.getfield 31, 3) := dk_180 0 31 (dk_at dksX0_add_1 9 rfl rfl)
theorem dX0_add_36 : decode cX0_add 36 = .ok (.getfield 136, 3) := dk_180 0 136 (dk_at dksX0_add_1 12 rfl rfl)
theorem dX0_add_39 : decode cX0_add 39 = .ok (.bipush 8, 2) := dk_16 8 (dk_at dksX0_add_1 15 rfl rfl)
theorem dX0_add_41 : decode cX0_add 41 = .ok (.if_icmp .ne 6, 3) := dk_160 0 6 (dk_at dksX0_add_1 17 rfl rfl)
theorem dX0_add_44 : decode cX0_add 44 = .ok (.bipush (-2), 2) := dk_16 254 (dk_at dksX0_add_1 20 rfl rfl)
theorem dX0_add_46 : decode cX0_add 46 = .ok (.ireturn, 1) := dk_172 (dk_at dksX0_add_1 22 rfl rfl)
theorem dX0_add_47 : decode cX0_add 47 = .ok (.aload_n 0, 1) := dk_42 (dk_at dksX0_add_1 23 rfl rfl)
theorem dX0_add_48 : decode cX0_add 48 = .ok (.invokevirtual 324, 3) := dk_182 1 68 (dk_at dksX0_add_2 0 rfl rfl)
theorem dX0_add_51 : decode cX0_add 51 = .ok (.aload_n 0, 1) := dk_42 (dk_at dksX0_add_2 3 rfl rfl)
theorem dX0_add_52 : decode cX0_add 52 = .ok (.getfield 31, 3) := dk_180 0 31 (dk_at dksX0_add_2 4 rfl rfl)
theorem dX0_add_55 : decode cX0_add 55 = .ok (.aload_n 0, 1) := dk_42 (dk_at dksX0_add_2 7 rfl rfl)
theorem dX0_add_56 : decode cX0_add 56 = .ok (.getfield 31, 3) := dk_180 0 31 (dk_at dksX0_add_2 8 rfl rfl)
theorem dX0_add_59 : decode cX0_add 59 = .ok (.getfield 136, 3) := dk_180 0 136 (dk_at dksX0_add_2 11 rfl rfl)
theorem dX0_add_62 : decode cX0_add 62 = .ok (.iload_n 1, 1) := dk_27 (dk_at dksX0_add_2 14 rfl rfl)
theorem dX0_add_63 : decode cX0_add 63 = .ok (.iload_n 2, 1) := dk_28 (dk_at dksX0_add_2 15 rfl rfl)
theorem dX0_add_64 : decode cX0_add 64 = .ok (.iload_n 3, 1) := dk_29 (dk_at dksX0_add_2 16 rfl rfl)
theorem dX0_add_65 : decode cX0_add 65 = .ok (.aload_n 0, 1) := dk_42 (dk_at dksX0_add_2 17 rfl rfl)
theorem dX0_add_66 : decode cX0_add 66 = .ok (.getfield 31, 3) := dk_180 0 31 (dk_at dksX0_add_2 18 rfl rfl)
theorem dX0_add_69 : decode cX0_add 69 = .ok (.getfield 340, 3) := dk_180 1 84 (dk_at dksX0_add_2 21 rfl rfl)
theorem dX0_add_72 : decode cX0_add 72 = .ok (.invokevirtual 343, 3) := dk_182 1 87 (dk_at dksX0_add_3 0 rfl rfl)
theorem dX0_add_75 : decode cX0_add 75 = .ok (.aload_n 0, 1) := dk_42 (dk_at dksX0_add_3 3 rfl rfl)
theorem dX0_add_76 : decode cX0_add 76 = .ok (.getfield 31, 3) := dk_180 0 31 (dk_at dksX0_add_3 4 rfl rfl)
theorem dX0_add_79 : decode cX0_add 79 = .ok (.dup, 1) := dk_89 (dk_at dksX0_add_3 7 rfl rfl)
theorem dX0_add_80 : decode cX0_add 80 = .ok (.getfield 136, 3) := dk_180 0 136 (dk_at dksX0_add_3 8 rfl rfl)
theorem dX0_add_83 : decode cX0_add 83 = .ok (.iconst 1, 1) := dk_4 (dk_at dksX0_add_3 11 rfl rfl)
theorem dX0_add_84 : decode cX0_add 84 = .ok (.iadd, 1) := dk_96 (dk_at dksX0_add_3 12 rfl rfl)
theorem dX0_add_85 : decode cX0_add 85 = .ok (.putfield 136, 3) := dk_181 0 136 (dk_at dksX0_add_3 13 rfl rfl)
theorem dX0_add_88 : decode cX0_add 88 = .ok (.aload_n 0, 1) := dk_42 (dk_at dksX0_add_3 16 rfl rfl)
theorem dX0_add_89 : decode cX0_add 89 = .ok (.getfield 31, 3) := dk_180 0 31 (dk_at dksX0_add_3 17 rfl rfl)
theorem dX0_add_92 : decode cX0_add 92 = .ok (.getfield 136, 3) := dk_180 0 136 (dk_at dksX0_add_3 20 rfl rfl)
theorem dX0_add_95 : decode cX0_add 95 = .ok (.iconst 1, 1) := dk_4 (dk_at dksX0_add_3 23 rfl rfl)
theorem dX0_add_96 : decode cX0_add 96 = .ok (.isub, 1) := dk_100 (dk_at dksX0_add_4 0 rfl rfl)
theorem dX0_add_97 : decode cX0_add 97 = .ok (.ireturn, 1) := dk_172 (dk_at dksX0_add_4 1 rfl rfl)
abbrev cX0_strike : ByteArray := prog_1_method_45_code
def yX0_strike : MethodName := ⟨RX0, "strike", "(I)I"⟩
def dkwX0_strike_2 : List UInt8 := [180, 0, 31, 180, 0, 136, 42, 180, 0, 31, 180, 0, 220, 184, 0, 198, 100, 172]
abbrev dktX0_strike_2 : List UInt8 := dkwX0_strike_2 ++ []
def dkwX0_strike_1 : List UInt8 := [16, 254, 172, 42, 182, 1, 68, 42, 180, 0, 31, 89, 180, 0, 220, 4, 27, 120, 128, 181, 0, 220, 42]
abbrev dktX0_strike_1 : List UInt8 := dkwX0_strike_1 ++ dktX0_strike_2
def dkwX0_strike_0 : List UInt8 := [42, 27, 182, 1, 34, 154, 0, 5, 2, 172, 42, 180, 0, 31, 180, 0, 220, 27, 184, 0, 223, 153, 0, 6]
abbrev dktX0_strike_0 : List UInt8 := dkwX0_strike_0 ++ dktX0_strike_1
theorem dksX0_strike_0 : cX0_strike.data.toList.drop 0 = dktX0_strike_0 := by decide +kernel
theorem dksX0_strike_1 : cX0_strike.data.toList.drop 24 = dktX0_strike_1 := dk_seg dksX0_strike_0 24 rfl rfl
theorem dksX0_strike_2 : cX0_strike.data.toList.drop 47 = dktX0_strike_2 := dk_seg dksX0_strike_1 23 rfl rfl
theorem dX0_strike_0 : decode cX0_strike 0 = .ok (.aload_n 0, 1) := dk_42 (dk_at dksX0_strike_0 0 rfl rfl)
theorem dX0_strike_1 : decode cX0_strike 1 = .ok (.iload_n 1, 1) := dk_27 (dk_at dksX0_strike_0 1 rfl rfl)
theorem dX0_strike_2 : decode cX0_strike 2 = .ok (.invokevirtual 290, 3) := dk_182 1 34 (dk_at dksX0_strike_0 2 rfl rfl)
theorem dX0_strike_5 : decode cX0_strike 5 = .ok (.ifCond .ne 5, 3) := dk_154 0 5 (dk_at dksX0_strike_0 5 rfl rfl)
theorem dX0_strike_8 : decode cX0_strike 8 = .ok (.iconst (-1), 1) := dk_2 (dk_at dksX0_strike_0 8 rfl rfl)
theorem dX0_strike_9 : decode cX0_strike 9 = .ok (.ireturn, 1) := dk_172 (dk_at dksX0_strike_0 9 rfl rfl)
theorem dX0_strike_10 : decode cX0_strike 10 = .ok (.aload_n 0, 1) := dk_42 (dk_at dksX0_strike_0 10 rfl rfl)
theorem dX0_strike_11 : decode cX0_strike 11 = .ok (.getfield 31, 3) := dk_180 0 31 (dk_at dksX0_strike_0 11 rfl rfl)
theorem dX0_strike_14 : decode cX0_strike 14 = .ok (.getfield 220, 3) := dk_180 0 220 (dk_at dksX0_strike_0 14 rfl rfl)
theorem dX0_strike_17 : decode cX0_strike 17 = .ok (.iload_n 1, 1) := dk_27 (dk_at dksX0_strike_0 17 rfl rfl)
theorem dX0_strike_18 : decode cX0_strike 18 = .ok (.invokestatic 223, 3) := dk_184 0 223 (dk_at dksX0_strike_0 18 rfl rfl)
theorem dX0_strike_21 : decode cX0_strike 21 = .ok (.ifCond .eq 6, 3) := dk_153 0 6 (dk_at dksX0_strike_0 21 rfl rfl)
theorem dX0_strike_24 : decode cX0_strike 24 = .ok (.bipush (-2), 2) := dk_16 254 (dk_at dksX0_strike_1 0 rfl rfl)
theorem dX0_strike_26 : decode cX0_strike 26 = .ok (.ireturn, 1) := dk_172 (dk_at dksX0_strike_1 2 rfl rfl)
theorem dX0_strike_27 : decode cX0_strike 27 = .ok (.aload_n 0, 1) := dk_42 (dk_at dksX0_strike_1 3 rfl rfl)
theorem dX0_strike_28 : decode cX0_strike 28 = .ok (.invokevirtual 324, 3) := dk_182 1 68 (dk_at dksX0_strike_1 4 rfl rfl)
theorem dX0_strike_31 : decode cX0_strike 31 = .ok (.aload_n 0, 1) := dk_42 (dk_at dksX0_strike_1 7 rfl rfl)
theorem dX0_strike_32 : decode cX0_strike 32 = .ok (.getfield 31, 3) := dk_180 0 31 (dk_at dksX0_strike_1 8 rfl rfl)
theorem dX0_strike_35 : decode cX0_strike 35 = .ok (.dup, 1) := dk_89 (dk_at dksX0_strike_1 11 rfl rfl)
theorem dX0_strike_36 : decode cX0_strike 36 = .ok (.getfield 220, 3) := dk_180 0 220 (dk_at dksX0_strike_1 12 rfl rfl)
theorem dX0_strike_39 : decode cX0_strike 39 = .ok (.iconst 1, 1) := dk_4 (dk_at dksX0_strike_1 15 rfl rfl)
theorem dX0_strike_40 : decode cX0_strike 40 = .ok (.iload_n 1, 1) := dk_27 (dk_at dksX0_strike_1 16 rfl rfl)
theorem dX0_strike_41 : decode cX0_strike 41 = .ok (.ishl, 1) := dk_120 (dk_at dksX0_strike_1 17 rfl rfl)
theorem dX0_strike_42 : decode cX0_strike 42 = .ok (.ior, 1) := dk_128 (dk_at dksX0_strike_1 18 rfl rfl)
theorem dX0_strike_43 : decode cX0_strike 43 = .ok (.putfield 220, 3) := dk_181 0 220 (dk_at dksX0_strike_1 19 rfl rfl)
theorem dX0_strike_46 : decode cX0_strike 46 = .ok (.aload_n 0, 1) := dk_42 (dk_at dksX0_strike_1 22 rfl rfl)
theorem dX0_strike_47 : decode cX0_strike 47 = .ok (.getfield 31, 3) := dk_180 0 31 (dk_at dksX0_strike_2 0 rfl rfl)
theorem dX0_strike_50 : decode cX0_strike 50 = .ok (.getfield 136, 3) := dk_180 0 136 (dk_at dksX0_strike_2 3 rfl rfl)
theorem dX0_strike_53 : decode cX0_strike 53 = .ok (.aload_n 0, 1) := dk_42 (dk_at dksX0_strike_2 6 rfl rfl)
theorem dX0_strike_54 : decode cX0_strike 54 = .ok (.getfield 31, 3) := dk_180 0 31 (dk_at dksX0_strike_2 7 rfl rfl)
theorem dX0_strike_57 : decode cX0_strike 57 = .ok (.getfield 220, 3) := dk_180 0 220 (dk_at dksX0_strike_2 10 rfl rfl)
theorem dX0_strike_60 : decode cX0_strike 60 = .ok (.invokestatic 198, 3) := dk_184 0 198 (dk_at dksX0_strike_2 13 rfl rfl)
theorem dX0_strike_63 : decode cX0_strike 63 = .ok (.isub, 1) := dk_100 (dk_at dksX0_strike_2 16 rfl rfl)
theorem dX0_strike_64 : decode cX0_strike 64 = .ok (.ireturn, 1) := dk_172 (dk_at dksX0_strike_2 17 rfl rfl)
abbrev cX0_days : ByteArray := prog_1_method_46_code
def yX0_days : MethodName := ⟨RX0, "days", "(I)I"⟩
def dkwX0_days_2 : List UInt8 := [181, 1, 84, 42, 180, 0, 31, 180, 1, 84, 172]
abbrev dktX0_days_2 : List UInt8 := dkwX0_days_2 ++ []
def dkwX0_days_1 : List UInt8 := [17, 39, 15, 164, 0, 6, 16, 254, 172, 42, 182, 1, 68, 42, 180, 0, 31, 89, 180, 1, 84, 27, 96]
abbrev dktX0_days_1 : List UInt8 := dkwX0_days_1 ++ dktX0_days_2
def dkwX0_days_0 : List UInt8 := [27, 4, 17, 3, 231, 184, 0, 96, 154, 0, 5, 2, 172, 42, 180, 0, 31, 180, 1, 84, 27, 96]
abbrev dktX0_days_0 : List UInt8 := dkwX0_days_0 ++ dktX0_days_1
theorem dksX0_days_0 : cX0_days.data.toList.drop 0 = dktX0_days_0 := by decide +kernel
theorem dksX0_days_1 : cX0_days.data.toList.drop 22 = dktX0_days_1 := dk_seg dksX0_days_0 22 rfl rfl
theorem dksX0_days_2 : cX0_days.data.toList.drop 45 = dktX0_days_2 := dk_seg dksX0_days_1 23 rfl rfl
theorem dX0_days_0 : decode cX0_days 0 = .ok (.iload_n 1, 1) := dk_27 (dk_at dksX0_days_0 0 rfl rfl)
theorem dX0_days_1 : decode cX0_days 1 = .ok (.iconst 1, 1) := dk_4 (dk_at dksX0_days_0 1 rfl rfl)
theorem dX0_days_2 : decode cX0_days 2 = .ok (.sipush 999, 3) := dk_17 3 231 (dk_at dksX0_days_0 2 rfl rfl)
theorem dX0_days_5 : decode cX0_days 5 = .ok (.invokestatic 96, 3) := dk_184 0 96 (dk_at dksX0_days_0 5 rfl rfl)
theorem dX0_days_8 : decode cX0_days 8 = .ok (.ifCond .ne 5, 3) := dk_154 0 5 (dk_at dksX0_days_0 8 rfl rfl)
theorem dX0_days_11 : decode cX0_days 11 = .ok (.iconst (-1), 1) := dk_2 (dk_at dksX0_days_0 11 rfl rfl)
theorem dX0_days_12 : decode cX0_days 12 = .ok (.ireturn, 1) := dk_172 (dk_at dksX0_days_0 12 rfl rfl)
theorem dX0_days_13 : decode cX0_days 13 = .ok (.aload_n 0, 1) := dk_42 (dk_at dksX0_days_0 13 rfl rfl)
theorem dX0_days_14 : decode cX0_days 14 = .ok (.getfield 31, 3) := dk_180 0 31 (dk_at dksX0_days_0 14 rfl rfl)
theorem dX0_days_17 : decode cX0_days 17 = .ok (.getfield 340, 3) := dk_180 1 84 (dk_at dksX0_days_0 17 rfl rfl)
theorem dX0_days_20 : decode cX0_days 20 = .ok (.iload_n 1, 1) := dk_27 (dk_at dksX0_days_0 20 rfl rfl)
theorem dX0_days_21 : decode cX0_days 21 = .ok (.iadd, 1) := dk_96 (dk_at dksX0_days_0 21 rfl rfl)
theorem dX0_days_22 : decode cX0_days 22 = .ok (.sipush 9999, 3) := dk_17 39 15 (dk_at dksX0_days_1 0 rfl rfl)
theorem dX0_days_25 : decode cX0_days 25 = .ok (.if_icmp .le 6, 3) := dk_164 0 6 (dk_at dksX0_days_1 3 rfl rfl)
theorem dX0_days_28 : decode cX0_days 28 = .ok (.bipush (-2), 2) := dk_16 254 (dk_at dksX0_days_1 6 rfl rfl)
theorem dX0_days_30 : decode cX0_days 30 = .ok (.ireturn, 1) := dk_172 (dk_at dksX0_days_1 8 rfl rfl)
theorem dX0_days_31 : decode cX0_days 31 = .ok (.aload_n 0, 1) := dk_42 (dk_at dksX0_days_1 9 rfl rfl)
theorem dX0_days_32 : decode cX0_days 32 = .ok (.invokevirtual 324, 3) := dk_182 1 68 (dk_at dksX0_days_1 10 rfl rfl)
theorem dX0_days_35 : decode cX0_days 35 = .ok (.aload_n 0, 1) := dk_42 (dk_at dksX0_days_1 13 rfl rfl)
theorem dX0_days_36 : decode cX0_days 36 = .ok (.getfield 31, 3) := dk_180 0 31 (dk_at dksX0_days_1 14 rfl rfl)
theorem dX0_days_39 : decode cX0_days 39 = .ok (.dup, 1) := dk_89 (dk_at dksX0_days_1 17 rfl rfl)
theorem dX0_days_40 : decode cX0_days 40 = .ok (.getfield 340, 3) := dk_180 1 84 (dk_at dksX0_days_1 18 rfl rfl)
theorem dX0_days_43 : decode cX0_days 43 = .ok (.iload_n 1, 1) := dk_27 (dk_at dksX0_days_1 21 rfl rfl)
theorem dX0_days_44 : decode cX0_days 44 = .ok (.iadd, 1) := dk_96 (dk_at dksX0_days_1 22 rfl rfl)
theorem dX0_days_45 : decode cX0_days 45 = .ok (.putfield 340, 3) := dk_181 1 84 (dk_at dksX0_days_2 0 rfl rfl)
theorem dX0_days_48 : decode cX0_days 48 = .ok (.aload_n 0, 1) := dk_42 (dk_at dksX0_days_2 3 rfl rfl)
theorem dX0_days_49 : decode cX0_days 49 = .ok (.getfield 31, 3) := dk_180 0 31 (dk_at dksX0_days_2 4 rfl rfl)
theorem dX0_days_52 : decode cX0_days 52 = .ok (.getfield 340, 3) := dk_180 1 84 (dk_at dksX0_days_2 7 rfl rfl)
theorem dX0_days_55 : decode cX0_days 55 = .ok (.ireturn, 1) := dk_172 (dk_at dksX0_days_2 10 rfl rfl)
abbrev cX0_undo : ByteArray := prog_1_method_47_code
def yX0_undo : MethodName := ⟨RX0, "undo", "()I"⟩
def dkwX0_undo_1 : List UInt8 := [180, 0, 35, 42, 180, 0, 127, 50, 182, 1, 56, 42, 180, 0, 127, 172]
abbrev dktX0_undo_1 : List UInt8 := dkwX0_undo_1 ++ []
def dkwX0_undo_0 : List UInt8 := [42, 180, 0, 127, 154, 0, 5, 2, 172, 42, 89, 180, 0, 127, 4, 100, 181, 0, 127, 42, 180, 0, 31, 42]
abbrev dktX0_undo_0 : List UInt8 := dkwX0_undo_0 ++ dktX0_undo_1
theorem dksX0_undo_0 : cX0_undo.data.toList.drop 0 = dktX0_undo_0 := by decide +kernel
theorem dksX0_undo_1 : cX0_undo.data.toList.drop 24 = dktX0_undo_1 := dk_seg dksX0_undo_0 24 rfl rfl
theorem dX0_undo_0 : decode cX0_undo 0 = .ok (.aload_n 0, 1) := dk_42 (dk_at dksX0_undo_0 0 rfl rfl)
theorem dX0_undo_1 : decode cX0_undo 1 = .ok (.getfield 127, 3) := dk_180 0 127 (dk_at dksX0_undo_0 1 rfl rfl)
theorem dX0_undo_4 : decode cX0_undo 4 = .ok (.ifCond .ne 5, 3) := dk_154 0 5 (dk_at dksX0_undo_0 4 rfl rfl)
theorem dX0_undo_7 : decode cX0_undo 7 = .ok (.iconst (-1), 1) := dk_2 (dk_at dksX0_undo_0 7 rfl rfl)
theorem dX0_undo_8 : decode cX0_undo 8 = .ok (.ireturn, 1) := dk_172 (dk_at dksX0_undo_0 8 rfl rfl)
theorem dX0_undo_9 : decode cX0_undo 9 = .ok (.aload_n 0, 1) := dk_42 (dk_at dksX0_undo_0 9 rfl rfl)
theorem dX0_undo_10 : decode cX0_undo 10 = .ok (.dup, 1) := dk_89 (dk_at dksX0_undo_0 10 rfl rfl)
theorem dX0_undo_11 : decode cX0_undo 11 = .ok (.getfield 127, 3) := dk_180 0 127 (dk_at dksX0_undo_0 11 rfl rfl)
theorem dX0_undo_14 : decode cX0_undo 14 = .ok (.iconst 1, 1) := dk_4 (dk_at dksX0_undo_0 14 rfl rfl)
theorem dX0_undo_15 : decode cX0_undo 15 = .ok (.isub, 1) := dk_100 (dk_at dksX0_undo_0 15 rfl rfl)
theorem dX0_undo_16 : decode cX0_undo 16 = .ok (.putfield 127, 3) := dk_181 0 127 (dk_at dksX0_undo_0 16 rfl rfl)
theorem dX0_undo_19 : decode cX0_undo 19 = .ok (.aload_n 0, 1) := dk_42 (dk_at dksX0_undo_0 19 rfl rfl)
theorem dX0_undo_20 : decode cX0_undo 20 = .ok (.getfield 31, 3) := dk_180 0 31 (dk_at dksX0_undo_0 20 rfl rfl)
theorem dX0_undo_23 : decode cX0_undo 23 = .ok (.aload_n 0, 1) := dk_42 (dk_at dksX0_undo_0 23 rfl rfl)
theorem dX0_undo_24 : decode cX0_undo 24 = .ok (.getfield 35, 3) := dk_180 0 35 (dk_at dksX0_undo_1 0 rfl rfl)
theorem dX0_undo_27 : decode cX0_undo 27 = .ok (.aload_n 0, 1) := dk_42 (dk_at dksX0_undo_1 3 rfl rfl)
theorem dX0_undo_28 : decode cX0_undo 28 = .ok (.getfield 127, 3) := dk_180 0 127 (dk_at dksX0_undo_1 4 rfl rfl)
theorem dX0_undo_31 : decode cX0_undo 31 = .ok (.aaload, 1) := dk_50 (dk_at dksX0_undo_1 7 rfl rfl)
theorem dX0_undo_32 : decode cX0_undo 32 = .ok (.invokevirtual 312, 3) := dk_182 1 56 (dk_at dksX0_undo_1 8 rfl rfl)
theorem dX0_undo_35 : decode cX0_undo 35 = .ok (.aload_n 0, 1) := dk_42 (dk_at dksX0_undo_1 11 rfl rfl)
theorem dX0_undo_36 : decode cX0_undo 36 = .ok (.getfield 127, 3) := dk_180 0 127 (dk_at dksX0_undo_1 12 rfl rfl)
theorem dX0_undo_39 : decode cX0_undo 39 = .ok (.ireturn, 1) := dk_172 (dk_at dksX0_undo_1 15 rfl rfl)
abbrev cX0_keep : ByteArray := prog_1_method_48_code
def yX0_keep : MethodName := ⟨RX0, "keep", "(I)Z"⟩
def dkwX0_keep_1 : List UInt8 := [42, 180, 0, 42, 27, 4, 84, 4, 172]
abbrev dktX0_keep_1 : List UInt8 := dkwX0_keep_1 ++ []
def dkwX0_keep_0 : List UInt8 := [27, 3, 4, 184, 0, 96, 154, 0, 5, 3, 172, 42, 180, 0, 39, 27, 50, 42, 180, 0, 31, 182, 1, 56]
abbrev dktX0_keep_0 : List UInt8 := dkwX0_keep_0 ++ dktX0_keep_1
theorem dksX0_keep_0 : cX0_keep.data.toList.drop 0 = dktX0_keep_0 := by decide +kernel
theorem dksX0_keep_1 : cX0_keep.data.toList.drop 24 = dktX0_keep_1 := dk_seg dksX0_keep_0 24 rfl rfl
theorem dX0_keep_0 : decode cX0_keep 0 = .ok (.iload_n 1, 1) := dk_27 (dk_at dksX0_keep_0 0 rfl rfl)
theorem dX0_keep_1 : decode cX0_keep 1 = .ok (.iconst 0, 1) := dk_3 (dk_at dksX0_keep_0 1 rfl rfl)
theorem dX0_keep_2 : decode cX0_keep 2 = .ok (.iconst 1, 1) := dk_4 (dk_at dksX0_keep_0 2 rfl rfl)
theorem dX0_keep_3 : decode cX0_keep 3 = .ok (.invokestatic 96, 3) := dk_184 0 96 (dk_at dksX0_keep_0 3 rfl rfl)
theorem dX0_keep_6 : decode cX0_keep 6 = .ok (.ifCond .ne 5, 3) := dk_154 0 5 (dk_at dksX0_keep_0 6 rfl rfl)
theorem dX0_keep_9 : decode cX0_keep 9 = .ok (.iconst 0, 1) := dk_3 (dk_at dksX0_keep_0 9 rfl rfl)
theorem dX0_keep_10 : decode cX0_keep 10 = .ok (.ireturn, 1) := dk_172 (dk_at dksX0_keep_0 10 rfl rfl)
theorem dX0_keep_11 : decode cX0_keep 11 = .ok (.aload_n 0, 1) := dk_42 (dk_at dksX0_keep_0 11 rfl rfl)
theorem dX0_keep_12 : decode cX0_keep 12 = .ok (.getfield 39, 3) := dk_180 0 39 (dk_at dksX0_keep_0 12 rfl rfl)
theorem dX0_keep_15 : decode cX0_keep 15 = .ok (.iload_n 1, 1) := dk_27 (dk_at dksX0_keep_0 15 rfl rfl)
theorem dX0_keep_16 : decode cX0_keep 16 = .ok (.aaload, 1) := dk_50 (dk_at dksX0_keep_0 16 rfl rfl)
theorem dX0_keep_17 : decode cX0_keep 17 = .ok (.aload_n 0, 1) := dk_42 (dk_at dksX0_keep_0 17 rfl rfl)
theorem dX0_keep_18 : decode cX0_keep 18 = .ok (.getfield 31, 3) := dk_180 0 31 (dk_at dksX0_keep_0 18 rfl rfl)
theorem dX0_keep_21 : decode cX0_keep 21 = .ok (.invokevirtual 312, 3) := dk_182 1 56 (dk_at dksX0_keep_0 21 rfl rfl)
theorem dX0_keep_24 : decode cX0_keep 24 = .ok (.aload_n 0, 1) := dk_42 (dk_at dksX0_keep_1 0 rfl rfl)
theorem dX0_keep_25 : decode cX0_keep 25 = .ok (.getfield 42, 3) := dk_180 0 42 (dk_at dksX0_keep_1 1 rfl rfl)
theorem dX0_keep_28 : decode cX0_keep 28 = .ok (.iload_n 1, 1) := dk_27 (dk_at dksX0_keep_1 4 rfl rfl)
theorem dX0_keep_29 : decode cX0_keep 29 = .ok (.iconst 1, 1) := dk_4 (dk_at dksX0_keep_1 5 rfl rfl)
theorem dX0_keep_30 : decode cX0_keep 30 = .ok (.bastore, 1) := dk_84 (dk_at dksX0_keep_1 6 rfl rfl)
theorem dX0_keep_31 : decode cX0_keep 31 = .ok (.iconst 1, 1) := dk_4 (dk_at dksX0_keep_1 7 rfl rfl)
theorem dX0_keep_32 : decode cX0_keep 32 = .ok (.ireturn, 1) := dk_172 (dk_at dksX0_keep_1 8 rfl rfl)
abbrev cX0_again : ByteArray := prog_1_method_49_code
def yX0_again : MethodName := ⟨RX0, "again", "(I)Z"⟩
def dkwX0_again_1 : List UInt8 := [42, 180, 0, 31, 42, 180, 0, 39, 27, 50, 182, 1, 56, 4, 172]
abbrev dktX0_again_1 : List UInt8 := dkwX0_again_1 ++ []
def dkwX0_again_0 : List UInt8 := [27, 3, 4, 184, 0, 96, 153, 0, 12, 42, 180, 0, 42, 27, 51, 154, 0, 5, 3, 172, 42, 182, 1, 68]
abbrev dktX0_again_0 : List UInt8 := dkwX0_again_0 ++ dktX0_again_1
theorem dksX0_again_0 : cX0_again.data.toList.drop 0 = dktX0_again_0 := by decide +kernel
theorem dksX0_again_1 : cX0_again.data.toList.drop 24 = dktX0_again_1 := dk_seg dksX0_again_0 24 rfl rfl
theorem dX0_again_0 : decode cX0_again 0 = .ok (.iload_n 1, 1) := dk_27 (dk_at dksX0_again_0 0 rfl rfl)
theorem dX0_again_1 : decode cX0_again 1 = .ok (.iconst 0, 1) := dk_3 (dk_at dksX0_again_0 1 rfl rfl)
theorem dX0_again_2 : decode cX0_again 2 = .ok (.iconst 1, 1) := dk_4 (dk_at dksX0_again_0 2 rfl rfl)
theorem dX0_again_3 : decode cX0_again 3 = .ok (.invokestatic 96, 3) := dk_184 0 96 (dk_at dksX0_again_0 3 rfl rfl)
theorem dX0_again_6 : decode cX0_again 6 = .ok (.ifCond .eq 12, 3) := dk_153 0 12 (dk_at dksX0_again_0 6 rfl rfl)
theorem dX0_again_9 : decode cX0_again 9 = .ok (.aload_n 0, 1) := dk_42 (dk_at dksX0_again_0 9 rfl rfl)
theorem dX0_again_10 : decode cX0_again 10 = .ok (.getfield 42, 3) := dk_180 0 42 (dk_at dksX0_again_0 10 rfl rfl)
theorem dX0_again_13 : decode cX0_again 13 = .ok (.iload_n 1, 1) := dk_27 (dk_at dksX0_again_0 13 rfl rfl)
theorem dX0_again_14 : decode cX0_again 14 = .ok (.baload, 1) := dk_51 (dk_at dksX0_again_0 14 rfl rfl)
theorem dX0_again_15 : decode cX0_again 15 = .ok (.ifCond .ne 5, 3) := dk_154 0 5 (dk_at dksX0_again_0 15 rfl rfl)
theorem dX0_again_18 : decode cX0_again 18 = .ok (.iconst 0, 1) := dk_3 (dk_at dksX0_again_0 18 rfl rfl)
theorem dX0_again_19 : decode cX0_again 19 = .ok (.ireturn, 1) := dk_172 (dk_at dksX0_again_0 19 rfl rfl)
theorem dX0_again_20 : decode cX0_again 20 = .ok (.aload_n 0, 1) := dk_42 (dk_at dksX0_again_0 20 rfl rfl)
theorem dX0_again_21 : decode cX0_again 21 = .ok (.invokevirtual 324, 3) := dk_182 1 68 (dk_at dksX0_again_0 21 rfl rfl)
theorem dX0_again_24 : decode cX0_again 24 = .ok (.aload_n 0, 1) := dk_42 (dk_at dksX0_again_1 0 rfl rfl)
theorem dX0_again_25 : decode cX0_again 25 = .ok (.getfield 31, 3) := dk_180 0 31 (dk_at dksX0_again_1 1 rfl rfl)
theorem dX0_again_28 : decode cX0_again 28 = .ok (.aload_n 0, 1) := dk_42 (dk_at dksX0_again_1 4 rfl rfl)
theorem dX0_again_29 : decode cX0_again 29 = .ok (.getfield 39, 3) := dk_180 0 39 (dk_at dksX0_again_1 5 rfl rfl)
theorem dX0_again_32 : decode cX0_again 32 = .ok (.iload_n 1, 1) := dk_27 (dk_at dksX0_again_1 8 rfl rfl)
theorem dX0_again_33 : decode cX0_again 33 = .ok (.aaload, 1) := dk_50 (dk_at dksX0_again_1 9 rfl rfl)
theorem dX0_again_34 : decode cX0_again 34 = .ok (.invokevirtual 312, 3) := dk_182 1 56 (dk_at dksX0_again_1 10 rfl rfl)
theorem dX0_again_37 : decode cX0_again 37 = .ok (.iconst 1, 1) := dk_4 (dk_at dksX0_again_1 13 rfl rfl)
theorem dX0_again_38 : decode cX0_again 38 = .ok (.ireturn, 1) := dk_172 (dk_at dksX0_again_1 14 rfl rfl)
abbrev cX0_worlds : ByteArray := prog_1_method_50_code
def yX0_worlds : MethodName := ⟨RX0, "worlds", "(I)I"⟩
def dkwX0_worlds_2 : List UInt8 := [182, 1, 91, 153, 0, 6, 132, 2, 1, 132, 3, 1, 167, 255, 212, 28, 172]
abbrev dktX0_worlds_2 : List UInt8 := dkwX0_worlds_2 ++ []
def dkwX0_worlds_1 : List UInt8 := [162, 0, 39, 27, 154, 0, 18, 42, 180, 0, 24, 180, 0, 139, 29, 51, 153, 0, 17, 167, 0, 11, 42, 29]
abbrev dktX0_worlds_1 : List UInt8 := dkwX0_worlds_1 ++ dktX0_worlds_2
def dkwX0_worlds_0 : List UInt8 := [27, 3, 4, 184, 0, 96, 154, 0, 5, 2, 172, 3, 61, 3, 62, 29, 42, 180, 0, 24, 182, 0, 142]
abbrev dktX0_worlds_0 : List UInt8 := dkwX0_worlds_0 ++ dktX0_worlds_1
theorem dksX0_worlds_0 : cX0_worlds.data.toList.drop 0 = dktX0_worlds_0 := by decide +kernel
theorem dksX0_worlds_1 : cX0_worlds.data.toList.drop 23 = dktX0_worlds_1 := dk_seg dksX0_worlds_0 23 rfl rfl
theorem dksX0_worlds_2 : cX0_worlds.data.toList.drop 47 = dktX0_worlds_2 := dk_seg dksX0_worlds_1 24 rfl rfl
theorem dX0_worlds_0 : decode cX0_worlds 0 = .ok (.iload_n 1, 1) := dk_27 (dk_at dksX0_worlds_0 0 rfl rfl)
theorem dX0_worlds_1 : decode cX0_worlds 1 = .ok (.iconst 0, 1) := dk_3 (dk_at dksX0_worlds_0 1 rfl rfl)
theorem dX0_worlds_2 : decode cX0_worlds 2 = .ok (.iconst 1, 1) := dk_4 (dk_at dksX0_worlds_0 2 rfl rfl)
theorem dX0_worlds_3 : decode cX0_worlds 3 = .ok (.invokestatic 96, 3) := dk_184 0 96 (dk_at dksX0_worlds_0 3 rfl rfl)
theorem dX0_worlds_6 : decode cX0_worlds 6 = .ok (.ifCond .ne 5, 3) := dk_154 0 5 (dk_at dksX0_worlds_0 6 rfl rfl)
theorem dX0_worlds_9 : decode cX0_worlds 9 = .ok (.iconst (-1), 1) := dk_2 (dk_at dksX0_worlds_0 9 rfl rfl)
theorem dX0_worlds_10 : decode cX0_worlds 10 = .ok (.ireturn, 1) := dk_172 (dk_at dksX0_worlds_0 10 rfl rfl)
theorem dX0_worlds_11 : decode cX0_worlds 11 = .ok (.iconst 0, 1) := dk_3 (dk_at dksX0_worlds_0 11 rfl rfl)
theorem dX0_worlds_12 : decode cX0_worlds 12 = .ok (.istore_n 2, 1) := dk_61 (dk_at dksX0_worlds_0 12 rfl rfl)
theorem dX0_worlds_13 : decode cX0_worlds 13 = .ok (.iconst 0, 1) := dk_3 (dk_at dksX0_worlds_0 13 rfl rfl)
theorem dX0_worlds_14 : decode cX0_worlds 14 = .ok (.istore_n 3, 1) := dk_62 (dk_at dksX0_worlds_0 14 rfl rfl)
theorem dX0_worlds_15 : decode cX0_worlds 15 = .ok (.iload_n 3, 1) := dk_29 (dk_at dksX0_worlds_0 15 rfl rfl)
theorem dX0_worlds_16 : decode cX0_worlds 16 = .ok (.aload_n 0, 1) := dk_42 (dk_at dksX0_worlds_0 16 rfl rfl)
theorem dX0_worlds_17 : decode cX0_worlds 17 = .ok (.getfield 24, 3) := dk_180 0 24 (dk_at dksX0_worlds_0 17 rfl rfl)
theorem dX0_worlds_20 : decode cX0_worlds 20 = .ok (.invokevirtual 142, 3) := dk_182 0 142 (dk_at dksX0_worlds_0 20 rfl rfl)
theorem dX0_worlds_23 : decode cX0_worlds 23 = .ok (.if_icmp .ge 39, 3) := dk_162 0 39 (dk_at dksX0_worlds_1 0 rfl rfl)
theorem dX0_worlds_26 : decode cX0_worlds 26 = .ok (.iload_n 1, 1) := dk_27 (dk_at dksX0_worlds_1 3 rfl rfl)
theorem dX0_worlds_27 : decode cX0_worlds 27 = .ok (.ifCond .ne 18, 3) := dk_154 0 18 (dk_at dksX0_worlds_1 4 rfl rfl)
theorem dX0_worlds_30 : decode cX0_worlds 30 = .ok (.aload_n 0, 1) := dk_42 (dk_at dksX0_worlds_1 7 rfl rfl)
theorem dX0_worlds_31 : decode cX0_worlds 31 = .ok (.getfield 24, 3) := dk_180 0 24 (dk_at dksX0_worlds_1 8 rfl rfl)
theorem dX0_worlds_34 : decode cX0_worlds 34 = .ok (.getfield 139, 3) := dk_180 0 139 (dk_at dksX0_worlds_1 11 rfl rfl)
theorem dX0_worlds_37 : decode cX0_worlds 37 = .ok (.iload_n 3, 1) := dk_29 (dk_at dksX0_worlds_1 14 rfl rfl)
theorem dX0_worlds_38 : decode cX0_worlds 38 = .ok (.baload, 1) := dk_51 (dk_at dksX0_worlds_1 15 rfl rfl)
theorem dX0_worlds_39 : decode cX0_worlds 39 = .ok (.ifCond .eq 17, 3) := dk_153 0 17 (dk_at dksX0_worlds_1 16 rfl rfl)
theorem dX0_worlds_42 : decode cX0_worlds 42 = .ok (.goto 11, 3) := dk_167 0 11 (dk_at dksX0_worlds_1 19 rfl rfl)
theorem dX0_worlds_45 : decode cX0_worlds 45 = .ok (.aload_n 0, 1) := dk_42 (dk_at dksX0_worlds_1 22 rfl rfl)
theorem dX0_worlds_46 : decode cX0_worlds 46 = .ok (.iload_n 3, 1) := dk_29 (dk_at dksX0_worlds_1 23 rfl rfl)
theorem dX0_worlds_47 : decode cX0_worlds 47 = .ok (.invokevirtual 347, 3) := dk_182 1 91 (dk_at dksX0_worlds_2 0 rfl rfl)
theorem dX0_worlds_50 : decode cX0_worlds 50 = .ok (.ifCond .eq 6, 3) := dk_153 0 6 (dk_at dksX0_worlds_2 3 rfl rfl)
theorem dX0_worlds_53 : decode cX0_worlds 53 = .ok (.iinc 2 1, 3) := dk_132 2 1 (dk_at dksX0_worlds_2 6 rfl rfl)
theorem dX0_worlds_56 : decode cX0_worlds 56 = .ok (.iinc 3 1, 3) := dk_132 3 1 (dk_at dksX0_worlds_2 9 rfl rfl)
theorem dX0_worlds_59 : decode cX0_worlds 59 = .ok (.goto (-44), 3) := dk_167 255 212 (dk_at dksX0_worlds_2 12 rfl rfl)
theorem dX0_worlds_62 : decode cX0_worlds 62 = .ok (.iload_n 2, 1) := dk_28 (dk_at dksX0_worlds_2 15 rfl rfl)
theorem dX0_worlds_63 : decode cX0_worlds 63 = .ok (.ireturn, 1) := dk_172 (dk_at dksX0_worlds_2 16 rfl rfl)
abbrev cX0_isNow : ByteArray := prog_1_method_14_code
def yX0_isNow : MethodName := ⟨RX0, "isNow", "(I)Z"⟩
def dkwX0_isNow_0 : List UInt8 := [42, 27, 42, 180, 0, 31, 180, 0, 149, 42, 180, 0, 31, 180, 0, 152, 182, 0, 146, 172]
abbrev dktX0_isNow_0 : List UInt8 := dkwX0_isNow_0 ++ []
theorem dksX0_isNow_0 : cX0_isNow.data.toList.drop 0 = dktX0_isNow_0 := by decide +kernel
theorem dX0_isNow_0 : decode cX0_isNow 0 = .ok (.aload_n 0, 1) := dk_42 (dk_at dksX0_isNow_0 0 rfl rfl)
theorem dX0_isNow_1 : decode cX0_isNow 1 = .ok (.iload_n 1, 1) := dk_27 (dk_at dksX0_isNow_0 1 rfl rfl)
theorem dX0_isNow_2 : decode cX0_isNow 2 = .ok (.aload_n 0, 1) := dk_42 (dk_at dksX0_isNow_0 2 rfl rfl)
theorem dX0_isNow_3 : decode cX0_isNow 3 = .ok (.getfield 31, 3) := dk_180 0 31 (dk_at dksX0_isNow_0 3 rfl rfl)
theorem dX0_isNow_6 : decode cX0_isNow 6 = .ok (.getfield 149, 3) := dk_180 0 149 (dk_at dksX0_isNow_0 6 rfl rfl)
theorem dX0_isNow_9 : decode cX0_isNow 9 = .ok (.aload_n 0, 1) := dk_42 (dk_at dksX0_isNow_0 9 rfl rfl)
theorem dX0_isNow_10 : decode cX0_isNow 10 = .ok (.getfield 31, 3) := dk_180 0 31 (dk_at dksX0_isNow_0 10 rfl rfl)
theorem dX0_isNow_13 : decode cX0_isNow 13 = .ok (.getfield 152, 3) := dk_180 0 152 (dk_at dksX0_isNow_0 13 rfl rfl)
theorem dX0_isNow_16 : decode cX0_isNow 16 = .ok (.invokevirtual 146, 3) := dk_182 0 146 (dk_at dksX0_isNow_0 16 rfl rfl)
theorem dX0_isNow_19 : decode cX0_isNow 19 = .ok (.ireturn, 1) := dk_172 (dk_at dksX0_isNow_0 19 rfl rfl)
abbrev cX0_clash : ByteArray := prog_1_method_51_code
def yX0_clash : MethodName := ⟨RX0, "clash", "(II)I"⟩
def dkwX0_clash_3 : List UInt8 := [180, 0, 31, 180, 0, 247, 28, 46, 182, 0, 146, 153, 0, 5, 3, 172, 132, 3, 1, 167, 255, 188, 4, 172]
abbrev dktX0_clash_3 : List UInt8 := dkwX0_clash_3 ++ []
def dkwX0_clash_2 : List UInt8 := [180, 0, 247, 27, 46, 182, 0, 146, 153, 0, 31, 42, 29, 42, 180, 0, 31, 180, 0, 195, 28, 46, 42]
abbrev dktX0_clash_2 : List UInt8 := dkwX0_clash_2 ++ dktX0_clash_3
def dkwX0_clash_1 : List UInt8 := [180, 0, 24, 182, 0, 142, 162, 0, 63, 42, 29, 42, 180, 0, 31, 180, 0, 195, 27, 46, 42, 180, 0, 31]
abbrev dktX0_clash_1 : List UInt8 := dkwX0_clash_1 ++ dktX0_clash_2
def dkwX0_clash_0 : List UInt8 := [42, 27, 182, 1, 34, 153, 0, 11, 42, 28, 182, 1, 34, 154, 0, 5, 2, 172, 3, 62, 29, 42]
abbrev dktX0_clash_0 : List UInt8 := dkwX0_clash_0 ++ dktX0_clash_1
theorem dksX0_clash_0 : cX0_clash.data.toList.drop 0 = dktX0_clash_0 := by decide +kernel
theorem dksX0_clash_1 : cX0_clash.data.toList.drop 22 = dktX0_clash_1 := dk_seg dksX0_clash_0 22 rfl rfl
theorem dksX0_clash_2 : cX0_clash.data.toList.drop 46 = dktX0_clash_2 := dk_seg dksX0_clash_1 24 rfl rfl
theorem dksX0_clash_3 : cX0_clash.data.toList.drop 69 = dktX0_clash_3 := dk_seg dksX0_clash_2 23 rfl rfl
theorem dX0_clash_0 : decode cX0_clash 0 = .ok (.aload_n 0, 1) := dk_42 (dk_at dksX0_clash_0 0 rfl rfl)
theorem dX0_clash_1 : decode cX0_clash 1 = .ok (.iload_n 1, 1) := dk_27 (dk_at dksX0_clash_0 1 rfl rfl)
theorem dX0_clash_2 : decode cX0_clash 2 = .ok (.invokevirtual 290, 3) := dk_182 1 34 (dk_at dksX0_clash_0 2 rfl rfl)
theorem dX0_clash_5 : decode cX0_clash 5 = .ok (.ifCond .eq 11, 3) := dk_153 0 11 (dk_at dksX0_clash_0 5 rfl rfl)
theorem dX0_clash_8 : decode cX0_clash 8 = .ok (.aload_n 0, 1) := dk_42 (dk_at dksX0_clash_0 8 rfl rfl)
theorem dX0_clash_9 : decode cX0_clash 9 = .ok (.iload_n 2, 1) := dk_28 (dk_at dksX0_clash_0 9 rfl rfl)
theorem dX0_clash_10 : decode cX0_clash 10 = .ok (.invokevirtual 290, 3) := dk_182 1 34 (dk_at dksX0_clash_0 10 rfl rfl)
theorem dX0_clash_13 : decode cX0_clash 13 = .ok (.ifCond .ne 5, 3) := dk_154 0 5 (dk_at dksX0_clash_0 13 rfl rfl)
theorem dX0_clash_16 : decode cX0_clash 16 = .ok (.iconst (-1), 1) := dk_2 (dk_at dksX0_clash_0 16 rfl rfl)
theorem dX0_clash_17 : decode cX0_clash 17 = .ok (.ireturn, 1) := dk_172 (dk_at dksX0_clash_0 17 rfl rfl)
theorem dX0_clash_18 : decode cX0_clash 18 = .ok (.iconst 0, 1) := dk_3 (dk_at dksX0_clash_0 18 rfl rfl)
theorem dX0_clash_19 : decode cX0_clash 19 = .ok (.istore_n 3, 1) := dk_62 (dk_at dksX0_clash_0 19 rfl rfl)
theorem dX0_clash_20 : decode cX0_clash 20 = .ok (.iload_n 3, 1) := dk_29 (dk_at dksX0_clash_0 20 rfl rfl)
theorem dX0_clash_21 : decode cX0_clash 21 = .ok (.aload_n 0, 1) := dk_42 (dk_at dksX0_clash_0 21 rfl rfl)
theorem dX0_clash_22 : decode cX0_clash 22 = .ok (.getfield 24, 3) := dk_180 0 24 (dk_at dksX0_clash_1 0 rfl rfl)
theorem dX0_clash_25 : decode cX0_clash 25 = .ok (.invokevirtual 142, 3) := dk_182 0 142 (dk_at dksX0_clash_1 3 rfl rfl)
theorem dX0_clash_28 : decode cX0_clash 28 = .ok (.if_icmp .ge 63, 3) := dk_162 0 63 (dk_at dksX0_clash_1 6 rfl rfl)
theorem dX0_clash_31 : decode cX0_clash 31 = .ok (.aload_n 0, 1) := dk_42 (dk_at dksX0_clash_1 9 rfl rfl)
theorem dX0_clash_32 : decode cX0_clash 32 = .ok (.iload_n 3, 1) := dk_29 (dk_at dksX0_clash_1 10 rfl rfl)
theorem dX0_clash_33 : decode cX0_clash 33 = .ok (.aload_n 0, 1) := dk_42 (dk_at dksX0_clash_1 11 rfl rfl)
theorem dX0_clash_34 : decode cX0_clash 34 = .ok (.getfield 31, 3) := dk_180 0 31 (dk_at dksX0_clash_1 12 rfl rfl)
theorem dX0_clash_37 : decode cX0_clash 37 = .ok (.getfield 195, 3) := dk_180 0 195 (dk_at dksX0_clash_1 15 rfl rfl)
theorem dX0_clash_40 : decode cX0_clash 40 = .ok (.iload_n 1, 1) := dk_27 (dk_at dksX0_clash_1 18 rfl rfl)
theorem dX0_clash_41 : decode cX0_clash 41 = .ok (.iaload, 1) := dk_46 (dk_at dksX0_clash_1 19 rfl rfl)
theorem dX0_clash_42 : decode cX0_clash 42 = .ok (.aload_n 0, 1) := dk_42 (dk_at dksX0_clash_1 20 rfl rfl)
theorem dX0_clash_43 : decode cX0_clash 43 = .ok (.getfield 31, 3) := dk_180 0 31 (dk_at dksX0_clash_1 21 rfl rfl)
theorem dX0_clash_46 : decode cX0_clash 46 = .ok (.getfield 247, 3) := dk_180 0 247 (dk_at dksX0_clash_2 0 rfl rfl)
theorem dX0_clash_49 : decode cX0_clash 49 = .ok (.iload_n 1, 1) := dk_27 (dk_at dksX0_clash_2 3 rfl rfl)
theorem dX0_clash_50 : decode cX0_clash 50 = .ok (.iaload, 1) := dk_46 (dk_at dksX0_clash_2 4 rfl rfl)
theorem dX0_clash_51 : decode cX0_clash 51 = .ok (.invokevirtual 146, 3) := dk_182 0 146 (dk_at dksX0_clash_2 5 rfl rfl)
theorem dX0_clash_54 : decode cX0_clash 54 = .ok (.ifCond .eq 31, 3) := dk_153 0 31 (dk_at dksX0_clash_2 8 rfl rfl)
theorem dX0_clash_57 : decode cX0_clash 57 = .ok (.aload_n 0, 1) := dk_42 (dk_at dksX0_clash_2 11 rfl rfl)
theorem dX0_clash_58 : decode cX0_clash 58 = .ok (.iload_n 3, 1) := dk_29 (dk_at dksX0_clash_2 12 rfl rfl)
theorem dX0_clash_59 : decode cX0_clash 59 = .ok (.aload_n 0, 1) := dk_42 (dk_at dksX0_clash_2 13 rfl rfl)
theorem dX0_clash_60 : decode cX0_clash 60 = .ok (.getfield 31, 3) := dk_180 0 31 (dk_at dksX0_clash_2 14 rfl rfl)
theorem dX0_clash_63 : decode cX0_clash 63 = .ok (.getfield 195, 3) := dk_180 0 195 (dk_at dksX0_clash_2 17 rfl rfl)
theorem dX0_clash_66 : decode cX0_clash 66 = .ok (.iload_n 2, 1) := dk_28 (dk_at dksX0_clash_2 20 rfl rfl)
theorem dX0_clash_67 : decode cX0_clash 67 = .ok (.iaload, 1) := dk_46 (dk_at dksX0_clash_2 21 rfl rfl)
theorem dX0_clash_68 : decode cX0_clash 68 = .ok (.aload_n 0, 1) := dk_42 (dk_at dksX0_clash_2 22 rfl rfl)
theorem dX0_clash_69 : decode cX0_clash 69 = .ok (.getfield 31, 3) := dk_180 0 31 (dk_at dksX0_clash_3 0 rfl rfl)
theorem dX0_clash_72 : decode cX0_clash 72 = .ok (.getfield 247, 3) := dk_180 0 247 (dk_at dksX0_clash_3 3 rfl rfl)
theorem dX0_clash_75 : decode cX0_clash 75 = .ok (.iload_n 2, 1) := dk_28 (dk_at dksX0_clash_3 6 rfl rfl)
theorem dX0_clash_76 : decode cX0_clash 76 = .ok (.iaload, 1) := dk_46 (dk_at dksX0_clash_3 7 rfl rfl)
theorem dX0_clash_77 : decode cX0_clash 77 = .ok (.invokevirtual 146, 3) := dk_182 0 146 (dk_at dksX0_clash_3 8 rfl rfl)
theorem dX0_clash_80 : decode cX0_clash 80 = .ok (.ifCond .eq 5, 3) := dk_153 0 5 (dk_at dksX0_clash_3 11 rfl rfl)
theorem dX0_clash_83 : decode cX0_clash 83 = .ok (.iconst 0, 1) := dk_3 (dk_at dksX0_clash_3 14 rfl rfl)
theorem dX0_clash_84 : decode cX0_clash 84 = .ok (.ireturn, 1) := dk_172 (dk_at dksX0_clash_3 15 rfl rfl)
theorem dX0_clash_85 : decode cX0_clash 85 = .ok (.iinc 3 1, 3) := dk_132 3 1 (dk_at dksX0_clash_3 16 rfl rfl)
theorem dX0_clash_88 : decode cX0_clash 88 = .ok (.goto (-68), 3) := dk_167 255 188 (dk_at dksX0_clash_3 19 rfl rfl)
theorem dX0_clash_91 : decode cX0_clash 91 = .ok (.iconst 1, 1) := dk_4 (dk_at dksX0_clash_3 22 rfl rfl)
theorem dX0_clash_92 : decode cX0_clash 92 = .ok (.ireturn, 1) := dk_172 (dk_at dksX0_clash_3 23 rfl rfl)
abbrev cX0_implied : ByteArray := prog_1_method_52_code
def yX0_implied : MethodName := ⟨RX0, "implied", "(II)I"⟩
def dkwX0_implied_2 : List UInt8 := [153, 0, 14, 42, 28, 29, 182, 1, 94, 154, 0, 5, 3, 172, 132, 3, 1, 167, 255, 214, 4, 172]
abbrev dktX0_implied_2 : List UInt8 := dkwX0_implied_2 ++ []
def dkwX0_implied_1 : List UInt8 := [180, 0, 24, 182, 0, 142, 162, 0, 37, 42, 29, 182, 1, 91, 153, 0, 23, 42, 27, 29, 182, 1, 94]
abbrev dktX0_implied_1 : List UInt8 := dkwX0_implied_1 ++ dktX0_implied_2
def dkwX0_implied_0 : List UInt8 := [42, 27, 182, 1, 34, 153, 0, 11, 42, 28, 182, 1, 34, 154, 0, 5, 2, 172, 3, 62, 29, 42]
abbrev dktX0_implied_0 : List UInt8 := dkwX0_implied_0 ++ dktX0_implied_1
theorem dksX0_implied_0 : cX0_implied.data.toList.drop 0 = dktX0_implied_0 := by decide +kernel
theorem dksX0_implied_1 : cX0_implied.data.toList.drop 22 = dktX0_implied_1 := dk_seg dksX0_implied_0 22 rfl rfl
theorem dksX0_implied_2 : cX0_implied.data.toList.drop 45 = dktX0_implied_2 := dk_seg dksX0_implied_1 23 rfl rfl
theorem dX0_implied_0 : decode cX0_implied 0 = .ok (.aload_n 0, 1) := dk_42 (dk_at dksX0_implied_0 0 rfl rfl)
theorem dX0_implied_1 : decode cX0_implied 1 = .ok (.iload_n 1, 1) := dk_27 (dk_at dksX0_implied_0 1 rfl rfl)
theorem dX0_implied_2 : decode cX0_implied 2 = .ok (.invokevirtual 290, 3) := dk_182 1 34 (dk_at dksX0_implied_0 2 rfl rfl)
theorem dX0_implied_5 : decode cX0_implied 5 = .ok (.ifCond .eq 11, 3) := dk_153 0 11 (dk_at dksX0_implied_0 5 rfl rfl)
theorem dX0_implied_8 : decode cX0_implied 8 = .ok (.aload_n 0, 1) := dk_42 (dk_at dksX0_implied_0 8 rfl rfl)
theorem dX0_implied_9 : decode cX0_implied 9 = .ok (.iload_n 2, 1) := dk_28 (dk_at dksX0_implied_0 9 rfl rfl)
theorem dX0_implied_10 : decode cX0_implied 10 = .ok (.invokevirtual 290, 3) := dk_182 1 34 (dk_at dksX0_implied_0 10 rfl rfl)
theorem dX0_implied_13 : decode cX0_implied 13 = .ok (.ifCond .ne 5, 3) := dk_154 0 5 (dk_at dksX0_implied_0 13 rfl rfl)
theorem dX0_implied_16 : decode cX0_implied 16 = .ok (.iconst (-1), 1) := dk_2 (dk_at dksX0_implied_0 16 rfl rfl)
theorem dX0_implied_17 : decode cX0_implied 17 = .ok (.ireturn, 1) := dk_172 (dk_at dksX0_implied_0 17 rfl rfl)
theorem dX0_implied_18 : decode cX0_implied 18 = .ok (.iconst 0, 1) := dk_3 (dk_at dksX0_implied_0 18 rfl rfl)
theorem dX0_implied_19 : decode cX0_implied 19 = .ok (.istore_n 3, 1) := dk_62 (dk_at dksX0_implied_0 19 rfl rfl)
theorem dX0_implied_20 : decode cX0_implied 20 = .ok (.iload_n 3, 1) := dk_29 (dk_at dksX0_implied_0 20 rfl rfl)
theorem dX0_implied_21 : decode cX0_implied 21 = .ok (.aload_n 0, 1) := dk_42 (dk_at dksX0_implied_0 21 rfl rfl)
theorem dX0_implied_22 : decode cX0_implied 22 = .ok (.getfield 24, 3) := dk_180 0 24 (dk_at dksX0_implied_1 0 rfl rfl)
theorem dX0_implied_25 : decode cX0_implied 25 = .ok (.invokevirtual 142, 3) := dk_182 0 142 (dk_at dksX0_implied_1 3 rfl rfl)
theorem dX0_implied_28 : decode cX0_implied 28 = .ok (.if_icmp .ge 37, 3) := dk_162 0 37 (dk_at dksX0_implied_1 6 rfl rfl)
theorem dX0_implied_31 : decode cX0_implied 31 = .ok (.aload_n 0, 1) := dk_42 (dk_at dksX0_implied_1 9 rfl rfl)
theorem dX0_implied_32 : decode cX0_implied 32 = .ok (.iload_n 3, 1) := dk_29 (dk_at dksX0_implied_1 10 rfl rfl)
theorem dX0_implied_33 : decode cX0_implied 33 = .ok (.invokevirtual 347, 3) := dk_182 1 91 (dk_at dksX0_implied_1 11 rfl rfl)
theorem dX0_implied_36 : decode cX0_implied 36 = .ok (.ifCond .eq 23, 3) := dk_153 0 23 (dk_at dksX0_implied_1 14 rfl rfl)
theorem dX0_implied_39 : decode cX0_implied 39 = .ok (.aload_n 0, 1) := dk_42 (dk_at dksX0_implied_1 17 rfl rfl)
theorem dX0_implied_40 : decode cX0_implied 40 = .ok (.iload_n 1, 1) := dk_27 (dk_at dksX0_implied_1 18 rfl rfl)
theorem dX0_implied_41 : decode cX0_implied 41 = .ok (.iload_n 3, 1) := dk_29 (dk_at dksX0_implied_1 19 rfl rfl)
theorem dX0_implied_42 : decode cX0_implied 42 = .ok (.invokevirtual 350, 3) := dk_182 1 94 (dk_at dksX0_implied_1 20 rfl rfl)
theorem dX0_implied_45 : decode cX0_implied 45 = .ok (.ifCond .eq 14, 3) := dk_153 0 14 (dk_at dksX0_implied_2 0 rfl rfl)
theorem dX0_implied_48 : decode cX0_implied 48 = .ok (.aload_n 0, 1) := dk_42 (dk_at dksX0_implied_2 3 rfl rfl)
theorem dX0_implied_49 : decode cX0_implied 49 = .ok (.iload_n 2, 1) := dk_28 (dk_at dksX0_implied_2 4 rfl rfl)
theorem dX0_implied_50 : decode cX0_implied 50 = .ok (.iload_n 3, 1) := dk_29 (dk_at dksX0_implied_2 5 rfl rfl)
theorem dX0_implied_51 : decode cX0_implied 51 = .ok (.invokevirtual 350, 3) := dk_182 1 94 (dk_at dksX0_implied_2 6 rfl rfl)
theorem dX0_implied_54 : decode cX0_implied 54 = .ok (.ifCond .ne 5, 3) := dk_154 0 5 (dk_at dksX0_implied_2 9 rfl rfl)
theorem dX0_implied_57 : decode cX0_implied 57 = .ok (.iconst 0, 1) := dk_3 (dk_at dksX0_implied_2 12 rfl rfl)
theorem dX0_implied_58 : decode cX0_implied 58 = .ok (.ireturn, 1) := dk_172 (dk_at dksX0_implied_2 13 rfl rfl)
theorem dX0_implied_59 : decode cX0_implied 59 = .ok (.iinc 3 1, 3) := dk_132 3 1 (dk_at dksX0_implied_2 14 rfl rfl)
theorem dX0_implied_62 : decode cX0_implied 62 = .ok (.goto (-42), 3) := dk_167 255 214 (dk_at dksX0_implied_2 17 rfl rfl)
theorem dX0_implied_65 : decode cX0_implied 65 = .ok (.iconst 1, 1) := dk_4 (dk_at dksX0_implied_2 20 rfl rfl)
theorem dX0_implied_66 : decode cX0_implied 66 = .ok (.ireturn, 1) := dk_172 (dk_at dksX0_implied_2 21 rfl rfl)
abbrev cX0_isWon : ByteArray := prog_1_method_18_code
def yX0_isWon : MethodName := ⟨RX0, "isWon", "(II)Z"⟩
def dkwX0_isWon_2 : List UInt8 := [167, 255, 219, 45, 180, 0, 185, 28, 184, 0, 188, 154, 0, 7, 4, 167, 0, 4, 3, 172]
abbrev dktX0_isWon_2 : List UInt8 := dkwX0_isWon_2 ++ []
def dkwX0_isWon_1 : List UInt8 := [180, 0, 182, 21, 4, 182, 0, 167, 192, 0, 173, 180, 0, 175, 28, 51, 154, 0, 5, 3, 172, 132, 4, 1]
abbrev dktX0_isWon_1 : List UInt8 := dkwX0_isWon_1 ++ dktX0_isWon_2
def dkwX0_isWon_0 : List UInt8 := [42, 27, 182, 0, 178, 78, 3, 54, 4, 21, 4, 45, 180, 0, 182, 182, 0, 159, 162, 0, 31, 45]
abbrev dktX0_isWon_0 : List UInt8 := dkwX0_isWon_0 ++ dktX0_isWon_1
theorem dksX0_isWon_0 : cX0_isWon.data.toList.drop 0 = dktX0_isWon_0 := by decide +kernel
theorem dksX0_isWon_1 : cX0_isWon.data.toList.drop 22 = dktX0_isWon_1 := dk_seg dksX0_isWon_0 22 rfl rfl
theorem dksX0_isWon_2 : cX0_isWon.data.toList.drop 46 = dktX0_isWon_2 := dk_seg dksX0_isWon_1 24 rfl rfl
theorem dX0_isWon_0 : decode cX0_isWon 0 = .ok (.aload_n 0, 1) := dk_42 (dk_at dksX0_isWon_0 0 rfl rfl)
theorem dX0_isWon_1 : decode cX0_isWon 1 = .ok (.iload_n 1, 1) := dk_27 (dk_at dksX0_isWon_0 1 rfl rfl)
theorem dX0_isWon_2 : decode cX0_isWon 2 = .ok (.invokevirtual 178, 3) := dk_182 0 178 (dk_at dksX0_isWon_0 2 rfl rfl)
theorem dX0_isWon_5 : decode cX0_isWon 5 = .ok (.astore_n 3, 1) := dk_78 (dk_at dksX0_isWon_0 5 rfl rfl)
theorem dX0_isWon_6 : decode cX0_isWon 6 = .ok (.iconst 0, 1) := dk_3 (dk_at dksX0_isWon_0 6 rfl rfl)
theorem dX0_isWon_7 : decode cX0_isWon 7 = .ok (.istore 4, 2) := dk_54 4 (dk_at dksX0_isWon_0 7 rfl rfl)
theorem dX0_isWon_9 : decode cX0_isWon 9 = .ok (.iload 4, 2) := dk_21 4 (dk_at dksX0_isWon_0 9 rfl rfl)
theorem dX0_isWon_11 : decode cX0_isWon 11 = .ok (.aload_n 3, 1) := dk_45 (dk_at dksX0_isWon_0 11 rfl rfl)
theorem dX0_isWon_12 : decode cX0_isWon 12 = .ok (.getfield 182, 3) := dk_180 0 182 (dk_at dksX0_isWon_0 12 rfl rfl)
theorem dX0_isWon_15 : decode cX0_isWon 15 = .ok (.invokevirtual 159, 3) := dk_182 0 159 (dk_at dksX0_isWon_0 15 rfl rfl)
theorem dX0_isWon_18 : decode cX0_isWon 18 = .ok (.if_icmp .ge 31, 3) := dk_162 0 31 (dk_at dksX0_isWon_0 18 rfl rfl)
theorem dX0_isWon_21 : decode cX0_isWon 21 = .ok (.aload_n 3, 1) := dk_45 (dk_at dksX0_isWon_0 21 rfl rfl)
theorem dX0_isWon_22 : decode cX0_isWon 22 = .ok (.getfield 182, 3) := dk_180 0 182 (dk_at dksX0_isWon_1 0 rfl rfl)
theorem dX0_isWon_25 : decode cX0_isWon 25 = .ok (.iload 4, 2) := dk_21 4 (dk_at dksX0_isWon_1 3 rfl rfl)
theorem dX0_isWon_27 : decode cX0_isWon 27 = .ok (.invokevirtual 167, 3) := dk_182 0 167 (dk_at dksX0_isWon_1 5 rfl rfl)
theorem dX0_isWon_30 : decode cX0_isWon 30 = .ok (.checkcast 173, 3) := dk_192 0 173 (dk_at dksX0_isWon_1 8 rfl rfl)
theorem dX0_isWon_33 : decode cX0_isWon 33 = .ok (.getfield 175, 3) := dk_180 0 175 (dk_at dksX0_isWon_1 11 rfl rfl)
theorem dX0_isWon_36 : decode cX0_isWon 36 = .ok (.iload_n 2, 1) := dk_28 (dk_at dksX0_isWon_1 14 rfl rfl)
theorem dX0_isWon_37 : decode cX0_isWon 37 = .ok (.baload, 1) := dk_51 (dk_at dksX0_isWon_1 15 rfl rfl)
theorem dX0_isWon_38 : decode cX0_isWon 38 = .ok (.ifCond .ne 5, 3) := dk_154 0 5 (dk_at dksX0_isWon_1 16 rfl rfl)
theorem dX0_isWon_41 : decode cX0_isWon 41 = .ok (.iconst 0, 1) := dk_3 (dk_at dksX0_isWon_1 19 rfl rfl)
theorem dX0_isWon_42 : decode cX0_isWon 42 = .ok (.ireturn, 1) := dk_172 (dk_at dksX0_isWon_1 20 rfl rfl)
theorem dX0_isWon_43 : decode cX0_isWon 43 = .ok (.iinc 4 1, 3) := dk_132 4 1 (dk_at dksX0_isWon_1 21 rfl rfl)
theorem dX0_isWon_46 : decode cX0_isWon 46 = .ok (.goto (-37), 3) := dk_167 255 219 (dk_at dksX0_isWon_2 0 rfl rfl)
theorem dX0_isWon_49 : decode cX0_isWon 49 = .ok (.aload_n 3, 1) := dk_45 (dk_at dksX0_isWon_2 3 rfl rfl)
theorem dX0_isWon_50 : decode cX0_isWon 50 = .ok (.getfield 185, 3) := dk_180 0 185 (dk_at dksX0_isWon_2 4 rfl rfl)
theorem dX0_isWon_53 : decode cX0_isWon 53 = .ok (.iload_n 2, 1) := dk_28 (dk_at dksX0_isWon_2 7 rfl rfl)
theorem dX0_isWon_54 : decode cX0_isWon 54 = .ok (.invokestatic 188, 3) := dk_184 0 188 (dk_at dksX0_isWon_2 8 rfl rfl)
theorem dX0_isWon_57 : decode cX0_isWon 57 = .ok (.ifCond .ne 7, 3) := dk_154 0 7 (dk_at dksX0_isWon_2 11 rfl rfl)
theorem dX0_isWon_60 : decode cX0_isWon 60 = .ok (.iconst 1, 1) := dk_4 (dk_at dksX0_isWon_2 14 rfl rfl)
theorem dX0_isWon_61 : decode cX0_isWon 61 = .ok (.goto 4, 3) := dk_167 0 4 (dk_at dksX0_isWon_2 15 rfl rfl)
theorem dX0_isWon_64 : decode cX0_isWon 64 = .ok (.iconst 0, 1) := dk_3 (dk_at dksX0_isWon_2 18 rfl rfl)
theorem dX0_isWon_65 : decode cX0_isWon 65 = .ok (.ireturn, 1) := dk_172 (dk_at dksX0_isWon_2 19 rfl rfl)
abbrev cX0_holdsAny : ByteArray := prog_1_method_17_code
def yX0_holdsAny : MethodName := ⟨RX0, "holdsAny", "(Ljava/util/ArrayList;I)Z"⟩
def dkwX0_holdsAny_1 : List UInt8 := [153, 0, 5, 4, 172, 132, 2, 1, 167, 255, 227, 3, 172]
abbrev dktX0_holdsAny_1 : List UInt8 := dkwX0_holdsAny_1 ++ []
def dkwX0_holdsAny_0 : List UInt8 := [3, 61, 28, 42, 182, 0, 159, 162, 0, 27, 42, 28, 182, 0, 167, 192, 0, 173, 180, 0, 175, 27, 51]
abbrev dktX0_holdsAny_0 : List UInt8 := dkwX0_holdsAny_0 ++ dktX0_holdsAny_1
theorem dksX0_holdsAny_0 : cX0_holdsAny.data.toList.drop 0 = dktX0_holdsAny_0 := by decide +kernel
theorem dksX0_holdsAny_1 : cX0_holdsAny.data.toList.drop 23 = dktX0_holdsAny_1 := dk_seg dksX0_holdsAny_0 23 rfl rfl
theorem dX0_holdsAny_0 : decode cX0_holdsAny 0 = .ok (.iconst 0, 1) := dk_3 (dk_at dksX0_holdsAny_0 0 rfl rfl)
theorem dX0_holdsAny_1 : decode cX0_holdsAny 1 = .ok (.istore_n 2, 1) := dk_61 (dk_at dksX0_holdsAny_0 1 rfl rfl)
theorem dX0_holdsAny_2 : decode cX0_holdsAny 2 = .ok (.iload_n 2, 1) := dk_28 (dk_at dksX0_holdsAny_0 2 rfl rfl)
theorem dX0_holdsAny_3 : decode cX0_holdsAny 3 = .ok (.aload_n 0, 1) := dk_42 (dk_at dksX0_holdsAny_0 3 rfl rfl)
theorem dX0_holdsAny_4 : decode cX0_holdsAny 4 = .ok (.invokevirtual 159, 3) := dk_182 0 159 (dk_at dksX0_holdsAny_0 4 rfl rfl)
theorem dX0_holdsAny_7 : decode cX0_holdsAny 7 = .ok (.if_icmp .ge 27, 3) := dk_162 0 27 (dk_at dksX0_holdsAny_0 7 rfl rfl)
theorem dX0_holdsAny_10 : decode cX0_holdsAny 10 = .ok (.aload_n 0, 1) := dk_42 (dk_at dksX0_holdsAny_0 10 rfl rfl)
theorem dX0_holdsAny_11 : decode cX0_holdsAny 11 = .ok (.iload_n 2, 1) := dk_28 (dk_at dksX0_holdsAny_0 11 rfl rfl)
theorem dX0_holdsAny_12 : decode cX0_holdsAny 12 = .ok (.invokevirtual 167, 3) := dk_182 0 167 (dk_at dksX0_holdsAny_0 12 rfl rfl)
theorem dX0_holdsAny_15 : decode cX0_holdsAny 15 = .ok (.checkcast 173, 3) := dk_192 0 173 (dk_at dksX0_holdsAny_0 15 rfl rfl)
theorem dX0_holdsAny_18 : decode cX0_holdsAny 18 = .ok (.getfield 175, 3) := dk_180 0 175 (dk_at dksX0_holdsAny_0 18 rfl rfl)
theorem dX0_holdsAny_21 : decode cX0_holdsAny 21 = .ok (.iload_n 1, 1) := dk_27 (dk_at dksX0_holdsAny_0 21 rfl rfl)
theorem dX0_holdsAny_22 : decode cX0_holdsAny 22 = .ok (.baload, 1) := dk_51 (dk_at dksX0_holdsAny_0 22 rfl rfl)
theorem dX0_holdsAny_23 : decode cX0_holdsAny 23 = .ok (.ifCond .eq 5, 3) := dk_153 0 5 (dk_at dksX0_holdsAny_1 0 rfl rfl)
theorem dX0_holdsAny_26 : decode cX0_holdsAny 26 = .ok (.iconst 1, 1) := dk_4 (dk_at dksX0_holdsAny_1 3 rfl rfl)
theorem dX0_holdsAny_27 : decode cX0_holdsAny 27 = .ok (.ireturn, 1) := dk_172 (dk_at dksX0_holdsAny_1 4 rfl rfl)
theorem dX0_holdsAny_28 : decode cX0_holdsAny 28 = .ok (.iinc 2 1, 3) := dk_132 2 1 (dk_at dksX0_holdsAny_1 5 rfl rfl)
theorem dX0_holdsAny_31 : decode cX0_holdsAny 31 = .ok (.goto (-29), 3) := dk_167 255 227 (dk_at dksX0_holdsAny_1 8 rfl rfl)
theorem dX0_holdsAny_34 : decode cX0_holdsAny 34 = .ok (.iconst 0, 1) := dk_3 (dk_at dksX0_holdsAny_1 11 rfl rfl)
theorem dX0_holdsAny_35 : decode cX0_holdsAny 35 = .ok (.ireturn, 1) := dk_172 (dk_at dksX0_holdsAny_1 12 rfl rfl)
abbrev cX0_lacks : ByteArray := prog_1_method_55_code
def yX0_lacks : MethodName := ⟨RX0, "lacks", "(II)I"⟩
def dkwX0_lacks_4 : List UInt8 := [180, 1, 103, 172]
abbrev dktX0_lacks_4 : List UInt8 := dkwX0_lacks_4 ++ []
def dkwX0_lacks_3 : List UInt8 := [42, 180, 1, 100, 184, 0, 198, 167, 0, 19, 28, 4, 160, 0, 10, 42, 180, 1, 100, 167, 0, 7, 42]
abbrev dktX0_lacks_3 : List UInt8 := dkwX0_lacks_3 ++ dktX0_lacks_4
def dkwX0_lacks_2 : List UInt8 := [180, 0, 31, 180, 0, 195, 27, 46, 2, 130, 126, 182, 1, 106, 154, 0, 6, 16, 254, 172, 28, 154, 0, 13]
abbrev dktX0_lacks_2 : List UInt8 := dkwX0_lacks_2 ++ dktX0_lacks_3
def dkwX0_lacks_1 : List UInt8 := [180, 0, 220, 27, 184, 0, 223, 154, 0, 32, 42, 27, 42, 180, 0, 24, 182, 0, 142, 4, 100, 42]
abbrev dktX0_lacks_1 : List UInt8 := dkwX0_lacks_1 ++ dktX0_lacks_2
def dkwX0_lacks_0 : List UInt8 := [42, 27, 182, 1, 34, 153, 0, 12, 28, 3, 5, 184, 0, 96, 154, 0, 5, 2, 172, 42, 180, 0, 31]
abbrev dktX0_lacks_0 : List UInt8 := dkwX0_lacks_0 ++ dktX0_lacks_1
theorem dksX0_lacks_0 : cX0_lacks.data.toList.drop 0 = dktX0_lacks_0 := by decide +kernel
theorem dksX0_lacks_1 : cX0_lacks.data.toList.drop 23 = dktX0_lacks_1 := dk_seg dksX0_lacks_0 23 rfl rfl
theorem dksX0_lacks_2 : cX0_lacks.data.toList.drop 45 = dktX0_lacks_2 := dk_seg dksX0_lacks_1 22 rfl rfl
theorem dksX0_lacks_3 : cX0_lacks.data.toList.drop 69 = dktX0_lacks_3 := dk_seg dksX0_lacks_2 24 rfl rfl
theorem dksX0_lacks_4 : cX0_lacks.data.toList.drop 92 = dktX0_lacks_4 := dk_seg dksX0_lacks_3 23 rfl rfl
theorem dX0_lacks_0 : decode cX0_lacks 0 = .ok (.aload_n 0, 1) := dk_42 (dk_at dksX0_lacks_0 0 rfl rfl)
theorem dX0_lacks_1 : decode cX0_lacks 1 = .ok (.iload_n 1, 1) := dk_27 (dk_at dksX0_lacks_0 1 rfl rfl)
theorem dX0_lacks_2 : decode cX0_lacks 2 = .ok (.invokevirtual 290, 3) := dk_182 1 34 (dk_at dksX0_lacks_0 2 rfl rfl)
theorem dX0_lacks_5 : decode cX0_lacks 5 = .ok (.ifCond .eq 12, 3) := dk_153 0 12 (dk_at dksX0_lacks_0 5 rfl rfl)
theorem dX0_lacks_8 : decode cX0_lacks 8 = .ok (.iload_n 2, 1) := dk_28 (dk_at dksX0_lacks_0 8 rfl rfl)
theorem dX0_lacks_9 : decode cX0_lacks 9 = .ok (.iconst 0, 1) := dk_3 (dk_at dksX0_lacks_0 9 rfl rfl)
theorem dX0_lacks_10 : decode cX0_lacks 10 = .ok (.iconst 2, 1) := dk_5 (dk_at dksX0_lacks_0 10 rfl rfl)
theorem dX0_lacks_11 : decode cX0_lacks 11 = .ok (.invokestatic 96, 3) := dk_184 0 96 (dk_at dksX0_lacks_0 11 rfl rfl)
theorem dX0_lacks_14 : decode cX0_lacks 14 = .ok (.ifCond .ne 5, 3) := dk_154 0 5 (dk_at dksX0_lacks_0 14 rfl rfl)
theorem dX0_lacks_17 : decode cX0_lacks 17 = .ok (.iconst (-1), 1) := dk_2 (dk_at dksX0_lacks_0 17 rfl rfl)
theorem dX0_lacks_18 : decode cX0_lacks 18 = .ok (.ireturn, 1) := dk_172 (dk_at dksX0_lacks_0 18 rfl rfl)
theorem dX0_lacks_19 : decode cX0_lacks 19 = .ok (.aload_n 0, 1) := dk_42 (dk_at dksX0_lacks_0 19 rfl rfl)
theorem dX0_lacks_20 : decode cX0_lacks 20 = .ok (.getfield 31, 3) := dk_180 0 31 (dk_at dksX0_lacks_0 20 rfl rfl)
theorem dX0_lacks_23 : decode cX0_lacks 23 = .ok (.getfield 220, 3) := dk_180 0 220 (dk_at dksX0_lacks_1 0 rfl rfl)
theorem dX0_lacks_26 : decode cX0_lacks 26 = .ok (.iload_n 1, 1) := dk_27 (dk_at dksX0_lacks_1 3 rfl rfl)
theorem dX0_lacks_27 : decode cX0_lacks 27 = .ok (.invokestatic 223, 3) := dk_184 0 223 (dk_at dksX0_lacks_1 4 rfl rfl)
theorem dX0_lacks_30 : decode cX0_lacks 30 = .ok (.ifCond .ne 32, 3) := dk_154 0 32 (dk_at dksX0_lacks_1 7 rfl rfl)
theorem dX0_lacks_33 : decode cX0_lacks 33 = .ok (.aload_n 0, 1) := dk_42 (dk_at dksX0_lacks_1 10 rfl rfl)
theorem dX0_lacks_34 : decode cX0_lacks 34 = .ok (.iload_n 1, 1) := dk_27 (dk_at dksX0_lacks_1 11 rfl rfl)
theorem dX0_lacks_35 : decode cX0_lacks 35 = .ok (.aload_n 0, 1) := dk_42 (dk_at dksX0_lacks_1 12 rfl rfl)
theorem dX0_lacks_36 : decode cX0_lacks 36 = .ok (.getfield 24, 3) := dk_180 0 24 (dk_at dksX0_lacks_1 13 rfl rfl)
theorem dX0_lacks_39 : decode cX0_lacks 39 = .ok (.invokevirtual 142, 3) := dk_182 0 142 (dk_at dksX0_lacks_1 16 rfl rfl)
theorem dX0_lacks_42 : decode cX0_lacks 42 = .ok (.iconst 1, 1) := dk_4 (dk_at dksX0_lacks_1 19 rfl rfl)
theorem dX0_lacks_43 : decode cX0_lacks 43 = .ok (.isub, 1) := dk_100 (dk_at dksX0_lacks_1 20 rfl rfl)
theorem dX0_lacks_44 : decode cX0_lacks 44 = .ok (.aload_n 0, 1) := dk_42 (dk_at dksX0_lacks_1 21 rfl rfl)
theorem dX0_lacks_45 : decode cX0_lacks 45 = .ok (.getfield 31, 3) := dk_180 0 31 (dk_at dksX0_lacks_2 0 rfl rfl)
theorem dX0_lacks_48 : decode cX0_lacks 48 = .ok (.getfield 195, 3) := dk_180 0 195 (dk_at dksX0_lacks_2 3 rfl rfl)
theorem dX0_lacks_51 : decode cX0_lacks 51 = .ok (.iload_n 1, 1) := dk_27 (dk_at dksX0_lacks_2 6 rfl rfl)
theorem dX0_lacks_52 : decode cX0_lacks 52 = .ok (.iaload, 1) := dk_46 (dk_at dksX0_lacks_2 7 rfl rfl)
theorem dX0_lacks_53 : decode cX0_lacks 53 = .ok (.iconst (-1), 1) := dk_2 (dk_at dksX0_lacks_2 8 rfl rfl)
theorem dX0_lacks_54 : decode cX0_lacks 54 = .ok (.ixor, 1) := dk_130 (dk_at dksX0_lacks_2 9 rfl rfl)
theorem dX0_lacks_55 : decode cX0_lacks 55 = .ok (.iand, 1) := dk_126 (dk_at dksX0_lacks_2 10 rfl rfl)
theorem dX0_lacks_56 : decode cX0_lacks 56 = .ok (.invokevirtual 362, 3) := dk_182 1 106 (dk_at dksX0_lacks_2 11 rfl rfl)
theorem dX0_lacks_59 : decode cX0_lacks 59 = .ok (.ifCond .ne 6, 3) := dk_154 0 6 (dk_at dksX0_lacks_2 14 rfl rfl)
theorem dX0_lacks_62 : decode cX0_lacks 62 = .ok (.bipush (-2), 2) := dk_16 254 (dk_at dksX0_lacks_2 17 rfl rfl)
theorem dX0_lacks_64 : decode cX0_lacks 64 = .ok (.ireturn, 1) := dk_172 (dk_at dksX0_lacks_2 19 rfl rfl)
theorem dX0_lacks_65 : decode cX0_lacks 65 = .ok (.iload_n 2, 1) := dk_28 (dk_at dksX0_lacks_2 20 rfl rfl)
theorem dX0_lacks_66 : decode cX0_lacks 66 = .ok (.ifCond .ne 13, 3) := dk_154 0 13 (dk_at dksX0_lacks_2 21 rfl rfl)
theorem dX0_lacks_69 : decode cX0_lacks 69 = .ok (.aload_n 0, 1) := dk_42 (dk_at dksX0_lacks_3 0 rfl rfl)
theorem dX0_lacks_70 : decode cX0_lacks 70 = .ok (.getfield 356, 3) := dk_180 1 100 (dk_at dksX0_lacks_3 1 rfl rfl)
theorem dX0_lacks_73 : decode cX0_lacks 73 = .ok (.invokestatic 198, 3) := dk_184 0 198 (dk_at dksX0_lacks_3 4 rfl rfl)
theorem dX0_lacks_76 : decode cX0_lacks 76 = .ok (.goto 19, 3) := dk_167 0 19 (dk_at dksX0_lacks_3 7 rfl rfl)
theorem dX0_lacks_79 : decode cX0_lacks 79 = .ok (.iload_n 2, 1) := dk_28 (dk_at dksX0_lacks_3 10 rfl rfl)
theorem dX0_lacks_80 : decode cX0_lacks 80 = .ok (.iconst 1, 1) := dk_4 (dk_at dksX0_lacks_3 11 rfl rfl)
theorem dX0_lacks_81 : decode cX0_lacks 81 = .ok (.if_icmp .ne 10, 3) := dk_160 0 10 (dk_at dksX0_lacks_3 12 rfl rfl)
theorem dX0_lacks_84 : decode cX0_lacks 84 = .ok (.aload_n 0, 1) := dk_42 (dk_at dksX0_lacks_3 15 rfl rfl)
theorem dX0_lacks_85 : decode cX0_lacks 85 = .ok (.getfield 356, 3) := dk_180 1 100 (dk_at dksX0_lacks_3 16 rfl rfl)
theorem dX0_lacks_88 : decode cX0_lacks 88 = .ok (.goto 7, 3) := dk_167 0 7 (dk_at dksX0_lacks_3 19 rfl rfl)
theorem dX0_lacks_91 : decode cX0_lacks 91 = .ok (.aload_n 0, 1) := dk_42 (dk_at dksX0_lacks_3 22 rfl rfl)
theorem dX0_lacks_92 : decode cX0_lacks 92 = .ok (.getfield 359, 3) := dk_180 1 103 (dk_at dksX0_lacks_4 0 rfl rfl)
theorem dX0_lacks_95 : decode cX0_lacks 95 = .ok (.ireturn, 1) := dk_172 (dk_at dksX0_lacks_4 3 rfl rfl)
abbrev cX0_hasLack : ByteArray := prog_1_method_53_code
def yX0_hasLack : MethodName := ⟨RX0, "hasLack", "(II)Z"⟩
def dkwX0_hasLack_2 : List UInt8 := [182, 1, 97, 153, 0, 5, 4, 172, 132, 4, 1, 167, 255, 211, 132, 3, 1, 167, 255, 196, 3, 172]
abbrev dktX0_hasLack_2 : List UInt8 := dkwX0_hasLack_2 ++ []
def dkwX0_hasLack_1 : List UInt8 := [21, 4, 28, 2, 130, 126, 154, 0, 24, 21, 4, 184, 0, 198, 29, 160, 0, 15, 42, 27, 21, 4]
abbrev dktX0_hasLack_1 : List UInt8 := dkwX0_hasLack_1 ++ dktX0_hasLack_2
def dkwX0_hasLack_0 : List UInt8 := [3, 62, 29, 16, 8, 163, 0, 60, 3, 54, 4, 21, 4, 42, 180, 0, 24, 182, 0, 142, 162, 0, 39]
abbrev dktX0_hasLack_0 : List UInt8 := dkwX0_hasLack_0 ++ dktX0_hasLack_1
theorem dksX0_hasLack_0 : cX0_hasLack.data.toList.drop 0 = dktX0_hasLack_0 := by decide +kernel
theorem dksX0_hasLack_1 : cX0_hasLack.data.toList.drop 23 = dktX0_hasLack_1 := dk_seg dksX0_hasLack_0 23 rfl rfl
theorem dksX0_hasLack_2 : cX0_hasLack.data.toList.drop 45 = dktX0_hasLack_2 := dk_seg dksX0_hasLack_1 22 rfl rfl
theorem dX0_hasLack_0 : decode cX0_hasLack 0 = .ok (.iconst 0, 1) := dk_3 (dk_at dksX0_hasLack_0 0 rfl rfl)
theorem dX0_hasLack_1 : decode cX0_hasLack 1 = .ok (.istore_n 3, 1) := dk_62 (dk_at dksX0_hasLack_0 1 rfl rfl)
theorem dX0_hasLack_2 : decode cX0_hasLack 2 = .ok (.iload_n 3, 1) := dk_29 (dk_at dksX0_hasLack_0 2 rfl rfl)
theorem dX0_hasLack_3 : decode cX0_hasLack 3 = .ok (.bipush 8, 2) := dk_16 8 (dk_at dksX0_hasLack_0 3 rfl rfl)
theorem dX0_hasLack_5 : decode cX0_hasLack 5 = .ok (.if_icmp .gt 60, 3) := dk_163 0 60 (dk_at dksX0_hasLack_0 5 rfl rfl)
theorem dX0_hasLack_8 : decode cX0_hasLack 8 = .ok (.iconst 0, 1) := dk_3 (dk_at dksX0_hasLack_0 8 rfl rfl)
theorem dX0_hasLack_9 : decode cX0_hasLack 9 = .ok (.istore 4, 2) := dk_54 4 (dk_at dksX0_hasLack_0 9 rfl rfl)
theorem dX0_hasLack_11 : decode cX0_hasLack 11 = .ok (.iload 4, 2) := dk_21 4 (dk_at dksX0_hasLack_0 11 rfl rfl)
theorem dX0_hasLack_13 : decode cX0_hasLack 13 = .ok (.aload_n 0, 1) := dk_42 (dk_at dksX0_hasLack_0 13 rfl rfl)
theorem dX0_hasLack_14 : decode cX0_hasLack 14 = .ok (.getfield 24, 3) := dk_180 0 24 (dk_at dksX0_hasLack_0 14 rfl rfl)
theorem dX0_hasLack_17 : decode cX0_hasLack 17 = .ok (.invokevirtual 142, 3) := dk_182 0 142 (dk_at dksX0_hasLack_0 17 rfl rfl)
theorem dX0_hasLack_20 : decode cX0_hasLack 20 = .ok (.if_icmp .ge 39, 3) := dk_162 0 39 (dk_at dksX0_hasLack_0 20 rfl rfl)
theorem dX0_hasLack_23 : decode cX0_hasLack 23 = .ok (.iload 4, 2) := dk_21 4 (dk_at dksX0_hasLack_1 0 rfl rfl)
theorem dX0_hasLack_25 : decode cX0_hasLack 25 = .ok (.iload_n 2, 1) := dk_28 (dk_at dksX0_hasLack_1 2 rfl rfl)
theorem dX0_hasLack_26 : decode cX0_hasLack 26 = .ok (.iconst (-1), 1) := dk_2 (dk_at dksX0_hasLack_1 3 rfl rfl)
theorem dX0_hasLack_27 : decode cX0_hasLack 27 = .ok (.ixor, 1) := dk_130 (dk_at dksX0_hasLack_1 4 rfl rfl)
theorem dX0_hasLack_28 : decode cX0_hasLack 28 = .ok (.iand, 1) := dk_126 (dk_at dksX0_hasLack_1 5 rfl rfl)
theorem dX0_hasLack_29 : decode cX0_hasLack 29 = .ok (.ifCond .ne 24, 3) := dk_154 0 24 (dk_at dksX0_hasLack_1 6 rfl rfl)
theorem dX0_hasLack_32 : decode cX0_hasLack 32 = .ok (.iload 4, 2) := dk_21 4 (dk_at dksX0_hasLack_1 9 rfl rfl)
theorem dX0_hasLack_34 : decode cX0_hasLack 34 = .ok (.invokestatic 198, 3) := dk_184 0 198 (dk_at dksX0_hasLack_1 11 rfl rfl)
theorem dX0_hasLack_37 : decode cX0_hasLack 37 = .ok (.iload_n 3, 1) := dk_29 (dk_at dksX0_hasLack_1 14 rfl rfl)
theorem dX0_hasLack_38 : decode cX0_hasLack 38 = .ok (.if_icmp .ne 15, 3) := dk_160 0 15 (dk_at dksX0_hasLack_1 15 rfl rfl)
theorem dX0_hasLack_41 : decode cX0_hasLack 41 = .ok (.aload_n 0, 1) := dk_42 (dk_at dksX0_hasLack_1 18 rfl rfl)
theorem dX0_hasLack_42 : decode cX0_hasLack 42 = .ok (.iload_n 1, 1) := dk_27 (dk_at dksX0_hasLack_1 19 rfl rfl)
theorem dX0_hasLack_43 : decode cX0_hasLack 43 = .ok (.iload 4, 2) := dk_21 4 (dk_at dksX0_hasLack_1 20 rfl rfl)
theorem dX0_hasLack_45 : decode cX0_hasLack 45 = .ok (.invokevirtual 353, 3) := dk_182 1 97 (dk_at dksX0_hasLack_2 0 rfl rfl)
theorem dX0_hasLack_48 : decode cX0_hasLack 48 = .ok (.ifCond .eq 5, 3) := dk_153 0 5 (dk_at dksX0_hasLack_2 3 rfl rfl)
theorem dX0_hasLack_51 : decode cX0_hasLack 51 = .ok (.iconst 1, 1) := dk_4 (dk_at dksX0_hasLack_2 6 rfl rfl)
theorem dX0_hasLack_52 : decode cX0_hasLack 52 = .ok (.ireturn, 1) := dk_172 (dk_at dksX0_hasLack_2 7 rfl rfl)
theorem dX0_hasLack_53 : decode cX0_hasLack 53 = .ok (.iinc 4 1, 3) := dk_132 4 1 (dk_at dksX0_hasLack_2 8 rfl rfl)
theorem dX0_hasLack_56 : decode cX0_hasLack 56 = .ok (.goto (-45), 3) := dk_167 255 211 (dk_at dksX0_hasLack_2 11 rfl rfl)
theorem dX0_hasLack_59 : decode cX0_hasLack 59 = .ok (.iinc 3 1, 3) := dk_132 3 1 (dk_at dksX0_hasLack_2 14 rfl rfl)
theorem dX0_hasLack_62 : decode cX0_hasLack 62 = .ok (.goto (-60), 3) := dk_167 255 196 (dk_at dksX0_hasLack_2 17 rfl rfl)
theorem dX0_hasLack_65 : decode cX0_hasLack 65 = .ok (.iconst 0, 1) := dk_3 (dk_at dksX0_hasLack_2 20 rfl rfl)
theorem dX0_hasLack_66 : decode cX0_hasLack 66 = .ok (.ireturn, 1) := dk_172 (dk_at dksX0_hasLack_2 21 rfl rfl)
abbrev cX0_lacksBy : ByteArray := prog_1_method_54_code
def yX0_lacksBy : MethodName := ⟨RX0, "lacksBy", "(II)Z"⟩
def dkwX0_lacksBy_3 : List UInt8 := [167, 0, 15, 42, 28, 181, 1, 100, 42, 29, 181, 1, 103, 4, 172, 132, 3, 1, 167, 255, 170, 3, 172]
abbrev dktX0_lacksBy_3 : List UInt8 := dkwX0_lacksBy_3 ++ []
def dkwX0_lacksBy_2 : List UInt8 := [180, 0, 195, 27, 46, 28, 128, 42, 180, 0, 31, 180, 0, 247, 27, 46, 29, 128, 182, 0, 250, 153, 0, 6]
abbrev dktX0_lacksBy_2 : List UInt8 := dkwX0_lacksBy_2 ++ dktX0_lacksBy_3
def dkwX0_lacksBy_1 : List UInt8 := [28, 126, 42, 180, 0, 31, 180, 0, 149, 126, 153, 0, 6, 167, 0, 48, 42, 27, 42, 180, 0, 31]
abbrev dktX0_lacksBy_1 : List UInt8 := dkwX0_lacksBy_1 ++ dktX0_lacksBy_2
def dkwX0_lacksBy_0 : List UInt8 := [3, 62, 29, 28, 163, 0, 87, 29, 28, 2, 130, 126, 154, 0, 73, 29, 42, 180, 0, 31, 180, 0, 152, 130]
abbrev dktX0_lacksBy_0 : List UInt8 := dkwX0_lacksBy_0 ++ dktX0_lacksBy_1
theorem dksX0_lacksBy_0 : cX0_lacksBy.data.toList.drop 0 = dktX0_lacksBy_0 := by decide +kernel
theorem dksX0_lacksBy_1 : cX0_lacksBy.data.toList.drop 24 = dktX0_lacksBy_1 := dk_seg dksX0_lacksBy_0 24 rfl rfl
theorem dksX0_lacksBy_2 : cX0_lacksBy.data.toList.drop 46 = dktX0_lacksBy_2 := dk_seg dksX0_lacksBy_1 22 rfl rfl
theorem dksX0_lacksBy_3 : cX0_lacksBy.data.toList.drop 70 = dktX0_lacksBy_3 := dk_seg dksX0_lacksBy_2 24 rfl rfl
theorem dX0_lacksBy_0 : decode cX0_lacksBy 0 = .ok (.iconst 0, 1) := dk_3 (dk_at dksX0_lacksBy_0 0 rfl rfl)
theorem dX0_lacksBy_1 : decode cX0_lacksBy 1 = .ok (.istore_n 3, 1) := dk_62 (dk_at dksX0_lacksBy_0 1 rfl rfl)
theorem dX0_lacksBy_2 : decode cX0_lacksBy 2 = .ok (.iload_n 3, 1) := dk_29 (dk_at dksX0_lacksBy_0 2 rfl rfl)
theorem dX0_lacksBy_3 : decode cX0_lacksBy 3 = .ok (.iload_n 2, 1) := dk_28 (dk_at dksX0_lacksBy_0 3 rfl rfl)
theorem dX0_lacksBy_4 : decode cX0_lacksBy 4 = .ok (.if_icmp .gt 87, 3) := dk_163 0 87 (dk_at dksX0_lacksBy_0 4 rfl rfl)
theorem dX0_lacksBy_7 : decode cX0_lacksBy 7 = .ok (.iload_n 3, 1) := dk_29 (dk_at dksX0_lacksBy_0 7 rfl rfl)
theorem dX0_lacksBy_8 : decode cX0_lacksBy 8 = .ok (.iload_n 2, 1) := dk_28 (dk_at dksX0_lacksBy_0 8 rfl rfl)
theorem dX0_lacksBy_9 : decode cX0_lacksBy 9 = .ok (.iconst (-1), 1) := dk_2 (dk_at dksX0_lacksBy_0 9 rfl rfl)
theorem dX0_lacksBy_10 : decode cX0_lacksBy 10 = .ok (.ixor, 1) := dk_130 (dk_at dksX0_lacksBy_0 10 rfl rfl)
theorem dX0_lacksBy_11 : decode cX0_lacksBy 11 = .ok (.iand, 1) := dk_126 (dk_at dksX0_lacksBy_0 11 rfl rfl)
theorem dX0_lacksBy_12 : decode cX0_lacksBy 12 = .ok (.ifCond .ne 73, 3) := dk_154 0 73 (dk_at dksX0_lacksBy_0 12 rfl rfl)
theorem dX0_lacksBy_15 : decode cX0_lacksBy 15 = .ok (.iload_n 3, 1) := dk_29 (dk_at dksX0_lacksBy_0 15 rfl rfl)
theorem dX0_lacksBy_16 : decode cX0_lacksBy 16 = .ok (.aload_n 0, 1) := dk_42 (dk_at dksX0_lacksBy_0 16 rfl rfl)
theorem dX0_lacksBy_17 : decode cX0_lacksBy 17 = .ok (.getfield 31, 3) := dk_180 0 31 (dk_at dksX0_lacksBy_0 17 rfl rfl)
theorem dX0_lacksBy_20 : decode cX0_lacksBy 20 = .ok (.getfield 152, 3) := dk_180 0 152 (dk_at dksX0_lacksBy_0 20 rfl rfl)
theorem dX0_lacksBy_23 : decode cX0_lacksBy 23 = .ok (.ixor, 1) := dk_130 (dk_at dksX0_lacksBy_0 23 rfl rfl)
theorem dX0_lacksBy_24 : decode cX0_lacksBy 24 = .ok (.iload_n 2, 1) := dk_28 (dk_at dksX0_lacksBy_1 0 rfl rfl)
theorem dX0_lacksBy_25 : decode cX0_lacksBy 25 = .ok (.iand, 1) := dk_126 (dk_at dksX0_lacksBy_1 1 rfl rfl)
theorem dX0_lacksBy_26 : decode cX0_lacksBy 26 = .ok (.aload_n 0, 1) := dk_42 (dk_at dksX0_lacksBy_1 2 rfl rfl)
theorem dX0_lacksBy_27 : decode cX0_lacksBy 27 = .ok (.getfield 31, 3) := dk_180 0 31 (dk_at dksX0_lacksBy_1 3 rfl rfl)
theorem dX0_lacksBy_30 : decode cX0_lacksBy 30 = .ok (.getfield 149, 3) := dk_180 0 149 (dk_at dksX0_lacksBy_1 6 rfl rfl)
theorem dX0_lacksBy_33 : decode cX0_lacksBy 33 = .ok (.iand, 1) := dk_126 (dk_at dksX0_lacksBy_1 9 rfl rfl)
theorem dX0_lacksBy_34 : decode cX0_lacksBy 34 = .ok (.ifCond .eq 6, 3) := dk_153 0 6 (dk_at dksX0_lacksBy_1 10 rfl rfl)
theorem dX0_lacksBy_37 : decode cX0_lacksBy 37 = .ok (.goto 48, 3) := dk_167 0 48 (dk_at dksX0_lacksBy_1 13 rfl rfl)
theorem dX0_lacksBy_40 : decode cX0_lacksBy 40 = .ok (.aload_n 0, 1) := dk_42 (dk_at dksX0_lacksBy_1 16 rfl rfl)
theorem dX0_lacksBy_41 : decode cX0_lacksBy 41 = .ok (.iload_n 1, 1) := dk_27 (dk_at dksX0_lacksBy_1 17 rfl rfl)
theorem dX0_lacksBy_42 : decode cX0_lacksBy 42 = .ok (.aload_n 0, 1) := dk_42 (dk_at dksX0_lacksBy_1 18 rfl rfl)
theorem dX0_lacksBy_43 : decode cX0_lacksBy 43 = .ok (.getfield 31, 3) := dk_180 0 31 (dk_at dksX0_lacksBy_1 19 rfl rfl)
theorem dX0_lacksBy_46 : decode cX0_lacksBy 46 = .ok (.getfield 195, 3) := dk_180 0 195 (dk_at dksX0_lacksBy_2 0 rfl rfl)
theorem dX0_lacksBy_49 : decode cX0_lacksBy 49 = .ok (.iload_n 1, 1) := dk_27 (dk_at dksX0_lacksBy_2 3 rfl rfl)
theorem dX0_lacksBy_50 : decode cX0_lacksBy 50 = .ok (.iaload, 1) := dk_46 (dk_at dksX0_lacksBy_2 4 rfl rfl)
theorem dX0_lacksBy_51 : decode cX0_lacksBy 51 = .ok (.iload_n 2, 1) := dk_28 (dk_at dksX0_lacksBy_2 5 rfl rfl)
theorem dX0_lacksBy_52 : decode cX0_lacksBy 52 = .ok (.ior, 1) := dk_128 (dk_at dksX0_lacksBy_2 6 rfl rfl)
theorem dX0_lacksBy_53 : decode cX0_lacksBy 53 = .ok (.aload_n 0, 1) := dk_42 (dk_at dksX0_lacksBy_2 7 rfl rfl)
theorem dX0_lacksBy_54 : decode cX0_lacksBy 54 = .ok (.getfield 31, 3) := dk_180 0 31 (dk_at dksX0_lacksBy_2 8 rfl rfl)
theorem dX0_lacksBy_57 : decode cX0_lacksBy 57 = .ok (.getfield 247, 3) := dk_180 0 247 (dk_at dksX0_lacksBy_2 11 rfl rfl)
theorem dX0_lacksBy_60 : decode cX0_lacksBy 60 = .ok (.iload_n 1, 1) := dk_27 (dk_at dksX0_lacksBy_2 14 rfl rfl)
theorem dX0_lacksBy_61 : decode cX0_lacksBy 61 = .ok (.iaload, 1) := dk_46 (dk_at dksX0_lacksBy_2 15 rfl rfl)
theorem dX0_lacksBy_62 : decode cX0_lacksBy 62 = .ok (.iload_n 3, 1) := dk_29 (dk_at dksX0_lacksBy_2 16 rfl rfl)
theorem dX0_lacksBy_63 : decode cX0_lacksBy 63 = .ok (.ior, 1) := dk_128 (dk_at dksX0_lacksBy_2 17 rfl rfl)
theorem dX0_lacksBy_64 : decode cX0_lacksBy 64 = .ok (.invokevirtual 250, 3) := dk_182 0 250 (dk_at dksX0_lacksBy_2 18 rfl rfl)
theorem dX0_lacksBy_67 : decode cX0_lacksBy 67 = .ok (.ifCond .eq 6, 3) := dk_153 0 6 (dk_at dksX0_lacksBy_2 21 rfl rfl)
theorem dX0_lacksBy_70 : decode cX0_lacksBy 70 = .ok (.goto 15, 3) := dk_167 0 15 (dk_at dksX0_lacksBy_3 0 rfl rfl)
theorem dX0_lacksBy_73 : decode cX0_lacksBy 73 = .ok (.aload_n 0, 1) := dk_42 (dk_at dksX0_lacksBy_3 3 rfl rfl)
theorem dX0_lacksBy_74 : decode cX0_lacksBy 74 = .ok (.iload_n 2, 1) := dk_28 (dk_at dksX0_lacksBy_3 4 rfl rfl)
theorem dX0_lacksBy_75 : decode cX0_lacksBy 75 = .ok (.putfield 356, 3) := dk_181 1 100 (dk_at dksX0_lacksBy_3 5 rfl rfl)
theorem dX0_lacksBy_78 : decode cX0_lacksBy 78 = .ok (.aload_n 0, 1) := dk_42 (dk_at dksX0_lacksBy_3 8 rfl rfl)
theorem dX0_lacksBy_79 : decode cX0_lacksBy 79 = .ok (.iload_n 3, 1) := dk_29 (dk_at dksX0_lacksBy_3 9 rfl rfl)
theorem dX0_lacksBy_80 : decode cX0_lacksBy 80 = .ok (.putfield 359, 3) := dk_181 1 103 (dk_at dksX0_lacksBy_3 10 rfl rfl)
theorem dX0_lacksBy_83 : decode cX0_lacksBy 83 = .ok (.iconst 1, 1) := dk_4 (dk_at dksX0_lacksBy_3 13 rfl rfl)
theorem dX0_lacksBy_84 : decode cX0_lacksBy 84 = .ok (.ireturn, 1) := dk_172 (dk_at dksX0_lacksBy_3 14 rfl rfl)
theorem dX0_lacksBy_85 : decode cX0_lacksBy 85 = .ok (.iinc 3 1, 3) := dk_132 3 1 (dk_at dksX0_lacksBy_3 15 rfl rfl)
theorem dX0_lacksBy_88 : decode cX0_lacksBy 88 = .ok (.goto (-86), 3) := dk_167 255 170 (dk_at dksX0_lacksBy_3 18 rfl rfl)
theorem dX0_lacksBy_91 : decode cX0_lacksBy 91 = .ok (.iconst 0, 1) := dk_3 (dk_at dksX0_lacksBy_3 21 rfl rfl)
theorem dX0_lacksBy_92 : decode cX0_lacksBy 92 = .ok (.ireturn, 1) := dk_172 (dk_at dksX0_lacksBy_3 22 rfl rfl)
abbrev cX0_grown : ByteArray := prog_1_method_56_code
def yX0_grown : MethodName := ⟨RX0, "grown", "(II)I"⟩
def dkwX0_grown_2 : List UInt8 := [184, 1, 109, 62, 132, 4, 1, 167, 255, 238, 167, 0, 8, 58, 4, 16, 254, 172, 29, 172]
abbrev dktX0_grown_2 : List UInt8 := dkwX0_grown_2 ++ []
def dkwX0_grown_1 : List UInt8 := [180, 0, 31, 180, 1, 37, 27, 46, 62, 3, 54, 4, 21, 4, 28, 162, 0, 18, 29, 29, 16, 10, 108]
abbrev dktX0_grown_1 : List UInt8 := dkwX0_grown_1 ++ dktX0_grown_2
def dkwX0_grown_0 : List UInt8 := [42, 27, 182, 1, 34, 153, 0, 14, 28, 3, 17, 1, 144, 184, 0, 96, 154, 0, 5, 2, 172, 42]
abbrev dktX0_grown_0 : List UInt8 := dkwX0_grown_0 ++ dktX0_grown_1
theorem dksX0_grown_0 : cX0_grown.data.toList.drop 0 = dktX0_grown_0 := by decide +kernel
theorem dksX0_grown_1 : cX0_grown.data.toList.drop 22 = dktX0_grown_1 := dk_seg dksX0_grown_0 22 rfl rfl
theorem dksX0_grown_2 : cX0_grown.data.toList.drop 45 = dktX0_grown_2 := dk_seg dksX0_grown_1 23 rfl rfl
theorem dX0_grown_0 : decode cX0_grown 0 = .ok (.aload_n 0, 1) := dk_42 (dk_at dksX0_grown_0 0 rfl rfl)
theorem dX0_grown_1 : decode cX0_grown 1 = .ok (.iload_n 1, 1) := dk_27 (dk_at dksX0_grown_0 1 rfl rfl)
theorem dX0_grown_2 : decode cX0_grown 2 = .ok (.invokevirtual 290, 3) := dk_182 1 34 (dk_at dksX0_grown_0 2 rfl rfl)
theorem dX0_grown_5 : decode cX0_grown 5 = .ok (.ifCond .eq 14, 3) := dk_153 0 14 (dk_at dksX0_grown_0 5 rfl rfl)
theorem dX0_grown_8 : decode cX0_grown 8 = .ok (.iload_n 2, 1) := dk_28 (dk_at dksX0_grown_0 8 rfl rfl)
theorem dX0_grown_9 : decode cX0_grown 9 = .ok (.iconst 0, 1) := dk_3 (dk_at dksX0_grown_0 9 rfl rfl)
theorem dX0_grown_10 : decode cX0_grown 10 = .ok (.sipush 400, 3) := dk_17 1 144 (dk_at dksX0_grown_0 10 rfl rfl)
theorem dX0_grown_13 : decode cX0_grown 13 = .ok (.invokestatic 96, 3) := dk_184 0 96 (dk_at dksX0_grown_0 13 rfl rfl)
theorem dX0_grown_16 : decode cX0_grown 16 = .ok (.ifCond .ne 5, 3) := dk_154 0 5 (dk_at dksX0_grown_0 16 rfl rfl)
theorem dX0_grown_19 : decode cX0_grown 19 = .ok (.iconst (-1), 1) := dk_2 (dk_at dksX0_grown_0 19 rfl rfl)
theorem dX0_grown_20 : decode cX0_grown 20 = .ok (.ireturn, 1) := dk_172 (dk_at dksX0_grown_0 20 rfl rfl)
theorem dX0_grown_21 : decode cX0_grown 21 = .ok (.aload_n 0, 1) := dk_42 (dk_at dksX0_grown_0 21 rfl rfl)
theorem dX0_grown_22 : decode cX0_grown 22 = .ok (.getfield 31, 3) := dk_180 0 31 (dk_at dksX0_grown_1 0 rfl rfl)
theorem dX0_grown_25 : decode cX0_grown 25 = .ok (.getfield 293, 3) := dk_180 1 37 (dk_at dksX0_grown_1 3 rfl rfl)
theorem dX0_grown_28 : decode cX0_grown 28 = .ok (.iload_n 1, 1) := dk_27 (dk_at dksX0_grown_1 6 rfl rfl)
theorem dX0_grown_29 : decode cX0_grown 29 = .ok (.iaload, 1) := dk_46 (dk_at dksX0_grown_1 7 rfl rfl)
theorem dX0_grown_30 : decode cX0_grown 30 = .ok (.istore_n 3, 1) := dk_62 (dk_at dksX0_grown_1 8 rfl rfl)
theorem dX0_grown_31 : decode cX0_grown 31 = .ok (.iconst 0, 1) := dk_3 (dk_at dksX0_grown_1 9 rfl rfl)
theorem dX0_grown_32 : decode cX0_grown 32 = .ok (.istore 4, 2) := dk_54 4 (dk_at dksX0_grown_1 10 rfl rfl)
theorem dX0_grown_34 : decode cX0_grown 34 = .ok (.iload 4, 2) := dk_21 4 (dk_at dksX0_grown_1 12 rfl rfl)
theorem dX0_grown_36 : decode cX0_grown 36 = .ok (.iload_n 2, 1) := dk_28 (dk_at dksX0_grown_1 14 rfl rfl)
theorem dX0_grown_37 : decode cX0_grown 37 = .ok (.if_icmp .ge 18, 3) := dk_162 0 18 (dk_at dksX0_grown_1 15 rfl rfl)
theorem dX0_grown_40 : decode cX0_grown 40 = .ok (.iload_n 3, 1) := dk_29 (dk_at dksX0_grown_1 18 rfl rfl)
theorem dX0_grown_41 : decode cX0_grown 41 = .ok (.iload_n 3, 1) := dk_29 (dk_at dksX0_grown_1 19 rfl rfl)
theorem dX0_grown_42 : decode cX0_grown 42 = .ok (.bipush 10, 2) := dk_16 10 (dk_at dksX0_grown_1 20 rfl rfl)
theorem dX0_grown_44 : decode cX0_grown 44 = .ok (.idiv, 1) := dk_108 (dk_at dksX0_grown_1 22 rfl rfl)
theorem dX0_grown_45 : decode cX0_grown 45 = .ok (.invokestatic 365, 3) := dk_184 1 109 (dk_at dksX0_grown_2 0 rfl rfl)
theorem dX0_grown_48 : decode cX0_grown 48 = .ok (.istore_n 3, 1) := dk_62 (dk_at dksX0_grown_2 3 rfl rfl)
theorem dX0_grown_49 : decode cX0_grown 49 = .ok (.iinc 4 1, 3) := dk_132 4 1 (dk_at dksX0_grown_2 4 rfl rfl)
theorem dX0_grown_52 : decode cX0_grown 52 = .ok (.goto (-18), 3) := dk_167 255 238 (dk_at dksX0_grown_2 7 rfl rfl)
theorem dX0_grown_55 : decode cX0_grown 55 = .ok (.goto 8, 3) := dk_167 0 8 (dk_at dksX0_grown_2 10 rfl rfl)
theorem dX0_grown_58 : decode cX0_grown 58 = .ok (.astore 4, 2) := dk_58 4 (dk_at dksX0_grown_2 13 rfl rfl)
theorem dX0_grown_60 : decode cX0_grown 60 = .ok (.bipush (-2), 2) := dk_16 254 (dk_at dksX0_grown_2 15 rfl rfl)
theorem dX0_grown_62 : decode cX0_grown 62 = .ok (.ireturn, 1) := dk_172 (dk_at dksX0_grown_2 17 rfl rfl)
theorem dX0_grown_63 : decode cX0_grown 63 = .ok (.iload_n 3, 1) := dk_29 (dk_at dksX0_grown_2 18 rfl rfl)
theorem dX0_grown_64 : decode cX0_grown 64 = .ok (.ireturn, 1) := dk_172 (dk_at dksX0_grown_2 19 rfl rfl)
abbrev cX0_issues : ByteArray := prog_1_method_60_code
def yX0_issues : MethodName := ⟨RX0, "issues", "(I)I"⟩
def dkwX0_issues_4 : List UInt8 := [132, 4, 1, 167, 255, 193, 132, 3, 1, 167, 255, 173, 28, 172]
abbrev dktX0_issues_4 : List UInt8 := dkwX0_issues_4 ++ []
def dkwX0_issues_3 : List UInt8 := [180, 0, 60, 29, 51, 42, 180, 0, 60, 21, 5, 51, 159, 0, 10, 28, 4, 21, 4, 120, 128, 61]
abbrev dktX0_issues_3 : List UInt8 := dkwX0_issues_3 ++ dktX0_issues_4
def dkwX0_issues_2 : List UInt8 := [21, 4, 120, 130, 54, 5, 42, 29, 182, 1, 91, 153, 0, 35, 42, 21, 5, 182, 1, 91, 153, 0, 26, 42]
abbrev dktX0_issues_2 : List UInt8 := dkwX0_issues_2 ++ dktX0_issues_3
def dkwX0_issues_1 : List UInt8 := [182, 0, 142, 162, 0, 78, 3, 54, 4, 21, 4, 42, 180, 0, 24, 180, 0, 133, 162, 0, 57, 29, 4]
abbrev dktX0_issues_1 : List UInt8 := dkwX0_issues_1 ++ dktX0_issues_2
def dkwX0_issues_0 : List UInt8 := [42, 27, 182, 1, 34, 154, 0, 5, 2, 172, 42, 27, 182, 1, 117, 3, 61, 3, 62, 29, 42, 180, 0, 24]
abbrev dktX0_issues_0 : List UInt8 := dkwX0_issues_0 ++ dktX0_issues_1
theorem dksX0_issues_0 : cX0_issues.data.toList.drop 0 = dktX0_issues_0 := by decide +kernel
theorem dksX0_issues_1 : cX0_issues.data.toList.drop 24 = dktX0_issues_1 := dk_seg dksX0_issues_0 24 rfl rfl
theorem dksX0_issues_2 : cX0_issues.data.toList.drop 47 = dktX0_issues_2 := dk_seg dksX0_issues_1 23 rfl rfl
theorem dksX0_issues_3 : cX0_issues.data.toList.drop 71 = dktX0_issues_3 := dk_seg dksX0_issues_2 24 rfl rfl
theorem dksX0_issues_4 : cX0_issues.data.toList.drop 93 = dktX0_issues_4 := dk_seg dksX0_issues_3 22 rfl rfl
theorem dX0_issues_0 : decode cX0_issues 0 = .ok (.aload_n 0, 1) := dk_42 (dk_at dksX0_issues_0 0 rfl rfl)
theorem dX0_issues_1 : decode cX0_issues 1 = .ok (.iload_n 1, 1) := dk_27 (dk_at dksX0_issues_0 1 rfl rfl)
theorem dX0_issues_2 : decode cX0_issues 2 = .ok (.invokevirtual 290, 3) := dk_182 1 34 (dk_at dksX0_issues_0 2 rfl rfl)
theorem dX0_issues_5 : decode cX0_issues 5 = .ok (.ifCond .ne 5, 3) := dk_154 0 5 (dk_at dksX0_issues_0 5 rfl rfl)
theorem dX0_issues_8 : decode cX0_issues 8 = .ok (.iconst (-1), 1) := dk_2 (dk_at dksX0_issues_0 8 rfl rfl)
theorem dX0_issues_9 : decode cX0_issues 9 = .ok (.ireturn, 1) := dk_172 (dk_at dksX0_issues_0 9 rfl rfl)
theorem dX0_issues_10 : decode cX0_issues 10 = .ok (.aload_n 0, 1) := dk_42 (dk_at dksX0_issues_0 10 rfl rfl)
theorem dX0_issues_11 : decode cX0_issues 11 = .ok (.iload_n 1, 1) := dk_27 (dk_at dksX0_issues_0 11 rfl rfl)
theorem dX0_issues_12 : decode cX0_issues 12 = .ok (.invokevirtual 373, 3) := dk_182 1 117 (dk_at dksX0_issues_0 12 rfl rfl)
theorem dX0_issues_15 : decode cX0_issues 15 = .ok (.iconst 0, 1) := dk_3 (dk_at dksX0_issues_0 15 rfl rfl)
theorem dX0_issues_16 : decode cX0_issues 16 = .ok (.istore_n 2, 1) := dk_61 (dk_at dksX0_issues_0 16 rfl rfl)
theorem dX0_issues_17 : decode cX0_issues 17 = .ok (.iconst 0, 1) := dk_3 (dk_at dksX0_issues_0 17 rfl rfl)
theorem dX0_issues_18 : decode cX0_issues 18 = .ok (.istore_n 3, 1) := dk_62 (dk_at dksX0_issues_0 18 rfl rfl)
theorem dX0_issues_19 : decode cX0_issues 19 = .ok (.iload_n 3, 1) := dk_29 (dk_at dksX0_issues_0 19 rfl rfl)
theorem dX0_issues_20 : decode cX0_issues 20 = .ok (.aload_n 0, 1) := dk_42 (dk_at dksX0_issues_0 20 rfl rfl)
theorem dX0_issues_21 : decode cX0_issues 21 = .ok (.getfield 24, 3) := dk_180 0 24 (dk_at dksX0_issues_0 21 rfl rfl)
theorem dX0_issues_24 : decode cX0_issues 24 = .ok (.invokevirtual 142, 3) := dk_182 0 142 (dk_at dksX0_issues_1 0 rfl rfl)
theorem dX0_issues_27 : decode cX0_issues 27 = .ok (.if_icmp .ge 78, 3) := dk_162 0 78 (dk_at dksX0_issues_1 3 rfl rfl)
theorem dX0_issues_30 : decode cX0_issues 30 = .ok (.iconst 0, 1) := dk_3 (dk_at dksX0_issues_1 6 rfl rfl)
theorem dX0_issues_31 : decode cX0_issues 31 = .ok (.istore 4, 2) := dk_54 4 (dk_at dksX0_issues_1 7 rfl rfl)
theorem dX0_issues_33 : decode cX0_issues 33 = .ok (.iload 4, 2) := dk_21 4 (dk_at dksX0_issues_1 9 rfl rfl)
theorem dX0_issues_35 : decode cX0_issues 35 = .ok (.aload_n 0, 1) := dk_42 (dk_at dksX0_issues_1 11 rfl rfl)
theorem dX0_issues_36 : decode cX0_issues 36 = .ok (.getfield 24, 3) := dk_180 0 24 (dk_at dksX0_issues_1 12 rfl rfl)
theorem dX0_issues_39 : decode cX0_issues 39 = .ok (.getfield 133, 3) := dk_180 0 133 (dk_at dksX0_issues_1 15 rfl rfl)
theorem dX0_issues_42 : decode cX0_issues 42 = .ok (.if_icmp .ge 57, 3) := dk_162 0 57 (dk_at dksX0_issues_1 18 rfl rfl)
theorem dX0_issues_45 : decode cX0_issues 45 = .ok (.iload_n 3, 1) := dk_29 (dk_at dksX0_issues_1 21 rfl rfl)
theorem dX0_issues_46 : decode cX0_issues 46 = .ok (.iconst 1, 1) := dk_4 (dk_at dksX0_issues_1 22 rfl rfl)
theorem dX0_issues_47 : decode cX0_issues 47 = .ok (.iload 4, 2) := dk_21 4 (dk_at dksX0_issues_2 0 rfl rfl)
theorem dX0_issues_49 : decode cX0_issues 49 = .ok (.ishl, 1) := dk_120 (dk_at dksX0_issues_2 2 rfl rfl)
theorem dX0_issues_50 : decode cX0_issues 50 = .ok (.ixor, 1) := dk_130 (dk_at dksX0_issues_2 3 rfl rfl)
theorem dX0_issues_51 : decode cX0_issues 51 = .ok (.istore 5, 2) := dk_54 5 (dk_at dksX0_issues_2 4 rfl rfl)
theorem dX0_issues_53 : decode cX0_issues 53 = .ok (.aload_n 0, 1) := dk_42 (dk_at dksX0_issues_2 6 rfl rfl)
theorem dX0_issues_54 : decode cX0_issues 54 = .ok (.iload_n 3, 1) := dk_29 (dk_at dksX0_issues_2 7 rfl rfl)
theorem dX0_issues_55 : decode cX0_issues 55 = .ok (.invokevirtual 347, 3) := dk_182 1 91 (dk_at dksX0_issues_2 8 rfl rfl)
theorem dX0_issues_58 : decode cX0_issues 58 = .ok (.ifCond .eq 35, 3) := dk_153 0 35 (dk_at dksX0_issues_2 11 rfl rfl)
theorem dX0_issues_61 : decode cX0_issues 61 = .ok (.aload_n 0, 1) := dk_42 (dk_at dksX0_issues_2 14 rfl rfl)
theorem dX0_issues_62 : decode cX0_issues 62 = .ok (.iload 5, 2) := dk_21 5 (dk_at dksX0_issues_2 15 rfl rfl)
theorem dX0_issues_64 : decode cX0_issues 64 = .ok (.invokevirtual 347, 3) := dk_182 1 91 (dk_at dksX0_issues_2 17 rfl rfl)
theorem dX0_issues_67 : decode cX0_issues 67 = .ok (.ifCond .eq 26, 3) := dk_153 0 26 (dk_at dksX0_issues_2 20 rfl rfl)
theorem dX0_issues_70 : decode cX0_issues 70 = .ok (.aload_n 0, 1) := dk_42 (dk_at dksX0_issues_2 23 rfl rfl)
theorem dX0_issues_71 : decode cX0_issues 71 = .ok (.getfield 60, 3) := dk_180 0 60 (dk_at dksX0_issues_3 0 rfl rfl)
theorem dX0_issues_74 : decode cX0_issues 74 = .ok (.iload_n 3, 1) := dk_29 (dk_at dksX0_issues_3 3 rfl rfl)
theorem dX0_issues_75 : decode cX0_issues 75 = .ok (.baload, 1) := dk_51 (dk_at dksX0_issues_3 4 rfl rfl)
theorem dX0_issues_76 : decode cX0_issues 76 = .ok (.aload_n 0, 1) := dk_42 (dk_at dksX0_issues_3 5 rfl rfl)
theorem dX0_issues_77 : decode cX0_issues 77 = .ok (.getfield 60, 3) := dk_180 0 60 (dk_at dksX0_issues_3 6 rfl rfl)
theorem dX0_issues_80 : decode cX0_issues 80 = .ok (.iload 5, 2) := dk_21 5 (dk_at dksX0_issues_3 9 rfl rfl)
theorem dX0_issues_82 : decode cX0_issues 82 = .ok (.baload, 1) := dk_51 (dk_at dksX0_issues_3 11 rfl rfl)
theorem dX0_issues_83 : decode cX0_issues 83 = .ok (.if_icmp .eq 10, 3) := dk_159 0 10 (dk_at dksX0_issues_3 12 rfl rfl)
theorem dX0_issues_86 : decode cX0_issues 86 = .ok (.iload_n 2, 1) := dk_28 (dk_at dksX0_issues_3 15 rfl rfl)
theorem dX0_issues_87 : decode cX0_issues 87 = .ok (.iconst 1, 1) := dk_4 (dk_at dksX0_issues_3 16 rfl rfl)
theorem dX0_issues_88 : decode cX0_issues 88 = .ok (.iload 4, 2) := dk_21 4 (dk_at dksX0_issues_3 17 rfl rfl)
theorem dX0_issues_90 : decode cX0_issues 90 = .ok (.ishl, 1) := dk_120 (dk_at dksX0_issues_3 19 rfl rfl)
theorem dX0_issues_91 : decode cX0_issues 91 = .ok (.ior, 1) := dk_128 (dk_at dksX0_issues_3 20 rfl rfl)
theorem dX0_issues_92 : decode cX0_issues 92 = .ok (.istore_n 2, 1) := dk_61 (dk_at dksX0_issues_3 21 rfl rfl)
theorem dX0_issues_93 : decode cX0_issues 93 = .ok (.iinc 4 1, 3) := dk_132 4 1 (dk_at dksX0_issues_4 0 rfl rfl)
theorem dX0_issues_96 : decode cX0_issues 96 = .ok (.goto (-63), 3) := dk_167 255 193 (dk_at dksX0_issues_4 3 rfl rfl)
theorem dX0_issues_99 : decode cX0_issues 99 = .ok (.iinc 3 1, 3) := dk_132 3 1 (dk_at dksX0_issues_4 6 rfl rfl)
theorem dX0_issues_102 : decode cX0_issues 102 = .ok (.goto (-83), 3) := dk_167 255 173 (dk_at dksX0_issues_4 9 rfl rfl)
theorem dX0_issues_105 : decode cX0_issues 105 = .ok (.iload_n 2, 1) := dk_28 (dk_at dksX0_issues_4 12 rfl rfl)
theorem dX0_issues_106 : decode cX0_issues 106 = .ok (.ireturn, 1) := dk_172 (dk_at dksX0_issues_4 13 rfl rfl)
abbrev cX0_laysWon : ByteArray := prog_1_method_57_code
def yX0_laysWon : MethodName := ⟨RX0, "laysWon", "(I)V"⟩
def dkwX0_laysWon_3 : List UInt8 := [180, 0, 66, 28, 2, 79, 132, 2, 1, 167, 255, 232, 177]
abbrev dktX0_laysWon_3 : List UInt8 := dkwX0_laysWon_3 ++ []
def dkwX0_laysWon_2 : List UInt8 := [132, 2, 1, 167, 255, 210, 3, 61, 28, 17, 25, 161, 162, 0, 23, 42, 180, 0, 63, 28, 2, 79, 42]
abbrev dktX0_laysWon_2 : List UInt8 := dkwX0_laysWon_2 ++ dktX0_laysWon_3
def dkwX0_laysWon_1 : List UInt8 := [180, 0, 139, 28, 51, 153, 0, 16, 42, 27, 28, 182, 1, 94, 153, 0, 7, 4, 167, 0, 4, 3, 84]
abbrev dktX0_laysWon_1 : List UInt8 := dkwX0_laysWon_1 ++ dktX0_laysWon_2
def dkwX0_laysWon_0 : List UInt8 := [3, 61, 28, 42, 180, 0, 24, 182, 0, 142, 162, 0, 41, 42, 180, 0, 60, 28, 42, 180, 0, 24]
abbrev dktX0_laysWon_0 : List UInt8 := dkwX0_laysWon_0 ++ dktX0_laysWon_1
theorem dksX0_laysWon_0 : cX0_laysWon.data.toList.drop 0 = dktX0_laysWon_0 := by decide +kernel
theorem dksX0_laysWon_1 : cX0_laysWon.data.toList.drop 22 = dktX0_laysWon_1 := dk_seg dksX0_laysWon_0 22 rfl rfl
theorem dksX0_laysWon_2 : cX0_laysWon.data.toList.drop 45 = dktX0_laysWon_2 := dk_seg dksX0_laysWon_1 23 rfl rfl
theorem dksX0_laysWon_3 : cX0_laysWon.data.toList.drop 68 = dktX0_laysWon_3 := dk_seg dksX0_laysWon_2 23 rfl rfl
theorem dX0_laysWon_0 : decode cX0_laysWon 0 = .ok (.iconst 0, 1) := dk_3 (dk_at dksX0_laysWon_0 0 rfl rfl)
theorem dX0_laysWon_1 : decode cX0_laysWon 1 = .ok (.istore_n 2, 1) := dk_61 (dk_at dksX0_laysWon_0 1 rfl rfl)
theorem dX0_laysWon_2 : decode cX0_laysWon 2 = .ok (.iload_n 2, 1) := dk_28 (dk_at dksX0_laysWon_0 2 rfl rfl)
theorem dX0_laysWon_3 : decode cX0_laysWon 3 = .ok (.aload_n 0, 1) := dk_42 (dk_at dksX0_laysWon_0 3 rfl rfl)
theorem dX0_laysWon_4 : decode cX0_laysWon 4 = .ok (.getfield 24, 3) := dk_180 0 24 (dk_at dksX0_laysWon_0 4 rfl rfl)
theorem dX0_laysWon_7 : decode cX0_laysWon 7 = .ok (.invokevirtual 142, 3) := dk_182 0 142 (dk_at dksX0_laysWon_0 7 rfl rfl)
theorem dX0_laysWon_10 : decode cX0_laysWon 10 = .ok (.if_icmp .ge 41, 3) := dk_162 0 41 (dk_at dksX0_laysWon_0 10 rfl rfl)
theorem dX0_laysWon_13 : decode cX0_laysWon 13 = .ok (.aload_n 0, 1) := dk_42 (dk_at dksX0_laysWon_0 13 rfl rfl)
theorem dX0_laysWon_14 : decode cX0_laysWon 14 = .ok (.getfield 60, 3) := dk_180 0 60 (dk_at dksX0_laysWon_0 14 rfl rfl)
theorem dX0_laysWon_17 : decode cX0_laysWon 17 = .ok (.iload_n 2, 1) := dk_28 (dk_at dksX0_laysWon_0 17 rfl rfl)
theorem dX0_laysWon_18 : decode cX0_laysWon 18 = .ok (.aload_n 0, 1) := dk_42 (dk_at dksX0_laysWon_0 18 rfl rfl)
theorem dX0_laysWon_19 : decode cX0_laysWon 19 = .ok (.getfield 24, 3) := dk_180 0 24 (dk_at dksX0_laysWon_0 19 rfl rfl)
theorem dX0_laysWon_22 : decode cX0_laysWon 22 = .ok (.getfield 139, 3) := dk_180 0 139 (dk_at dksX0_laysWon_1 0 rfl rfl)
theorem dX0_laysWon_25 : decode cX0_laysWon 25 = .ok (.iload_n 2, 1) := dk_28 (dk_at dksX0_laysWon_1 3 rfl rfl)
theorem dX0_laysWon_26 : decode cX0_laysWon 26 = .ok (.baload, 1) := dk_51 (dk_at dksX0_laysWon_1 4 rfl rfl)
theorem dX0_laysWon_27 : decode cX0_laysWon 27 = .ok (.ifCond .eq 16, 3) := dk_153 0 16 (dk_at dksX0_laysWon_1 5 rfl rfl)
theorem dX0_laysWon_30 : decode cX0_laysWon 30 = .ok (.aload_n 0, 1) := dk_42 (dk_at dksX0_laysWon_1 8 rfl rfl)
theorem dX0_laysWon_31 : decode cX0_laysWon 31 = .ok (.iload_n 1, 1) := dk_27 (dk_at dksX0_laysWon_1 9 rfl rfl)
theorem dX0_laysWon_32 : decode cX0_laysWon 32 = .ok (.iload_n 2, 1) := dk_28 (dk_at dksX0_laysWon_1 10 rfl rfl)
theorem dX0_laysWon_33 : decode cX0_laysWon 33 = .ok (.invokevirtual 350, 3) := dk_182 1 94 (dk_at dksX0_laysWon_1 11 rfl rfl)
theorem dX0_laysWon_36 : decode cX0_laysWon 36 = .ok (.ifCond .eq 7, 3) := dk_153 0 7 (dk_at dksX0_laysWon_1 14 rfl rfl)
theorem dX0_laysWon_39 : decode cX0_laysWon 39 = .ok (.iconst 1, 1) := dk_4 (dk_at dksX0_laysWon_1 17 rfl rfl)
theorem dX0_laysWon_40 : decode cX0_laysWon 40 = .ok (.goto 4, 3) := dk_167 0 4 (dk_at dksX0_laysWon_1 18 rfl rfl)
theorem dX0_laysWon_43 : decode cX0_laysWon 43 = .ok (.iconst 0, 1) := dk_3 (dk_at dksX0_laysWon_1 21 rfl rfl)
theorem dX0_laysWon_44 : decode cX0_laysWon 44 = .ok (.bastore, 1) := dk_84 (dk_at dksX0_laysWon_1 22 rfl rfl)
theorem dX0_laysWon_45 : decode cX0_laysWon 45 = .ok (.iinc 2 1, 3) := dk_132 2 1 (dk_at dksX0_laysWon_2 0 rfl rfl)
theorem dX0_laysWon_48 : decode cX0_laysWon 48 = .ok (.goto (-46), 3) := dk_167 255 210 (dk_at dksX0_laysWon_2 3 rfl rfl)
theorem dX0_laysWon_51 : decode cX0_laysWon 51 = .ok (.iconst 0, 1) := dk_3 (dk_at dksX0_laysWon_2 6 rfl rfl)
theorem dX0_laysWon_52 : decode cX0_laysWon 52 = .ok (.istore_n 2, 1) := dk_61 (dk_at dksX0_laysWon_2 7 rfl rfl)
theorem dX0_laysWon_53 : decode cX0_laysWon 53 = .ok (.iload_n 2, 1) := dk_28 (dk_at dksX0_laysWon_2 8 rfl rfl)
theorem dX0_laysWon_54 : decode cX0_laysWon 54 = .ok (.sipush 6561, 3) := dk_17 25 161 (dk_at dksX0_laysWon_2 9 rfl rfl)
theorem dX0_laysWon_57 : decode cX0_laysWon 57 = .ok (.if_icmp .ge 23, 3) := dk_162 0 23 (dk_at dksX0_laysWon_2 12 rfl rfl)
theorem dX0_laysWon_60 : decode cX0_laysWon 60 = .ok (.aload_n 0, 1) := dk_42 (dk_at dksX0_laysWon_2 15 rfl rfl)
theorem dX0_laysWon_61 : decode cX0_laysWon 61 = .ok (.getfield 63, 3) := dk_180 0 63 (dk_at dksX0_laysWon_2 16 rfl rfl)
theorem dX0_laysWon_64 : decode cX0_laysWon 64 = .ok (.iload_n 2, 1) := dk_28 (dk_at dksX0_laysWon_2 19 rfl rfl)
theorem dX0_laysWon_65 : decode cX0_laysWon 65 = .ok (.iconst (-1), 1) := dk_2 (dk_at dksX0_laysWon_2 20 rfl rfl)
theorem dX0_laysWon_66 : decode cX0_laysWon 66 = .ok (.iastore, 1) := dk_79 (dk_at dksX0_laysWon_2 21 rfl rfl)
theorem dX0_laysWon_67 : decode cX0_laysWon 67 = .ok (.aload_n 0, 1) := dk_42 (dk_at dksX0_laysWon_2 22 rfl rfl)
theorem dX0_laysWon_68 : decode cX0_laysWon 68 = .ok (.getfield 66, 3) := dk_180 0 66 (dk_at dksX0_laysWon_3 0 rfl rfl)
theorem dX0_laysWon_71 : decode cX0_laysWon 71 = .ok (.iload_n 2, 1) := dk_28 (dk_at dksX0_laysWon_3 3 rfl rfl)
theorem dX0_laysWon_72 : decode cX0_laysWon 72 = .ok (.iconst (-1), 1) := dk_2 (dk_at dksX0_laysWon_3 4 rfl rfl)
theorem dX0_laysWon_73 : decode cX0_laysWon 73 = .ok (.iastore, 1) := dk_79 (dk_at dksX0_laysWon_3 5 rfl rfl)
theorem dX0_laysWon_74 : decode cX0_laysWon 74 = .ok (.iinc 2 1, 3) := dk_132 2 1 (dk_at dksX0_laysWon_3 6 rfl rfl)
theorem dX0_laysWon_77 : decode cX0_laysWon 77 = .ok (.goto (-24), 3) := dk_167 255 232 (dk_at dksX0_laysWon_3 9 rfl rfl)
theorem dX0_laysWon_80 : decode cX0_laysWon 80 = .ok (.return_, 1) := dk_177 (dk_at dksX0_laysWon_3 12 rfl rfl)
abbrev cX0_judged : ByteArray := prog_1_method_61_code
def yX0_judged : MethodName := ⟨RX0, "judged", "(I)I"⟩
def dkwX0_judged_1 : List UInt8 := [180, 0, 31, 180, 0, 152, 182, 1, 120, 172]
abbrev dktX0_judged_1 : List UInt8 := dkwX0_judged_1 ++ []
def dkwX0_judged_0 : List UInt8 := [42, 27, 182, 1, 34, 154, 0, 5, 2, 172, 42, 27, 182, 1, 117, 42, 42, 180, 0, 31, 180, 0, 149, 42]
abbrev dktX0_judged_0 : List UInt8 := dkwX0_judged_0 ++ dktX0_judged_1
theorem dksX0_judged_0 : cX0_judged.data.toList.drop 0 = dktX0_judged_0 := by decide +kernel
theorem dksX0_judged_1 : cX0_judged.data.toList.drop 24 = dktX0_judged_1 := dk_seg dksX0_judged_0 24 rfl rfl
theorem dX0_judged_0 : decode cX0_judged 0 = .ok (.aload_n 0, 1) := dk_42 (dk_at dksX0_judged_0 0 rfl rfl)
theorem dX0_judged_1 : decode cX0_judged 1 = .ok (.iload_n 1, 1) := dk_27 (dk_at dksX0_judged_0 1 rfl rfl)
theorem dX0_judged_2 : decode cX0_judged 2 = .ok (.invokevirtual 290, 3) := dk_182 1 34 (dk_at dksX0_judged_0 2 rfl rfl)
theorem dX0_judged_5 : decode cX0_judged 5 = .ok (.ifCond .ne 5, 3) := dk_154 0 5 (dk_at dksX0_judged_0 5 rfl rfl)
theorem dX0_judged_8 : decode cX0_judged 8 = .ok (.iconst (-1), 1) := dk_2 (dk_at dksX0_judged_0 8 rfl rfl)
theorem dX0_judged_9 : decode cX0_judged 9 = .ok (.ireturn, 1) := dk_172 (dk_at dksX0_judged_0 9 rfl rfl)
theorem dX0_judged_10 : decode cX0_judged 10 = .ok (.aload_n 0, 1) := dk_42 (dk_at dksX0_judged_0 10 rfl rfl)
theorem dX0_judged_11 : decode cX0_judged 11 = .ok (.iload_n 1, 1) := dk_27 (dk_at dksX0_judged_0 11 rfl rfl)
theorem dX0_judged_12 : decode cX0_judged 12 = .ok (.invokevirtual 373, 3) := dk_182 1 117 (dk_at dksX0_judged_0 12 rfl rfl)
theorem dX0_judged_15 : decode cX0_judged 15 = .ok (.aload_n 0, 1) := dk_42 (dk_at dksX0_judged_0 15 rfl rfl)
theorem dX0_judged_16 : decode cX0_judged 16 = .ok (.aload_n 0, 1) := dk_42 (dk_at dksX0_judged_0 16 rfl rfl)
theorem dX0_judged_17 : decode cX0_judged 17 = .ok (.getfield 31, 3) := dk_180 0 31 (dk_at dksX0_judged_0 17 rfl rfl)
theorem dX0_judged_20 : decode cX0_judged 20 = .ok (.getfield 149, 3) := dk_180 0 149 (dk_at dksX0_judged_0 20 rfl rfl)
theorem dX0_judged_23 : decode cX0_judged 23 = .ok (.aload_n 0, 1) := dk_42 (dk_at dksX0_judged_0 23 rfl rfl)
theorem dX0_judged_24 : decode cX0_judged 24 = .ok (.getfield 31, 3) := dk_180 0 31 (dk_at dksX0_judged_1 0 rfl rfl)
theorem dX0_judged_27 : decode cX0_judged 27 = .ok (.getfield 152, 3) := dk_180 0 152 (dk_at dksX0_judged_1 3 rfl rfl)
theorem dX0_judged_30 : decode cX0_judged 30 = .ok (.invokevirtual 376, 3) := dk_182 1 120 (dk_at dksX0_judged_1 6 rfl rfl)
theorem dX0_judged_33 : decode cX0_judged 33 = .ok (.ireturn, 1) := dk_172 (dk_at dksX0_judged_1 9 rfl rfl)
abbrev cX0_judgedBy : ByteArray := prog_1_method_59_code
def yX0_judgedBy : MethodName := ⟨RX0, "judgedBy", "(II)I"⟩
def dkwX0_judgedBy_2 : List UInt8 := [180, 0, 66, 29, 46, 172]
abbrev dktX0_judgedBy_2 : List UInt8 := dkwX0_judgedBy_2 ++ []
def dkwX0_judgedBy_1 : List UInt8 := [182, 0, 227, 153, 0, 16, 42, 42, 180, 0, 60, 27, 28, 182, 0, 216, 167, 0, 4, 6, 79, 42]
abbrev dktX0_judgedBy_1 : List UInt8 := dkwX0_judgedBy_1 ++ dktX0_judgedBy_2
def dkwX0_judgedBy_0 : List UInt8 := [27, 28, 184, 1, 114, 62, 42, 180, 0, 66, 29, 46, 2, 160, 0, 32, 42, 180, 0, 66, 29, 42, 27, 28]
abbrev dktX0_judgedBy_0 : List UInt8 := dkwX0_judgedBy_0 ++ dktX0_judgedBy_1
theorem dksX0_judgedBy_0 : cX0_judgedBy.data.toList.drop 0 = dktX0_judgedBy_0 := by decide +kernel
theorem dksX0_judgedBy_1 : cX0_judgedBy.data.toList.drop 24 = dktX0_judgedBy_1 := dk_seg dksX0_judgedBy_0 24 rfl rfl
theorem dksX0_judgedBy_2 : cX0_judgedBy.data.toList.drop 46 = dktX0_judgedBy_2 := dk_seg dksX0_judgedBy_1 22 rfl rfl
theorem dX0_judgedBy_0 : decode cX0_judgedBy 0 = .ok (.iload_n 1, 1) := dk_27 (dk_at dksX0_judgedBy_0 0 rfl rfl)
theorem dX0_judgedBy_1 : decode cX0_judgedBy 1 = .ok (.iload_n 2, 1) := dk_28 (dk_at dksX0_judgedBy_0 1 rfl rfl)
theorem dX0_judgedBy_2 : decode cX0_judgedBy 2 = .ok (.invokestatic 370, 3) := dk_184 1 114 (dk_at dksX0_judgedBy_0 2 rfl rfl)
theorem dX0_judgedBy_5 : decode cX0_judgedBy 5 = .ok (.istore_n 3, 1) := dk_62 (dk_at dksX0_judgedBy_0 5 rfl rfl)
theorem dX0_judgedBy_6 : decode cX0_judgedBy 6 = .ok (.aload_n 0, 1) := dk_42 (dk_at dksX0_judgedBy_0 6 rfl rfl)
theorem dX0_judgedBy_7 : decode cX0_judgedBy 7 = .ok (.getfield 66, 3) := dk_180 0 66 (dk_at dksX0_judgedBy_0 7 rfl rfl)
theorem dX0_judgedBy_10 : decode cX0_judgedBy 10 = .ok (.iload_n 3, 1) := dk_29 (dk_at dksX0_judgedBy_0 10 rfl rfl)
theorem dX0_judgedBy_11 : decode cX0_judgedBy 11 = .ok (.iaload, 1) := dk_46 (dk_at dksX0_judgedBy_0 11 rfl rfl)
theorem dX0_judgedBy_12 : decode cX0_judgedBy 12 = .ok (.iconst (-1), 1) := dk_2 (dk_at dksX0_judgedBy_0 12 rfl rfl)
theorem dX0_judgedBy_13 : decode cX0_judgedBy 13 = .ok (.if_icmp .ne 32, 3) := dk_160 0 32 (dk_at dksX0_judgedBy_0 13 rfl rfl)
theorem dX0_judgedBy_16 : decode cX0_judgedBy 16 = .ok (.aload_n 0, 1) := dk_42 (dk_at dksX0_judgedBy_0 16 rfl rfl)
theorem dX0_judgedBy_17 : decode cX0_judgedBy 17 = .ok (.getfield 66, 3) := dk_180 0 66 (dk_at dksX0_judgedBy_0 17 rfl rfl)
theorem dX0_judgedBy_20 : decode cX0_judgedBy 20 = .ok (.iload_n 3, 1) := dk_29 (dk_at dksX0_judgedBy_0 20 rfl rfl)
theorem dX0_judgedBy_21 : decode cX0_judgedBy 21 = .ok (.aload_n 0, 1) := dk_42 (dk_at dksX0_judgedBy_0 21 rfl rfl)
theorem dX0_judgedBy_22 : decode cX0_judgedBy 22 = .ok (.iload_n 1, 1) := dk_27 (dk_at dksX0_judgedBy_0 22 rfl rfl)
theorem dX0_judgedBy_23 : decode cX0_judgedBy 23 = .ok (.iload_n 2, 1) := dk_28 (dk_at dksX0_judgedBy_0 23 rfl rfl)
theorem dX0_judgedBy_24 : decode cX0_judgedBy 24 = .ok (.invokevirtual 227, 3) := dk_182 0 227 (dk_at dksX0_judgedBy_1 0 rfl rfl)
theorem dX0_judgedBy_27 : decode cX0_judgedBy 27 = .ok (.ifCond .eq 16, 3) := dk_153 0 16 (dk_at dksX0_judgedBy_1 3 rfl rfl)
theorem dX0_judgedBy_30 : decode cX0_judgedBy 30 = .ok (.aload_n 0, 1) := dk_42 (dk_at dksX0_judgedBy_1 6 rfl rfl)
theorem dX0_judgedBy_31 : decode cX0_judgedBy 31 = .ok (.aload_n 0, 1) := dk_42 (dk_at dksX0_judgedBy_1 7 rfl rfl)
theorem dX0_judgedBy_32 : decode cX0_judgedBy 32 = .ok (.getfield 60, 3) := dk_180 0 60 (dk_at dksX0_judgedBy_1 8 rfl rfl)
theorem dX0_judgedBy_35 : decode cX0_judgedBy 35 = .ok (.iload_n 1, 1) := dk_27 (dk_at dksX0_judgedBy_1 11 rfl rfl)
theorem dX0_judgedBy_36 : decode cX0_judgedBy 36 = .ok (.iload_n 2, 1) := dk_28 (dk_at dksX0_judgedBy_1 12 rfl rfl)
theorem dX0_judgedBy_37 : decode cX0_judgedBy 37 = .ok (.invokevirtual 216, 3) := dk_182 0 216 (dk_at dksX0_judgedBy_1 13 rfl rfl)
theorem dX0_judgedBy_40 : decode cX0_judgedBy 40 = .ok (.goto 4, 3) := dk_167 0 4 (dk_at dksX0_judgedBy_1 16 rfl rfl)
theorem dX0_judgedBy_43 : decode cX0_judgedBy 43 = .ok (.iconst 3, 1) := dk_6 (dk_at dksX0_judgedBy_1 19 rfl rfl)
theorem dX0_judgedBy_44 : decode cX0_judgedBy 44 = .ok (.iastore, 1) := dk_79 (dk_at dksX0_judgedBy_1 20 rfl rfl)
theorem dX0_judgedBy_45 : decode cX0_judgedBy 45 = .ok (.aload_n 0, 1) := dk_42 (dk_at dksX0_judgedBy_1 21 rfl rfl)
theorem dX0_judgedBy_46 : decode cX0_judgedBy 46 = .ok (.getfield 66, 3) := dk_180 0 66 (dk_at dksX0_judgedBy_2 0 rfl rfl)
theorem dX0_judgedBy_49 : decode cX0_judgedBy 49 = .ok (.iload_n 3, 1) := dk_29 (dk_at dksX0_judgedBy_2 3 rfl rfl)
theorem dX0_judgedBy_50 : decode cX0_judgedBy 50 = .ok (.iaload, 1) := dk_46 (dk_at dksX0_judgedBy_2 4 rfl rfl)
theorem dX0_judgedBy_51 : decode cX0_judgedBy 51 = .ok (.ireturn, 1) := dk_172 (dk_at dksX0_judgedBy_2 5 rfl rfl)
abbrev cX0_code : ByteArray := prog_1_method_58_code
def yX0_code : MethodName := ⟨RX0, "code", "(II)I"⟩
def dkwX0_code_1 : List UInt8 := [27, 29, 184, 0, 223, 153, 0, 7, 5, 167, 0, 4, 4, 96, 61, 132, 3, 255, 167, 255, 219, 28, 172]
abbrev dktX0_code_1 : List UInt8 := dkwX0_code_1 ++ []
def dkwX0_code_0 : List UInt8 := [3, 61, 16, 7, 62, 29, 155, 0, 39, 6, 28, 104, 26, 29, 184, 0, 223, 154, 0, 7, 3, 167, 0, 16]
abbrev dktX0_code_0 : List UInt8 := dkwX0_code_0 ++ dktX0_code_1
theorem dksX0_code_0 : cX0_code.data.toList.drop 0 = dktX0_code_0 := by decide +kernel
theorem dksX0_code_1 : cX0_code.data.toList.drop 24 = dktX0_code_1 := dk_seg dksX0_code_0 24 rfl rfl
theorem dX0_code_0 : decode cX0_code 0 = .ok (.iconst 0, 1) := dk_3 (dk_at dksX0_code_0 0 rfl rfl)
theorem dX0_code_1 : decode cX0_code 1 = .ok (.istore_n 2, 1) := dk_61 (dk_at dksX0_code_0 1 rfl rfl)
theorem dX0_code_2 : decode cX0_code 2 = .ok (.bipush 7, 2) := dk_16 7 (dk_at dksX0_code_0 2 rfl rfl)
theorem dX0_code_4 : decode cX0_code 4 = .ok (.istore_n 3, 1) := dk_62 (dk_at dksX0_code_0 4 rfl rfl)
theorem dX0_code_5 : decode cX0_code 5 = .ok (.iload_n 3, 1) := dk_29 (dk_at dksX0_code_0 5 rfl rfl)
theorem dX0_code_6 : decode cX0_code 6 = .ok (.ifCond .lt 39, 3) := dk_155 0 39 (dk_at dksX0_code_0 6 rfl rfl)
theorem dX0_code_9 : decode cX0_code 9 = .ok (.iconst 3, 1) := dk_6 (dk_at dksX0_code_0 9 rfl rfl)
theorem dX0_code_10 : decode cX0_code 10 = .ok (.iload_n 2, 1) := dk_28 (dk_at dksX0_code_0 10 rfl rfl)
theorem dX0_code_11 : decode cX0_code 11 = .ok (.imul, 1) := dk_104 (dk_at dksX0_code_0 11 rfl rfl)
theorem dX0_code_12 : decode cX0_code 12 = .ok (.iload_n 0, 1) := dk_26 (dk_at dksX0_code_0 12 rfl rfl)
theorem dX0_code_13 : decode cX0_code 13 = .ok (.iload_n 3, 1) := dk_29 (dk_at dksX0_code_0 13 rfl rfl)
theorem dX0_code_14 : decode cX0_code 14 = .ok (.invokestatic 223, 3) := dk_184 0 223 (dk_at dksX0_code_0 14 rfl rfl)
theorem dX0_code_17 : decode cX0_code 17 = .ok (.ifCond .ne 7, 3) := dk_154 0 7 (dk_at dksX0_code_0 17 rfl rfl)
theorem dX0_code_20 : decode cX0_code 20 = .ok (.iconst 0, 1) := dk_3 (dk_at dksX0_code_0 20 rfl rfl)
theorem dX0_code_21 : decode cX0_code 21 = .ok (.goto 16, 3) := dk_167 0 16 (dk_at dksX0_code_0 21 rfl rfl)
theorem dX0_code_24 : decode cX0_code 24 = .ok (.iload_n 1, 1) := dk_27 (dk_at dksX0_code_1 0 rfl rfl)
theorem dX0_code_25 : decode cX0_code 25 = .ok (.iload_n 3, 1) := dk_29 (dk_at dksX0_code_1 1 rfl rfl)
theorem dX0_code_26 : decode cX0_code 26 = .ok (.invokestatic 223, 3) := dk_184 0 223 (dk_at dksX0_code_1 2 rfl rfl)
theorem dX0_code_29 : decode cX0_code 29 = .ok (.ifCond .eq 7, 3) := dk_153 0 7 (dk_at dksX0_code_1 5 rfl rfl)
theorem dX0_code_32 : decode cX0_code 32 = .ok (.iconst 2, 1) := dk_5 (dk_at dksX0_code_1 8 rfl rfl)
theorem dX0_code_33 : decode cX0_code 33 = .ok (.goto 4, 3) := dk_167 0 4 (dk_at dksX0_code_1 9 rfl rfl)
theorem dX0_code_36 : decode cX0_code 36 = .ok (.iconst 1, 1) := dk_4 (dk_at dksX0_code_1 12 rfl rfl)
theorem dX0_code_37 : decode cX0_code 37 = .ok (.iadd, 1) := dk_96 (dk_at dksX0_code_1 13 rfl rfl)
theorem dX0_code_38 : decode cX0_code 38 = .ok (.istore_n 2, 1) := dk_61 (dk_at dksX0_code_1 14 rfl rfl)
theorem dX0_code_39 : decode cX0_code 39 = .ok (.iinc 3 (-1), 3) := dk_132 3 255 (dk_at dksX0_code_1 15 rfl rfl)
theorem dX0_code_42 : decode cX0_code 42 = .ok (.goto (-37), 3) := dk_167 255 219 (dk_at dksX0_code_1 18 rfl rfl)
theorem dX0_code_45 : decode cX0_code 45 = .ok (.iload_n 2, 1) := dk_28 (dk_at dksX0_code_1 21 rfl rfl)
theorem dX0_code_46 : decode cX0_code 46 = .ok (.ireturn, 1) := dk_172 (dk_at dksX0_code_1 22 rfl rfl)
abbrev cX0_tries : ByteArray := prog_1_method_64_code
def yX0_tries : MethodName := ⟨RX0, "tries", "(II)I"⟩
def dkwX0_tries_4 : List UInt8 := [159, 0, 9, 132, 4, 1, 167, 255, 214, 21, 4, 172]
abbrev dktX0_tries_4 : List UInt8 := dkwX0_tries_4 ++ []
def dkwX0_tries_3 : List UInt8 := [154, 0, 27, 42, 42, 180, 0, 31, 180, 0, 149, 42, 180, 0, 31, 180, 0, 152, 21, 4, 182, 1, 126, 29]
abbrev dktX0_tries_3 : List UInt8 := dkwX0_tries_3 ++ dktX0_tries_4
def dkwX0_tries_2 : List UInt8 := [172, 29, 154, 0, 6, 16, 254, 172, 3, 54, 4, 42, 180, 0, 31, 180, 0, 149, 21, 4, 184, 0, 223]
abbrev dktX0_tries_2 : List UInt8 := dkwX0_tries_2 ++ dktX0_tries_3
def dkwX0_tries_1 : List UInt8 := [42, 42, 180, 0, 31, 180, 0, 149, 42, 180, 0, 31, 180, 0, 152, 182, 1, 123, 62, 28, 154, 0, 5, 29]
abbrev dktX0_tries_1 : List UInt8 := dkwX0_tries_1 ++ dktX0_tries_2
def dkwX0_tries_0 : List UInt8 := [42, 27, 182, 1, 34, 153, 0, 12, 28, 3, 4, 184, 0, 96, 154, 0, 5, 2, 172, 42, 27, 182, 1, 117]
abbrev dktX0_tries_0 : List UInt8 := dkwX0_tries_0 ++ dktX0_tries_1
theorem dksX0_tries_0 : cX0_tries.data.toList.drop 0 = dktX0_tries_0 := by decide +kernel
theorem dksX0_tries_1 : cX0_tries.data.toList.drop 24 = dktX0_tries_1 := dk_seg dksX0_tries_0 24 rfl rfl
theorem dksX0_tries_2 : cX0_tries.data.toList.drop 48 = dktX0_tries_2 := dk_seg dksX0_tries_1 24 rfl rfl
theorem dksX0_tries_3 : cX0_tries.data.toList.drop 71 = dktX0_tries_3 := dk_seg dksX0_tries_2 23 rfl rfl
theorem dksX0_tries_4 : cX0_tries.data.toList.drop 95 = dktX0_tries_4 := dk_seg dksX0_tries_3 24 rfl rfl
theorem dX0_tries_0 : decode cX0_tries 0 = .ok (.aload_n 0, 1) := dk_42 (dk_at dksX0_tries_0 0 rfl rfl)
theorem dX0_tries_1 : decode cX0_tries 1 = .ok (.iload_n 1, 1) := dk_27 (dk_at dksX0_tries_0 1 rfl rfl)
theorem dX0_tries_2 : decode cX0_tries 2 = .ok (.invokevirtual 290, 3) := dk_182 1 34 (dk_at dksX0_tries_0 2 rfl rfl)
theorem dX0_tries_5 : decode cX0_tries 5 = .ok (.ifCond .eq 12, 3) := dk_153 0 12 (dk_at dksX0_tries_0 5 rfl rfl)
theorem dX0_tries_8 : decode cX0_tries 8 = .ok (.iload_n 2, 1) := dk_28 (dk_at dksX0_tries_0 8 rfl rfl)
theorem dX0_tries_9 : decode cX0_tries 9 = .ok (.iconst 0, 1) := dk_3 (dk_at dksX0_tries_0 9 rfl rfl)
theorem dX0_tries_10 : decode cX0_tries 10 = .ok (.iconst 1, 1) := dk_4 (dk_at dksX0_tries_0 10 rfl rfl)
theorem dX0_tries_11 : decode cX0_tries 11 = .ok (.invokestatic 96, 3) := dk_184 0 96 (dk_at dksX0_tries_0 11 rfl rfl)
theorem dX0_tries_14 : decode cX0_tries 14 = .ok (.ifCond .ne 5, 3) := dk_154 0 5 (dk_at dksX0_tries_0 14 rfl rfl)
theorem dX0_tries_17 : decode cX0_tries 17 = .ok (.iconst (-1), 1) := dk_2 (dk_at dksX0_tries_0 17 rfl rfl)
theorem dX0_tries_18 : decode cX0_tries 18 = .ok (.ireturn, 1) := dk_172 (dk_at dksX0_tries_0 18 rfl rfl)
theorem dX0_tries_19 : decode cX0_tries 19 = .ok (.aload_n 0, 1) := dk_42 (dk_at dksX0_tries_0 19 rfl rfl)
theorem dX0_tries_20 : decode cX0_tries 20 = .ok (.iload_n 1, 1) := dk_27 (dk_at dksX0_tries_0 20 rfl rfl)
theorem dX0_tries_21 : decode cX0_tries 21 = .ok (.invokevirtual 373, 3) := dk_182 1 117 (dk_at dksX0_tries_0 21 rfl rfl)
theorem dX0_tries_24 : decode cX0_tries 24 = .ok (.aload_n 0, 1) := dk_42 (dk_at dksX0_tries_1 0 rfl rfl)
theorem dX0_tries_25 : decode cX0_tries 25 = .ok (.aload_n 0, 1) := dk_42 (dk_at dksX0_tries_1 1 rfl rfl)
theorem dX0_tries_26 : decode cX0_tries 26 = .ok (.getfield 31, 3) := dk_180 0 31 (dk_at dksX0_tries_1 2 rfl rfl)
theorem dX0_tries_29 : decode cX0_tries 29 = .ok (.getfield 149, 3) := dk_180 0 149 (dk_at dksX0_tries_1 5 rfl rfl)
theorem dX0_tries_32 : decode cX0_tries 32 = .ok (.aload_n 0, 1) := dk_42 (dk_at dksX0_tries_1 8 rfl rfl)
theorem dX0_tries_33 : decode cX0_tries 33 = .ok (.getfield 31, 3) := dk_180 0 31 (dk_at dksX0_tries_1 9 rfl rfl)
theorem dX0_tries_36 : decode cX0_tries 36 = .ok (.getfield 152, 3) := dk_180 0 152 (dk_at dksX0_tries_1 12 rfl rfl)
theorem dX0_tries_39 : decode cX0_tries 39 = .ok (.invokevirtual 379, 3) := dk_182 1 123 (dk_at dksX0_tries_1 15 rfl rfl)
theorem dX0_tries_42 : decode cX0_tries 42 = .ok (.istore_n 3, 1) := dk_62 (dk_at dksX0_tries_1 18 rfl rfl)
theorem dX0_tries_43 : decode cX0_tries 43 = .ok (.iload_n 2, 1) := dk_28 (dk_at dksX0_tries_1 19 rfl rfl)
theorem dX0_tries_44 : decode cX0_tries 44 = .ok (.ifCond .ne 5, 3) := dk_154 0 5 (dk_at dksX0_tries_1 20 rfl rfl)
theorem dX0_tries_47 : decode cX0_tries 47 = .ok (.iload_n 3, 1) := dk_29 (dk_at dksX0_tries_1 23 rfl rfl)
theorem dX0_tries_48 : decode cX0_tries 48 = .ok (.ireturn, 1) := dk_172 (dk_at dksX0_tries_2 0 rfl rfl)
theorem dX0_tries_49 : decode cX0_tries 49 = .ok (.iload_n 3, 1) := dk_29 (dk_at dksX0_tries_2 1 rfl rfl)
theorem dX0_tries_50 : decode cX0_tries 50 = .ok (.ifCond .ne 6, 3) := dk_154 0 6 (dk_at dksX0_tries_2 2 rfl rfl)
theorem dX0_tries_53 : decode cX0_tries 53 = .ok (.bipush (-2), 2) := dk_16 254 (dk_at dksX0_tries_2 5 rfl rfl)
theorem dX0_tries_55 : decode cX0_tries 55 = .ok (.ireturn, 1) := dk_172 (dk_at dksX0_tries_2 7 rfl rfl)
theorem dX0_tries_56 : decode cX0_tries 56 = .ok (.iconst 0, 1) := dk_3 (dk_at dksX0_tries_2 8 rfl rfl)
theorem dX0_tries_57 : decode cX0_tries 57 = .ok (.istore 4, 2) := dk_54 4 (dk_at dksX0_tries_2 9 rfl rfl)
theorem dX0_tries_59 : decode cX0_tries 59 = .ok (.aload_n 0, 1) := dk_42 (dk_at dksX0_tries_2 11 rfl rfl)
theorem dX0_tries_60 : decode cX0_tries 60 = .ok (.getfield 31, 3) := dk_180 0 31 (dk_at dksX0_tries_2 12 rfl rfl)
theorem dX0_tries_63 : decode cX0_tries 63 = .ok (.getfield 149, 3) := dk_180 0 149 (dk_at dksX0_tries_2 15 rfl rfl)
theorem dX0_tries_66 : decode cX0_tries 66 = .ok (.iload 4, 2) := dk_21 4 (dk_at dksX0_tries_2 18 rfl rfl)
theorem dX0_tries_68 : decode cX0_tries 68 = .ok (.invokestatic 223, 3) := dk_184 0 223 (dk_at dksX0_tries_2 20 rfl rfl)
theorem dX0_tries_71 : decode cX0_tries 71 = .ok (.ifCond .ne 27, 3) := dk_154 0 27 (dk_at dksX0_tries_3 0 rfl rfl)
theorem dX0_tries_74 : decode cX0_tries 74 = .ok (.aload_n 0, 1) := dk_42 (dk_at dksX0_tries_3 3 rfl rfl)
theorem dX0_tries_75 : decode cX0_tries 75 = .ok (.aload_n 0, 1) := dk_42 (dk_at dksX0_tries_3 4 rfl rfl)
theorem dX0_tries_76 : decode cX0_tries 76 = .ok (.getfield 31, 3) := dk_180 0 31 (dk_at dksX0_tries_3 5 rfl rfl)
theorem dX0_tries_79 : decode cX0_tries 79 = .ok (.getfield 149, 3) := dk_180 0 149 (dk_at dksX0_tries_3 8 rfl rfl)
theorem dX0_tries_82 : decode cX0_tries 82 = .ok (.aload_n 0, 1) := dk_42 (dk_at dksX0_tries_3 11 rfl rfl)
theorem dX0_tries_83 : decode cX0_tries 83 = .ok (.getfield 31, 3) := dk_180 0 31 (dk_at dksX0_tries_3 12 rfl rfl)
theorem dX0_tries_86 : decode cX0_tries 86 = .ok (.getfield 152, 3) := dk_180 0 152 (dk_at dksX0_tries_3 15 rfl rfl)
theorem dX0_tries_89 : decode cX0_tries 89 = .ok (.iload 4, 2) := dk_21 4 (dk_at dksX0_tries_3 18 rfl rfl)
theorem dX0_tries_91 : decode cX0_tries 91 = .ok (.invokevirtual 382, 3) := dk_182 1 126 (dk_at dksX0_tries_3 20 rfl rfl)
theorem dX0_tries_94 : decode cX0_tries 94 = .ok (.iload_n 3, 1) := dk_29 (dk_at dksX0_tries_3 23 rfl rfl)
theorem dX0_tries_95 : decode cX0_tries 95 = .ok (.if_icmp .eq 9, 3) := dk_159 0 9 (dk_at dksX0_tries_4 0 rfl rfl)
theorem dX0_tries_98 : decode cX0_tries 98 = .ok (.iinc 4 1, 3) := dk_132 4 1 (dk_at dksX0_tries_4 3 rfl rfl)
theorem dX0_tries_101 : decode cX0_tries 101 = .ok (.goto (-42), 3) := dk_167 255 214 (dk_at dksX0_tries_4 6 rfl rfl)
theorem dX0_tries_104 : decode cX0_tries 104 = .ok (.iload 4, 2) := dk_21 4 (dk_at dksX0_tries_4 9 rfl rfl)
theorem dX0_tries_106 : decode cX0_tries 106 = .ok (.ireturn, 1) := dk_172 (dk_at dksX0_tries_4 11 rfl rfl)
abbrev cX0_fewest : ByteArray := prog_1_method_63_code
def yX0_fewest : MethodName := ⟨RX0, "fewest", "(II)I"⟩
def dkwX0_fewest_4 : List UInt8 := [21, 4, 172]
abbrev dktX0_fewest_4 : List UInt8 := dkwX0_fewest_4 ++ []
def dkwX0_fewest_3 : List UInt8 := [21, 5, 182, 1, 126, 184, 0, 208, 54, 4, 132, 5, 1, 167, 255, 217, 42, 180, 0, 63, 29, 21, 4, 79]
abbrev dktX0_fewest_3 : List UInt8 := dkwX0_fewest_3 ++ dktX0_fewest_4
def dkwX0_fewest_2 : List UInt8 := [180, 0, 24, 180, 0, 133, 162, 0, 33, 27, 21, 5, 184, 0, 223, 154, 0, 18, 21, 4, 42, 27, 28]
abbrev dktX0_fewest_2 : List UInt8 := dkwX0_fewest_2 ++ dktX0_fewest_3
def dkwX0_fewest_1 : List UInt8 := [2, 159, 0, 10, 42, 180, 0, 63, 29, 46, 172, 17, 3, 231, 54, 4, 3, 54, 5, 21, 5, 42]
abbrev dktX0_fewest_1 : List UInt8 := dkwX0_fewest_1 ++ dktX0_fewest_2
def dkwX0_fewest_0 : List UInt8 := [42, 27, 28, 182, 1, 120, 5, 159, 0, 5, 3, 172, 27, 28, 184, 1, 114, 62, 42, 180, 0, 63, 29, 46]
abbrev dktX0_fewest_0 : List UInt8 := dkwX0_fewest_0 ++ dktX0_fewest_1
theorem dksX0_fewest_0 : cX0_fewest.data.toList.drop 0 = dktX0_fewest_0 := by decide +kernel
theorem dksX0_fewest_1 : cX0_fewest.data.toList.drop 24 = dktX0_fewest_1 := dk_seg dksX0_fewest_0 24 rfl rfl
theorem dksX0_fewest_2 : cX0_fewest.data.toList.drop 46 = dktX0_fewest_2 := dk_seg dksX0_fewest_1 22 rfl rfl
theorem dksX0_fewest_3 : cX0_fewest.data.toList.drop 69 = dktX0_fewest_3 := dk_seg dksX0_fewest_2 23 rfl rfl
theorem dksX0_fewest_4 : cX0_fewest.data.toList.drop 93 = dktX0_fewest_4 := dk_seg dksX0_fewest_3 24 rfl rfl
theorem dX0_fewest_0 : decode cX0_fewest 0 = .ok (.aload_n 0, 1) := dk_42 (dk_at dksX0_fewest_0 0 rfl rfl)
theorem dX0_fewest_1 : decode cX0_fewest 1 = .ok (.iload_n 1, 1) := dk_27 (dk_at dksX0_fewest_0 1 rfl rfl)
theorem dX0_fewest_2 : decode cX0_fewest 2 = .ok (.iload_n 2, 1) := dk_28 (dk_at dksX0_fewest_0 2 rfl rfl)
theorem dX0_fewest_3 : decode cX0_fewest 3 = .ok (.invokevirtual 376, 3) := dk_182 1 120 (dk_at dksX0_fewest_0 3 rfl rfl)
theorem dX0_fewest_6 : decode cX0_fewest 6 = .ok (.iconst 2, 1) := dk_5 (dk_at dksX0_fewest_0 6 rfl rfl)
theorem dX0_fewest_7 : decode cX0_fewest 7 = .ok (.if_icmp .eq 5, 3) := dk_159 0 5 (dk_at dksX0_fewest_0 7 rfl rfl)
theorem dX0_fewest_10 : decode cX0_fewest 10 = .ok (.iconst 0, 1) := dk_3 (dk_at dksX0_fewest_0 10 rfl rfl)
theorem dX0_fewest_11 : decode cX0_fewest 11 = .ok (.ireturn, 1) := dk_172 (dk_at dksX0_fewest_0 11 rfl rfl)
theorem dX0_fewest_12 : decode cX0_fewest 12 = .ok (.iload_n 1, 1) := dk_27 (dk_at dksX0_fewest_0 12 rfl rfl)
theorem dX0_fewest_13 : decode cX0_fewest 13 = .ok (.iload_n 2, 1) := dk_28 (dk_at dksX0_fewest_0 13 rfl rfl)
theorem dX0_fewest_14 : decode cX0_fewest 14 = .ok (.invokestatic 370, 3) := dk_184 1 114 (dk_at dksX0_fewest_0 14 rfl rfl)
theorem dX0_fewest_17 : decode cX0_fewest 17 = .ok (.istore_n 3, 1) := dk_62 (dk_at dksX0_fewest_0 17 rfl rfl)
theorem dX0_fewest_18 : decode cX0_fewest 18 = .ok (.aload_n 0, 1) := dk_42 (dk_at dksX0_fewest_0 18 rfl rfl)
theorem dX0_fewest_19 : decode cX0_fewest 19 = .ok (.getfield 63, 3) := dk_180 0 63 (dk_at dksX0_fewest_0 19 rfl rfl)
theorem dX0_fewest_22 : decode cX0_fewest 22 = .ok (.iload_n 3, 1) := dk_29 (dk_at dksX0_fewest_0 22 rfl rfl)
theorem dX0_fewest_23 : decode cX0_fewest 23 = .ok (.iaload, 1) := dk_46 (dk_at dksX0_fewest_0 23 rfl rfl)
theorem dX0_fewest_24 : decode cX0_fewest 24 = .ok (.iconst (-1), 1) := dk_2 (dk_at dksX0_fewest_1 0 rfl rfl)
theorem dX0_fewest_25 : decode cX0_fewest 25 = .ok (.if_icmp .eq 10, 3) := dk_159 0 10 (dk_at dksX0_fewest_1 1 rfl rfl)
theorem dX0_fewest_28 : decode cX0_fewest 28 = .ok (.aload_n 0, 1) := dk_42 (dk_at dksX0_fewest_1 4 rfl rfl)
theorem dX0_fewest_29 : decode cX0_fewest 29 = .ok (.getfield 63, 3) := dk_180 0 63 (dk_at dksX0_fewest_1 5 rfl rfl)
theorem dX0_fewest_32 : decode cX0_fewest 32 = .ok (.iload_n 3, 1) := dk_29 (dk_at dksX0_fewest_1 8 rfl rfl)
theorem dX0_fewest_33 : decode cX0_fewest 33 = .ok (.iaload, 1) := dk_46 (dk_at dksX0_fewest_1 9 rfl rfl)
theorem dX0_fewest_34 : decode cX0_fewest 34 = .ok (.ireturn, 1) := dk_172 (dk_at dksX0_fewest_1 10 rfl rfl)
theorem dX0_fewest_35 : decode cX0_fewest 35 = .ok (.sipush 999, 3) := dk_17 3 231 (dk_at dksX0_fewest_1 11 rfl rfl)
theorem dX0_fewest_38 : decode cX0_fewest 38 = .ok (.istore 4, 2) := dk_54 4 (dk_at dksX0_fewest_1 14 rfl rfl)
theorem dX0_fewest_40 : decode cX0_fewest 40 = .ok (.iconst 0, 1) := dk_3 (dk_at dksX0_fewest_1 16 rfl rfl)
theorem dX0_fewest_41 : decode cX0_fewest 41 = .ok (.istore 5, 2) := dk_54 5 (dk_at dksX0_fewest_1 17 rfl rfl)
theorem dX0_fewest_43 : decode cX0_fewest 43 = .ok (.iload 5, 2) := dk_21 5 (dk_at dksX0_fewest_1 19 rfl rfl)
theorem dX0_fewest_45 : decode cX0_fewest 45 = .ok (.aload_n 0, 1) := dk_42 (dk_at dksX0_fewest_1 21 rfl rfl)
theorem dX0_fewest_46 : decode cX0_fewest 46 = .ok (.getfield 24, 3) := dk_180 0 24 (dk_at dksX0_fewest_2 0 rfl rfl)
theorem dX0_fewest_49 : decode cX0_fewest 49 = .ok (.getfield 133, 3) := dk_180 0 133 (dk_at dksX0_fewest_2 3 rfl rfl)
theorem dX0_fewest_52 : decode cX0_fewest 52 = .ok (.if_icmp .ge 33, 3) := dk_162 0 33 (dk_at dksX0_fewest_2 6 rfl rfl)
theorem dX0_fewest_55 : decode cX0_fewest 55 = .ok (.iload_n 1, 1) := dk_27 (dk_at dksX0_fewest_2 9 rfl rfl)
theorem dX0_fewest_56 : decode cX0_fewest 56 = .ok (.iload 5, 2) := dk_21 5 (dk_at dksX0_fewest_2 10 rfl rfl)
theorem dX0_fewest_58 : decode cX0_fewest 58 = .ok (.invokestatic 223, 3) := dk_184 0 223 (dk_at dksX0_fewest_2 12 rfl rfl)
theorem dX0_fewest_61 : decode cX0_fewest 61 = .ok (.ifCond .ne 18, 3) := dk_154 0 18 (dk_at dksX0_fewest_2 15 rfl rfl)
theorem dX0_fewest_64 : decode cX0_fewest 64 = .ok (.iload 4, 2) := dk_21 4 (dk_at dksX0_fewest_2 18 rfl rfl)
theorem dX0_fewest_66 : decode cX0_fewest 66 = .ok (.aload_n 0, 1) := dk_42 (dk_at dksX0_fewest_2 20 rfl rfl)
theorem dX0_fewest_67 : decode cX0_fewest 67 = .ok (.iload_n 1, 1) := dk_27 (dk_at dksX0_fewest_2 21 rfl rfl)
theorem dX0_fewest_68 : decode cX0_fewest 68 = .ok (.iload_n 2, 1) := dk_28 (dk_at dksX0_fewest_2 22 rfl rfl)
theorem dX0_fewest_69 : decode cX0_fewest 69 = .ok (.iload 5, 2) := dk_21 5 (dk_at dksX0_fewest_3 0 rfl rfl)
theorem dX0_fewest_71 : decode cX0_fewest 71 = .ok (.invokevirtual 382, 3) := dk_182 1 126 (dk_at dksX0_fewest_3 2 rfl rfl)
theorem dX0_fewest_74 : decode cX0_fewest 74 = .ok (.invokestatic 208, 3) := dk_184 0 208 (dk_at dksX0_fewest_3 5 rfl rfl)
theorem dX0_fewest_77 : decode cX0_fewest 77 = .ok (.istore 4, 2) := dk_54 4 (dk_at dksX0_fewest_3 8 rfl rfl)
theorem dX0_fewest_79 : decode cX0_fewest 79 = .ok (.iinc 5 1, 3) := dk_132 5 1 (dk_at dksX0_fewest_3 10 rfl rfl)
theorem dX0_fewest_82 : decode cX0_fewest 82 = .ok (.goto (-39), 3) := dk_167 255 217 (dk_at dksX0_fewest_3 13 rfl rfl)
theorem dX0_fewest_85 : decode cX0_fewest 85 = .ok (.aload_n 0, 1) := dk_42 (dk_at dksX0_fewest_3 16 rfl rfl)
theorem dX0_fewest_86 : decode cX0_fewest 86 = .ok (.getfield 63, 3) := dk_180 0 63 (dk_at dksX0_fewest_3 17 rfl rfl)
theorem dX0_fewest_89 : decode cX0_fewest 89 = .ok (.iload_n 3, 1) := dk_29 (dk_at dksX0_fewest_3 20 rfl rfl)
theorem dX0_fewest_90 : decode cX0_fewest 90 = .ok (.iload 4, 2) := dk_21 4 (dk_at dksX0_fewest_3 21 rfl rfl)
theorem dX0_fewest_92 : decode cX0_fewest 92 = .ok (.iastore, 1) := dk_79 (dk_at dksX0_fewest_3 23 rfl rfl)
theorem dX0_fewest_93 : decode cX0_fewest 93 = .ok (.iload 4, 2) := dk_21 4 (dk_at dksX0_fewest_4 0 rfl rfl)
theorem dX0_fewest_95 : decode cX0_fewest 95 = .ok (.ireturn, 1) := dk_172 (dk_at dksX0_fewest_4 2 rfl rfl)
abbrev cX0_worst : ByteArray := prog_1_method_62_code
def yX0_worst : MethodName := ⟨RX0, "worst", "(III)I"⟩
def dkwX0_worst_2 : List UInt8 := [184, 1, 0, 54, 4, 132, 5, 1, 167, 255, 207, 4, 21, 4, 96, 172]
abbrev dktX0_worst_2 : List UInt8 := dkwX0_worst_2 ++ []
def dkwX0_worst_1 : List UInt8 := [182, 0, 227, 153, 0, 25, 21, 4, 42, 27, 4, 29, 120, 128, 28, 21, 5, 29, 120, 128, 182, 1, 123]
abbrev dktX0_worst_1 : List UInt8 := dkwX0_worst_1 ++ dktX0_worst_2
def dkwX0_worst_0 : List UInt8 := [3, 54, 4, 3, 54, 5, 21, 5, 5, 162, 0, 49, 42, 27, 4, 29, 120, 128, 28, 21, 5, 29, 120, 128]
abbrev dktX0_worst_0 : List UInt8 := dkwX0_worst_0 ++ dktX0_worst_1
theorem dksX0_worst_0 : cX0_worst.data.toList.drop 0 = dktX0_worst_0 := by decide +kernel
theorem dksX0_worst_1 : cX0_worst.data.toList.drop 24 = dktX0_worst_1 := dk_seg dksX0_worst_0 24 rfl rfl
theorem dksX0_worst_2 : cX0_worst.data.toList.drop 47 = dktX0_worst_2 := dk_seg dksX0_worst_1 23 rfl rfl
theorem dX0_worst_0 : decode cX0_worst 0 = .ok (.iconst 0, 1) := dk_3 (dk_at dksX0_worst_0 0 rfl rfl)
theorem dX0_worst_1 : decode cX0_worst 1 = .ok (.istore 4, 2) := dk_54 4 (dk_at dksX0_worst_0 1 rfl rfl)
theorem dX0_worst_3 : decode cX0_worst 3 = .ok (.iconst 0, 1) := dk_3 (dk_at dksX0_worst_0 3 rfl rfl)
theorem dX0_worst_4 : decode cX0_worst 4 = .ok (.istore 5, 2) := dk_54 5 (dk_at dksX0_worst_0 4 rfl rfl)
theorem dX0_worst_6 : decode cX0_worst 6 = .ok (.iload 5, 2) := dk_21 5 (dk_at dksX0_worst_0 6 rfl rfl)
theorem dX0_worst_8 : decode cX0_worst 8 = .ok (.iconst 2, 1) := dk_5 (dk_at dksX0_worst_0 8 rfl rfl)
theorem dX0_worst_9 : decode cX0_worst 9 = .ok (.if_icmp .ge 49, 3) := dk_162 0 49 (dk_at dksX0_worst_0 9 rfl rfl)
theorem dX0_worst_12 : decode cX0_worst 12 = .ok (.aload_n 0, 1) := dk_42 (dk_at dksX0_worst_0 12 rfl rfl)
theorem dX0_worst_13 : decode cX0_worst 13 = .ok (.iload_n 1, 1) := dk_27 (dk_at dksX0_worst_0 13 rfl rfl)
theorem dX0_worst_14 : decode cX0_worst 14 = .ok (.iconst 1, 1) := dk_4 (dk_at dksX0_worst_0 14 rfl rfl)
theorem dX0_worst_15 : decode cX0_worst 15 = .ok (.iload_n 3, 1) := dk_29 (dk_at dksX0_worst_0 15 rfl rfl)
theorem dX0_worst_16 : decode cX0_worst 16 = .ok (.ishl, 1) := dk_120 (dk_at dksX0_worst_0 16 rfl rfl)
theorem dX0_worst_17 : decode cX0_worst 17 = .ok (.ior, 1) := dk_128 (dk_at dksX0_worst_0 17 rfl rfl)
theorem dX0_worst_18 : decode cX0_worst 18 = .ok (.iload_n 2, 1) := dk_28 (dk_at dksX0_worst_0 18 rfl rfl)
theorem dX0_worst_19 : decode cX0_worst 19 = .ok (.iload 5, 2) := dk_21 5 (dk_at dksX0_worst_0 19 rfl rfl)
theorem dX0_worst_21 : decode cX0_worst 21 = .ok (.iload_n 3, 1) := dk_29 (dk_at dksX0_worst_0 21 rfl rfl)
theorem dX0_worst_22 : decode cX0_worst 22 = .ok (.ishl, 1) := dk_120 (dk_at dksX0_worst_0 22 rfl rfl)
theorem dX0_worst_23 : decode cX0_worst 23 = .ok (.ior, 1) := dk_128 (dk_at dksX0_worst_0 23 rfl rfl)
theorem dX0_worst_24 : decode cX0_worst 24 = .ok (.invokevirtual 227, 3) := dk_182 0 227 (dk_at dksX0_worst_1 0 rfl rfl)
theorem dX0_worst_27 : decode cX0_worst 27 = .ok (.ifCond .eq 25, 3) := dk_153 0 25 (dk_at dksX0_worst_1 3 rfl rfl)
theorem dX0_worst_30 : decode cX0_worst 30 = .ok (.iload 4, 2) := dk_21 4 (dk_at dksX0_worst_1 6 rfl rfl)
theorem dX0_worst_32 : decode cX0_worst 32 = .ok (.aload_n 0, 1) := dk_42 (dk_at dksX0_worst_1 8 rfl rfl)
theorem dX0_worst_33 : decode cX0_worst 33 = .ok (.iload_n 1, 1) := dk_27 (dk_at dksX0_worst_1 9 rfl rfl)
theorem dX0_worst_34 : decode cX0_worst 34 = .ok (.iconst 1, 1) := dk_4 (dk_at dksX0_worst_1 10 rfl rfl)
theorem dX0_worst_35 : decode cX0_worst 35 = .ok (.iload_n 3, 1) := dk_29 (dk_at dksX0_worst_1 11 rfl rfl)
theorem dX0_worst_36 : decode cX0_worst 36 = .ok (.ishl, 1) := dk_120 (dk_at dksX0_worst_1 12 rfl rfl)
theorem dX0_worst_37 : decode cX0_worst 37 = .ok (.ior, 1) := dk_128 (dk_at dksX0_worst_1 13 rfl rfl)
theorem dX0_worst_38 : decode cX0_worst 38 = .ok (.iload_n 2, 1) := dk_28 (dk_at dksX0_worst_1 14 rfl rfl)
theorem dX0_worst_39 : decode cX0_worst 39 = .ok (.iload 5, 2) := dk_21 5 (dk_at dksX0_worst_1 15 rfl rfl)
theorem dX0_worst_41 : decode cX0_worst 41 = .ok (.iload_n 3, 1) := dk_29 (dk_at dksX0_worst_1 17 rfl rfl)
theorem dX0_worst_42 : decode cX0_worst 42 = .ok (.ishl, 1) := dk_120 (dk_at dksX0_worst_1 18 rfl rfl)
theorem dX0_worst_43 : decode cX0_worst 43 = .ok (.ior, 1) := dk_128 (dk_at dksX0_worst_1 19 rfl rfl)
theorem dX0_worst_44 : decode cX0_worst 44 = .ok (.invokevirtual 379, 3) := dk_182 1 123 (dk_at dksX0_worst_1 20 rfl rfl)
theorem dX0_worst_47 : decode cX0_worst 47 = .ok (.invokestatic 256, 3) := dk_184 1 0 (dk_at dksX0_worst_2 0 rfl rfl)
theorem dX0_worst_50 : decode cX0_worst 50 = .ok (.istore 4, 2) := dk_54 4 (dk_at dksX0_worst_2 3 rfl rfl)
theorem dX0_worst_52 : decode cX0_worst 52 = .ok (.iinc 5 1, 3) := dk_132 5 1 (dk_at dksX0_worst_2 5 rfl rfl)
theorem dX0_worst_55 : decode cX0_worst 55 = .ok (.goto (-49), 3) := dk_167 255 207 (dk_at dksX0_worst_2 8 rfl rfl)
theorem dX0_worst_58 : decode cX0_worst 58 = .ok (.iconst 1, 1) := dk_4 (dk_at dksX0_worst_2 11 rfl rfl)
theorem dX0_worst_59 : decode cX0_worst 59 = .ok (.iload 4, 2) := dk_21 4 (dk_at dksX0_worst_2 12 rfl rfl)
theorem dX0_worst_61 : decode cX0_worst 61 = .ok (.iadd, 1) := dk_96 (dk_at dksX0_worst_2 14 rfl rfl)
theorem dX0_worst_62 : decode cX0_worst 62 = .ok (.ireturn, 1) := dk_172 (dk_at dksX0_worst_2 15 rfl rfl)
abbrev cX0_chance : ByteArray := prog_1_method_69_code
def yX0_chance : MethodName := ⟨RX0, "chance", "(II)I"⟩
def dkwX0_chance_1 : List UInt8 := [42, 42, 180, 0, 60, 182, 1, 136, 133, 42, 182, 1, 140, 133, 28, 184, 1, 143, 136, 172]
abbrev dktX0_chance_1 : List UInt8 := dkwX0_chance_1 ++ []
def dkwX0_chance_0 : List UInt8 := [42, 27, 182, 1, 34, 153, 0, 12, 28, 3, 4, 184, 0, 96, 154, 0, 5, 2, 172, 42, 27, 182, 1, 117]
abbrev dktX0_chance_0 : List UInt8 := dkwX0_chance_0 ++ dktX0_chance_1
theorem dksX0_chance_0 : cX0_chance.data.toList.drop 0 = dktX0_chance_0 := by decide +kernel
theorem dksX0_chance_1 : cX0_chance.data.toList.drop 24 = dktX0_chance_1 := dk_seg dksX0_chance_0 24 rfl rfl
theorem dX0_chance_0 : decode cX0_chance 0 = .ok (.aload_n 0, 1) := dk_42 (dk_at dksX0_chance_0 0 rfl rfl)
theorem dX0_chance_1 : decode cX0_chance 1 = .ok (.iload_n 1, 1) := dk_27 (dk_at dksX0_chance_0 1 rfl rfl)
theorem dX0_chance_2 : decode cX0_chance 2 = .ok (.invokevirtual 290, 3) := dk_182 1 34 (dk_at dksX0_chance_0 2 rfl rfl)
theorem dX0_chance_5 : decode cX0_chance 5 = .ok (.ifCond .eq 12, 3) := dk_153 0 12 (dk_at dksX0_chance_0 5 rfl rfl)
theorem dX0_chance_8 : decode cX0_chance 8 = .ok (.iload_n 2, 1) := dk_28 (dk_at dksX0_chance_0 8 rfl rfl)
theorem dX0_chance_9 : decode cX0_chance 9 = .ok (.iconst 0, 1) := dk_3 (dk_at dksX0_chance_0 9 rfl rfl)
theorem dX0_chance_10 : decode cX0_chance 10 = .ok (.iconst 1, 1) := dk_4 (dk_at dksX0_chance_0 10 rfl rfl)
theorem dX0_chance_11 : decode cX0_chance 11 = .ok (.invokestatic 96, 3) := dk_184 0 96 (dk_at dksX0_chance_0 11 rfl rfl)
theorem dX0_chance_14 : decode cX0_chance 14 = .ok (.ifCond .ne 5, 3) := dk_154 0 5 (dk_at dksX0_chance_0 14 rfl rfl)
theorem dX0_chance_17 : decode cX0_chance 17 = .ok (.iconst (-1), 1) := dk_2 (dk_at dksX0_chance_0 17 rfl rfl)
theorem dX0_chance_18 : decode cX0_chance 18 = .ok (.ireturn, 1) := dk_172 (dk_at dksX0_chance_0 18 rfl rfl)
theorem dX0_chance_19 : decode cX0_chance 19 = .ok (.aload_n 0, 1) := dk_42 (dk_at dksX0_chance_0 19 rfl rfl)
theorem dX0_chance_20 : decode cX0_chance 20 = .ok (.iload_n 1, 1) := dk_27 (dk_at dksX0_chance_0 20 rfl rfl)
theorem dX0_chance_21 : decode cX0_chance 21 = .ok (.invokevirtual 373, 3) := dk_182 1 117 (dk_at dksX0_chance_0 21 rfl rfl)
theorem dX0_chance_24 : decode cX0_chance 24 = .ok (.aload_n 0, 1) := dk_42 (dk_at dksX0_chance_1 0 rfl rfl)
theorem dX0_chance_25 : decode cX0_chance 25 = .ok (.aload_n 0, 1) := dk_42 (dk_at dksX0_chance_1 1 rfl rfl)
theorem dX0_chance_26 : decode cX0_chance 26 = .ok (.getfield 60, 3) := dk_180 0 60 (dk_at dksX0_chance_1 2 rfl rfl)
theorem dX0_chance_29 : decode cX0_chance 29 = .ok (.invokevirtual 392, 3) := dk_182 1 136 (dk_at dksX0_chance_1 5 rfl rfl)
theorem dX0_chance_32 : decode cX0_chance 32 = .ok (.i2l, 1) := dk_133 (dk_at dksX0_chance_1 8 rfl rfl)
theorem dX0_chance_33 : decode cX0_chance 33 = .ok (.aload_n 0, 1) := dk_42 (dk_at dksX0_chance_1 9 rfl rfl)
theorem dX0_chance_34 : decode cX0_chance 34 = .ok (.invokevirtual 396, 3) := dk_182 1 140 (dk_at dksX0_chance_1 10 rfl rfl)
theorem dX0_chance_37 : decode cX0_chance 37 = .ok (.i2l, 1) := dk_133 (dk_at dksX0_chance_1 13 rfl rfl)
theorem dX0_chance_38 : decode cX0_chance 38 = .ok (.iload_n 2, 1) := dk_28 (dk_at dksX0_chance_1 14 rfl rfl)
theorem dX0_chance_39 : decode cX0_chance 39 = .ok (.invokestatic 399, 3) := dk_184 1 143 (dk_at dksX0_chance_1 15 rfl rfl)
theorem dX0_chance_42 : decode cX0_chance 42 = .ok (.l2i, 1) := dk_136 (dk_at dksX0_chance_1 18 rfl rfl)
theorem dX0_chance_43 : decode cX0_chance 43 = .ok (.ireturn, 1) := dk_172 (dk_at dksX0_chance_1 19 rfl rfl)
abbrev cX0_weightOf : ByteArray := prog_1_method_66_code
def yX0_weightOf : MethodName := ⟨RX0, "weightOf", "([Z)I"⟩
def dkwX0_weightOf_2 : List UInt8 := [172]
abbrev dktX0_weightOf_2 : List UInt8 := dkwX0_weightOf_2 ++ []
def dkwX0_weightOf_1 : List UInt8 := [29, 51, 153, 0, 15, 28, 42, 180, 0, 24, 180, 1, 133, 29, 46, 96, 61, 132, 3, 1, 167, 255, 216, 28]
abbrev dktX0_weightOf_1 : List UInt8 := dkwX0_weightOf_1 ++ dktX0_weightOf_2
def dkwX0_weightOf_0 : List UInt8 := [3, 61, 3, 62, 29, 42, 180, 0, 24, 182, 0, 142, 162, 0, 35, 42, 29, 182, 1, 91, 153, 0, 21, 43]
abbrev dktX0_weightOf_0 : List UInt8 := dkwX0_weightOf_0 ++ dktX0_weightOf_1
theorem dksX0_weightOf_0 : cX0_weightOf.data.toList.drop 0 = dktX0_weightOf_0 := by decide +kernel
theorem dksX0_weightOf_1 : cX0_weightOf.data.toList.drop 24 = dktX0_weightOf_1 := dk_seg dksX0_weightOf_0 24 rfl rfl
theorem dksX0_weightOf_2 : cX0_weightOf.data.toList.drop 48 = dktX0_weightOf_2 := dk_seg dksX0_weightOf_1 24 rfl rfl
theorem dX0_weightOf_0 : decode cX0_weightOf 0 = .ok (.iconst 0, 1) := dk_3 (dk_at dksX0_weightOf_0 0 rfl rfl)
theorem dX0_weightOf_1 : decode cX0_weightOf 1 = .ok (.istore_n 2, 1) := dk_61 (dk_at dksX0_weightOf_0 1 rfl rfl)
theorem dX0_weightOf_2 : decode cX0_weightOf 2 = .ok (.iconst 0, 1) := dk_3 (dk_at dksX0_weightOf_0 2 rfl rfl)
theorem dX0_weightOf_3 : decode cX0_weightOf 3 = .ok (.istore_n 3, 1) := dk_62 (dk_at dksX0_weightOf_0 3 rfl rfl)
theorem dX0_weightOf_4 : decode cX0_weightOf 4 = .ok (.iload_n 3, 1) := dk_29 (dk_at dksX0_weightOf_0 4 rfl rfl)
theorem dX0_weightOf_5 : decode cX0_weightOf 5 = .ok (.aload_n 0, 1) := dk_42 (dk_at dksX0_weightOf_0 5 rfl rfl)
theorem dX0_weightOf_6 : decode cX0_weightOf 6 = .ok (.getfield 24, 3) := dk_180 0 24 (dk_at dksX0_weightOf_0 6 rfl rfl)
theorem dX0_weightOf_9 : decode cX0_weightOf 9 = .ok (.invokevirtual 142, 3) := dk_182 0 142 (dk_at dksX0_weightOf_0 9 rfl rfl)
theorem dX0_weightOf_12 : decode cX0_weightOf 12 = .ok (.if_icmp .ge 35, 3) := dk_162 0 35 (dk_at dksX0_weightOf_0 12 rfl rfl)
theorem dX0_weightOf_15 : decode cX0_weightOf 15 = .ok (.aload_n 0, 1) := dk_42 (dk_at dksX0_weightOf_0 15 rfl rfl)
theorem dX0_weightOf_16 : decode cX0_weightOf 16 = .ok (.iload_n 3, 1) := dk_29 (dk_at dksX0_weightOf_0 16 rfl rfl)
theorem dX0_weightOf_17 : decode cX0_weightOf 17 = .ok (.invokevirtual 347, 3) := dk_182 1 91 (dk_at dksX0_weightOf_0 17 rfl rfl)
theorem dX0_weightOf_20 : decode cX0_weightOf 20 = .ok (.ifCond .eq 21, 3) := dk_153 0 21 (dk_at dksX0_weightOf_0 20 rfl rfl)
theorem dX0_weightOf_23 : decode cX0_weightOf 23 = .ok (.aload_n 1, 1) := dk_43 (dk_at dksX0_weightOf_0 23 rfl rfl)
theorem dX0_weightOf_24 : decode cX0_weightOf 24 = .ok (.iload_n 3, 1) := dk_29 (dk_at dksX0_weightOf_1 0 rfl rfl)
theorem dX0_weightOf_25 : decode cX0_weightOf 25 = .ok (.baload, 1) := dk_51 (dk_at dksX0_weightOf_1 1 rfl rfl)
theorem dX0_weightOf_26 : decode cX0_weightOf 26 = .ok (.ifCond .eq 15, 3) := dk_153 0 15 (dk_at dksX0_weightOf_1 2 rfl rfl)
theorem dX0_weightOf_29 : decode cX0_weightOf 29 = .ok (.iload_n 2, 1) := dk_28 (dk_at dksX0_weightOf_1 5 rfl rfl)
theorem dX0_weightOf_30 : decode cX0_weightOf 30 = .ok (.aload_n 0, 1) := dk_42 (dk_at dksX0_weightOf_1 6 rfl rfl)
theorem dX0_weightOf_31 : decode cX0_weightOf 31 = .ok (.getfield 24, 3) := dk_180 0 24 (dk_at dksX0_weightOf_1 7 rfl rfl)
theorem dX0_weightOf_34 : decode cX0_weightOf 34 = .ok (.getfield 389, 3) := dk_180 1 133 (dk_at dksX0_weightOf_1 10 rfl rfl)
theorem dX0_weightOf_37 : decode cX0_weightOf 37 = .ok (.iload_n 3, 1) := dk_29 (dk_at dksX0_weightOf_1 13 rfl rfl)
theorem dX0_weightOf_38 : decode cX0_weightOf 38 = .ok (.iaload, 1) := dk_46 (dk_at dksX0_weightOf_1 14 rfl rfl)
theorem dX0_weightOf_39 : decode cX0_weightOf 39 = .ok (.iadd, 1) := dk_96 (dk_at dksX0_weightOf_1 15 rfl rfl)
theorem dX0_weightOf_40 : decode cX0_weightOf 40 = .ok (.istore_n 2, 1) := dk_61 (dk_at dksX0_weightOf_1 16 rfl rfl)
theorem dX0_weightOf_41 : decode cX0_weightOf 41 = .ok (.iinc 3 1, 3) := dk_132 3 1 (dk_at dksX0_weightOf_1 17 rfl rfl)
theorem dX0_weightOf_44 : decode cX0_weightOf 44 = .ok (.goto (-40), 3) := dk_167 255 216 (dk_at dksX0_weightOf_1 20 rfl rfl)
theorem dX0_weightOf_47 : decode cX0_weightOf 47 = .ok (.iload_n 2, 1) := dk_28 (dk_at dksX0_weightOf_1 23 rfl rfl)
theorem dX0_weightOf_48 : decode cX0_weightOf 48 = .ok (.ireturn, 1) := dk_172 (dk_at dksX0_weightOf_2 0 rfl rfl)
abbrev cX0_weightOfAll : ByteArray := prog_1_method_67_code
def yX0_weightOfAll : MethodName := ⟨RX0, "weightOfAll", "()I"⟩
def dkwX0_weightOfAll_0 : List UInt8 := [42, 42, 180, 0, 24, 180, 0, 139, 182, 1, 136, 172]
abbrev dktX0_weightOfAll_0 : List UInt8 := dkwX0_weightOfAll_0 ++ []
theorem dksX0_weightOfAll_0 : cX0_weightOfAll.data.toList.drop 0 = dktX0_weightOfAll_0 := by decide +kernel
theorem dX0_weightOfAll_0 : decode cX0_weightOfAll 0 = .ok (.aload_n 0, 1) := dk_42 (dk_at dksX0_weightOfAll_0 0 rfl rfl)
theorem dX0_weightOfAll_1 : decode cX0_weightOfAll 1 = .ok (.aload_n 0, 1) := dk_42 (dk_at dksX0_weightOfAll_0 1 rfl rfl)
theorem dX0_weightOfAll_2 : decode cX0_weightOfAll 2 = .ok (.getfield 24, 3) := dk_180 0 24 (dk_at dksX0_weightOfAll_0 2 rfl rfl)
theorem dX0_weightOfAll_5 : decode cX0_weightOfAll 5 = .ok (.getfield 139, 3) := dk_180 0 139 (dk_at dksX0_weightOfAll_0 5 rfl rfl)
theorem dX0_weightOfAll_8 : decode cX0_weightOfAll 8 = .ok (.invokevirtual 392, 3) := dk_182 1 136 (dk_at dksX0_weightOfAll_0 8 rfl rfl)
theorem dX0_weightOfAll_11 : decode cX0_weightOfAll 11 = .ok (.ireturn, 1) := dk_172 (dk_at dksX0_weightOfAll_0 11 rfl rfl)
abbrev cX0_lowest : ByteArray := prog_1_method_68_code
def yX0_lowest : MethodName := ⟨RX0, "lowest", "(JJI)J"⟩
def dkwX0_lowest_0 : List UInt8 := [30, 32, 184, 1, 129, 55, 5, 21, 4, 154, 0, 10, 30, 22, 5, 109, 167, 0, 7, 32, 22, 5, 109, 173]
abbrev dktX0_lowest_0 : List UInt8 := dkwX0_lowest_0 ++ []
theorem dksX0_lowest_0 : cX0_lowest.data.toList.drop 0 = dktX0_lowest_0 := by decide +kernel
theorem dX0_lowest_0 : decode cX0_lowest 0 = .ok (.lload_n 0, 1) := dk_30 (dk_at dksX0_lowest_0 0 rfl rfl)
theorem dX0_lowest_1 : decode cX0_lowest 1 = .ok (.lload_n 2, 1) := dk_32 (dk_at dksX0_lowest_0 1 rfl rfl)
theorem dX0_lowest_2 : decode cX0_lowest 2 = .ok (.invokestatic 385, 3) := dk_184 1 129 (dk_at dksX0_lowest_0 2 rfl rfl)
theorem dX0_lowest_5 : decode cX0_lowest 5 = .ok (.lstore 5, 2) := dk_55 5 (dk_at dksX0_lowest_0 5 rfl rfl)
theorem dX0_lowest_7 : decode cX0_lowest 7 = .ok (.iload 4, 2) := dk_21 4 (dk_at dksX0_lowest_0 7 rfl rfl)
theorem dX0_lowest_9 : decode cX0_lowest 9 = .ok (.ifCond .ne 10, 3) := dk_154 0 10 (dk_at dksX0_lowest_0 9 rfl rfl)
theorem dX0_lowest_12 : decode cX0_lowest 12 = .ok (.lload_n 0, 1) := dk_30 (dk_at dksX0_lowest_0 12 rfl rfl)
theorem dX0_lowest_13 : decode cX0_lowest 13 = .ok (.lload 5, 2) := dk_22 5 (dk_at dksX0_lowest_0 13 rfl rfl)
theorem dX0_lowest_15 : decode cX0_lowest 15 = .ok (.ldiv, 1) := dk_109 (dk_at dksX0_lowest_0 15 rfl rfl)
theorem dX0_lowest_16 : decode cX0_lowest 16 = .ok (.goto 7, 3) := dk_167 0 7 (dk_at dksX0_lowest_0 16 rfl rfl)
theorem dX0_lowest_19 : decode cX0_lowest 19 = .ok (.lload_n 2, 1) := dk_32 (dk_at dksX0_lowest_0 19 rfl rfl)
theorem dX0_lowest_20 : decode cX0_lowest 20 = .ok (.lload 5, 2) := dk_22 5 (dk_at dksX0_lowest_0 20 rfl rfl)
theorem dX0_lowest_22 : decode cX0_lowest 22 = .ok (.ldiv, 1) := dk_109 (dk_at dksX0_lowest_0 22 rfl rfl)
theorem dX0_lowest_23 : decode cX0_lowest 23 = .ok (.lreturn, 1) := dk_173 (dk_at dksX0_lowest_0 23 rfl rfl)
abbrev cX0_common : ByteArray := prog_1_method_65_code
def yX0_common : MethodName := ⟨RX0, "common", "(JJ)J"⟩
def dkwX0_common_0 : List UInt8 := [32, 9, 148, 154, 0, 7, 30, 167, 0, 10, 32, 30, 32, 113, 184, 1, 129, 173]
abbrev dktX0_common_0 : List UInt8 := dkwX0_common_0 ++ []
theorem dksX0_common_0 : cX0_common.data.toList.drop 0 = dktX0_common_0 := by decide +kernel
theorem dX0_common_0 : decode cX0_common 0 = .ok (.lload_n 2, 1) := dk_32 (dk_at dksX0_common_0 0 rfl rfl)
theorem dX0_common_1 : decode cX0_common 1 = .ok (.lconst 0, 1) := dk_9 (dk_at dksX0_common_0 1 rfl rfl)
theorem dX0_common_2 : decode cX0_common 2 = .ok (.lcmp, 1) := dk_148 (dk_at dksX0_common_0 2 rfl rfl)
theorem dX0_common_3 : decode cX0_common 3 = .ok (.ifCond .ne 7, 3) := dk_154 0 7 (dk_at dksX0_common_0 3 rfl rfl)
theorem dX0_common_6 : decode cX0_common 6 = .ok (.lload_n 0, 1) := dk_30 (dk_at dksX0_common_0 6 rfl rfl)
theorem dX0_common_7 : decode cX0_common 7 = .ok (.goto 10, 3) := dk_167 0 10 (dk_at dksX0_common_0 7 rfl rfl)
theorem dX0_common_10 : decode cX0_common 10 = .ok (.lload_n 2, 1) := dk_32 (dk_at dksX0_common_0 10 rfl rfl)
theorem dX0_common_11 : decode cX0_common 11 = .ok (.lload_n 0, 1) := dk_30 (dk_at dksX0_common_0 11 rfl rfl)
theorem dX0_common_12 : decode cX0_common 12 = .ok (.lload_n 2, 1) := dk_32 (dk_at dksX0_common_0 12 rfl rfl)
theorem dX0_common_13 : decode cX0_common 13 = .ok (.lrem, 1) := dk_113 (dk_at dksX0_common_0 13 rfl rfl)
theorem dX0_common_14 : decode cX0_common 14 = .ok (.invokestatic 385, 3) := dk_184 1 129 (dk_at dksX0_common_0 14 rfl rfl)
theorem dX0_common_17 : decode cX0_common 17 = .ok (.lreturn, 1) := dk_173 (dk_at dksX0_common_0 17 rfl rfl)
abbrev cX0_award : ByteArray := prog_1_method_72_code
def yX0_award : MethodName := ⟨RX0, "award", "(I)I"⟩
def dkwX0_award_5 : List UInt8 := [160, 0, 8, 21, 4, 167, 0, 5, 21, 5, 172]
abbrev dktX0_award_5 : List UInt8 := dkwX0_award_5 ++ []
def dkwX0_award_4 : List UInt8 := [54, 4, 21, 6, 54, 5, 132, 6, 1, 167, 255, 185, 27, 154, 0, 7, 29, 167, 0, 15, 27, 4]
abbrev dktX0_award_4 : List UInt8 := dkwX0_award_4 ++ dktX0_award_5
def dkwX0_award_3 : List UInt8 := [21, 7, 167, 0, 9, 29, 21, 7, 184, 0, 208, 62, 21, 7, 21, 4, 163, 0, 6, 167, 0, 11, 21, 7]
abbrev dktX0_award_3 : List UInt8 := dkwX0_award_3 ++ dktX0_award_4
def dkwX0_award_2 : List UInt8 := [182, 1, 91, 154, 0, 6, 167, 0, 47, 42, 28, 21, 6, 182, 1, 153, 54, 7, 29, 2, 160, 0, 8]
abbrev dktX0_award_2 : List UInt8 := dkwX0_award_2 ++ dktX0_award_3
def dkwX0_award_1 : List UInt8 := [54, 4, 2, 54, 5, 3, 54, 6, 21, 6, 42, 180, 0, 24, 182, 0, 142, 162, 0, 65, 42, 21, 6]
abbrev dktX0_award_1 : List UInt8 := dkwX0_award_1 ++ dktX0_award_2
def dkwX0_award_0 : List UInt8 := [27, 3, 5, 184, 0, 96, 154, 0, 5, 2, 172, 42, 182, 1, 40, 42, 182, 1, 150, 61, 2, 62, 2]
abbrev dktX0_award_0 : List UInt8 := dkwX0_award_0 ++ dktX0_award_1
theorem dksX0_award_0 : cX0_award.data.toList.drop 0 = dktX0_award_0 := by decide +kernel
theorem dksX0_award_1 : cX0_award.data.toList.drop 23 = dktX0_award_1 := dk_seg dksX0_award_0 23 rfl rfl
theorem dksX0_award_2 : cX0_award.data.toList.drop 46 = dktX0_award_2 := dk_seg dksX0_award_1 23 rfl rfl
theorem dksX0_award_3 : cX0_award.data.toList.drop 69 = dktX0_award_3 := dk_seg dksX0_award_2 23 rfl rfl
theorem dksX0_award_4 : cX0_award.data.toList.drop 93 = dktX0_award_4 := dk_seg dksX0_award_3 24 rfl rfl
theorem dksX0_award_5 : cX0_award.data.toList.drop 115 = dktX0_award_5 := dk_seg dksX0_award_4 22 rfl rfl
theorem dX0_award_0 : decode cX0_award 0 = .ok (.iload_n 1, 1) := dk_27 (dk_at dksX0_award_0 0 rfl rfl)
theorem dX0_award_1 : decode cX0_award 1 = .ok (.iconst 0, 1) := dk_3 (dk_at dksX0_award_0 1 rfl rfl)
theorem dX0_award_2 : decode cX0_award 2 = .ok (.iconst 2, 1) := dk_5 (dk_at dksX0_award_0 2 rfl rfl)
theorem dX0_award_3 : decode cX0_award 3 = .ok (.invokestatic 96, 3) := dk_184 0 96 (dk_at dksX0_award_0 3 rfl rfl)
theorem dX0_award_6 : decode cX0_award 6 = .ok (.ifCond .ne 5, 3) := dk_154 0 5 (dk_at dksX0_award_0 6 rfl rfl)
theorem dX0_award_9 : decode cX0_award 9 = .ok (.iconst (-1), 1) := dk_2 (dk_at dksX0_award_0 9 rfl rfl)
theorem dX0_award_10 : decode cX0_award 10 = .ok (.ireturn, 1) := dk_172 (dk_at dksX0_award_0 10 rfl rfl)
theorem dX0_award_11 : decode cX0_award 11 = .ok (.aload_n 0, 1) := dk_42 (dk_at dksX0_award_0 11 rfl rfl)
theorem dX0_award_12 : decode cX0_award 12 = .ok (.invokevirtual 296, 3) := dk_182 1 40 (dk_at dksX0_award_0 12 rfl rfl)
theorem dX0_award_15 : decode cX0_award 15 = .ok (.aload_n 0, 1) := dk_42 (dk_at dksX0_award_0 15 rfl rfl)
theorem dX0_award_16 : decode cX0_award 16 = .ok (.invokevirtual 406, 3) := dk_182 1 150 (dk_at dksX0_award_0 16 rfl rfl)
theorem dX0_award_19 : decode cX0_award 19 = .ok (.istore_n 2, 1) := dk_61 (dk_at dksX0_award_0 19 rfl rfl)
theorem dX0_award_20 : decode cX0_award 20 = .ok (.iconst (-1), 1) := dk_2 (dk_at dksX0_award_0 20 rfl rfl)
theorem dX0_award_21 : decode cX0_award 21 = .ok (.istore_n 3, 1) := dk_62 (dk_at dksX0_award_0 21 rfl rfl)
theorem dX0_award_22 : decode cX0_award 22 = .ok (.iconst (-1), 1) := dk_2 (dk_at dksX0_award_0 22 rfl rfl)
theorem dX0_award_23 : decode cX0_award 23 = .ok (.istore 4, 2) := dk_54 4 (dk_at dksX0_award_1 0 rfl rfl)
theorem dX0_award_25 : decode cX0_award 25 = .ok (.iconst (-1), 1) := dk_2 (dk_at dksX0_award_1 2 rfl rfl)
theorem dX0_award_26 : decode cX0_award 26 = .ok (.istore 5, 2) := dk_54 5 (dk_at dksX0_award_1 3 rfl rfl)
theorem dX0_award_28 : decode cX0_award 28 = .ok (.iconst 0, 1) := dk_3 (dk_at dksX0_award_1 5 rfl rfl)
theorem dX0_award_29 : decode cX0_award 29 = .ok (.istore 6, 2) := dk_54 6 (dk_at dksX0_award_1 6 rfl rfl)
theorem dX0_award_31 : decode cX0_award 31 = .ok (.iload 6, 2) := dk_21 6 (dk_at dksX0_award_1 8 rfl rfl)
theorem dX0_award_33 : decode cX0_award 33 = .ok (.aload_n 0, 1) := dk_42 (dk_at dksX0_award_1 10 rfl rfl)
theorem dX0_award_34 : decode cX0_award 34 = .ok (.getfield 24, 3) := dk_180 0 24 (dk_at dksX0_award_1 11 rfl rfl)
theorem dX0_award_37 : decode cX0_award 37 = .ok (.invokevirtual 142, 3) := dk_182 0 142 (dk_at dksX0_award_1 14 rfl rfl)
theorem dX0_award_40 : decode cX0_award 40 = .ok (.if_icmp .ge 65, 3) := dk_162 0 65 (dk_at dksX0_award_1 17 rfl rfl)
theorem dX0_award_43 : decode cX0_award 43 = .ok (.aload_n 0, 1) := dk_42 (dk_at dksX0_award_1 20 rfl rfl)
theorem dX0_award_44 : decode cX0_award 44 = .ok (.iload 6, 2) := dk_21 6 (dk_at dksX0_award_1 21 rfl rfl)
theorem dX0_award_46 : decode cX0_award 46 = .ok (.invokevirtual 347, 3) := dk_182 1 91 (dk_at dksX0_award_2 0 rfl rfl)
theorem dX0_award_49 : decode cX0_award 49 = .ok (.ifCond .ne 6, 3) := dk_154 0 6 (dk_at dksX0_award_2 3 rfl rfl)
theorem dX0_award_52 : decode cX0_award 52 = .ok (.goto 47, 3) := dk_167 0 47 (dk_at dksX0_award_2 6 rfl rfl)
theorem dX0_award_55 : decode cX0_award 55 = .ok (.aload_n 0, 1) := dk_42 (dk_at dksX0_award_2 9 rfl rfl)
theorem dX0_award_56 : decode cX0_award 56 = .ok (.iload_n 2, 1) := dk_28 (dk_at dksX0_award_2 10 rfl rfl)
theorem dX0_award_57 : decode cX0_award 57 = .ok (.iload 6, 2) := dk_21 6 (dk_at dksX0_award_2 11 rfl rfl)
theorem dX0_award_59 : decode cX0_award 59 = .ok (.invokevirtual 409, 3) := dk_182 1 153 (dk_at dksX0_award_2 13 rfl rfl)
theorem dX0_award_62 : decode cX0_award 62 = .ok (.istore 7, 2) := dk_54 7 (dk_at dksX0_award_2 16 rfl rfl)
theorem dX0_award_64 : decode cX0_award 64 = .ok (.iload_n 3, 1) := dk_29 (dk_at dksX0_award_2 18 rfl rfl)
theorem dX0_award_65 : decode cX0_award 65 = .ok (.iconst (-1), 1) := dk_2 (dk_at dksX0_award_2 19 rfl rfl)
theorem dX0_award_66 : decode cX0_award 66 = .ok (.if_icmp .ne 8, 3) := dk_160 0 8 (dk_at dksX0_award_2 20 rfl rfl)
theorem dX0_award_69 : decode cX0_award 69 = .ok (.iload 7, 2) := dk_21 7 (dk_at dksX0_award_3 0 rfl rfl)
theorem dX0_award_71 : decode cX0_award 71 = .ok (.goto 9, 3) := dk_167 0 9 (dk_at dksX0_award_3 2 rfl rfl)
theorem dX0_award_74 : decode cX0_award 74 = .ok (.iload_n 3, 1) := dk_29 (dk_at dksX0_award_3 5 rfl rfl)
theorem dX0_award_75 : decode cX0_award 75 = .ok (.iload 7, 2) := dk_21 7 (dk_at dksX0_award_3 6 rfl rfl)
theorem dX0_award_77 : decode cX0_award 77 = .ok (.invokestatic 208, 3) := dk_184 0 208 (dk_at dksX0_award_3 8 rfl rfl)
theorem dX0_award_80 : decode cX0_award 80 = .ok (.istore_n 3, 1) := dk_62 (dk_at dksX0_award_3 11 rfl rfl)
theorem dX0_award_81 : decode cX0_award 81 = .ok (.iload 7, 2) := dk_21 7 (dk_at dksX0_award_3 12 rfl rfl)
theorem dX0_award_83 : decode cX0_award 83 = .ok (.iload 4, 2) := dk_21 4 (dk_at dksX0_award_3 14 rfl rfl)
theorem dX0_award_85 : decode cX0_award 85 = .ok (.if_icmp .gt 6, 3) := dk_163 0 6 (dk_at dksX0_award_3 16 rfl rfl)
theorem dX0_award_88 : decode cX0_award 88 = .ok (.goto 11, 3) := dk_167 0 11 (dk_at dksX0_award_3 19 rfl rfl)
theorem dX0_award_91 : decode cX0_award 91 = .ok (.iload 7, 2) := dk_21 7 (dk_at dksX0_award_3 22 rfl rfl)
theorem dX0_award_93 : decode cX0_award 93 = .ok (.istore 4, 2) := dk_54 4 (dk_at dksX0_award_4 0 rfl rfl)
theorem dX0_award_95 : decode cX0_award 95 = .ok (.iload 6, 2) := dk_21 6 (dk_at dksX0_award_4 2 rfl rfl)
theorem dX0_award_97 : decode cX0_award 97 = .ok (.istore 5, 2) := dk_54 5 (dk_at dksX0_award_4 4 rfl rfl)
theorem dX0_award_99 : decode cX0_award 99 = .ok (.iinc 6 1, 3) := dk_132 6 1 (dk_at dksX0_award_4 6 rfl rfl)
theorem dX0_award_102 : decode cX0_award 102 = .ok (.goto (-71), 3) := dk_167 255 185 (dk_at dksX0_award_4 9 rfl rfl)
theorem dX0_award_105 : decode cX0_award 105 = .ok (.iload_n 1, 1) := dk_27 (dk_at dksX0_award_4 12 rfl rfl)
theorem dX0_award_106 : decode cX0_award 106 = .ok (.ifCond .ne 7, 3) := dk_154 0 7 (dk_at dksX0_award_4 13 rfl rfl)
theorem dX0_award_109 : decode cX0_award 109 = .ok (.iload_n 3, 1) := dk_29 (dk_at dksX0_award_4 16 rfl rfl)
theorem dX0_award_110 : decode cX0_award 110 = .ok (.goto 15, 3) := dk_167 0 15 (dk_at dksX0_award_4 17 rfl rfl)
theorem dX0_award_113 : decode cX0_award 113 = .ok (.iload_n 1, 1) := dk_27 (dk_at dksX0_award_4 20 rfl rfl)
theorem dX0_award_114 : decode cX0_award 114 = .ok (.iconst 1, 1) := dk_4 (dk_at dksX0_award_4 21 rfl rfl)
theorem dX0_award_115 : decode cX0_award 115 = .ok (.if_icmp .ne 8, 3) := dk_160 0 8 (dk_at dksX0_award_5 0 rfl rfl)
theorem dX0_award_118 : decode cX0_award 118 = .ok (.iload 4, 2) := dk_21 4 (dk_at dksX0_award_5 3 rfl rfl)
theorem dX0_award_120 : decode cX0_award 120 = .ok (.goto 5, 3) := dk_167 0 5 (dk_at dksX0_award_5 5 rfl rfl)
theorem dX0_award_123 : decode cX0_award 123 = .ok (.iload 5, 2) := dk_21 5 (dk_at dksX0_award_5 8 rfl rfl)
theorem dX0_award_125 : decode cX0_award 125 = .ok (.ireturn, 1) := dk_172 (dk_at dksX0_award_5 10 rfl rfl)
abbrev cX0_standing : ByteArray := prog_1_method_26_code
def yX0_standing : MethodName := ⟨RX0, "standing", "()I"⟩
def dkwX0_standing_1 : List UInt8 := [4, 28, 120, 167, 0, 4, 3, 128, 60, 132, 2, 1, 167, 255, 224, 27, 172]
abbrev dktX0_standing_1 : List UInt8 := dkwX0_standing_1 ++ []
def dkwX0_standing_0 : List UInt8 := [3, 60, 3, 61, 28, 42, 180, 0, 31, 180, 0, 136, 162, 0, 27, 27, 42, 28, 182, 0, 254, 154, 0, 9]
abbrev dktX0_standing_0 : List UInt8 := dkwX0_standing_0 ++ dktX0_standing_1
theorem dksX0_standing_0 : cX0_standing.data.toList.drop 0 = dktX0_standing_0 := by decide +kernel
theorem dksX0_standing_1 : cX0_standing.data.toList.drop 24 = dktX0_standing_1 := dk_seg dksX0_standing_0 24 rfl rfl
theorem dX0_standing_0 : decode cX0_standing 0 = .ok (.iconst 0, 1) := dk_3 (dk_at dksX0_standing_0 0 rfl rfl)
theorem dX0_standing_1 : decode cX0_standing 1 = .ok (.istore_n 1, 1) := dk_60 (dk_at dksX0_standing_0 1 rfl rfl)
theorem dX0_standing_2 : decode cX0_standing 2 = .ok (.iconst 0, 1) := dk_3 (dk_at dksX0_standing_0 2 rfl rfl)
theorem dX0_standing_3 : decode cX0_standing 3 = .ok (.istore_n 2, 1) := dk_61 (dk_at dksX0_standing_0 3 rfl rfl)
theorem dX0_standing_4 : decode cX0_standing 4 = .ok (.iload_n 2, 1) := dk_28 (dk_at dksX0_standing_0 4 rfl rfl)
theorem dX0_standing_5 : decode cX0_standing 5 = .ok (.aload_n 0, 1) := dk_42 (dk_at dksX0_standing_0 5 rfl rfl)
theorem dX0_standing_6 : decode cX0_standing 6 = .ok (.getfield 31, 3) := dk_180 0 31 (dk_at dksX0_standing_0 6 rfl rfl)
theorem dX0_standing_9 : decode cX0_standing 9 = .ok (.getfield 136, 3) := dk_180 0 136 (dk_at dksX0_standing_0 9 rfl rfl)
theorem dX0_standing_12 : decode cX0_standing 12 = .ok (.if_icmp .ge 27, 3) := dk_162 0 27 (dk_at dksX0_standing_0 12 rfl rfl)
theorem dX0_standing_15 : decode cX0_standing 15 = .ok (.iload_n 1, 1) := dk_27 (dk_at dksX0_standing_0 15 rfl rfl)
theorem dX0_standing_16 : decode cX0_standing 16 = .ok (.aload_n 0, 1) := dk_42 (dk_at dksX0_standing_0 16 rfl rfl)
theorem dX0_standing_17 : decode cX0_standing 17 = .ok (.iload_n 2, 1) := dk_28 (dk_at dksX0_standing_0 17 rfl rfl)
theorem dX0_standing_18 : decode cX0_standing 18 = .ok (.invokevirtual 254, 3) := dk_182 0 254 (dk_at dksX0_standing_0 18 rfl rfl)
theorem dX0_standing_21 : decode cX0_standing 21 = .ok (.ifCond .ne 9, 3) := dk_154 0 9 (dk_at dksX0_standing_0 21 rfl rfl)
theorem dX0_standing_24 : decode cX0_standing 24 = .ok (.iconst 1, 1) := dk_4 (dk_at dksX0_standing_1 0 rfl rfl)
theorem dX0_standing_25 : decode cX0_standing 25 = .ok (.iload_n 2, 1) := dk_28 (dk_at dksX0_standing_1 1 rfl rfl)
theorem dX0_standing_26 : decode cX0_standing 26 = .ok (.ishl, 1) := dk_120 (dk_at dksX0_standing_1 2 rfl rfl)
theorem dX0_standing_27 : decode cX0_standing 27 = .ok (.goto 4, 3) := dk_167 0 4 (dk_at dksX0_standing_1 3 rfl rfl)
theorem dX0_standing_30 : decode cX0_standing 30 = .ok (.iconst 0, 1) := dk_3 (dk_at dksX0_standing_1 6 rfl rfl)
theorem dX0_standing_31 : decode cX0_standing 31 = .ok (.ior, 1) := dk_128 (dk_at dksX0_standing_1 7 rfl rfl)
theorem dX0_standing_32 : decode cX0_standing 32 = .ok (.istore_n 1, 1) := dk_60 (dk_at dksX0_standing_1 8 rfl rfl)
theorem dX0_standing_33 : decode cX0_standing 33 = .ok (.iinc 2 1, 3) := dk_132 2 1 (dk_at dksX0_standing_1 9 rfl rfl)
theorem dX0_standing_36 : decode cX0_standing 36 = .ok (.goto (-32), 3) := dk_167 255 224 (dk_at dksX0_standing_1 12 rfl rfl)
theorem dX0_standing_39 : decode cX0_standing 39 = .ok (.iload_n 1, 1) := dk_27 (dk_at dksX0_standing_1 15 rfl rfl)
theorem dX0_standing_40 : decode cX0_standing 40 = .ok (.ireturn, 1) := dk_172 (dk_at dksX0_standing_1 16 rfl rfl)
abbrev cX0_awardIn : ByteArray := prog_1_method_71_code
def yX0_awardIn : MethodName := ⟨RX0, "awardIn", "(II)I"⟩
def dkwX0_awardIn_6 : List UInt8 := [21, 4, 172]
abbrev dktX0_awardIn_6 : List UInt8 := dkwX0_awardIn_6 ++ []
def dkwX0_awardIn_5 : List UInt8 := [180, 0, 136, 162, 0, 21, 21, 4, 42, 180, 0, 69, 21, 5, 46, 96, 54, 4, 132, 5, 1, 167, 255, 229]
abbrev dktX0_awardIn_5 : List UInt8 := dkwX0_awardIn_5 ++ dktX0_awardIn_6
def dkwX0_awardIn_4 : List UInt8 := [46, 184, 1, 0, 79, 132, 4, 1, 167, 255, 195, 3, 54, 4, 3, 54, 5, 21, 5, 42, 180, 0, 31]
abbrev dktX0_awardIn_4 : List UInt8 := dkwX0_awardIn_4 ++ dktX0_awardIn_5
def dkwX0_awardIn_3 : List UInt8 := [21, 4, 46, 42, 180, 0, 69, 42, 180, 0, 56, 21, 4, 46, 46, 42, 180, 0, 31, 180, 1, 37, 21, 4]
abbrev dktX0_awardIn_3 : List UInt8 := dkwX0_awardIn_3 ++ dktX0_awardIn_4
def dkwX0_awardIn_2 : List UInt8 := [180, 0, 136, 162, 0, 55, 29, 21, 4, 184, 0, 223, 153, 0, 40, 42, 180, 0, 69, 42, 180, 0, 56]
abbrev dktX0_awardIn_2 : List UInt8 := dkwX0_awardIn_2 ++ dktX0_awardIn_3
def dkwX0_awardIn_1 : List UInt8 := [180, 0, 69, 21, 4, 3, 79, 132, 4, 1, 167, 255, 233, 3, 54, 4, 21, 4, 42, 180, 0, 31]
abbrev dktX0_awardIn_1 : List UInt8 := dkwX0_awardIn_1 ++ dktX0_awardIn_2
def dkwX0_awardIn_0 : List UInt8 := [42, 27, 28, 182, 1, 147, 62, 3, 54, 4, 21, 4, 42, 180, 0, 31, 180, 0, 136, 162, 0, 17, 42]
abbrev dktX0_awardIn_0 : List UInt8 := dkwX0_awardIn_0 ++ dktX0_awardIn_1
theorem dksX0_awardIn_0 : cX0_awardIn.data.toList.drop 0 = dktX0_awardIn_0 := by decide +kernel
theorem dksX0_awardIn_1 : cX0_awardIn.data.toList.drop 23 = dktX0_awardIn_1 := dk_seg dksX0_awardIn_0 23 rfl rfl
theorem dksX0_awardIn_2 : cX0_awardIn.data.toList.drop 45 = dktX0_awardIn_2 := dk_seg dksX0_awardIn_1 22 rfl rfl
theorem dksX0_awardIn_3 : cX0_awardIn.data.toList.drop 68 = dktX0_awardIn_3 := dk_seg dksX0_awardIn_2 23 rfl rfl
theorem dksX0_awardIn_4 : cX0_awardIn.data.toList.drop 92 = dktX0_awardIn_4 := dk_seg dksX0_awardIn_3 24 rfl rfl
theorem dksX0_awardIn_5 : cX0_awardIn.data.toList.drop 115 = dktX0_awardIn_5 := dk_seg dksX0_awardIn_4 23 rfl rfl
theorem dksX0_awardIn_6 : cX0_awardIn.data.toList.drop 139 = dktX0_awardIn_6 := dk_seg dksX0_awardIn_5 24 rfl rfl
theorem dX0_awardIn_0 : decode cX0_awardIn 0 = .ok (.aload_n 0, 1) := dk_42 (dk_at dksX0_awardIn_0 0 rfl rfl)
theorem dX0_awardIn_1 : decode cX0_awardIn 1 = .ok (.iload_n 1, 1) := dk_27 (dk_at dksX0_awardIn_0 1 rfl rfl)
theorem dX0_awardIn_2 : decode cX0_awardIn 2 = .ok (.iload_n 2, 1) := dk_28 (dk_at dksX0_awardIn_0 2 rfl rfl)
theorem dX0_awardIn_3 : decode cX0_awardIn 3 = .ok (.invokevirtual 403, 3) := dk_182 1 147 (dk_at dksX0_awardIn_0 3 rfl rfl)
theorem dX0_awardIn_6 : decode cX0_awardIn 6 = .ok (.istore_n 3, 1) := dk_62 (dk_at dksX0_awardIn_0 6 rfl rfl)
theorem dX0_awardIn_7 : decode cX0_awardIn 7 = .ok (.iconst 0, 1) := dk_3 (dk_at dksX0_awardIn_0 7 rfl rfl)
theorem dX0_awardIn_8 : decode cX0_awardIn 8 = .ok (.istore 4, 2) := dk_54 4 (dk_at dksX0_awardIn_0 8 rfl rfl)
theorem dX0_awardIn_10 : decode cX0_awardIn 10 = .ok (.iload 4, 2) := dk_21 4 (dk_at dksX0_awardIn_0 10 rfl rfl)
theorem dX0_awardIn_12 : decode cX0_awardIn 12 = .ok (.aload_n 0, 1) := dk_42 (dk_at dksX0_awardIn_0 12 rfl rfl)
theorem dX0_awardIn_13 : decode cX0_awardIn 13 = .ok (.getfield 31, 3) := dk_180 0 31 (dk_at dksX0_awardIn_0 13 rfl rfl)
theorem dX0_awardIn_16 : decode cX0_awardIn 16 = .ok (.getfield 136, 3) := dk_180 0 136 (dk_at dksX0_awardIn_0 16 rfl rfl)
theorem dX0_awardIn_19 : decode cX0_awardIn 19 = .ok (.if_icmp .ge 17, 3) := dk_162 0 17 (dk_at dksX0_awardIn_0 19 rfl rfl)
theorem dX0_awardIn_22 : decode cX0_awardIn 22 = .ok (.aload_n 0, 1) := dk_42 (dk_at dksX0_awardIn_0 22 rfl rfl)
theorem dX0_awardIn_23 : decode cX0_awardIn 23 = .ok (.getfield 69, 3) := dk_180 0 69 (dk_at dksX0_awardIn_1 0 rfl rfl)
theorem dX0_awardIn_26 : decode cX0_awardIn 26 = .ok (.iload 4, 2) := dk_21 4 (dk_at dksX0_awardIn_1 3 rfl rfl)
theorem dX0_awardIn_28 : decode cX0_awardIn 28 = .ok (.iconst 0, 1) := dk_3 (dk_at dksX0_awardIn_1 5 rfl rfl)
theorem dX0_awardIn_29 : decode cX0_awardIn 29 = .ok (.iastore, 1) := dk_79 (dk_at dksX0_awardIn_1 6 rfl rfl)
theorem dX0_awardIn_30 : decode cX0_awardIn 30 = .ok (.iinc 4 1, 3) := dk_132 4 1 (dk_at dksX0_awardIn_1 7 rfl rfl)
theorem dX0_awardIn_33 : decode cX0_awardIn 33 = .ok (.goto (-23), 3) := dk_167 255 233 (dk_at dksX0_awardIn_1 10 rfl rfl)
theorem dX0_awardIn_36 : decode cX0_awardIn 36 = .ok (.iconst 0, 1) := dk_3 (dk_at dksX0_awardIn_1 13 rfl rfl)
theorem dX0_awardIn_37 : decode cX0_awardIn 37 = .ok (.istore 4, 2) := dk_54 4 (dk_at dksX0_awardIn_1 14 rfl rfl)
theorem dX0_awardIn_39 : decode cX0_awardIn 39 = .ok (.iload 4, 2) := dk_21 4 (dk_at dksX0_awardIn_1 16 rfl rfl)
theorem dX0_awardIn_41 : decode cX0_awardIn 41 = .ok (.aload_n 0, 1) := dk_42 (dk_at dksX0_awardIn_1 18 rfl rfl)
theorem dX0_awardIn_42 : decode cX0_awardIn 42 = .ok (.getfield 31, 3) := dk_180 0 31 (dk_at dksX0_awardIn_1 19 rfl rfl)
theorem dX0_awardIn_45 : decode cX0_awardIn 45 = .ok (.getfield 136, 3) := dk_180 0 136 (dk_at dksX0_awardIn_2 0 rfl rfl)
theorem dX0_awardIn_48 : decode cX0_awardIn 48 = .ok (.if_icmp .ge 55, 3) := dk_162 0 55 (dk_at dksX0_awardIn_2 3 rfl rfl)
theorem dX0_awardIn_51 : decode cX0_awardIn 51 = .ok (.iload_n 3, 1) := dk_29 (dk_at dksX0_awardIn_2 6 rfl rfl)
theorem dX0_awardIn_52 : decode cX0_awardIn 52 = .ok (.iload 4, 2) := dk_21 4 (dk_at dksX0_awardIn_2 7 rfl rfl)
theorem dX0_awardIn_54 : decode cX0_awardIn 54 = .ok (.invokestatic 223, 3) := dk_184 0 223 (dk_at dksX0_awardIn_2 9 rfl rfl)
theorem dX0_awardIn_57 : decode cX0_awardIn 57 = .ok (.ifCond .eq 40, 3) := dk_153 0 40 (dk_at dksX0_awardIn_2 12 rfl rfl)
theorem dX0_awardIn_60 : decode cX0_awardIn 60 = .ok (.aload_n 0, 1) := dk_42 (dk_at dksX0_awardIn_2 15 rfl rfl)
theorem dX0_awardIn_61 : decode cX0_awardIn 61 = .ok (.getfield 69, 3) := dk_180 0 69 (dk_at dksX0_awardIn_2 16 rfl rfl)
theorem dX0_awardIn_64 : decode cX0_awardIn 64 = .ok (.aload_n 0, 1) := dk_42 (dk_at dksX0_awardIn_2 19 rfl rfl)
theorem dX0_awardIn_65 : decode cX0_awardIn 65 = .ok (.getfield 56, 3) := dk_180 0 56 (dk_at dksX0_awardIn_2 20 rfl rfl)
theorem dX0_awardIn_68 : decode cX0_awardIn 68 = .ok (.iload 4, 2) := dk_21 4 (dk_at dksX0_awardIn_3 0 rfl rfl)
theorem dX0_awardIn_70 : decode cX0_awardIn 70 = .ok (.iaload, 1) := dk_46 (dk_at dksX0_awardIn_3 2 rfl rfl)
theorem dX0_awardIn_71 : decode cX0_awardIn 71 = .ok (.aload_n 0, 1) := dk_42 (dk_at dksX0_awardIn_3 3 rfl rfl)
theorem dX0_awardIn_72 : decode cX0_awardIn 72 = .ok (.getfield 69, 3) := dk_180 0 69 (dk_at dksX0_awardIn_3 4 rfl rfl)
theorem dX0_awardIn_75 : decode cX0_awardIn 75 = .ok (.aload_n 0, 1) := dk_42 (dk_at dksX0_awardIn_3 7 rfl rfl)
theorem dX0_awardIn_76 : decode cX0_awardIn 76 = .ok (.getfield 56, 3) := dk_180 0 56 (dk_at dksX0_awardIn_3 8 rfl rfl)
theorem dX0_awardIn_79 : decode cX0_awardIn 79 = .ok (.iload 4, 2) := dk_21 4 (dk_at dksX0_awardIn_3 11 rfl rfl)
theorem dX0_awardIn_81 : decode cX0_awardIn 81 = .ok (.iaload, 1) := dk_46 (dk_at dksX0_awardIn_3 13 rfl rfl)
theorem dX0_awardIn_82 : decode cX0_awardIn 82 = .ok (.iaload, 1) := dk_46 (dk_at dksX0_awardIn_3 14 rfl rfl)
theorem dX0_awardIn_83 : decode cX0_awardIn 83 = .ok (.aload_n 0, 1) := dk_42 (dk_at dksX0_awardIn_3 15 rfl rfl)
theorem dX0_awardIn_84 : decode cX0_awardIn 84 = .ok (.getfield 31, 3) := dk_180 0 31 (dk_at dksX0_awardIn_3 16 rfl rfl)
theorem dX0_awardIn_87 : decode cX0_awardIn 87 = .ok (.getfield 293, 3) := dk_180 1 37 (dk_at dksX0_awardIn_3 19 rfl rfl)
theorem dX0_awardIn_90 : decode cX0_awardIn 90 = .ok (.iload 4, 2) := dk_21 4 (dk_at dksX0_awardIn_3 22 rfl rfl)
theorem dX0_awardIn_92 : decode cX0_awardIn 92 = .ok (.iaload, 1) := dk_46 (dk_at dksX0_awardIn_4 0 rfl rfl)
theorem dX0_awardIn_93 : decode cX0_awardIn 93 = .ok (.invokestatic 256, 3) := dk_184 1 0 (dk_at dksX0_awardIn_4 1 rfl rfl)
theorem dX0_awardIn_96 : decode cX0_awardIn 96 = .ok (.iastore, 1) := dk_79 (dk_at dksX0_awardIn_4 4 rfl rfl)
theorem dX0_awardIn_97 : decode cX0_awardIn 97 = .ok (.iinc 4 1, 3) := dk_132 4 1 (dk_at dksX0_awardIn_4 5 rfl rfl)
theorem dX0_awardIn_100 : decode cX0_awardIn 100 = .ok (.goto (-61), 3) := dk_167 255 195 (dk_at dksX0_awardIn_4 8 rfl rfl)
theorem dX0_awardIn_103 : decode cX0_awardIn 103 = .ok (.iconst 0, 1) := dk_3 (dk_at dksX0_awardIn_4 11 rfl rfl)
theorem dX0_awardIn_104 : decode cX0_awardIn 104 = .ok (.istore 4, 2) := dk_54 4 (dk_at dksX0_awardIn_4 12 rfl rfl)
theorem dX0_awardIn_106 : decode cX0_awardIn 106 = .ok (.iconst 0, 1) := dk_3 (dk_at dksX0_awardIn_4 14 rfl rfl)
theorem dX0_awardIn_107 : decode cX0_awardIn 107 = .ok (.istore 5, 2) := dk_54 5 (dk_at dksX0_awardIn_4 15 rfl rfl)
theorem dX0_awardIn_109 : decode cX0_awardIn 109 = .ok (.iload 5, 2) := dk_21 5 (dk_at dksX0_awardIn_4 17 rfl rfl)
theorem dX0_awardIn_111 : decode cX0_awardIn 111 = .ok (.aload_n 0, 1) := dk_42 (dk_at dksX0_awardIn_4 19 rfl rfl)
theorem dX0_awardIn_112 : decode cX0_awardIn 112 = .ok (.getfield 31, 3) := dk_180 0 31 (dk_at dksX0_awardIn_4 20 rfl rfl)
theorem dX0_awardIn_115 : decode cX0_awardIn 115 = .ok (.getfield 136, 3) := dk_180 0 136 (dk_at dksX0_awardIn_5 0 rfl rfl)
theorem dX0_awardIn_118 : decode cX0_awardIn 118 = .ok (.if_icmp .ge 21, 3) := dk_162 0 21 (dk_at dksX0_awardIn_5 3 rfl rfl)
theorem dX0_awardIn_121 : decode cX0_awardIn 121 = .ok (.iload 4, 2) := dk_21 4 (dk_at dksX0_awardIn_5 6 rfl rfl)
theorem dX0_awardIn_123 : decode cX0_awardIn 123 = .ok (.aload_n 0, 1) := dk_42 (dk_at dksX0_awardIn_5 8 rfl rfl)
theorem dX0_awardIn_124 : decode cX0_awardIn 124 = .ok (.getfield 69, 3) := dk_180 0 69 (dk_at dksX0_awardIn_5 9 rfl rfl)
theorem dX0_awardIn_127 : decode cX0_awardIn 127 = .ok (.iload 5, 2) := dk_21 5 (dk_at dksX0_awardIn_5 12 rfl rfl)
theorem dX0_awardIn_129 : decode cX0_awardIn 129 = .ok (.iaload, 1) := dk_46 (dk_at dksX0_awardIn_5 14 rfl rfl)
theorem dX0_awardIn_130 : decode cX0_awardIn 130 = .ok (.iadd, 1) := dk_96 (dk_at dksX0_awardIn_5 15 rfl rfl)
theorem dX0_awardIn_131 : decode cX0_awardIn 131 = .ok (.istore 4, 2) := dk_54 4 (dk_at dksX0_awardIn_5 16 rfl rfl)
theorem dX0_awardIn_133 : decode cX0_awardIn 133 = .ok (.iinc 5 1, 3) := dk_132 5 1 (dk_at dksX0_awardIn_5 18 rfl rfl)
theorem dX0_awardIn_136 : decode cX0_awardIn 136 = .ok (.goto (-27), 3) := dk_167 255 229 (dk_at dksX0_awardIn_5 21 rfl rfl)
theorem dX0_awardIn_139 : decode cX0_awardIn 139 = .ok (.iload 4, 2) := dk_21 4 (dk_at dksX0_awardIn_6 0 rfl rfl)
theorem dX0_awardIn_141 : decode cX0_awardIn 141 = .ok (.ireturn, 1) := dk_172 (dk_at dksX0_awardIn_6 2 rfl rfl)
abbrev cX0_wonOf : ByteArray := prog_1_method_70_code
def yX0_wonOf : MethodName := ⟨RX0, "wonOf", "(II)I"⟩
def dkwX0_wonOf_2 : List UInt8 := [132, 4, 1, 167, 255, 211, 29, 172]
abbrev dktX0_wonOf_2 : List UInt8 := dkwX0_wonOf_2 ++ []
def dkwX0_wonOf_1 : List UInt8 := [153, 0, 20, 42, 21, 4, 28, 182, 1, 94, 153, 0, 10, 4, 21, 4, 120, 167, 0, 4, 3, 128, 62]
abbrev dktX0_wonOf_1 : List UInt8 := dkwX0_wonOf_1 ++ dktX0_wonOf_2
def dkwX0_wonOf_0 : List UInt8 := [3, 62, 3, 54, 4, 21, 4, 42, 180, 0, 31, 180, 0, 136, 162, 0, 39, 29, 27, 21, 4, 184, 0, 223]
abbrev dktX0_wonOf_0 : List UInt8 := dkwX0_wonOf_0 ++ dktX0_wonOf_1
theorem dksX0_wonOf_0 : cX0_wonOf.data.toList.drop 0 = dktX0_wonOf_0 := by decide +kernel
theorem dksX0_wonOf_1 : cX0_wonOf.data.toList.drop 24 = dktX0_wonOf_1 := dk_seg dksX0_wonOf_0 24 rfl rfl
theorem dksX0_wonOf_2 : cX0_wonOf.data.toList.drop 47 = dktX0_wonOf_2 := dk_seg dksX0_wonOf_1 23 rfl rfl
theorem dX0_wonOf_0 : decode cX0_wonOf 0 = .ok (.iconst 0, 1) := dk_3 (dk_at dksX0_wonOf_0 0 rfl rfl)
theorem dX0_wonOf_1 : decode cX0_wonOf 1 = .ok (.istore_n 3, 1) := dk_62 (dk_at dksX0_wonOf_0 1 rfl rfl)
theorem dX0_wonOf_2 : decode cX0_wonOf 2 = .ok (.iconst 0, 1) := dk_3 (dk_at dksX0_wonOf_0 2 rfl rfl)
theorem dX0_wonOf_3 : decode cX0_wonOf 3 = .ok (.istore 4, 2) := dk_54 4 (dk_at dksX0_wonOf_0 3 rfl rfl)
theorem dX0_wonOf_5 : decode cX0_wonOf 5 = .ok (.iload 4, 2) := dk_21 4 (dk_at dksX0_wonOf_0 5 rfl rfl)
theorem dX0_wonOf_7 : decode cX0_wonOf 7 = .ok (.aload_n 0, 1) := dk_42 (dk_at dksX0_wonOf_0 7 rfl rfl)
theorem dX0_wonOf_8 : decode cX0_wonOf 8 = .ok (.getfield 31, 3) := dk_180 0 31 (dk_at dksX0_wonOf_0 8 rfl rfl)
theorem dX0_wonOf_11 : decode cX0_wonOf 11 = .ok (.getfield 136, 3) := dk_180 0 136 (dk_at dksX0_wonOf_0 11 rfl rfl)
theorem dX0_wonOf_14 : decode cX0_wonOf 14 = .ok (.if_icmp .ge 39, 3) := dk_162 0 39 (dk_at dksX0_wonOf_0 14 rfl rfl)
theorem dX0_wonOf_17 : decode cX0_wonOf 17 = .ok (.iload_n 3, 1) := dk_29 (dk_at dksX0_wonOf_0 17 rfl rfl)
theorem dX0_wonOf_18 : decode cX0_wonOf 18 = .ok (.iload_n 1, 1) := dk_27 (dk_at dksX0_wonOf_0 18 rfl rfl)
theorem dX0_wonOf_19 : decode cX0_wonOf 19 = .ok (.iload 4, 2) := dk_21 4 (dk_at dksX0_wonOf_0 19 rfl rfl)
theorem dX0_wonOf_21 : decode cX0_wonOf 21 = .ok (.invokestatic 223, 3) := dk_184 0 223 (dk_at dksX0_wonOf_0 21 rfl rfl)
theorem dX0_wonOf_24 : decode cX0_wonOf 24 = .ok (.ifCond .eq 20, 3) := dk_153 0 20 (dk_at dksX0_wonOf_1 0 rfl rfl)
theorem dX0_wonOf_27 : decode cX0_wonOf 27 = .ok (.aload_n 0, 1) := dk_42 (dk_at dksX0_wonOf_1 3 rfl rfl)
theorem dX0_wonOf_28 : decode cX0_wonOf 28 = .ok (.iload 4, 2) := dk_21 4 (dk_at dksX0_wonOf_1 4 rfl rfl)
theorem dX0_wonOf_30 : decode cX0_wonOf 30 = .ok (.iload_n 2, 1) := dk_28 (dk_at dksX0_wonOf_1 6 rfl rfl)
theorem dX0_wonOf_31 : decode cX0_wonOf 31 = .ok (.invokevirtual 350, 3) := dk_182 1 94 (dk_at dksX0_wonOf_1 7 rfl rfl)
theorem dX0_wonOf_34 : decode cX0_wonOf 34 = .ok (.ifCond .eq 10, 3) := dk_153 0 10 (dk_at dksX0_wonOf_1 10 rfl rfl)
theorem dX0_wonOf_37 : decode cX0_wonOf 37 = .ok (.iconst 1, 1) := dk_4 (dk_at dksX0_wonOf_1 13 rfl rfl)
theorem dX0_wonOf_38 : decode cX0_wonOf 38 = .ok (.iload 4, 2) := dk_21 4 (dk_at dksX0_wonOf_1 14 rfl rfl)
theorem dX0_wonOf_40 : decode cX0_wonOf 40 = .ok (.ishl, 1) := dk_120 (dk_at dksX0_wonOf_1 16 rfl rfl)
theorem dX0_wonOf_41 : decode cX0_wonOf 41 = .ok (.goto 4, 3) := dk_167 0 4 (dk_at dksX0_wonOf_1 17 rfl rfl)
theorem dX0_wonOf_44 : decode cX0_wonOf 44 = .ok (.iconst 0, 1) := dk_3 (dk_at dksX0_wonOf_1 20 rfl rfl)
theorem dX0_wonOf_45 : decode cX0_wonOf 45 = .ok (.ior, 1) := dk_128 (dk_at dksX0_wonOf_1 21 rfl rfl)
theorem dX0_wonOf_46 : decode cX0_wonOf 46 = .ok (.istore_n 3, 1) := dk_62 (dk_at dksX0_wonOf_1 22 rfl rfl)
theorem dX0_wonOf_47 : decode cX0_wonOf 47 = .ok (.iinc 4 1, 3) := dk_132 4 1 (dk_at dksX0_wonOf_2 0 rfl rfl)
theorem dX0_wonOf_50 : decode cX0_wonOf 50 = .ok (.goto (-45), 3) := dk_167 255 211 (dk_at dksX0_wonOf_2 3 rfl rfl)
theorem dX0_wonOf_53 : decode cX0_wonOf 53 = .ok (.iload_n 3, 1) := dk_29 (dk_at dksX0_wonOf_2 6 rfl rfl)
theorem dX0_wonOf_54 : decode cX0_wonOf 54 = .ok (.ireturn, 1) := dk_172 (dk_at dksX0_wonOf_2 7 rfl rfl)
abbrev cX0_meant : ByteArray := prog_1_method_73_code
def yX0_meant : MethodName := ⟨RX0, "meant", "(I)J"⟩
def dkwX0_meant_3 : List UInt8 := [132, 5, 1, 167, 255, 209, 33, 42, 182, 1, 140, 133, 27, 184, 1, 143, 173]
abbrev dktX0_meant_3 : List UInt8 := dkwX0_meant_3 ++ []
def dkwX0_meant_2 : List UInt8 := [33, 42, 180, 0, 24, 180, 1, 133, 21, 5, 46, 133, 42, 28, 21, 5, 182, 1, 153, 133, 105, 97, 66]
abbrev dktX0_meant_2 : List UInt8 := dkwX0_meant_2 ++ dktX0_meant_3
def dkwX0_meant_1 : List UInt8 := [3, 54, 5, 21, 5, 42, 180, 0, 24, 182, 0, 142, 162, 0, 41, 42, 21, 5, 182, 1, 91, 153, 0, 26]
abbrev dktX0_meant_1 : List UInt8 := dkwX0_meant_1 ++ dktX0_meant_2
def dkwX0_meant_0 : List UInt8 := [27, 3, 4, 184, 0, 96, 154, 0, 7, 20, 1, 156, 173, 42, 182, 1, 40, 42, 182, 1, 150, 61, 9, 66]
abbrev dktX0_meant_0 : List UInt8 := dkwX0_meant_0 ++ dktX0_meant_1
theorem dksX0_meant_0 : cX0_meant.data.toList.drop 0 = dktX0_meant_0 := by decide +kernel
theorem dksX0_meant_1 : cX0_meant.data.toList.drop 24 = dktX0_meant_1 := dk_seg dksX0_meant_0 24 rfl rfl
theorem dksX0_meant_2 : cX0_meant.data.toList.drop 48 = dktX0_meant_2 := dk_seg dksX0_meant_1 24 rfl rfl
theorem dksX0_meant_3 : cX0_meant.data.toList.drop 71 = dktX0_meant_3 := dk_seg dksX0_meant_2 23 rfl rfl
theorem dX0_meant_0 : decode cX0_meant 0 = .ok (.iload_n 1, 1) := dk_27 (dk_at dksX0_meant_0 0 rfl rfl)
theorem dX0_meant_1 : decode cX0_meant 1 = .ok (.iconst 0, 1) := dk_3 (dk_at dksX0_meant_0 1 rfl rfl)
theorem dX0_meant_2 : decode cX0_meant 2 = .ok (.iconst 1, 1) := dk_4 (dk_at dksX0_meant_0 2 rfl rfl)
theorem dX0_meant_3 : decode cX0_meant 3 = .ok (.invokestatic 96, 3) := dk_184 0 96 (dk_at dksX0_meant_0 3 rfl rfl)
theorem dX0_meant_6 : decode cX0_meant 6 = .ok (.ifCond .ne 7, 3) := dk_154 0 7 (dk_at dksX0_meant_0 6 rfl rfl)
theorem dX0_meant_9 : decode cX0_meant 9 = .ok (.ldc2_w 412, 3) := dk_20 1 156 (dk_at dksX0_meant_0 9 rfl rfl)
theorem dX0_meant_12 : decode cX0_meant 12 = .ok (.lreturn, 1) := dk_173 (dk_at dksX0_meant_0 12 rfl rfl)
theorem dX0_meant_13 : decode cX0_meant 13 = .ok (.aload_n 0, 1) := dk_42 (dk_at dksX0_meant_0 13 rfl rfl)
theorem dX0_meant_14 : decode cX0_meant 14 = .ok (.invokevirtual 296, 3) := dk_182 1 40 (dk_at dksX0_meant_0 14 rfl rfl)
theorem dX0_meant_17 : decode cX0_meant 17 = .ok (.aload_n 0, 1) := dk_42 (dk_at dksX0_meant_0 17 rfl rfl)
theorem dX0_meant_18 : decode cX0_meant 18 = .ok (.invokevirtual 406, 3) := dk_182 1 150 (dk_at dksX0_meant_0 18 rfl rfl)
theorem dX0_meant_21 : decode cX0_meant 21 = .ok (.istore_n 2, 1) := dk_61 (dk_at dksX0_meant_0 21 rfl rfl)
theorem dX0_meant_22 : decode cX0_meant 22 = .ok (.lconst 0, 1) := dk_9 (dk_at dksX0_meant_0 22 rfl rfl)
theorem dX0_meant_23 : decode cX0_meant 23 = .ok (.lstore_n 3, 1) := dk_66 (dk_at dksX0_meant_0 23 rfl rfl)
theorem dX0_meant_24 : decode cX0_meant 24 = .ok (.iconst 0, 1) := dk_3 (dk_at dksX0_meant_1 0 rfl rfl)
theorem dX0_meant_25 : decode cX0_meant 25 = .ok (.istore 5, 2) := dk_54 5 (dk_at dksX0_meant_1 1 rfl rfl)
theorem dX0_meant_27 : decode cX0_meant 27 = .ok (.iload 5, 2) := dk_21 5 (dk_at dksX0_meant_1 3 rfl rfl)
theorem dX0_meant_29 : decode cX0_meant 29 = .ok (.aload_n 0, 1) := dk_42 (dk_at dksX0_meant_1 5 rfl rfl)
theorem dX0_meant_30 : decode cX0_meant 30 = .ok (.getfield 24, 3) := dk_180 0 24 (dk_at dksX0_meant_1 6 rfl rfl)
theorem dX0_meant_33 : decode cX0_meant 33 = .ok (.invokevirtual 142, 3) := dk_182 0 142 (dk_at dksX0_meant_1 9 rfl rfl)
theorem dX0_meant_36 : decode cX0_meant 36 = .ok (.if_icmp .ge 41, 3) := dk_162 0 41 (dk_at dksX0_meant_1 12 rfl rfl)
theorem dX0_meant_39 : decode cX0_meant 39 = .ok (.aload_n 0, 1) := dk_42 (dk_at dksX0_meant_1 15 rfl rfl)
theorem dX0_meant_40 : decode cX0_meant 40 = .ok (.iload 5, 2) := dk_21 5 (dk_at dksX0_meant_1 16 rfl rfl)
theorem dX0_meant_42 : decode cX0_meant 42 = .ok (.invokevirtual 347, 3) := dk_182 1 91 (dk_at dksX0_meant_1 18 rfl rfl)
theorem dX0_meant_45 : decode cX0_meant 45 = .ok (.ifCond .eq 26, 3) := dk_153 0 26 (dk_at dksX0_meant_1 21 rfl rfl)
theorem dX0_meant_48 : decode cX0_meant 48 = .ok (.lload_n 3, 1) := dk_33 (dk_at dksX0_meant_2 0 rfl rfl)
theorem dX0_meant_49 : decode cX0_meant 49 = .ok (.aload_n 0, 1) := dk_42 (dk_at dksX0_meant_2 1 rfl rfl)
theorem dX0_meant_50 : decode cX0_meant 50 = .ok (.getfield 24, 3) := dk_180 0 24 (dk_at dksX0_meant_2 2 rfl rfl)
theorem dX0_meant_53 : decode cX0_meant 53 = .ok (.getfield 389, 3) := dk_180 1 133 (dk_at dksX0_meant_2 5 rfl rfl)
theorem dX0_meant_56 : decode cX0_meant 56 = .ok (.iload 5, 2) := dk_21 5 (dk_at dksX0_meant_2 8 rfl rfl)
theorem dX0_meant_58 : decode cX0_meant 58 = .ok (.iaload, 1) := dk_46 (dk_at dksX0_meant_2 10 rfl rfl)
theorem dX0_meant_59 : decode cX0_meant 59 = .ok (.i2l, 1) := dk_133 (dk_at dksX0_meant_2 11 rfl rfl)
theorem dX0_meant_60 : decode cX0_meant 60 = .ok (.aload_n 0, 1) := dk_42 (dk_at dksX0_meant_2 12 rfl rfl)
theorem dX0_meant_61 : decode cX0_meant 61 = .ok (.iload_n 2, 1) := dk_28 (dk_at dksX0_meant_2 13 rfl rfl)
theorem dX0_meant_62 : decode cX0_meant 62 = .ok (.iload 5, 2) := dk_21 5 (dk_at dksX0_meant_2 14 rfl rfl)
theorem dX0_meant_64 : decode cX0_meant 64 = .ok (.invokevirtual 409, 3) := dk_182 1 153 (dk_at dksX0_meant_2 16 rfl rfl)
theorem dX0_meant_67 : decode cX0_meant 67 = .ok (.i2l, 1) := dk_133 (dk_at dksX0_meant_2 19 rfl rfl)
theorem dX0_meant_68 : decode cX0_meant 68 = .ok (.lmul, 1) := dk_105 (dk_at dksX0_meant_2 20 rfl rfl)
theorem dX0_meant_69 : decode cX0_meant 69 = .ok (.ladd, 1) := dk_97 (dk_at dksX0_meant_2 21 rfl rfl)
theorem dX0_meant_70 : decode cX0_meant 70 = .ok (.lstore_n 3, 1) := dk_66 (dk_at dksX0_meant_2 22 rfl rfl)
theorem dX0_meant_71 : decode cX0_meant 71 = .ok (.iinc 5 1, 3) := dk_132 5 1 (dk_at dksX0_meant_3 0 rfl rfl)
theorem dX0_meant_74 : decode cX0_meant 74 = .ok (.goto (-47), 3) := dk_167 255 209 (dk_at dksX0_meant_3 3 rfl rfl)
theorem dX0_meant_77 : decode cX0_meant 77 = .ok (.lload_n 3, 1) := dk_33 (dk_at dksX0_meant_3 6 rfl rfl)
theorem dX0_meant_78 : decode cX0_meant 78 = .ok (.aload_n 0, 1) := dk_42 (dk_at dksX0_meant_3 7 rfl rfl)
theorem dX0_meant_79 : decode cX0_meant 79 = .ok (.invokevirtual 396, 3) := dk_182 1 140 (dk_at dksX0_meant_3 8 rfl rfl)
theorem dX0_meant_82 : decode cX0_meant 82 = .ok (.i2l, 1) := dk_133 (dk_at dksX0_meant_3 11 rfl rfl)
theorem dX0_meant_83 : decode cX0_meant 83 = .ok (.iload_n 1, 1) := dk_27 (dk_at dksX0_meant_3 12 rfl rfl)
theorem dX0_meant_84 : decode cX0_meant 84 = .ok (.invokestatic 399, 3) := dk_184 1 143 (dk_at dksX0_meant_3 13 rfl rfl)
theorem dX0_meant_87 : decode cX0_meant 87 = .ok (.lreturn, 1) := dk_173 (dk_at dksX0_meant_3 16 rfl rfl)
abbrev cX0_outcomes : ByteArray := prog_1_method_75_code
def yX0_outcomes : MethodName := ⟨RX0, "outcomes", "()I"⟩
def dkwX0_outcomes_0 : List UInt8 := [42, 182, 1, 173, 42, 180, 0, 77, 182, 1, 165, 172]
abbrev dktX0_outcomes_0 : List UInt8 := dkwX0_outcomes_0 ++ []
theorem dksX0_outcomes_0 : cX0_outcomes.data.toList.drop 0 = dktX0_outcomes_0 := by decide +kernel
theorem dX0_outcomes_0 : decode cX0_outcomes 0 = .ok (.aload_n 0, 1) := dk_42 (dk_at dksX0_outcomes_0 0 rfl rfl)
theorem dX0_outcomes_1 : decode cX0_outcomes 1 = .ok (.invokevirtual 429, 3) := dk_182 1 173 (dk_at dksX0_outcomes_0 1 rfl rfl)
theorem dX0_outcomes_4 : decode cX0_outcomes 4 = .ok (.aload_n 0, 1) := dk_42 (dk_at dksX0_outcomes_0 4 rfl rfl)
theorem dX0_outcomes_5 : decode cX0_outcomes 5 = .ok (.getfield 77, 3) := dk_180 0 77 (dk_at dksX0_outcomes_0 5 rfl rfl)
theorem dX0_outcomes_8 : decode cX0_outcomes 8 = .ok (.invokevirtual 421, 3) := dk_182 1 165 (dk_at dksX0_outcomes_0 8 rfl rfl)
theorem dX0_outcomes_11 : decode cX0_outcomes 11 = .ok (.ireturn, 1) := dk_172 (dk_at dksX0_outcomes_0 11 rfl rfl)
abbrev cX0_laysOutcomes : ByteArray := prog_1_method_74_code
def yX0_laysOutcomes : MethodName := ⟨RX0, "laysOutcomes", "()V"⟩
def dkwX0_laysOutcomes_4 : List UInt8 := [58, 4, 25, 4, 89, 180, 1, 170, 4, 96, 181, 1, 170, 132, 2, 1, 167, 255, 161, 177]
abbrev dktX0_laysOutcomes_4 : List UInt8 := dkwX0_laysOutcomes_4 ++ []
def dkwX0_laysOutcomes_3 : List UInt8 := [180, 0, 83, 42, 180, 0, 77, 182, 1, 165, 45, 83, 42, 180, 0, 77, 45, 45, 182, 1, 166, 87, 45]
abbrev dktX0_laysOutcomes_3 : List UInt8 := dkwX0_laysOutcomes_3 ++ dktX0_laysOutcomes_4
def dkwX0_laysOutcomes_2 : List UInt8 := [28, 183, 1, 161, 78, 42, 180, 0, 77, 45, 182, 1, 162, 192, 0, 81, 58, 4, 25, 4, 199, 0, 29, 42]
abbrev dktX0_laysOutcomes_2 : List UInt8 := dkwX0_laysOutcomes_2 ++ dktX0_laysOutcomes_3
def dkwX0_laysOutcomes_1 : List UInt8 := [162, 0, 90, 42, 28, 182, 1, 91, 154, 0, 6, 167, 0, 73, 187, 0, 81, 89, 42, 27, 28, 182, 1, 147]
abbrev dktX0_laysOutcomes_1 : List UInt8 := dkwX0_laysOutcomes_1 ++ dktX0_laysOutcomes_2
def dkwX0_laysOutcomes_0 : List UInt8 := [42, 180, 0, 77, 182, 1, 158, 42, 182, 1, 150, 60, 3, 61, 28, 42, 180, 0, 24, 182, 0, 142]
abbrev dktX0_laysOutcomes_0 : List UInt8 := dkwX0_laysOutcomes_0 ++ dktX0_laysOutcomes_1
theorem dksX0_laysOutcomes_0 : cX0_laysOutcomes.data.toList.drop 0 = dktX0_laysOutcomes_0 := by decide +kernel
theorem dksX0_laysOutcomes_1 : cX0_laysOutcomes.data.toList.drop 22 = dktX0_laysOutcomes_1 := dk_seg dksX0_laysOutcomes_0 22 rfl rfl
theorem dksX0_laysOutcomes_2 : cX0_laysOutcomes.data.toList.drop 46 = dktX0_laysOutcomes_2 := dk_seg dksX0_laysOutcomes_1 24 rfl rfl
theorem dksX0_laysOutcomes_3 : cX0_laysOutcomes.data.toList.drop 70 = dktX0_laysOutcomes_3 := dk_seg dksX0_laysOutcomes_2 24 rfl rfl
theorem dksX0_laysOutcomes_4 : cX0_laysOutcomes.data.toList.drop 93 = dktX0_laysOutcomes_4 := dk_seg dksX0_laysOutcomes_3 23 rfl rfl
theorem dX0_laysOutcomes_0 : decode cX0_laysOutcomes 0 = .ok (.aload_n 0, 1) := dk_42 (dk_at dksX0_laysOutcomes_0 0 rfl rfl)
theorem dX0_laysOutcomes_1 : decode cX0_laysOutcomes 1 = .ok (.getfield 77, 3) := dk_180 0 77 (dk_at dksX0_laysOutcomes_0 1 rfl rfl)
theorem dX0_laysOutcomes_4 : decode cX0_laysOutcomes 4 = .ok (.invokevirtual 414, 3) := dk_182 1 158 (dk_at dksX0_laysOutcomes_0 4 rfl rfl)
theorem dX0_laysOutcomes_7 : decode cX0_laysOutcomes 7 = .ok (.aload_n 0, 1) := dk_42 (dk_at dksX0_laysOutcomes_0 7 rfl rfl)
theorem dX0_laysOutcomes_8 : decode cX0_laysOutcomes 8 = .ok (.invokevirtual 406, 3) := dk_182 1 150 (dk_at dksX0_laysOutcomes_0 8 rfl rfl)
theorem dX0_laysOutcomes_11 : decode cX0_laysOutcomes 11 = .ok (.istore_n 1, 1) := dk_60 (dk_at dksX0_laysOutcomes_0 11 rfl rfl)
theorem dX0_laysOutcomes_12 : decode cX0_laysOutcomes 12 = .ok (.iconst 0, 1) := dk_3 (dk_at dksX0_laysOutcomes_0 12 rfl rfl)
theorem dX0_laysOutcomes_13 : decode cX0_laysOutcomes 13 = .ok (.istore_n 2, 1) := dk_61 (dk_at dksX0_laysOutcomes_0 13 rfl rfl)
theorem dX0_laysOutcomes_14 : decode cX0_laysOutcomes 14 = .ok (.iload_n 2, 1) := dk_28 (dk_at dksX0_laysOutcomes_0 14 rfl rfl)
theorem dX0_laysOutcomes_15 : decode cX0_laysOutcomes 15 = .ok (.aload_n 0, 1) := dk_42 (dk_at dksX0_laysOutcomes_0 15 rfl rfl)
theorem dX0_laysOutcomes_16 : decode cX0_laysOutcomes 16 = .ok (.getfield 24, 3) := dk_180 0 24 (dk_at dksX0_laysOutcomes_0 16 rfl rfl)
theorem dX0_laysOutcomes_19 : decode cX0_laysOutcomes 19 = .ok (.invokevirtual 142, 3) := dk_182 0 142 (dk_at dksX0_laysOutcomes_0 19 rfl rfl)
theorem dX0_laysOutcomes_22 : decode cX0_laysOutcomes 22 = .ok (.if_icmp .ge 90, 3) := dk_162 0 90 (dk_at dksX0_laysOutcomes_1 0 rfl rfl)
theorem dX0_laysOutcomes_25 : decode cX0_laysOutcomes 25 = .ok (.aload_n 0, 1) := dk_42 (dk_at dksX0_laysOutcomes_1 3 rfl rfl)
theorem dX0_laysOutcomes_26 : decode cX0_laysOutcomes 26 = .ok (.iload_n 2, 1) := dk_28 (dk_at dksX0_laysOutcomes_1 4 rfl rfl)
theorem dX0_laysOutcomes_27 : decode cX0_laysOutcomes 27 = .ok (.invokevirtual 347, 3) := dk_182 1 91 (dk_at dksX0_laysOutcomes_1 5 rfl rfl)
theorem dX0_laysOutcomes_30 : decode cX0_laysOutcomes 30 = .ok (.ifCond .ne 6, 3) := dk_154 0 6 (dk_at dksX0_laysOutcomes_1 8 rfl rfl)
theorem dX0_laysOutcomes_33 : decode cX0_laysOutcomes 33 = .ok (.goto 73, 3) := dk_167 0 73 (dk_at dksX0_laysOutcomes_1 11 rfl rfl)
theorem dX0_laysOutcomes_36 : decode cX0_laysOutcomes 36 = .ok (.new 81, 3) := dk_187 0 81 (dk_at dksX0_laysOutcomes_1 14 rfl rfl)
theorem dX0_laysOutcomes_39 : decode cX0_laysOutcomes 39 = .ok (.dup, 1) := dk_89 (dk_at dksX0_laysOutcomes_1 17 rfl rfl)
theorem dX0_laysOutcomes_40 : decode cX0_laysOutcomes 40 = .ok (.aload_n 0, 1) := dk_42 (dk_at dksX0_laysOutcomes_1 18 rfl rfl)
theorem dX0_laysOutcomes_41 : decode cX0_laysOutcomes 41 = .ok (.iload_n 1, 1) := dk_27 (dk_at dksX0_laysOutcomes_1 19 rfl rfl)
theorem dX0_laysOutcomes_42 : decode cX0_laysOutcomes 42 = .ok (.iload_n 2, 1) := dk_28 (dk_at dksX0_laysOutcomes_1 20 rfl rfl)
theorem dX0_laysOutcomes_43 : decode cX0_laysOutcomes 43 = .ok (.invokevirtual 403, 3) := dk_182 1 147 (dk_at dksX0_laysOutcomes_1 21 rfl rfl)
theorem dX0_laysOutcomes_46 : decode cX0_laysOutcomes 46 = .ok (.iload_n 2, 1) := dk_28 (dk_at dksX0_laysOutcomes_2 0 rfl rfl)
theorem dX0_laysOutcomes_47 : decode cX0_laysOutcomes 47 = .ok (.invokespecial 417, 3) := dk_183 1 161 (dk_at dksX0_laysOutcomes_2 1 rfl rfl)
theorem dX0_laysOutcomes_50 : decode cX0_laysOutcomes 50 = .ok (.astore_n 3, 1) := dk_78 (dk_at dksX0_laysOutcomes_2 4 rfl rfl)
theorem dX0_laysOutcomes_51 : decode cX0_laysOutcomes 51 = .ok (.aload_n 0, 1) := dk_42 (dk_at dksX0_laysOutcomes_2 5 rfl rfl)
theorem dX0_laysOutcomes_52 : decode cX0_laysOutcomes 52 = .ok (.getfield 77, 3) := dk_180 0 77 (dk_at dksX0_laysOutcomes_2 6 rfl rfl)
theorem dX0_laysOutcomes_55 : decode cX0_laysOutcomes 55 = .ok (.aload_n 3, 1) := dk_45 (dk_at dksX0_laysOutcomes_2 9 rfl rfl)
theorem dX0_laysOutcomes_56 : decode cX0_laysOutcomes 56 = .ok (.invokevirtual 418, 3) := dk_182 1 162 (dk_at dksX0_laysOutcomes_2 10 rfl rfl)
theorem dX0_laysOutcomes_59 : decode cX0_laysOutcomes 59 = .ok (.checkcast 81, 3) := dk_192 0 81 (dk_at dksX0_laysOutcomes_2 13 rfl rfl)
theorem dX0_laysOutcomes_62 : decode cX0_laysOutcomes 62 = .ok (.astore 4, 2) := dk_58 4 (dk_at dksX0_laysOutcomes_2 16 rfl rfl)
theorem dX0_laysOutcomes_64 : decode cX0_laysOutcomes 64 = .ok (.aload 4, 2) := dk_25 4 (dk_at dksX0_laysOutcomes_2 18 rfl rfl)
theorem dX0_laysOutcomes_66 : decode cX0_laysOutcomes 66 = .ok (.ifnonnull 29, 3) := dk_199 0 29 (dk_at dksX0_laysOutcomes_2 20 rfl rfl)
theorem dX0_laysOutcomes_69 : decode cX0_laysOutcomes 69 = .ok (.aload_n 0, 1) := dk_42 (dk_at dksX0_laysOutcomes_2 23 rfl rfl)
theorem dX0_laysOutcomes_70 : decode cX0_laysOutcomes 70 = .ok (.getfield 83, 3) := dk_180 0 83 (dk_at dksX0_laysOutcomes_3 0 rfl rfl)
theorem dX0_laysOutcomes_73 : decode cX0_laysOutcomes 73 = .ok (.aload_n 0, 1) := dk_42 (dk_at dksX0_laysOutcomes_3 3 rfl rfl)
theorem dX0_laysOutcomes_74 : decode cX0_laysOutcomes 74 = .ok (.getfield 77, 3) := dk_180 0 77 (dk_at dksX0_laysOutcomes_3 4 rfl rfl)
theorem dX0_laysOutcomes_77 : decode cX0_laysOutcomes 77 = .ok (.invokevirtual 421, 3) := dk_182 1 165 (dk_at dksX0_laysOutcomes_3 7 rfl rfl)
theorem dX0_laysOutcomes_80 : decode cX0_laysOutcomes 80 = .ok (.aload_n 3, 1) := dk_45 (dk_at dksX0_laysOutcomes_3 10 rfl rfl)
theorem dX0_laysOutcomes_81 : decode cX0_laysOutcomes 81 = .ok (.aastore, 1) := dk_83 (dk_at dksX0_laysOutcomes_3 11 rfl rfl)
theorem dX0_laysOutcomes_82 : decode cX0_laysOutcomes 82 = .ok (.aload_n 0, 1) := dk_42 (dk_at dksX0_laysOutcomes_3 12 rfl rfl)
theorem dX0_laysOutcomes_83 : decode cX0_laysOutcomes 83 = .ok (.getfield 77, 3) := dk_180 0 77 (dk_at dksX0_laysOutcomes_3 13 rfl rfl)
theorem dX0_laysOutcomes_86 : decode cX0_laysOutcomes 86 = .ok (.aload_n 3, 1) := dk_45 (dk_at dksX0_laysOutcomes_3 16 rfl rfl)
theorem dX0_laysOutcomes_87 : decode cX0_laysOutcomes 87 = .ok (.aload_n 3, 1) := dk_45 (dk_at dksX0_laysOutcomes_3 17 rfl rfl)
theorem dX0_laysOutcomes_88 : decode cX0_laysOutcomes 88 = .ok (.invokevirtual 422, 3) := dk_182 1 166 (dk_at dksX0_laysOutcomes_3 18 rfl rfl)
theorem dX0_laysOutcomes_91 : decode cX0_laysOutcomes 91 = .ok (.pop, 1) := dk_87 (dk_at dksX0_laysOutcomes_3 21 rfl rfl)
theorem dX0_laysOutcomes_92 : decode cX0_laysOutcomes 92 = .ok (.aload_n 3, 1) := dk_45 (dk_at dksX0_laysOutcomes_3 22 rfl rfl)
theorem dX0_laysOutcomes_93 : decode cX0_laysOutcomes 93 = .ok (.astore 4, 2) := dk_58 4 (dk_at dksX0_laysOutcomes_4 0 rfl rfl)
theorem dX0_laysOutcomes_95 : decode cX0_laysOutcomes 95 = .ok (.aload 4, 2) := dk_25 4 (dk_at dksX0_laysOutcomes_4 2 rfl rfl)
theorem dX0_laysOutcomes_97 : decode cX0_laysOutcomes 97 = .ok (.dup, 1) := dk_89 (dk_at dksX0_laysOutcomes_4 4 rfl rfl)
theorem dX0_laysOutcomes_98 : decode cX0_laysOutcomes 98 = .ok (.getfield 426, 3) := dk_180 1 170 (dk_at dksX0_laysOutcomes_4 5 rfl rfl)
theorem dX0_laysOutcomes_101 : decode cX0_laysOutcomes 101 = .ok (.iconst 1, 1) := dk_4 (dk_at dksX0_laysOutcomes_4 8 rfl rfl)
theorem dX0_laysOutcomes_102 : decode cX0_laysOutcomes 102 = .ok (.iadd, 1) := dk_96 (dk_at dksX0_laysOutcomes_4 9 rfl rfl)
theorem dX0_laysOutcomes_103 : decode cX0_laysOutcomes 103 = .ok (.putfield 426, 3) := dk_181 1 170 (dk_at dksX0_laysOutcomes_4 10 rfl rfl)
theorem dX0_laysOutcomes_106 : decode cX0_laysOutcomes 106 = .ok (.iinc 2 1, 3) := dk_132 2 1 (dk_at dksX0_laysOutcomes_4 13 rfl rfl)
theorem dX0_laysOutcomes_109 : decode cX0_laysOutcomes 109 = .ok (.goto (-95), 3) := dk_167 255 161 (dk_at dksX0_laysOutcomes_4 16 rfl rfl)
theorem dX0_laysOutcomes_112 : decode cX0_laysOutcomes 112 = .ok (.return_, 1) := dk_177 (dk_at dksX0_laysOutcomes_4 19 rfl rfl)
abbrev cX0_outcome : ByteArray := prog_1_method_76_code
def yX0_outcome : MethodName := ⟨RX0, "outcome", "(II)I"⟩
def dkwX0_outcome_3 : List UInt8 := [45, 180, 1, 176, 172, 45, 180, 1, 170, 172, 45, 180, 1, 179, 172, 2, 172]
abbrev dktX0_outcome_3 : List UInt8 := dkwX0_outcome_3 ++ []
def dkwX0_outcome_2 : List UInt8 := [170, 0, 0, 0, 40, 0, 0, 0, 0, 0, 0, 0, 2, 0, 0, 0, 25, 0, 0, 0, 30, 0, 0, 0, 35]
abbrev dktX0_outcome_2 : List UInt8 := dkwX0_outcome_2 ++ dktX0_outcome_3
def dkwX0_outcome_1 : List UInt8 := [180, 0, 83, 27, 50, 78, 28]
abbrev dktX0_outcome_1 : List UInt8 := dkwX0_outcome_1 ++ dktX0_outcome_2
def dkwX0_outcome_0 : List UInt8 := [42, 182, 1, 173, 27, 3, 42, 180, 0, 77, 182, 1, 165, 4, 100, 184, 0, 96, 154, 0, 5, 2, 172, 42]
abbrev dktX0_outcome_0 : List UInt8 := dkwX0_outcome_0 ++ dktX0_outcome_1
theorem dksX0_outcome_0 : cX0_outcome.data.toList.drop 0 = dktX0_outcome_0 := by decide +kernel
theorem dksX0_outcome_1 : cX0_outcome.data.toList.drop 24 = dktX0_outcome_1 := dk_seg dksX0_outcome_0 24 rfl rfl
theorem dksX0_outcome_2 : cX0_outcome.data.toList.drop 31 = dktX0_outcome_2 := dk_seg dksX0_outcome_1 7 rfl rfl
theorem dksX0_outcome_3 : cX0_outcome.data.toList.drop 56 = dktX0_outcome_3 := dk_seg dksX0_outcome_2 25 rfl rfl
theorem dX0_outcome_0 : decode cX0_outcome 0 = .ok (.aload_n 0, 1) := dk_42 (dk_at dksX0_outcome_0 0 rfl rfl)
theorem dX0_outcome_1 : decode cX0_outcome 1 = .ok (.invokevirtual 429, 3) := dk_182 1 173 (dk_at dksX0_outcome_0 1 rfl rfl)
theorem dX0_outcome_4 : decode cX0_outcome 4 = .ok (.iload_n 1, 1) := dk_27 (dk_at dksX0_outcome_0 4 rfl rfl)
theorem dX0_outcome_5 : decode cX0_outcome 5 = .ok (.iconst 0, 1) := dk_3 (dk_at dksX0_outcome_0 5 rfl rfl)
theorem dX0_outcome_6 : decode cX0_outcome 6 = .ok (.aload_n 0, 1) := dk_42 (dk_at dksX0_outcome_0 6 rfl rfl)
theorem dX0_outcome_7 : decode cX0_outcome 7 = .ok (.getfield 77, 3) := dk_180 0 77 (dk_at dksX0_outcome_0 7 rfl rfl)
theorem dX0_outcome_10 : decode cX0_outcome 10 = .ok (.invokevirtual 421, 3) := dk_182 1 165 (dk_at dksX0_outcome_0 10 rfl rfl)
theorem dX0_outcome_13 : decode cX0_outcome 13 = .ok (.iconst 1, 1) := dk_4 (dk_at dksX0_outcome_0 13 rfl rfl)
theorem dX0_outcome_14 : decode cX0_outcome 14 = .ok (.isub, 1) := dk_100 (dk_at dksX0_outcome_0 14 rfl rfl)
theorem dX0_outcome_15 : decode cX0_outcome 15 = .ok (.invokestatic 96, 3) := dk_184 0 96 (dk_at dksX0_outcome_0 15 rfl rfl)
theorem dX0_outcome_18 : decode cX0_outcome 18 = .ok (.ifCond .ne 5, 3) := dk_154 0 5 (dk_at dksX0_outcome_0 18 rfl rfl)
theorem dX0_outcome_21 : decode cX0_outcome 21 = .ok (.iconst (-1), 1) := dk_2 (dk_at dksX0_outcome_0 21 rfl rfl)
theorem dX0_outcome_22 : decode cX0_outcome 22 = .ok (.ireturn, 1) := dk_172 (dk_at dksX0_outcome_0 22 rfl rfl)
theorem dX0_outcome_23 : decode cX0_outcome 23 = .ok (.aload_n 0, 1) := dk_42 (dk_at dksX0_outcome_0 23 rfl rfl)
theorem dX0_outcome_24 : decode cX0_outcome 24 = .ok (.getfield 83, 3) := dk_180 0 83 (dk_at dksX0_outcome_1 0 rfl rfl)
theorem dX0_outcome_27 : decode cX0_outcome 27 = .ok (.iload_n 1, 1) := dk_27 (dk_at dksX0_outcome_1 3 rfl rfl)
theorem dX0_outcome_28 : decode cX0_outcome 28 = .ok (.aaload, 1) := dk_50 (dk_at dksX0_outcome_1 4 rfl rfl)
theorem dX0_outcome_29 : decode cX0_outcome 29 = .ok (.astore_n 3, 1) := dk_78 (dk_at dksX0_outcome_1 5 rfl rfl)
theorem dX0_outcome_30 : decode cX0_outcome 30 = .ok (.iload_n 2, 1) := dk_28 (dk_at dksX0_outcome_1 6 rfl rfl)
theorem dX0_outcome_31 : decode cX0_outcome 31 = .ok (.tableswitch 40 0 2 #[25, 30, 35], 25) := by decide +kernel
theorem dX0_outcome_56 : decode cX0_outcome 56 = .ok (.aload_n 3, 1) := dk_45 (dk_at dksX0_outcome_3 0 rfl rfl)
theorem dX0_outcome_57 : decode cX0_outcome 57 = .ok (.getfield 432, 3) := dk_180 1 176 (dk_at dksX0_outcome_3 1 rfl rfl)
theorem dX0_outcome_60 : decode cX0_outcome 60 = .ok (.ireturn, 1) := dk_172 (dk_at dksX0_outcome_3 4 rfl rfl)
theorem dX0_outcome_61 : decode cX0_outcome 61 = .ok (.aload_n 3, 1) := dk_45 (dk_at dksX0_outcome_3 5 rfl rfl)
theorem dX0_outcome_62 : decode cX0_outcome 62 = .ok (.getfield 426, 3) := dk_180 1 170 (dk_at dksX0_outcome_3 6 rfl rfl)
theorem dX0_outcome_65 : decode cX0_outcome 65 = .ok (.ireturn, 1) := dk_172 (dk_at dksX0_outcome_3 9 rfl rfl)
theorem dX0_outcome_66 : decode cX0_outcome 66 = .ok (.aload_n 3, 1) := dk_45 (dk_at dksX0_outcome_3 10 rfl rfl)
theorem dX0_outcome_67 : decode cX0_outcome 67 = .ok (.getfield 435, 3) := dk_180 1 179 (dk_at dksX0_outcome_3 11 rfl rfl)
theorem dX0_outcome_70 : decode cX0_outcome 70 = .ok (.ireturn, 1) := dk_172 (dk_at dksX0_outcome_3 14 rfl rfl)
theorem dX0_outcome_71 : decode cX0_outcome 71 = .ok (.iconst (-1), 1) := dk_2 (dk_at dksX0_outcome_3 15 rfl rfl)
theorem dX0_outcome_72 : decode cX0_outcome 72 = .ok (.ireturn, 1) := dk_172 (dk_at dksX0_outcome_3 16 rfl rfl)
abbrev cX0_proofs : ByteArray := prog_1_method_80_code
def yX0_proofs : MethodName := ⟨RX0, "proofs", "(IZ)I"⟩
def dkwX0_proofs_0 : List UInt8 := [42, 27, 182, 1, 34, 154, 0, 5, 2, 172, 42, 27, 28, 182, 1, 191, 42, 180, 1, 182, 172]
abbrev dktX0_proofs_0 : List UInt8 := dkwX0_proofs_0 ++ []
theorem dksX0_proofs_0 : cX0_proofs.data.toList.drop 0 = dktX0_proofs_0 := by decide +kernel
theorem dX0_proofs_0 : decode cX0_proofs 0 = .ok (.aload_n 0, 1) := dk_42 (dk_at dksX0_proofs_0 0 rfl rfl)
theorem dX0_proofs_1 : decode cX0_proofs 1 = .ok (.iload_n 1, 1) := dk_27 (dk_at dksX0_proofs_0 1 rfl rfl)
theorem dX0_proofs_2 : decode cX0_proofs 2 = .ok (.invokevirtual 290, 3) := dk_182 1 34 (dk_at dksX0_proofs_0 2 rfl rfl)
theorem dX0_proofs_5 : decode cX0_proofs 5 = .ok (.ifCond .ne 5, 3) := dk_154 0 5 (dk_at dksX0_proofs_0 5 rfl rfl)
theorem dX0_proofs_8 : decode cX0_proofs 8 = .ok (.iconst (-1), 1) := dk_2 (dk_at dksX0_proofs_0 8 rfl rfl)
theorem dX0_proofs_9 : decode cX0_proofs 9 = .ok (.ireturn, 1) := dk_172 (dk_at dksX0_proofs_0 9 rfl rfl)
theorem dX0_proofs_10 : decode cX0_proofs 10 = .ok (.aload_n 0, 1) := dk_42 (dk_at dksX0_proofs_0 10 rfl rfl)
theorem dX0_proofs_11 : decode cX0_proofs 11 = .ok (.iload_n 1, 1) := dk_27 (dk_at dksX0_proofs_0 11 rfl rfl)
theorem dX0_proofs_12 : decode cX0_proofs 12 = .ok (.iload_n 2, 1) := dk_28 (dk_at dksX0_proofs_0 12 rfl rfl)
theorem dX0_proofs_13 : decode cX0_proofs 13 = .ok (.invokevirtual 447, 3) := dk_182 1 191 (dk_at dksX0_proofs_0 13 rfl rfl)
theorem dX0_proofs_16 : decode cX0_proofs 16 = .ok (.aload_n 0, 1) := dk_42 (dk_at dksX0_proofs_0 16 rfl rfl)
theorem dX0_proofs_17 : decode cX0_proofs 17 = .ok (.getfield 438, 3) := dk_180 1 182 (dk_at dksX0_proofs_0 17 rfl rfl)
theorem dX0_proofs_20 : decode cX0_proofs 20 = .ok (.ireturn, 1) := dk_172 (dk_at dksX0_proofs_0 20 rfl rfl)
abbrev cX0_laysProofs : ByteArray := prog_1_method_78_code
def yX0_laysProofs : MethodName := ⟨RX0, "laysProofs", "(IZ)V"⟩
def dkwX0_laysProofs_3 : List UInt8 := [182, 1, 185, 132, 4, 1, 167, 255, 204, 132, 3, 1, 167, 255, 184, 177]
abbrev dktX0_laysProofs_3 : List UInt8 := dkwX0_laysProofs_3 ++ []
def dkwX0_laysProofs_2 : List UInt8 := [154, 0, 27, 21, 4, 184, 0, 198, 29, 160, 0, 18, 42, 21, 4, 28, 153, 0, 7, 4, 167, 0, 4, 3]
abbrev dktX0_laysProofs_2 : List UInt8 := dkwX0_laysProofs_2 ++ dktX0_laysProofs_3
def dkwX0_laysProofs_1 : List UInt8 := [54, 4, 21, 4, 42, 180, 0, 24, 182, 0, 142, 162, 0, 46, 21, 4, 42, 180, 0, 31, 180, 0, 149, 126]
abbrev dktX0_laysProofs_1 : List UInt8 := dkwX0_laysProofs_1 ++ dktX0_laysProofs_2
def dkwX0_laysProofs_0 : List UInt8 := [42, 27, 182, 1, 117, 42, 3, 181, 1, 182, 3, 62, 29, 42, 180, 0, 24, 180, 0, 133, 163, 0, 67, 3]
abbrev dktX0_laysProofs_0 : List UInt8 := dkwX0_laysProofs_0 ++ dktX0_laysProofs_1
theorem dksX0_laysProofs_0 : cX0_laysProofs.data.toList.drop 0 = dktX0_laysProofs_0 := by decide +kernel
theorem dksX0_laysProofs_1 : cX0_laysProofs.data.toList.drop 24 = dktX0_laysProofs_1 := dk_seg dksX0_laysProofs_0 24 rfl rfl
theorem dksX0_laysProofs_2 : cX0_laysProofs.data.toList.drop 48 = dktX0_laysProofs_2 := dk_seg dksX0_laysProofs_1 24 rfl rfl
theorem dksX0_laysProofs_3 : cX0_laysProofs.data.toList.drop 72 = dktX0_laysProofs_3 := dk_seg dksX0_laysProofs_2 24 rfl rfl
theorem dX0_laysProofs_0 : decode cX0_laysProofs 0 = .ok (.aload_n 0, 1) := dk_42 (dk_at dksX0_laysProofs_0 0 rfl rfl)
theorem dX0_laysProofs_1 : decode cX0_laysProofs 1 = .ok (.iload_n 1, 1) := dk_27 (dk_at dksX0_laysProofs_0 1 rfl rfl)
theorem dX0_laysProofs_2 : decode cX0_laysProofs 2 = .ok (.invokevirtual 373, 3) := dk_182 1 117 (dk_at dksX0_laysProofs_0 2 rfl rfl)
theorem dX0_laysProofs_5 : decode cX0_laysProofs 5 = .ok (.aload_n 0, 1) := dk_42 (dk_at dksX0_laysProofs_0 5 rfl rfl)
theorem dX0_laysProofs_6 : decode cX0_laysProofs 6 = .ok (.iconst 0, 1) := dk_3 (dk_at dksX0_laysProofs_0 6 rfl rfl)
theorem dX0_laysProofs_7 : decode cX0_laysProofs 7 = .ok (.putfield 438, 3) := dk_181 1 182 (dk_at dksX0_laysProofs_0 7 rfl rfl)
theorem dX0_laysProofs_10 : decode cX0_laysProofs 10 = .ok (.iconst 0, 1) := dk_3 (dk_at dksX0_laysProofs_0 10 rfl rfl)
theorem dX0_laysProofs_11 : decode cX0_laysProofs 11 = .ok (.istore_n 3, 1) := dk_62 (dk_at dksX0_laysProofs_0 11 rfl rfl)
theorem dX0_laysProofs_12 : decode cX0_laysProofs 12 = .ok (.iload_n 3, 1) := dk_29 (dk_at dksX0_laysProofs_0 12 rfl rfl)
theorem dX0_laysProofs_13 : decode cX0_laysProofs 13 = .ok (.aload_n 0, 1) := dk_42 (dk_at dksX0_laysProofs_0 13 rfl rfl)
theorem dX0_laysProofs_14 : decode cX0_laysProofs 14 = .ok (.getfield 24, 3) := dk_180 0 24 (dk_at dksX0_laysProofs_0 14 rfl rfl)
theorem dX0_laysProofs_17 : decode cX0_laysProofs 17 = .ok (.getfield 133, 3) := dk_180 0 133 (dk_at dksX0_laysProofs_0 17 rfl rfl)
theorem dX0_laysProofs_20 : decode cX0_laysProofs 20 = .ok (.if_icmp .gt 67, 3) := dk_163 0 67 (dk_at dksX0_laysProofs_0 20 rfl rfl)
theorem dX0_laysProofs_23 : decode cX0_laysProofs 23 = .ok (.iconst 0, 1) := dk_3 (dk_at dksX0_laysProofs_0 23 rfl rfl)
theorem dX0_laysProofs_24 : decode cX0_laysProofs 24 = .ok (.istore 4, 2) := dk_54 4 (dk_at dksX0_laysProofs_1 0 rfl rfl)
theorem dX0_laysProofs_26 : decode cX0_laysProofs 26 = .ok (.iload 4, 2) := dk_21 4 (dk_at dksX0_laysProofs_1 2 rfl rfl)
theorem dX0_laysProofs_28 : decode cX0_laysProofs 28 = .ok (.aload_n 0, 1) := dk_42 (dk_at dksX0_laysProofs_1 4 rfl rfl)
theorem dX0_laysProofs_29 : decode cX0_laysProofs 29 = .ok (.getfield 24, 3) := dk_180 0 24 (dk_at dksX0_laysProofs_1 5 rfl rfl)
theorem dX0_laysProofs_32 : decode cX0_laysProofs 32 = .ok (.invokevirtual 142, 3) := dk_182 0 142 (dk_at dksX0_laysProofs_1 8 rfl rfl)
theorem dX0_laysProofs_35 : decode cX0_laysProofs 35 = .ok (.if_icmp .ge 46, 3) := dk_162 0 46 (dk_at dksX0_laysProofs_1 11 rfl rfl)
theorem dX0_laysProofs_38 : decode cX0_laysProofs 38 = .ok (.iload 4, 2) := dk_21 4 (dk_at dksX0_laysProofs_1 14 rfl rfl)
theorem dX0_laysProofs_40 : decode cX0_laysProofs 40 = .ok (.aload_n 0, 1) := dk_42 (dk_at dksX0_laysProofs_1 16 rfl rfl)
theorem dX0_laysProofs_41 : decode cX0_laysProofs 41 = .ok (.getfield 31, 3) := dk_180 0 31 (dk_at dksX0_laysProofs_1 17 rfl rfl)
theorem dX0_laysProofs_44 : decode cX0_laysProofs 44 = .ok (.getfield 149, 3) := dk_180 0 149 (dk_at dksX0_laysProofs_1 20 rfl rfl)
theorem dX0_laysProofs_47 : decode cX0_laysProofs 47 = .ok (.iand, 1) := dk_126 (dk_at dksX0_laysProofs_1 23 rfl rfl)
theorem dX0_laysProofs_48 : decode cX0_laysProofs 48 = .ok (.ifCond .ne 27, 3) := dk_154 0 27 (dk_at dksX0_laysProofs_2 0 rfl rfl)
theorem dX0_laysProofs_51 : decode cX0_laysProofs 51 = .ok (.iload 4, 2) := dk_21 4 (dk_at dksX0_laysProofs_2 3 rfl rfl)
theorem dX0_laysProofs_53 : decode cX0_laysProofs 53 = .ok (.invokestatic 198, 3) := dk_184 0 198 (dk_at dksX0_laysProofs_2 5 rfl rfl)
theorem dX0_laysProofs_56 : decode cX0_laysProofs 56 = .ok (.iload_n 3, 1) := dk_29 (dk_at dksX0_laysProofs_2 8 rfl rfl)
theorem dX0_laysProofs_57 : decode cX0_laysProofs 57 = .ok (.if_icmp .ne 18, 3) := dk_160 0 18 (dk_at dksX0_laysProofs_2 9 rfl rfl)
theorem dX0_laysProofs_60 : decode cX0_laysProofs 60 = .ok (.aload_n 0, 1) := dk_42 (dk_at dksX0_laysProofs_2 12 rfl rfl)
theorem dX0_laysProofs_61 : decode cX0_laysProofs 61 = .ok (.iload 4, 2) := dk_21 4 (dk_at dksX0_laysProofs_2 13 rfl rfl)
theorem dX0_laysProofs_63 : decode cX0_laysProofs 63 = .ok (.iload_n 2, 1) := dk_28 (dk_at dksX0_laysProofs_2 15 rfl rfl)
theorem dX0_laysProofs_64 : decode cX0_laysProofs 64 = .ok (.ifCond .eq 7, 3) := dk_153 0 7 (dk_at dksX0_laysProofs_2 16 rfl rfl)
theorem dX0_laysProofs_67 : decode cX0_laysProofs 67 = .ok (.iconst 1, 1) := dk_4 (dk_at dksX0_laysProofs_2 19 rfl rfl)
theorem dX0_laysProofs_68 : decode cX0_laysProofs 68 = .ok (.goto 4, 3) := dk_167 0 4 (dk_at dksX0_laysProofs_2 20 rfl rfl)
theorem dX0_laysProofs_71 : decode cX0_laysProofs 71 = .ok (.iconst 0, 1) := dk_3 (dk_at dksX0_laysProofs_2 23 rfl rfl)
theorem dX0_laysProofs_72 : decode cX0_laysProofs 72 = .ok (.invokevirtual 441, 3) := dk_182 1 185 (dk_at dksX0_laysProofs_3 0 rfl rfl)
theorem dX0_laysProofs_75 : decode cX0_laysProofs 75 = .ok (.iinc 4 1, 3) := dk_132 4 1 (dk_at dksX0_laysProofs_3 3 rfl rfl)
theorem dX0_laysProofs_78 : decode cX0_laysProofs 78 = .ok (.goto (-52), 3) := dk_167 255 204 (dk_at dksX0_laysProofs_3 6 rfl rfl)
theorem dX0_laysProofs_81 : decode cX0_laysProofs 81 = .ok (.iinc 3 1, 3) := dk_132 3 1 (dk_at dksX0_laysProofs_3 9 rfl rfl)
theorem dX0_laysProofs_84 : decode cX0_laysProofs 84 = .ok (.goto (-72), 3) := dk_167 255 184 (dk_at dksX0_laysProofs_3 12 rfl rfl)
theorem dX0_laysProofs_87 : decode cX0_laysProofs 87 = .ok (.return_, 1) := dk_177 (dk_at dksX0_laysProofs_3 15 rfl rfl)
abbrev cX0_laysProofsOf : ByteArray := prog_1_method_79_code
def yX0_laysProofsOf : MethodName := ⟨RX0, "laysProofsOf", "(II)V"⟩
def dkwX0_laysProofsOf_2 : List UInt8 := [29, 79, 42, 89, 180, 1, 182, 4, 96, 181, 1, 182, 132, 3, 1, 167, 255, 197, 177]
abbrev dktX0_laysProofsOf_2 : List UInt8 := dkwX0_laysProofsOf_2 ++ []
def dkwX0_laysProofsOf_1 : List UInt8 := [154, 0, 6, 167, 0, 33, 42, 180, 0, 87, 42, 180, 1, 182, 27, 79, 42, 180, 0, 90, 42, 180, 1, 182]
abbrev dktX0_laysProofsOf_1 : List UInt8 := dkwX0_laysProofsOf_1 ++ dktX0_laysProofsOf_2
def dkwX0_laysProofsOf_0 : List UInt8 := [3, 62, 29, 27, 163, 0, 60, 29, 27, 2, 130, 126, 154, 0, 46, 42, 27, 29, 28, 182, 1, 188]
abbrev dktX0_laysProofsOf_0 : List UInt8 := dkwX0_laysProofsOf_0 ++ dktX0_laysProofsOf_1
theorem dksX0_laysProofsOf_0 : cX0_laysProofsOf.data.toList.drop 0 = dktX0_laysProofsOf_0 := by decide +kernel
theorem dksX0_laysProofsOf_1 : cX0_laysProofsOf.data.toList.drop 22 = dktX0_laysProofsOf_1 := dk_seg dksX0_laysProofsOf_0 22 rfl rfl
theorem dksX0_laysProofsOf_2 : cX0_laysProofsOf.data.toList.drop 46 = dktX0_laysProofsOf_2 := dk_seg dksX0_laysProofsOf_1 24 rfl rfl
theorem dX0_laysProofsOf_0 : decode cX0_laysProofsOf 0 = .ok (.iconst 0, 1) := dk_3 (dk_at dksX0_laysProofsOf_0 0 rfl rfl)
theorem dX0_laysProofsOf_1 : decode cX0_laysProofsOf 1 = .ok (.istore_n 3, 1) := dk_62 (dk_at dksX0_laysProofsOf_0 1 rfl rfl)
theorem dX0_laysProofsOf_2 : decode cX0_laysProofsOf 2 = .ok (.iload_n 3, 1) := dk_29 (dk_at dksX0_laysProofsOf_0 2 rfl rfl)
theorem dX0_laysProofsOf_3 : decode cX0_laysProofsOf 3 = .ok (.iload_n 1, 1) := dk_27 (dk_at dksX0_laysProofsOf_0 3 rfl rfl)
theorem dX0_laysProofsOf_4 : decode cX0_laysProofsOf 4 = .ok (.if_icmp .gt 60, 3) := dk_163 0 60 (dk_at dksX0_laysProofsOf_0 4 rfl rfl)
theorem dX0_laysProofsOf_7 : decode cX0_laysProofsOf 7 = .ok (.iload_n 3, 1) := dk_29 (dk_at dksX0_laysProofsOf_0 7 rfl rfl)
theorem dX0_laysProofsOf_8 : decode cX0_laysProofsOf 8 = .ok (.iload_n 1, 1) := dk_27 (dk_at dksX0_laysProofsOf_0 8 rfl rfl)
theorem dX0_laysProofsOf_9 : decode cX0_laysProofsOf 9 = .ok (.iconst (-1), 1) := dk_2 (dk_at dksX0_laysProofsOf_0 9 rfl rfl)
theorem dX0_laysProofsOf_10 : decode cX0_laysProofsOf 10 = .ok (.ixor, 1) := dk_130 (dk_at dksX0_laysProofsOf_0 10 rfl rfl)
theorem dX0_laysProofsOf_11 : decode cX0_laysProofsOf 11 = .ok (.iand, 1) := dk_126 (dk_at dksX0_laysProofsOf_0 11 rfl rfl)
theorem dX0_laysProofsOf_12 : decode cX0_laysProofsOf 12 = .ok (.ifCond .ne 46, 3) := dk_154 0 46 (dk_at dksX0_laysProofsOf_0 12 rfl rfl)
theorem dX0_laysProofsOf_15 : decode cX0_laysProofsOf 15 = .ok (.aload_n 0, 1) := dk_42 (dk_at dksX0_laysProofsOf_0 15 rfl rfl)
theorem dX0_laysProofsOf_16 : decode cX0_laysProofsOf 16 = .ok (.iload_n 1, 1) := dk_27 (dk_at dksX0_laysProofsOf_0 16 rfl rfl)
theorem dX0_laysProofsOf_17 : decode cX0_laysProofsOf 17 = .ok (.iload_n 3, 1) := dk_29 (dk_at dksX0_laysProofsOf_0 17 rfl rfl)
theorem dX0_laysProofsOf_18 : decode cX0_laysProofsOf 18 = .ok (.iload_n 2, 1) := dk_28 (dk_at dksX0_laysProofsOf_0 18 rfl rfl)
theorem dX0_laysProofsOf_19 : decode cX0_laysProofsOf 19 = .ok (.invokevirtual 444, 3) := dk_182 1 188 (dk_at dksX0_laysProofsOf_0 19 rfl rfl)
theorem dX0_laysProofsOf_22 : decode cX0_laysProofsOf 22 = .ok (.ifCond .ne 6, 3) := dk_154 0 6 (dk_at dksX0_laysProofsOf_1 0 rfl rfl)
theorem dX0_laysProofsOf_25 : decode cX0_laysProofsOf 25 = .ok (.goto 33, 3) := dk_167 0 33 (dk_at dksX0_laysProofsOf_1 3 rfl rfl)
theorem dX0_laysProofsOf_28 : decode cX0_laysProofsOf 28 = .ok (.aload_n 0, 1) := dk_42 (dk_at dksX0_laysProofsOf_1 6 rfl rfl)
theorem dX0_laysProofsOf_29 : decode cX0_laysProofsOf 29 = .ok (.getfield 87, 3) := dk_180 0 87 (dk_at dksX0_laysProofsOf_1 7 rfl rfl)
theorem dX0_laysProofsOf_32 : decode cX0_laysProofsOf 32 = .ok (.aload_n 0, 1) := dk_42 (dk_at dksX0_laysProofsOf_1 10 rfl rfl)
theorem dX0_laysProofsOf_33 : decode cX0_laysProofsOf 33 = .ok (.getfield 438, 3) := dk_180 1 182 (dk_at dksX0_laysProofsOf_1 11 rfl rfl)
theorem dX0_laysProofsOf_36 : decode cX0_laysProofsOf 36 = .ok (.iload_n 1, 1) := dk_27 (dk_at dksX0_laysProofsOf_1 14 rfl rfl)
theorem dX0_laysProofsOf_37 : decode cX0_laysProofsOf 37 = .ok (.iastore, 1) := dk_79 (dk_at dksX0_laysProofsOf_1 15 rfl rfl)
theorem dX0_laysProofsOf_38 : decode cX0_laysProofsOf 38 = .ok (.aload_n 0, 1) := dk_42 (dk_at dksX0_laysProofsOf_1 16 rfl rfl)
theorem dX0_laysProofsOf_39 : decode cX0_laysProofsOf 39 = .ok (.getfield 90, 3) := dk_180 0 90 (dk_at dksX0_laysProofsOf_1 17 rfl rfl)
theorem dX0_laysProofsOf_42 : decode cX0_laysProofsOf 42 = .ok (.aload_n 0, 1) := dk_42 (dk_at dksX0_laysProofsOf_1 20 rfl rfl)
theorem dX0_laysProofsOf_43 : decode cX0_laysProofsOf 43 = .ok (.getfield 438, 3) := dk_180 1 182 (dk_at dksX0_laysProofsOf_1 21 rfl rfl)
theorem dX0_laysProofsOf_46 : decode cX0_laysProofsOf 46 = .ok (.iload_n 3, 1) := dk_29 (dk_at dksX0_laysProofsOf_2 0 rfl rfl)
theorem dX0_laysProofsOf_47 : decode cX0_laysProofsOf 47 = .ok (.iastore, 1) := dk_79 (dk_at dksX0_laysProofsOf_2 1 rfl rfl)
theorem dX0_laysProofsOf_48 : decode cX0_laysProofsOf 48 = .ok (.aload_n 0, 1) := dk_42 (dk_at dksX0_laysProofsOf_2 2 rfl rfl)
theorem dX0_laysProofsOf_49 : decode cX0_laysProofsOf 49 = .ok (.dup, 1) := dk_89 (dk_at dksX0_laysProofsOf_2 3 rfl rfl)
theorem dX0_laysProofsOf_50 : decode cX0_laysProofsOf 50 = .ok (.getfield 438, 3) := dk_180 1 182 (dk_at dksX0_laysProofsOf_2 4 rfl rfl)
theorem dX0_laysProofsOf_53 : decode cX0_laysProofsOf 53 = .ok (.iconst 1, 1) := dk_4 (dk_at dksX0_laysProofsOf_2 7 rfl rfl)
theorem dX0_laysProofsOf_54 : decode cX0_laysProofsOf 54 = .ok (.iadd, 1) := dk_96 (dk_at dksX0_laysProofsOf_2 8 rfl rfl)
theorem dX0_laysProofsOf_55 : decode cX0_laysProofsOf 55 = .ok (.putfield 438, 3) := dk_181 1 182 (dk_at dksX0_laysProofsOf_2 9 rfl rfl)
theorem dX0_laysProofsOf_58 : decode cX0_laysProofsOf 58 = .ok (.iinc 3 1, 3) := dk_132 3 1 (dk_at dksX0_laysProofsOf_2 12 rfl rfl)
theorem dX0_laysProofsOf_61 : decode cX0_laysProofsOf 61 = .ok (.goto (-59), 3) := dk_167 255 197 (dk_at dksX0_laysProofsOf_2 15 rfl rfl)
theorem dX0_laysProofsOf_64 : decode cX0_laysProofsOf 64 = .ok (.return_, 1) := dk_177 (dk_at dksX0_laysProofsOf_2 18 rfl rfl)
abbrev cX0_isProof : ByteArray := prog_1_method_77_code
def yX0_isProof : MethodName := ⟨RX0, "isProof", "(III)Z"⟩
def dkwX0_isProof_4 : List UInt8 := [132, 4, 1, 167, 255, 190, 4, 172]
abbrev dktX0_isProof_4 : List UInt8 := dkwX0_isProof_4 ++ []
def dkwX0_isProof_3 : List UInt8 := [126, 128, 42, 180, 0, 31, 180, 0, 152, 28, 21, 5, 126, 128, 182, 1, 120, 29, 160, 0, 5, 3, 172]
abbrev dktX0_isProof_3 : List UInt8 := dkwX0_isProof_3 ++ dktX0_isProof_4
def dkwX0_isProof_2 : List UInt8 := [2, 130, 54, 5, 27, 21, 4, 184, 0, 223, 153, 0, 37, 42, 42, 180, 0, 31, 180, 0, 149, 27, 21, 5]
abbrev dktX0_isProof_2 : List UInt8 := dkwX0_isProof_2 ++ dktX0_isProof_3
def dkwX0_isProof_1 : List UInt8 := [159, 0, 5, 3, 172, 3, 54, 4, 21, 4, 42, 180, 0, 24, 180, 0, 133, 162, 0, 60, 4, 21, 4, 120]
abbrev dktX0_isProof_1 : List UInt8 := dkwX0_isProof_1 ++ dktX0_isProof_2
def dkwX0_isProof_0 : List UInt8 := [42, 42, 180, 0, 31, 180, 0, 149, 27, 128, 42, 180, 0, 31, 180, 0, 152, 28, 128, 182, 1, 120, 29]
abbrev dktX0_isProof_0 : List UInt8 := dkwX0_isProof_0 ++ dktX0_isProof_1
theorem dksX0_isProof_0 : cX0_isProof.data.toList.drop 0 = dktX0_isProof_0 := by decide +kernel
theorem dksX0_isProof_1 : cX0_isProof.data.toList.drop 23 = dktX0_isProof_1 := dk_seg dksX0_isProof_0 23 rfl rfl
theorem dksX0_isProof_2 : cX0_isProof.data.toList.drop 47 = dktX0_isProof_2 := dk_seg dksX0_isProof_1 24 rfl rfl
theorem dksX0_isProof_3 : cX0_isProof.data.toList.drop 71 = dktX0_isProof_3 := dk_seg dksX0_isProof_2 24 rfl rfl
theorem dksX0_isProof_4 : cX0_isProof.data.toList.drop 94 = dktX0_isProof_4 := dk_seg dksX0_isProof_3 23 rfl rfl
theorem dX0_isProof_0 : decode cX0_isProof 0 = .ok (.aload_n 0, 1) := dk_42 (dk_at dksX0_isProof_0 0 rfl rfl)
theorem dX0_isProof_1 : decode cX0_isProof 1 = .ok (.aload_n 0, 1) := dk_42 (dk_at dksX0_isProof_0 1 rfl rfl)
theorem dX0_isProof_2 : decode cX0_isProof 2 = .ok (.getfield 31, 3) := dk_180 0 31 (dk_at dksX0_isProof_0 2 rfl rfl)
theorem dX0_isProof_5 : decode cX0_isProof 5 = .ok (.getfield 149, 3) := dk_180 0 149 (dk_at dksX0_isProof_0 5 rfl rfl)
theorem dX0_isProof_8 : decode cX0_isProof 8 = .ok (.iload_n 1, 1) := dk_27 (dk_at dksX0_isProof_0 8 rfl rfl)
theorem dX0_isProof_9 : decode cX0_isProof 9 = .ok (.ior, 1) := dk_128 (dk_at dksX0_isProof_0 9 rfl rfl)
theorem dX0_isProof_10 : decode cX0_isProof 10 = .ok (.aload_n 0, 1) := dk_42 (dk_at dksX0_isProof_0 10 rfl rfl)
theorem dX0_isProof_11 : decode cX0_isProof 11 = .ok (.getfield 31, 3) := dk_180 0 31 (dk_at dksX0_isProof_0 11 rfl rfl)
theorem dX0_isProof_14 : decode cX0_isProof 14 = .ok (.getfield 152, 3) := dk_180 0 152 (dk_at dksX0_isProof_0 14 rfl rfl)
theorem dX0_isProof_17 : decode cX0_isProof 17 = .ok (.iload_n 2, 1) := dk_28 (dk_at dksX0_isProof_0 17 rfl rfl)
theorem dX0_isProof_18 : decode cX0_isProof 18 = .ok (.ior, 1) := dk_128 (dk_at dksX0_isProof_0 18 rfl rfl)
theorem dX0_isProof_19 : decode cX0_isProof 19 = .ok (.invokevirtual 376, 3) := dk_182 1 120 (dk_at dksX0_isProof_0 19 rfl rfl)
theorem dX0_isProof_22 : decode cX0_isProof 22 = .ok (.iload_n 3, 1) := dk_29 (dk_at dksX0_isProof_0 22 rfl rfl)
theorem dX0_isProof_23 : decode cX0_isProof 23 = .ok (.if_icmp .eq 5, 3) := dk_159 0 5 (dk_at dksX0_isProof_1 0 rfl rfl)
theorem dX0_isProof_26 : decode cX0_isProof 26 = .ok (.iconst 0, 1) := dk_3 (dk_at dksX0_isProof_1 3 rfl rfl)
theorem dX0_isProof_27 : decode cX0_isProof 27 = .ok (.ireturn, 1) := dk_172 (dk_at dksX0_isProof_1 4 rfl rfl)
theorem dX0_isProof_28 : decode cX0_isProof 28 = .ok (.iconst 0, 1) := dk_3 (dk_at dksX0_isProof_1 5 rfl rfl)
theorem dX0_isProof_29 : decode cX0_isProof 29 = .ok (.istore 4, 2) := dk_54 4 (dk_at dksX0_isProof_1 6 rfl rfl)
theorem dX0_isProof_31 : decode cX0_isProof 31 = .ok (.iload 4, 2) := dk_21 4 (dk_at dksX0_isProof_1 8 rfl rfl)
theorem dX0_isProof_33 : decode cX0_isProof 33 = .ok (.aload_n 0, 1) := dk_42 (dk_at dksX0_isProof_1 10 rfl rfl)
theorem dX0_isProof_34 : decode cX0_isProof 34 = .ok (.getfield 24, 3) := dk_180 0 24 (dk_at dksX0_isProof_1 11 rfl rfl)
theorem dX0_isProof_37 : decode cX0_isProof 37 = .ok (.getfield 133, 3) := dk_180 0 133 (dk_at dksX0_isProof_1 14 rfl rfl)
theorem dX0_isProof_40 : decode cX0_isProof 40 = .ok (.if_icmp .ge 60, 3) := dk_162 0 60 (dk_at dksX0_isProof_1 17 rfl rfl)
theorem dX0_isProof_43 : decode cX0_isProof 43 = .ok (.iconst 1, 1) := dk_4 (dk_at dksX0_isProof_1 20 rfl rfl)
theorem dX0_isProof_44 : decode cX0_isProof 44 = .ok (.iload 4, 2) := dk_21 4 (dk_at dksX0_isProof_1 21 rfl rfl)
theorem dX0_isProof_46 : decode cX0_isProof 46 = .ok (.ishl, 1) := dk_120 (dk_at dksX0_isProof_1 23 rfl rfl)
theorem dX0_isProof_47 : decode cX0_isProof 47 = .ok (.iconst (-1), 1) := dk_2 (dk_at dksX0_isProof_2 0 rfl rfl)
theorem dX0_isProof_48 : decode cX0_isProof 48 = .ok (.ixor, 1) := dk_130 (dk_at dksX0_isProof_2 1 rfl rfl)
theorem dX0_isProof_49 : decode cX0_isProof 49 = .ok (.istore 5, 2) := dk_54 5 (dk_at dksX0_isProof_2 2 rfl rfl)
theorem dX0_isProof_51 : decode cX0_isProof 51 = .ok (.iload_n 1, 1) := dk_27 (dk_at dksX0_isProof_2 4 rfl rfl)
theorem dX0_isProof_52 : decode cX0_isProof 52 = .ok (.iload 4, 2) := dk_21 4 (dk_at dksX0_isProof_2 5 rfl rfl)
theorem dX0_isProof_54 : decode cX0_isProof 54 = .ok (.invokestatic 223, 3) := dk_184 0 223 (dk_at dksX0_isProof_2 7 rfl rfl)
theorem dX0_isProof_57 : decode cX0_isProof 57 = .ok (.ifCond .eq 37, 3) := dk_153 0 37 (dk_at dksX0_isProof_2 10 rfl rfl)
theorem dX0_isProof_60 : decode cX0_isProof 60 = .ok (.aload_n 0, 1) := dk_42 (dk_at dksX0_isProof_2 13 rfl rfl)
theorem dX0_isProof_61 : decode cX0_isProof 61 = .ok (.aload_n 0, 1) := dk_42 (dk_at dksX0_isProof_2 14 rfl rfl)
theorem dX0_isProof_62 : decode cX0_isProof 62 = .ok (.getfield 31, 3) := dk_180 0 31 (dk_at dksX0_isProof_2 15 rfl rfl)
theorem dX0_isProof_65 : decode cX0_isProof 65 = .ok (.getfield 149, 3) := dk_180 0 149 (dk_at dksX0_isProof_2 18 rfl rfl)
theorem dX0_isProof_68 : decode cX0_isProof 68 = .ok (.iload_n 1, 1) := dk_27 (dk_at dksX0_isProof_2 21 rfl rfl)
theorem dX0_isProof_69 : decode cX0_isProof 69 = .ok (.iload 5, 2) := dk_21 5 (dk_at dksX0_isProof_2 22 rfl rfl)
theorem dX0_isProof_71 : decode cX0_isProof 71 = .ok (.iand, 1) := dk_126 (dk_at dksX0_isProof_3 0 rfl rfl)
theorem dX0_isProof_72 : decode cX0_isProof 72 = .ok (.ior, 1) := dk_128 (dk_at dksX0_isProof_3 1 rfl rfl)
theorem dX0_isProof_73 : decode cX0_isProof 73 = .ok (.aload_n 0, 1) := dk_42 (dk_at dksX0_isProof_3 2 rfl rfl)
theorem dX0_isProof_74 : decode cX0_isProof 74 = .ok (.getfield 31, 3) := dk_180 0 31 (dk_at dksX0_isProof_3 3 rfl rfl)
theorem dX0_isProof_77 : decode cX0_isProof 77 = .ok (.getfield 152, 3) := dk_180 0 152 (dk_at dksX0_isProof_3 6 rfl rfl)
theorem dX0_isProof_80 : decode cX0_isProof 80 = .ok (.iload_n 2, 1) := dk_28 (dk_at dksX0_isProof_3 9 rfl rfl)
theorem dX0_isProof_81 : decode cX0_isProof 81 = .ok (.iload 5, 2) := dk_21 5 (dk_at dksX0_isProof_3 10 rfl rfl)
theorem dX0_isProof_83 : decode cX0_isProof 83 = .ok (.iand, 1) := dk_126 (dk_at dksX0_isProof_3 12 rfl rfl)
theorem dX0_isProof_84 : decode cX0_isProof 84 = .ok (.ior, 1) := dk_128 (dk_at dksX0_isProof_3 13 rfl rfl)
theorem dX0_isProof_85 : decode cX0_isProof 85 = .ok (.invokevirtual 376, 3) := dk_182 1 120 (dk_at dksX0_isProof_3 14 rfl rfl)
theorem dX0_isProof_88 : decode cX0_isProof 88 = .ok (.iload_n 3, 1) := dk_29 (dk_at dksX0_isProof_3 17 rfl rfl)
theorem dX0_isProof_89 : decode cX0_isProof 89 = .ok (.if_icmp .ne 5, 3) := dk_160 0 5 (dk_at dksX0_isProof_3 18 rfl rfl)
theorem dX0_isProof_92 : decode cX0_isProof 92 = .ok (.iconst 0, 1) := dk_3 (dk_at dksX0_isProof_3 21 rfl rfl)
theorem dX0_isProof_93 : decode cX0_isProof 93 = .ok (.ireturn, 1) := dk_172 (dk_at dksX0_isProof_3 22 rfl rfl)
theorem dX0_isProof_94 : decode cX0_isProof 94 = .ok (.iinc 4 1, 3) := dk_132 4 1 (dk_at dksX0_isProof_4 0 rfl rfl)
theorem dX0_isProof_97 : decode cX0_isProof 97 = .ok (.goto (-66), 3) := dk_167 255 190 (dk_at dksX0_isProof_4 3 rfl rfl)
theorem dX0_isProof_100 : decode cX0_isProof 100 = .ok (.iconst 1, 1) := dk_4 (dk_at dksX0_isProof_4 6 rfl rfl)
theorem dX0_isProof_101 : decode cX0_isProof 101 = .ok (.ireturn, 1) := dk_172 (dk_at dksX0_isProof_4 7 rfl rfl)
abbrev cX0_proof : ByteArray := prog_1_method_81_code
def yX0_proof : MethodName := ⟨RX0, "proof", "(IZII)I"⟩
def dkwX0_proof_2 : List UInt8 := [42, 180, 0, 87, 29, 46, 167, 0, 9, 42, 180, 0, 90, 29, 46, 172]
abbrev dktX0_proof_2 : List UInt8 := dkwX0_proof_2 ++ []
def dkwX0_proof_1 : List UInt8 := [182, 1, 191, 29, 3, 42, 180, 1, 182, 4, 100, 184, 0, 96, 154, 0, 5, 2, 172, 21, 4, 154, 0, 12]
abbrev dktX0_proof_1 : List UInt8 := dkwX0_proof_1 ++ dktX0_proof_2
def dkwX0_proof_0 : List UInt8 := [42, 27, 182, 1, 34, 153, 0, 13, 21, 4, 3, 4, 184, 0, 96, 154, 0, 5, 2, 172, 42, 27, 28]
abbrev dktX0_proof_0 : List UInt8 := dkwX0_proof_0 ++ dktX0_proof_1
theorem dksX0_proof_0 : cX0_proof.data.toList.drop 0 = dktX0_proof_0 := by decide +kernel
theorem dksX0_proof_1 : cX0_proof.data.toList.drop 23 = dktX0_proof_1 := dk_seg dksX0_proof_0 23 rfl rfl
theorem dksX0_proof_2 : cX0_proof.data.toList.drop 47 = dktX0_proof_2 := dk_seg dksX0_proof_1 24 rfl rfl
theorem dX0_proof_0 : decode cX0_proof 0 = .ok (.aload_n 0, 1) := dk_42 (dk_at dksX0_proof_0 0 rfl rfl)
theorem dX0_proof_1 : decode cX0_proof 1 = .ok (.iload_n 1, 1) := dk_27 (dk_at dksX0_proof_0 1 rfl rfl)
theorem dX0_proof_2 : decode cX0_proof 2 = .ok (.invokevirtual 290, 3) := dk_182 1 34 (dk_at dksX0_proof_0 2 rfl rfl)
theorem dX0_proof_5 : decode cX0_proof 5 = .ok (.ifCond .eq 13, 3) := dk_153 0 13 (dk_at dksX0_proof_0 5 rfl rfl)
theorem dX0_proof_8 : decode cX0_proof 8 = .ok (.iload 4, 2) := dk_21 4 (dk_at dksX0_proof_0 8 rfl rfl)
theorem dX0_proof_10 : decode cX0_proof 10 = .ok (.iconst 0, 1) := dk_3 (dk_at dksX0_proof_0 10 rfl rfl)
theorem dX0_proof_11 : decode cX0_proof 11 = .ok (.iconst 1, 1) := dk_4 (dk_at dksX0_proof_0 11 rfl rfl)
theorem dX0_proof_12 : decode cX0_proof 12 = .ok (.invokestatic 96, 3) := dk_184 0 96 (dk_at dksX0_proof_0 12 rfl rfl)
theorem dX0_proof_15 : decode cX0_proof 15 = .ok (.ifCond .ne 5, 3) := dk_154 0 5 (dk_at dksX0_proof_0 15 rfl rfl)
theorem dX0_proof_18 : decode cX0_proof 18 = .ok (.iconst (-1), 1) := dk_2 (dk_at dksX0_proof_0 18 rfl rfl)
theorem dX0_proof_19 : decode cX0_proof 19 = .ok (.ireturn, 1) := dk_172 (dk_at dksX0_proof_0 19 rfl rfl)
theorem dX0_proof_20 : decode cX0_proof 20 = .ok (.aload_n 0, 1) := dk_42 (dk_at dksX0_proof_0 20 rfl rfl)
theorem dX0_proof_21 : decode cX0_proof 21 = .ok (.iload_n 1, 1) := dk_27 (dk_at dksX0_proof_0 21 rfl rfl)
theorem dX0_proof_22 : decode cX0_proof 22 = .ok (.iload_n 2, 1) := dk_28 (dk_at dksX0_proof_0 22 rfl rfl)
theorem dX0_proof_23 : decode cX0_proof 23 = .ok (.invokevirtual 447, 3) := dk_182 1 191 (dk_at dksX0_proof_1 0 rfl rfl)
theorem dX0_proof_26 : decode cX0_proof 26 = .ok (.iload_n 3, 1) := dk_29 (dk_at dksX0_proof_1 3 rfl rfl)
theorem dX0_proof_27 : decode cX0_proof 27 = .ok (.iconst 0, 1) := dk_3 (dk_at dksX0_proof_1 4 rfl rfl)
theorem dX0_proof_28 : decode cX0_proof 28 = .ok (.aload_n 0, 1) := dk_42 (dk_at dksX0_proof_1 5 rfl rfl)
theorem dX0_proof_29 : decode cX0_proof 29 = .ok (.getfield 438, 3) := dk_180 1 182 (dk_at dksX0_proof_1 6 rfl rfl)
theorem dX0_proof_32 : decode cX0_proof 32 = .ok (.iconst 1, 1) := dk_4 (dk_at dksX0_proof_1 9 rfl rfl)
theorem dX0_proof_33 : decode cX0_proof 33 = .ok (.isub, 1) := dk_100 (dk_at dksX0_proof_1 10 rfl rfl)
theorem dX0_proof_34 : decode cX0_proof 34 = .ok (.invokestatic 96, 3) := dk_184 0 96 (dk_at dksX0_proof_1 11 rfl rfl)
theorem dX0_proof_37 : decode cX0_proof 37 = .ok (.ifCond .ne 5, 3) := dk_154 0 5 (dk_at dksX0_proof_1 14 rfl rfl)
theorem dX0_proof_40 : decode cX0_proof 40 = .ok (.iconst (-1), 1) := dk_2 (dk_at dksX0_proof_1 17 rfl rfl)
theorem dX0_proof_41 : decode cX0_proof 41 = .ok (.ireturn, 1) := dk_172 (dk_at dksX0_proof_1 18 rfl rfl)
theorem dX0_proof_42 : decode cX0_proof 42 = .ok (.iload 4, 2) := dk_21 4 (dk_at dksX0_proof_1 19 rfl rfl)
theorem dX0_proof_44 : decode cX0_proof 44 = .ok (.ifCond .ne 12, 3) := dk_154 0 12 (dk_at dksX0_proof_1 21 rfl rfl)
theorem dX0_proof_47 : decode cX0_proof 47 = .ok (.aload_n 0, 1) := dk_42 (dk_at dksX0_proof_2 0 rfl rfl)
theorem dX0_proof_48 : decode cX0_proof 48 = .ok (.getfield 87, 3) := dk_180 0 87 (dk_at dksX0_proof_2 1 rfl rfl)
theorem dX0_proof_51 : decode cX0_proof 51 = .ok (.iload_n 3, 1) := dk_29 (dk_at dksX0_proof_2 4 rfl rfl)
theorem dX0_proof_52 : decode cX0_proof 52 = .ok (.iaload, 1) := dk_46 (dk_at dksX0_proof_2 5 rfl rfl)
theorem dX0_proof_53 : decode cX0_proof 53 = .ok (.goto 9, 3) := dk_167 0 9 (dk_at dksX0_proof_2 6 rfl rfl)
theorem dX0_proof_56 : decode cX0_proof 56 = .ok (.aload_n 0, 1) := dk_42 (dk_at dksX0_proof_2 9 rfl rfl)
theorem dX0_proof_57 : decode cX0_proof 57 = .ok (.getfield 90, 3) := dk_180 0 90 (dk_at dksX0_proof_2 10 rfl rfl)
theorem dX0_proof_60 : decode cX0_proof 60 = .ok (.iload_n 3, 1) := dk_29 (dk_at dksX0_proof_2 13 rfl rfl)
theorem dX0_proof_61 : decode cX0_proof 61 = .ok (.iaload, 1) := dk_46 (dk_at dksX0_proof_2 14 rfl rfl)
theorem dX0_proof_62 : decode cX0_proof 62 = .ok (.ireturn, 1) := dk_172 (dk_at dksX0_proof_2 15 rfl rfl)
abbrev cX0_duel : ByteArray := prog_1_method_83_code
def yX0_duel : MethodName := ⟨RX0, "duel", "(II)I"⟩
def dkwX0_duel_2 : List UInt8 := [167, 0, 4, 3, 172]
abbrev dktX0_duel_2 : List UInt8 := dkwX0_duel_2 ++ []
def dkwX0_duel_1 : List UInt8 := [42, 42, 180, 0, 31, 180, 0, 149, 42, 180, 0, 31, 180, 0, 152, 28, 182, 1, 195, 153, 0, 7, 4]
abbrev dktX0_duel_1 : List UInt8 := dkwX0_duel_1 ++ dktX0_duel_2
def dkwX0_duel_0 : List UInt8 := [42, 27, 182, 1, 34, 153, 0, 12, 28, 3, 4, 184, 0, 96, 154, 0, 5, 2, 172, 42, 27, 182, 1, 117]
abbrev dktX0_duel_0 : List UInt8 := dkwX0_duel_0 ++ dktX0_duel_1
theorem dksX0_duel_0 : cX0_duel.data.toList.drop 0 = dktX0_duel_0 := by decide +kernel
theorem dksX0_duel_1 : cX0_duel.data.toList.drop 24 = dktX0_duel_1 := dk_seg dksX0_duel_0 24 rfl rfl
theorem dksX0_duel_2 : cX0_duel.data.toList.drop 47 = dktX0_duel_2 := dk_seg dksX0_duel_1 23 rfl rfl
theorem dX0_duel_0 : decode cX0_duel 0 = .ok (.aload_n 0, 1) := dk_42 (dk_at dksX0_duel_0 0 rfl rfl)
theorem dX0_duel_1 : decode cX0_duel 1 = .ok (.iload_n 1, 1) := dk_27 (dk_at dksX0_duel_0 1 rfl rfl)
theorem dX0_duel_2 : decode cX0_duel 2 = .ok (.invokevirtual 290, 3) := dk_182 1 34 (dk_at dksX0_duel_0 2 rfl rfl)
theorem dX0_duel_5 : decode cX0_duel 5 = .ok (.ifCond .eq 12, 3) := dk_153 0 12 (dk_at dksX0_duel_0 5 rfl rfl)
theorem dX0_duel_8 : decode cX0_duel 8 = .ok (.iload_n 2, 1) := dk_28 (dk_at dksX0_duel_0 8 rfl rfl)
theorem dX0_duel_9 : decode cX0_duel 9 = .ok (.iconst 0, 1) := dk_3 (dk_at dksX0_duel_0 9 rfl rfl)
theorem dX0_duel_10 : decode cX0_duel 10 = .ok (.iconst 1, 1) := dk_4 (dk_at dksX0_duel_0 10 rfl rfl)
theorem dX0_duel_11 : decode cX0_duel 11 = .ok (.invokestatic 96, 3) := dk_184 0 96 (dk_at dksX0_duel_0 11 rfl rfl)
theorem dX0_duel_14 : decode cX0_duel 14 = .ok (.ifCond .ne 5, 3) := dk_154 0 5 (dk_at dksX0_duel_0 14 rfl rfl)
theorem dX0_duel_17 : decode cX0_duel 17 = .ok (.iconst (-1), 1) := dk_2 (dk_at dksX0_duel_0 17 rfl rfl)
theorem dX0_duel_18 : decode cX0_duel 18 = .ok (.ireturn, 1) := dk_172 (dk_at dksX0_duel_0 18 rfl rfl)
theorem dX0_duel_19 : decode cX0_duel 19 = .ok (.aload_n 0, 1) := dk_42 (dk_at dksX0_duel_0 19 rfl rfl)
theorem dX0_duel_20 : decode cX0_duel 20 = .ok (.iload_n 1, 1) := dk_27 (dk_at dksX0_duel_0 20 rfl rfl)
theorem dX0_duel_21 : decode cX0_duel 21 = .ok (.invokevirtual 373, 3) := dk_182 1 117 (dk_at dksX0_duel_0 21 rfl rfl)
theorem dX0_duel_24 : decode cX0_duel 24 = .ok (.aload_n 0, 1) := dk_42 (dk_at dksX0_duel_1 0 rfl rfl)
theorem dX0_duel_25 : decode cX0_duel 25 = .ok (.aload_n 0, 1) := dk_42 (dk_at dksX0_duel_1 1 rfl rfl)
theorem dX0_duel_26 : decode cX0_duel 26 = .ok (.getfield 31, 3) := dk_180 0 31 (dk_at dksX0_duel_1 2 rfl rfl)
theorem dX0_duel_29 : decode cX0_duel 29 = .ok (.getfield 149, 3) := dk_180 0 149 (dk_at dksX0_duel_1 5 rfl rfl)
theorem dX0_duel_32 : decode cX0_duel 32 = .ok (.aload_n 0, 1) := dk_42 (dk_at dksX0_duel_1 8 rfl rfl)
theorem dX0_duel_33 : decode cX0_duel 33 = .ok (.getfield 31, 3) := dk_180 0 31 (dk_at dksX0_duel_1 9 rfl rfl)
theorem dX0_duel_36 : decode cX0_duel 36 = .ok (.getfield 152, 3) := dk_180 0 152 (dk_at dksX0_duel_1 12 rfl rfl)
theorem dX0_duel_39 : decode cX0_duel 39 = .ok (.iload_n 2, 1) := dk_28 (dk_at dksX0_duel_1 15 rfl rfl)
theorem dX0_duel_40 : decode cX0_duel 40 = .ok (.invokevirtual 451, 3) := dk_182 1 195 (dk_at dksX0_duel_1 16 rfl rfl)
theorem dX0_duel_43 : decode cX0_duel 43 = .ok (.ifCond .eq 7, 3) := dk_153 0 7 (dk_at dksX0_duel_1 19 rfl rfl)
theorem dX0_duel_46 : decode cX0_duel 46 = .ok (.iconst 1, 1) := dk_4 (dk_at dksX0_duel_1 22 rfl rfl)
theorem dX0_duel_47 : decode cX0_duel 47 = .ok (.goto 4, 3) := dk_167 0 4 (dk_at dksX0_duel_2 0 rfl rfl)
theorem dX0_duel_50 : decode cX0_duel 50 = .ok (.iconst 0, 1) := dk_3 (dk_at dksX0_duel_2 3 rfl rfl)
theorem dX0_duel_51 : decode cX0_duel 51 = .ok (.ireturn, 1) := dk_172 (dk_at dksX0_duel_2 4 rfl rfl)
abbrev cX0_pleaderWins : ByteArray := prog_1_method_82_code
def yX0_pleaderWins : MethodName := ⟨RX0, "pleaderWins", "(III)Z"⟩
def dkwX0_pleaderWins_9 : List UInt8 := [167, 255, 159, 42, 180, 0, 63, 21, 5, 21, 7, 153, 0, 7, 4, 167, 0, 4, 3, 79, 21, 7, 172]
abbrev dktX0_pleaderWins_9 : List UInt8 := dkwX0_pleaderWins_9 ++ []
def dkwX0_pleaderWins_8 : List UInt8 := [128, 28, 21, 9, 21, 8, 120, 128, 29, 182, 1, 195, 54, 7, 132, 9, 1, 167, 255, 200, 132, 8, 1]
abbrev dktX0_pleaderWins_8 : List UInt8 := dkwX0_pleaderWins_8 ++ dktX0_pleaderWins_9
def dkwX0_pleaderWins_7 : List UInt8 := [4, 21, 8, 120, 128, 28, 21, 9, 21, 8, 120, 128, 182, 0, 227, 153, 0, 23, 42, 27, 4, 21, 8, 120]
abbrev dktX0_pleaderWins_7 : List UInt8 := dkwX0_pleaderWins_7 ++ dktX0_pleaderWins_8
def dkwX0_pleaderWins_6 : List UInt8 := [154, 0, 6, 167, 0, 65, 3, 54, 9, 21, 9, 5, 162, 0, 56, 21, 7, 21, 6, 159, 0, 49, 42, 27]
abbrev dktX0_pleaderWins_6 : List UInt8 := dkwX0_pleaderWins_6 ++ dktX0_pleaderWins_7
def dkwX0_pleaderWins_5 : List UInt8 := [180, 0, 24, 180, 0, 133, 162, 0, 91, 21, 7, 21, 6, 159, 0, 84, 21, 4, 21, 8, 184, 0, 223]
abbrev dktX0_pleaderWins_5 : List UInt8 := dkwX0_pleaderWins_5 ++ dktX0_pleaderWins_6
def dkwX0_pleaderWins_4 : List UInt8 := [167, 0, 4, 3, 54, 6, 21, 6, 154, 0, 7, 4, 167, 0, 4, 3, 54, 7, 3, 54, 8, 21, 8, 42]
abbrev dktX0_pleaderWins_4 : List UInt8 := dkwX0_pleaderWins_4 ++ dktX0_pleaderWins_5
def dkwX0_pleaderWins_3 : List UInt8 := [27, 42, 180, 0, 31, 180, 0, 149, 2, 130, 126, 184, 0, 198, 29, 96, 5, 112, 154, 0, 7, 4]
abbrev dktX0_pleaderWins_3 : List UInt8 := dkwX0_pleaderWins_3 ++ dktX0_pleaderWins_4
def dkwX0_pleaderWins_2 : List UInt8 := [21, 5, 46, 2, 159, 0, 20, 42, 180, 0, 63, 21, 5, 46, 4, 160, 0, 7, 4, 167, 0, 4, 3, 172]
abbrev dktX0_pleaderWins_2 : List UInt8 := dkwX0_pleaderWins_2 ++ dktX0_pleaderWins_3
def dkwX0_pleaderWins_1 : List UInt8 := [182, 1, 120, 4, 160, 0, 7, 4, 167, 0, 4, 3, 172, 27, 28, 184, 1, 114, 54, 5, 42, 180, 0, 63]
abbrev dktX0_pleaderWins_1 : List UInt8 := dkwX0_pleaderWins_1 ++ dktX0_pleaderWins_2
def dkwX0_pleaderWins_0 : List UInt8 := [42, 180, 0, 24, 182, 0, 142, 4, 100, 27, 2, 130, 126, 54, 4, 21, 4, 154, 0, 19, 42, 27, 28]
abbrev dktX0_pleaderWins_0 : List UInt8 := dkwX0_pleaderWins_0 ++ dktX0_pleaderWins_1
theorem dksX0_pleaderWins_0 : cX0_pleaderWins.data.toList.drop 0 = dktX0_pleaderWins_0 := by decide +kernel
theorem dksX0_pleaderWins_1 : cX0_pleaderWins.data.toList.drop 23 = dktX0_pleaderWins_1 := dk_seg dksX0_pleaderWins_0 23 rfl rfl
theorem dksX0_pleaderWins_2 : cX0_pleaderWins.data.toList.drop 47 = dktX0_pleaderWins_2 := dk_seg dksX0_pleaderWins_1 24 rfl rfl
theorem dksX0_pleaderWins_3 : cX0_pleaderWins.data.toList.drop 71 = dktX0_pleaderWins_3 := dk_seg dksX0_pleaderWins_2 24 rfl rfl
theorem dksX0_pleaderWins_4 : cX0_pleaderWins.data.toList.drop 93 = dktX0_pleaderWins_4 := dk_seg dksX0_pleaderWins_3 22 rfl rfl
theorem dksX0_pleaderWins_5 : cX0_pleaderWins.data.toList.drop 117 = dktX0_pleaderWins_5 := dk_seg dksX0_pleaderWins_4 24 rfl rfl
theorem dksX0_pleaderWins_6 : cX0_pleaderWins.data.toList.drop 140 = dktX0_pleaderWins_6 := dk_seg dksX0_pleaderWins_5 23 rfl rfl
theorem dksX0_pleaderWins_7 : cX0_pleaderWins.data.toList.drop 164 = dktX0_pleaderWins_7 := dk_seg dksX0_pleaderWins_6 24 rfl rfl
theorem dksX0_pleaderWins_8 : cX0_pleaderWins.data.toList.drop 188 = dktX0_pleaderWins_8 := dk_seg dksX0_pleaderWins_7 24 rfl rfl
theorem dksX0_pleaderWins_9 : cX0_pleaderWins.data.toList.drop 211 = dktX0_pleaderWins_9 := dk_seg dksX0_pleaderWins_8 23 rfl rfl
theorem dX0_pleaderWins_0 : decode cX0_pleaderWins 0 = .ok (.aload_n 0, 1) := dk_42 (dk_at dksX0_pleaderWins_0 0 rfl rfl)
theorem dX0_pleaderWins_1 : decode cX0_pleaderWins 1 = .ok (.getfield 24, 3) := dk_180 0 24 (dk_at dksX0_pleaderWins_0 1 rfl rfl)
theorem dX0_pleaderWins_4 : decode cX0_pleaderWins 4 = .ok (.invokevirtual 142, 3) := dk_182 0 142 (dk_at dksX0_pleaderWins_0 4 rfl rfl)
theorem dX0_pleaderWins_7 : decode cX0_pleaderWins 7 = .ok (.iconst 1, 1) := dk_4 (dk_at dksX0_pleaderWins_0 7 rfl rfl)
theorem dX0_pleaderWins_8 : decode cX0_pleaderWins 8 = .ok (.isub, 1) := dk_100 (dk_at dksX0_pleaderWins_0 8 rfl rfl)
theorem dX0_pleaderWins_9 : decode cX0_pleaderWins 9 = .ok (.iload_n 1, 1) := dk_27 (dk_at dksX0_pleaderWins_0 9 rfl rfl)
theorem dX0_pleaderWins_10 : decode cX0_pleaderWins 10 = .ok (.iconst (-1), 1) := dk_2 (dk_at dksX0_pleaderWins_0 10 rfl rfl)
theorem dX0_pleaderWins_11 : decode cX0_pleaderWins 11 = .ok (.ixor, 1) := dk_130 (dk_at dksX0_pleaderWins_0 11 rfl rfl)
theorem dX0_pleaderWins_12 : decode cX0_pleaderWins 12 = .ok (.iand, 1) := dk_126 (dk_at dksX0_pleaderWins_0 12 rfl rfl)
theorem dX0_pleaderWins_13 : decode cX0_pleaderWins 13 = .ok (.istore 4, 2) := dk_54 4 (dk_at dksX0_pleaderWins_0 13 rfl rfl)
theorem dX0_pleaderWins_15 : decode cX0_pleaderWins 15 = .ok (.iload 4, 2) := dk_21 4 (dk_at dksX0_pleaderWins_0 15 rfl rfl)
theorem dX0_pleaderWins_17 : decode cX0_pleaderWins 17 = .ok (.ifCond .ne 19, 3) := dk_154 0 19 (dk_at dksX0_pleaderWins_0 17 rfl rfl)
theorem dX0_pleaderWins_20 : decode cX0_pleaderWins 20 = .ok (.aload_n 0, 1) := dk_42 (dk_at dksX0_pleaderWins_0 20 rfl rfl)
theorem dX0_pleaderWins_21 : decode cX0_pleaderWins 21 = .ok (.iload_n 1, 1) := dk_27 (dk_at dksX0_pleaderWins_0 21 rfl rfl)
theorem dX0_pleaderWins_22 : decode cX0_pleaderWins 22 = .ok (.iload_n 2, 1) := dk_28 (dk_at dksX0_pleaderWins_0 22 rfl rfl)
theorem dX0_pleaderWins_23 : decode cX0_pleaderWins 23 = .ok (.invokevirtual 376, 3) := dk_182 1 120 (dk_at dksX0_pleaderWins_1 0 rfl rfl)
theorem dX0_pleaderWins_26 : decode cX0_pleaderWins 26 = .ok (.iconst 1, 1) := dk_4 (dk_at dksX0_pleaderWins_1 3 rfl rfl)
theorem dX0_pleaderWins_27 : decode cX0_pleaderWins 27 = .ok (.if_icmp .ne 7, 3) := dk_160 0 7 (dk_at dksX0_pleaderWins_1 4 rfl rfl)
theorem dX0_pleaderWins_30 : decode cX0_pleaderWins 30 = .ok (.iconst 1, 1) := dk_4 (dk_at dksX0_pleaderWins_1 7 rfl rfl)
theorem dX0_pleaderWins_31 : decode cX0_pleaderWins 31 = .ok (.goto 4, 3) := dk_167 0 4 (dk_at dksX0_pleaderWins_1 8 rfl rfl)
theorem dX0_pleaderWins_34 : decode cX0_pleaderWins 34 = .ok (.iconst 0, 1) := dk_3 (dk_at dksX0_pleaderWins_1 11 rfl rfl)
theorem dX0_pleaderWins_35 : decode cX0_pleaderWins 35 = .ok (.ireturn, 1) := dk_172 (dk_at dksX0_pleaderWins_1 12 rfl rfl)
theorem dX0_pleaderWins_36 : decode cX0_pleaderWins 36 = .ok (.iload_n 1, 1) := dk_27 (dk_at dksX0_pleaderWins_1 13 rfl rfl)
theorem dX0_pleaderWins_37 : decode cX0_pleaderWins 37 = .ok (.iload_n 2, 1) := dk_28 (dk_at dksX0_pleaderWins_1 14 rfl rfl)
theorem dX0_pleaderWins_38 : decode cX0_pleaderWins 38 = .ok (.invokestatic 370, 3) := dk_184 1 114 (dk_at dksX0_pleaderWins_1 15 rfl rfl)
theorem dX0_pleaderWins_41 : decode cX0_pleaderWins 41 = .ok (.istore 5, 2) := dk_54 5 (dk_at dksX0_pleaderWins_1 18 rfl rfl)
theorem dX0_pleaderWins_43 : decode cX0_pleaderWins 43 = .ok (.aload_n 0, 1) := dk_42 (dk_at dksX0_pleaderWins_1 20 rfl rfl)
theorem dX0_pleaderWins_44 : decode cX0_pleaderWins 44 = .ok (.getfield 63, 3) := dk_180 0 63 (dk_at dksX0_pleaderWins_1 21 rfl rfl)
theorem dX0_pleaderWins_47 : decode cX0_pleaderWins 47 = .ok (.iload 5, 2) := dk_21 5 (dk_at dksX0_pleaderWins_2 0 rfl rfl)
theorem dX0_pleaderWins_49 : decode cX0_pleaderWins 49 = .ok (.iaload, 1) := dk_46 (dk_at dksX0_pleaderWins_2 2 rfl rfl)
theorem dX0_pleaderWins_50 : decode cX0_pleaderWins 50 = .ok (.iconst (-1), 1) := dk_2 (dk_at dksX0_pleaderWins_2 3 rfl rfl)
theorem dX0_pleaderWins_51 : decode cX0_pleaderWins 51 = .ok (.if_icmp .eq 20, 3) := dk_159 0 20 (dk_at dksX0_pleaderWins_2 4 rfl rfl)
theorem dX0_pleaderWins_54 : decode cX0_pleaderWins 54 = .ok (.aload_n 0, 1) := dk_42 (dk_at dksX0_pleaderWins_2 7 rfl rfl)
theorem dX0_pleaderWins_55 : decode cX0_pleaderWins 55 = .ok (.getfield 63, 3) := dk_180 0 63 (dk_at dksX0_pleaderWins_2 8 rfl rfl)
theorem dX0_pleaderWins_58 : decode cX0_pleaderWins 58 = .ok (.iload 5, 2) := dk_21 5 (dk_at dksX0_pleaderWins_2 11 rfl rfl)
theorem dX0_pleaderWins_60 : decode cX0_pleaderWins 60 = .ok (.iaload, 1) := dk_46 (dk_at dksX0_pleaderWins_2 13 rfl rfl)
theorem dX0_pleaderWins_61 : decode cX0_pleaderWins 61 = .ok (.iconst 1, 1) := dk_4 (dk_at dksX0_pleaderWins_2 14 rfl rfl)
theorem dX0_pleaderWins_62 : decode cX0_pleaderWins 62 = .ok (.if_icmp .ne 7, 3) := dk_160 0 7 (dk_at dksX0_pleaderWins_2 15 rfl rfl)
theorem dX0_pleaderWins_65 : decode cX0_pleaderWins 65 = .ok (.iconst 1, 1) := dk_4 (dk_at dksX0_pleaderWins_2 18 rfl rfl)
theorem dX0_pleaderWins_66 : decode cX0_pleaderWins 66 = .ok (.goto 4, 3) := dk_167 0 4 (dk_at dksX0_pleaderWins_2 19 rfl rfl)
theorem dX0_pleaderWins_69 : decode cX0_pleaderWins 69 = .ok (.iconst 0, 1) := dk_3 (dk_at dksX0_pleaderWins_2 22 rfl rfl)
theorem dX0_pleaderWins_70 : decode cX0_pleaderWins 70 = .ok (.ireturn, 1) := dk_172 (dk_at dksX0_pleaderWins_2 23 rfl rfl)
theorem dX0_pleaderWins_71 : decode cX0_pleaderWins 71 = .ok (.iload_n 1, 1) := dk_27 (dk_at dksX0_pleaderWins_3 0 rfl rfl)
theorem dX0_pleaderWins_72 : decode cX0_pleaderWins 72 = .ok (.aload_n 0, 1) := dk_42 (dk_at dksX0_pleaderWins_3 1 rfl rfl)
theorem dX0_pleaderWins_73 : decode cX0_pleaderWins 73 = .ok (.getfield 31, 3) := dk_180 0 31 (dk_at dksX0_pleaderWins_3 2 rfl rfl)
theorem dX0_pleaderWins_76 : decode cX0_pleaderWins 76 = .ok (.getfield 149, 3) := dk_180 0 149 (dk_at dksX0_pleaderWins_3 5 rfl rfl)
theorem dX0_pleaderWins_79 : decode cX0_pleaderWins 79 = .ok (.iconst (-1), 1) := dk_2 (dk_at dksX0_pleaderWins_3 8 rfl rfl)
theorem dX0_pleaderWins_80 : decode cX0_pleaderWins 80 = .ok (.ixor, 1) := dk_130 (dk_at dksX0_pleaderWins_3 9 rfl rfl)
theorem dX0_pleaderWins_81 : decode cX0_pleaderWins 81 = .ok (.iand, 1) := dk_126 (dk_at dksX0_pleaderWins_3 10 rfl rfl)
theorem dX0_pleaderWins_82 : decode cX0_pleaderWins 82 = .ok (.invokestatic 198, 3) := dk_184 0 198 (dk_at dksX0_pleaderWins_3 11 rfl rfl)
theorem dX0_pleaderWins_85 : decode cX0_pleaderWins 85 = .ok (.iload_n 3, 1) := dk_29 (dk_at dksX0_pleaderWins_3 14 rfl rfl)
theorem dX0_pleaderWins_86 : decode cX0_pleaderWins 86 = .ok (.iadd, 1) := dk_96 (dk_at dksX0_pleaderWins_3 15 rfl rfl)
theorem dX0_pleaderWins_87 : decode cX0_pleaderWins 87 = .ok (.iconst 2, 1) := dk_5 (dk_at dksX0_pleaderWins_3 16 rfl rfl)
theorem dX0_pleaderWins_88 : decode cX0_pleaderWins 88 = .ok (.irem, 1) := dk_112 (dk_at dksX0_pleaderWins_3 17 rfl rfl)
theorem dX0_pleaderWins_89 : decode cX0_pleaderWins 89 = .ok (.ifCond .ne 7, 3) := dk_154 0 7 (dk_at dksX0_pleaderWins_3 18 rfl rfl)
theorem dX0_pleaderWins_92 : decode cX0_pleaderWins 92 = .ok (.iconst 1, 1) := dk_4 (dk_at dksX0_pleaderWins_3 21 rfl rfl)
theorem dX0_pleaderWins_93 : decode cX0_pleaderWins 93 = .ok (.goto 4, 3) := dk_167 0 4 (dk_at dksX0_pleaderWins_4 0 rfl rfl)
theorem dX0_pleaderWins_96 : decode cX0_pleaderWins 96 = .ok (.iconst 0, 1) := dk_3 (dk_at dksX0_pleaderWins_4 3 rfl rfl)
theorem dX0_pleaderWins_97 : decode cX0_pleaderWins 97 = .ok (.istore 6, 2) := dk_54 6 (dk_at dksX0_pleaderWins_4 4 rfl rfl)
theorem dX0_pleaderWins_99 : decode cX0_pleaderWins 99 = .ok (.iload 6, 2) := dk_21 6 (dk_at dksX0_pleaderWins_4 6 rfl rfl)
theorem dX0_pleaderWins_101 : decode cX0_pleaderWins 101 = .ok (.ifCond .ne 7, 3) := dk_154 0 7 (dk_at dksX0_pleaderWins_4 8 rfl rfl)
theorem dX0_pleaderWins_104 : decode cX0_pleaderWins 104 = .ok (.iconst 1, 1) := dk_4 (dk_at dksX0_pleaderWins_4 11 rfl rfl)
theorem dX0_pleaderWins_105 : decode cX0_pleaderWins 105 = .ok (.goto 4, 3) := dk_167 0 4 (dk_at dksX0_pleaderWins_4 12 rfl rfl)
theorem dX0_pleaderWins_108 : decode cX0_pleaderWins 108 = .ok (.iconst 0, 1) := dk_3 (dk_at dksX0_pleaderWins_4 15 rfl rfl)
theorem dX0_pleaderWins_109 : decode cX0_pleaderWins 109 = .ok (.istore 7, 2) := dk_54 7 (dk_at dksX0_pleaderWins_4 16 rfl rfl)
theorem dX0_pleaderWins_111 : decode cX0_pleaderWins 111 = .ok (.iconst 0, 1) := dk_3 (dk_at dksX0_pleaderWins_4 18 rfl rfl)
theorem dX0_pleaderWins_112 : decode cX0_pleaderWins 112 = .ok (.istore 8, 2) := dk_54 8 (dk_at dksX0_pleaderWins_4 19 rfl rfl)
theorem dX0_pleaderWins_114 : decode cX0_pleaderWins 114 = .ok (.iload 8, 2) := dk_21 8 (dk_at dksX0_pleaderWins_4 21 rfl rfl)
theorem dX0_pleaderWins_116 : decode cX0_pleaderWins 116 = .ok (.aload_n 0, 1) := dk_42 (dk_at dksX0_pleaderWins_4 23 rfl rfl)
theorem dX0_pleaderWins_117 : decode cX0_pleaderWins 117 = .ok (.getfield 24, 3) := dk_180 0 24 (dk_at dksX0_pleaderWins_5 0 rfl rfl)
theorem dX0_pleaderWins_120 : decode cX0_pleaderWins 120 = .ok (.getfield 133, 3) := dk_180 0 133 (dk_at dksX0_pleaderWins_5 3 rfl rfl)
theorem dX0_pleaderWins_123 : decode cX0_pleaderWins 123 = .ok (.if_icmp .ge 91, 3) := dk_162 0 91 (dk_at dksX0_pleaderWins_5 6 rfl rfl)
theorem dX0_pleaderWins_126 : decode cX0_pleaderWins 126 = .ok (.iload 7, 2) := dk_21 7 (dk_at dksX0_pleaderWins_5 9 rfl rfl)
theorem dX0_pleaderWins_128 : decode cX0_pleaderWins 128 = .ok (.iload 6, 2) := dk_21 6 (dk_at dksX0_pleaderWins_5 11 rfl rfl)
theorem dX0_pleaderWins_130 : decode cX0_pleaderWins 130 = .ok (.if_icmp .eq 84, 3) := dk_159 0 84 (dk_at dksX0_pleaderWins_5 13 rfl rfl)
theorem dX0_pleaderWins_133 : decode cX0_pleaderWins 133 = .ok (.iload 4, 2) := dk_21 4 (dk_at dksX0_pleaderWins_5 16 rfl rfl)
theorem dX0_pleaderWins_135 : decode cX0_pleaderWins 135 = .ok (.iload 8, 2) := dk_21 8 (dk_at dksX0_pleaderWins_5 18 rfl rfl)
theorem dX0_pleaderWins_137 : decode cX0_pleaderWins 137 = .ok (.invokestatic 223, 3) := dk_184 0 223 (dk_at dksX0_pleaderWins_5 20 rfl rfl)
theorem dX0_pleaderWins_140 : decode cX0_pleaderWins 140 = .ok (.ifCond .ne 6, 3) := dk_154 0 6 (dk_at dksX0_pleaderWins_6 0 rfl rfl)
theorem dX0_pleaderWins_143 : decode cX0_pleaderWins 143 = .ok (.goto 65, 3) := dk_167 0 65 (dk_at dksX0_pleaderWins_6 3 rfl rfl)
theorem dX0_pleaderWins_146 : decode cX0_pleaderWins 146 = .ok (.iconst 0, 1) := dk_3 (dk_at dksX0_pleaderWins_6 6 rfl rfl)
theorem dX0_pleaderWins_147 : decode cX0_pleaderWins 147 = .ok (.istore 9, 2) := dk_54 9 (dk_at dksX0_pleaderWins_6 7 rfl rfl)
theorem dX0_pleaderWins_149 : decode cX0_pleaderWins 149 = .ok (.iload 9, 2) := dk_21 9 (dk_at dksX0_pleaderWins_6 9 rfl rfl)
theorem dX0_pleaderWins_151 : decode cX0_pleaderWins 151 = .ok (.iconst 2, 1) := dk_5 (dk_at dksX0_pleaderWins_6 11 rfl rfl)
theorem dX0_pleaderWins_152 : decode cX0_pleaderWins 152 = .ok (.if_icmp .ge 56, 3) := dk_162 0 56 (dk_at dksX0_pleaderWins_6 12 rfl rfl)
theorem dX0_pleaderWins_155 : decode cX0_pleaderWins 155 = .ok (.iload 7, 2) := dk_21 7 (dk_at dksX0_pleaderWins_6 15 rfl rfl)
theorem dX0_pleaderWins_157 : decode cX0_pleaderWins 157 = .ok (.iload 6, 2) := dk_21 6 (dk_at dksX0_pleaderWins_6 17 rfl rfl)
theorem dX0_pleaderWins_159 : decode cX0_pleaderWins 159 = .ok (.if_icmp .eq 49, 3) := dk_159 0 49 (dk_at dksX0_pleaderWins_6 19 rfl rfl)
theorem dX0_pleaderWins_162 : decode cX0_pleaderWins 162 = .ok (.aload_n 0, 1) := dk_42 (dk_at dksX0_pleaderWins_6 22 rfl rfl)
theorem dX0_pleaderWins_163 : decode cX0_pleaderWins 163 = .ok (.iload_n 1, 1) := dk_27 (dk_at dksX0_pleaderWins_6 23 rfl rfl)
theorem dX0_pleaderWins_164 : decode cX0_pleaderWins 164 = .ok (.iconst 1, 1) := dk_4 (dk_at dksX0_pleaderWins_7 0 rfl rfl)
theorem dX0_pleaderWins_165 : decode cX0_pleaderWins 165 = .ok (.iload 8, 2) := dk_21 8 (dk_at dksX0_pleaderWins_7 1 rfl rfl)
theorem dX0_pleaderWins_167 : decode cX0_pleaderWins 167 = .ok (.ishl, 1) := dk_120 (dk_at dksX0_pleaderWins_7 3 rfl rfl)
theorem dX0_pleaderWins_168 : decode cX0_pleaderWins 168 = .ok (.ior, 1) := dk_128 (dk_at dksX0_pleaderWins_7 4 rfl rfl)
theorem dX0_pleaderWins_169 : decode cX0_pleaderWins 169 = .ok (.iload_n 2, 1) := dk_28 (dk_at dksX0_pleaderWins_7 5 rfl rfl)
theorem dX0_pleaderWins_170 : decode cX0_pleaderWins 170 = .ok (.iload 9, 2) := dk_21 9 (dk_at dksX0_pleaderWins_7 6 rfl rfl)
theorem dX0_pleaderWins_172 : decode cX0_pleaderWins 172 = .ok (.iload 8, 2) := dk_21 8 (dk_at dksX0_pleaderWins_7 8 rfl rfl)
theorem dX0_pleaderWins_174 : decode cX0_pleaderWins 174 = .ok (.ishl, 1) := dk_120 (dk_at dksX0_pleaderWins_7 10 rfl rfl)
theorem dX0_pleaderWins_175 : decode cX0_pleaderWins 175 = .ok (.ior, 1) := dk_128 (dk_at dksX0_pleaderWins_7 11 rfl rfl)
theorem dX0_pleaderWins_176 : decode cX0_pleaderWins 176 = .ok (.invokevirtual 227, 3) := dk_182 0 227 (dk_at dksX0_pleaderWins_7 12 rfl rfl)
theorem dX0_pleaderWins_179 : decode cX0_pleaderWins 179 = .ok (.ifCond .eq 23, 3) := dk_153 0 23 (dk_at dksX0_pleaderWins_7 15 rfl rfl)
theorem dX0_pleaderWins_182 : decode cX0_pleaderWins 182 = .ok (.aload_n 0, 1) := dk_42 (dk_at dksX0_pleaderWins_7 18 rfl rfl)
theorem dX0_pleaderWins_183 : decode cX0_pleaderWins 183 = .ok (.iload_n 1, 1) := dk_27 (dk_at dksX0_pleaderWins_7 19 rfl rfl)
theorem dX0_pleaderWins_184 : decode cX0_pleaderWins 184 = .ok (.iconst 1, 1) := dk_4 (dk_at dksX0_pleaderWins_7 20 rfl rfl)
theorem dX0_pleaderWins_185 : decode cX0_pleaderWins 185 = .ok (.iload 8, 2) := dk_21 8 (dk_at dksX0_pleaderWins_7 21 rfl rfl)
theorem dX0_pleaderWins_187 : decode cX0_pleaderWins 187 = .ok (.ishl, 1) := dk_120 (dk_at dksX0_pleaderWins_7 23 rfl rfl)
theorem dX0_pleaderWins_188 : decode cX0_pleaderWins 188 = .ok (.ior, 1) := dk_128 (dk_at dksX0_pleaderWins_8 0 rfl rfl)
theorem dX0_pleaderWins_189 : decode cX0_pleaderWins 189 = .ok (.iload_n 2, 1) := dk_28 (dk_at dksX0_pleaderWins_8 1 rfl rfl)
theorem dX0_pleaderWins_190 : decode cX0_pleaderWins 190 = .ok (.iload 9, 2) := dk_21 9 (dk_at dksX0_pleaderWins_8 2 rfl rfl)
theorem dX0_pleaderWins_192 : decode cX0_pleaderWins 192 = .ok (.iload 8, 2) := dk_21 8 (dk_at dksX0_pleaderWins_8 4 rfl rfl)
theorem dX0_pleaderWins_194 : decode cX0_pleaderWins 194 = .ok (.ishl, 1) := dk_120 (dk_at dksX0_pleaderWins_8 6 rfl rfl)
theorem dX0_pleaderWins_195 : decode cX0_pleaderWins 195 = .ok (.ior, 1) := dk_128 (dk_at dksX0_pleaderWins_8 7 rfl rfl)
theorem dX0_pleaderWins_196 : decode cX0_pleaderWins 196 = .ok (.iload_n 3, 1) := dk_29 (dk_at dksX0_pleaderWins_8 8 rfl rfl)
theorem dX0_pleaderWins_197 : decode cX0_pleaderWins 197 = .ok (.invokevirtual 451, 3) := dk_182 1 195 (dk_at dksX0_pleaderWins_8 9 rfl rfl)
theorem dX0_pleaderWins_200 : decode cX0_pleaderWins 200 = .ok (.istore 7, 2) := dk_54 7 (dk_at dksX0_pleaderWins_8 12 rfl rfl)
theorem dX0_pleaderWins_202 : decode cX0_pleaderWins 202 = .ok (.iinc 9 1, 3) := dk_132 9 1 (dk_at dksX0_pleaderWins_8 14 rfl rfl)
theorem dX0_pleaderWins_205 : decode cX0_pleaderWins 205 = .ok (.goto (-56), 3) := dk_167 255 200 (dk_at dksX0_pleaderWins_8 17 rfl rfl)
theorem dX0_pleaderWins_208 : decode cX0_pleaderWins 208 = .ok (.iinc 8 1, 3) := dk_132 8 1 (dk_at dksX0_pleaderWins_8 20 rfl rfl)
theorem dX0_pleaderWins_211 : decode cX0_pleaderWins 211 = .ok (.goto (-97), 3) := dk_167 255 159 (dk_at dksX0_pleaderWins_9 0 rfl rfl)
theorem dX0_pleaderWins_214 : decode cX0_pleaderWins 214 = .ok (.aload_n 0, 1) := dk_42 (dk_at dksX0_pleaderWins_9 3 rfl rfl)
theorem dX0_pleaderWins_215 : decode cX0_pleaderWins 215 = .ok (.getfield 63, 3) := dk_180 0 63 (dk_at dksX0_pleaderWins_9 4 rfl rfl)
theorem dX0_pleaderWins_218 : decode cX0_pleaderWins 218 = .ok (.iload 5, 2) := dk_21 5 (dk_at dksX0_pleaderWins_9 7 rfl rfl)
theorem dX0_pleaderWins_220 : decode cX0_pleaderWins 220 = .ok (.iload 7, 2) := dk_21 7 (dk_at dksX0_pleaderWins_9 9 rfl rfl)
theorem dX0_pleaderWins_222 : decode cX0_pleaderWins 222 = .ok (.ifCond .eq 7, 3) := dk_153 0 7 (dk_at dksX0_pleaderWins_9 11 rfl rfl)
theorem dX0_pleaderWins_225 : decode cX0_pleaderWins 225 = .ok (.iconst 1, 1) := dk_4 (dk_at dksX0_pleaderWins_9 14 rfl rfl)
theorem dX0_pleaderWins_226 : decode cX0_pleaderWins 226 = .ok (.goto 4, 3) := dk_167 0 4 (dk_at dksX0_pleaderWins_9 15 rfl rfl)
theorem dX0_pleaderWins_229 : decode cX0_pleaderWins 229 = .ok (.iconst 0, 1) := dk_3 (dk_at dksX0_pleaderWins_9 18 rfl rfl)
theorem dX0_pleaderWins_230 : decode cX0_pleaderWins 230 = .ok (.iastore, 1) := dk_79 (dk_at dksX0_pleaderWins_9 19 rfl rfl)
theorem dX0_pleaderWins_231 : decode cX0_pleaderWins 231 = .ok (.iload 7, 2) := dk_21 7 (dk_at dksX0_pleaderWins_9 20 rfl rfl)
theorem dX0_pleaderWins_233 : decode cX0_pleaderWins 233 = .ok (.ireturn, 1) := dk_172 (dk_at dksX0_pleaderWins_9 22 rfl rfl)
abbrev cX0_turn : ByteArray := prog_1_method_84_code
def yX0_turn : MethodName := ⟨RX0, "turn", "(III)I"⟩
def dkwX0_turn_6 : List UInt8 := [21, 4, 167, 0, 5, 21, 5, 172, 132, 5, 1, 167, 255, 174, 132, 4, 1, 167, 255, 135, 16, 254, 172]
abbrev dktX0_turn_6 : List UInt8 := dkwX0_turn_6 ++ []
def dkwX0_turn_5 : List UInt8 := [21, 6, 21, 7, 28, 182, 1, 195, 28, 154, 0, 7, 4, 167, 0, 4, 3, 160, 0, 15, 29, 154, 0, 8]
abbrev dktX0_turn_5 : List UInt8 := dkwX0_turn_5 ++ dktX0_turn_6
def dkwX0_turn_4 : List UInt8 := [180, 0, 152, 21, 5, 21, 4, 120, 128, 54, 7, 42, 21, 6, 21, 7, 182, 0, 227, 153, 0, 36, 42]
abbrev dktX0_turn_4 : List UInt8 := dkwX0_turn_4 ++ dktX0_turn_5
def dkwX0_turn_3 : List UInt8 := [21, 5, 5, 162, 0, 82, 42, 180, 0, 31, 180, 0, 149, 4, 21, 4, 120, 128, 54, 6, 42, 180, 0, 31]
abbrev dktX0_turn_3 : List UInt8 := dkwX0_turn_3 ++ dktX0_turn_4
def dkwX0_turn_2 : List UInt8 := [162, 0, 115, 42, 180, 0, 31, 180, 0, 149, 21, 4, 184, 0, 223, 153, 0, 6, 167, 0, 91, 3, 54, 5]
abbrev dktX0_turn_2 : List UInt8 := dkwX0_turn_2 ++ dktX0_turn_3
def dkwX0_turn_1 : List UInt8 := [154, 0, 5, 2, 172, 42, 27, 182, 1, 117, 3, 54, 4, 21, 4, 42, 180, 0, 24, 180, 0, 133]
abbrev dktX0_turn_1 : List UInt8 := dkwX0_turn_1 ++ dktX0_turn_2
def dkwX0_turn_0 : List UInt8 := [42, 27, 182, 1, 34, 153, 0, 21, 28, 3, 4, 184, 0, 96, 153, 0, 12, 29, 3, 4, 184, 0, 96]
abbrev dktX0_turn_0 : List UInt8 := dkwX0_turn_0 ++ dktX0_turn_1
theorem dksX0_turn_0 : cX0_turn.data.toList.drop 0 = dktX0_turn_0 := by decide +kernel
theorem dksX0_turn_1 : cX0_turn.data.toList.drop 23 = dktX0_turn_1 := dk_seg dksX0_turn_0 23 rfl rfl
theorem dksX0_turn_2 : cX0_turn.data.toList.drop 45 = dktX0_turn_2 := dk_seg dksX0_turn_1 22 rfl rfl
theorem dksX0_turn_3 : cX0_turn.data.toList.drop 69 = dktX0_turn_3 := dk_seg dksX0_turn_2 24 rfl rfl
theorem dksX0_turn_4 : cX0_turn.data.toList.drop 93 = dktX0_turn_4 := dk_seg dksX0_turn_3 24 rfl rfl
theorem dksX0_turn_5 : cX0_turn.data.toList.drop 116 = dktX0_turn_5 := dk_seg dksX0_turn_4 23 rfl rfl
theorem dksX0_turn_6 : cX0_turn.data.toList.drop 140 = dktX0_turn_6 := dk_seg dksX0_turn_5 24 rfl rfl
theorem dX0_turn_0 : decode cX0_turn 0 = .ok (.aload_n 0, 1) := dk_42 (dk_at dksX0_turn_0 0 rfl rfl)
theorem dX0_turn_1 : decode cX0_turn 1 = .ok (.iload_n 1, 1) := dk_27 (dk_at dksX0_turn_0 1 rfl rfl)
theorem dX0_turn_2 : decode cX0_turn 2 = .ok (.invokevirtual 290, 3) := dk_182 1 34 (dk_at dksX0_turn_0 2 rfl rfl)
theorem dX0_turn_5 : decode cX0_turn 5 = .ok (.ifCond .eq 21, 3) := dk_153 0 21 (dk_at dksX0_turn_0 5 rfl rfl)
theorem dX0_turn_8 : decode cX0_turn 8 = .ok (.iload_n 2, 1) := dk_28 (dk_at dksX0_turn_0 8 rfl rfl)
theorem dX0_turn_9 : decode cX0_turn 9 = .ok (.iconst 0, 1) := dk_3 (dk_at dksX0_turn_0 9 rfl rfl)
theorem dX0_turn_10 : decode cX0_turn 10 = .ok (.iconst 1, 1) := dk_4 (dk_at dksX0_turn_0 10 rfl rfl)
theorem dX0_turn_11 : decode cX0_turn 11 = .ok (.invokestatic 96, 3) := dk_184 0 96 (dk_at dksX0_turn_0 11 rfl rfl)
theorem dX0_turn_14 : decode cX0_turn 14 = .ok (.ifCond .eq 12, 3) := dk_153 0 12 (dk_at dksX0_turn_0 14 rfl rfl)
theorem dX0_turn_17 : decode cX0_turn 17 = .ok (.iload_n 3, 1) := dk_29 (dk_at dksX0_turn_0 17 rfl rfl)
theorem dX0_turn_18 : decode cX0_turn 18 = .ok (.iconst 0, 1) := dk_3 (dk_at dksX0_turn_0 18 rfl rfl)
theorem dX0_turn_19 : decode cX0_turn 19 = .ok (.iconst 1, 1) := dk_4 (dk_at dksX0_turn_0 19 rfl rfl)
theorem dX0_turn_20 : decode cX0_turn 20 = .ok (.invokestatic 96, 3) := dk_184 0 96 (dk_at dksX0_turn_0 20 rfl rfl)
theorem dX0_turn_23 : decode cX0_turn 23 = .ok (.ifCond .ne 5, 3) := dk_154 0 5 (dk_at dksX0_turn_1 0 rfl rfl)
theorem dX0_turn_26 : decode cX0_turn 26 = .ok (.iconst (-1), 1) := dk_2 (dk_at dksX0_turn_1 3 rfl rfl)
theorem dX0_turn_27 : decode cX0_turn 27 = .ok (.ireturn, 1) := dk_172 (dk_at dksX0_turn_1 4 rfl rfl)
theorem dX0_turn_28 : decode cX0_turn 28 = .ok (.aload_n 0, 1) := dk_42 (dk_at dksX0_turn_1 5 rfl rfl)
theorem dX0_turn_29 : decode cX0_turn 29 = .ok (.iload_n 1, 1) := dk_27 (dk_at dksX0_turn_1 6 rfl rfl)
theorem dX0_turn_30 : decode cX0_turn 30 = .ok (.invokevirtual 373, 3) := dk_182 1 117 (dk_at dksX0_turn_1 7 rfl rfl)
theorem dX0_turn_33 : decode cX0_turn 33 = .ok (.iconst 0, 1) := dk_3 (dk_at dksX0_turn_1 10 rfl rfl)
theorem dX0_turn_34 : decode cX0_turn 34 = .ok (.istore 4, 2) := dk_54 4 (dk_at dksX0_turn_1 11 rfl rfl)
theorem dX0_turn_36 : decode cX0_turn 36 = .ok (.iload 4, 2) := dk_21 4 (dk_at dksX0_turn_1 13 rfl rfl)
theorem dX0_turn_38 : decode cX0_turn 38 = .ok (.aload_n 0, 1) := dk_42 (dk_at dksX0_turn_1 15 rfl rfl)
theorem dX0_turn_39 : decode cX0_turn 39 = .ok (.getfield 24, 3) := dk_180 0 24 (dk_at dksX0_turn_1 16 rfl rfl)
theorem dX0_turn_42 : decode cX0_turn 42 = .ok (.getfield 133, 3) := dk_180 0 133 (dk_at dksX0_turn_1 19 rfl rfl)
theorem dX0_turn_45 : decode cX0_turn 45 = .ok (.if_icmp .ge 115, 3) := dk_162 0 115 (dk_at dksX0_turn_2 0 rfl rfl)
theorem dX0_turn_48 : decode cX0_turn 48 = .ok (.aload_n 0, 1) := dk_42 (dk_at dksX0_turn_2 3 rfl rfl)
theorem dX0_turn_49 : decode cX0_turn 49 = .ok (.getfield 31, 3) := dk_180 0 31 (dk_at dksX0_turn_2 4 rfl rfl)
theorem dX0_turn_52 : decode cX0_turn 52 = .ok (.getfield 149, 3) := dk_180 0 149 (dk_at dksX0_turn_2 7 rfl rfl)
theorem dX0_turn_55 : decode cX0_turn 55 = .ok (.iload 4, 2) := dk_21 4 (dk_at dksX0_turn_2 10 rfl rfl)
theorem dX0_turn_57 : decode cX0_turn 57 = .ok (.invokestatic 223, 3) := dk_184 0 223 (dk_at dksX0_turn_2 12 rfl rfl)
theorem dX0_turn_60 : decode cX0_turn 60 = .ok (.ifCond .eq 6, 3) := dk_153 0 6 (dk_at dksX0_turn_2 15 rfl rfl)
theorem dX0_turn_63 : decode cX0_turn 63 = .ok (.goto 91, 3) := dk_167 0 91 (dk_at dksX0_turn_2 18 rfl rfl)
theorem dX0_turn_66 : decode cX0_turn 66 = .ok (.iconst 0, 1) := dk_3 (dk_at dksX0_turn_2 21 rfl rfl)
theorem dX0_turn_67 : decode cX0_turn 67 = .ok (.istore 5, 2) := dk_54 5 (dk_at dksX0_turn_2 22 rfl rfl)
theorem dX0_turn_69 : decode cX0_turn 69 = .ok (.iload 5, 2) := dk_21 5 (dk_at dksX0_turn_3 0 rfl rfl)
theorem dX0_turn_71 : decode cX0_turn 71 = .ok (.iconst 2, 1) := dk_5 (dk_at dksX0_turn_3 2 rfl rfl)
theorem dX0_turn_72 : decode cX0_turn 72 = .ok (.if_icmp .ge 82, 3) := dk_162 0 82 (dk_at dksX0_turn_3 3 rfl rfl)
theorem dX0_turn_75 : decode cX0_turn 75 = .ok (.aload_n 0, 1) := dk_42 (dk_at dksX0_turn_3 6 rfl rfl)
theorem dX0_turn_76 : decode cX0_turn 76 = .ok (.getfield 31, 3) := dk_180 0 31 (dk_at dksX0_turn_3 7 rfl rfl)
theorem dX0_turn_79 : decode cX0_turn 79 = .ok (.getfield 149, 3) := dk_180 0 149 (dk_at dksX0_turn_3 10 rfl rfl)
theorem dX0_turn_82 : decode cX0_turn 82 = .ok (.iconst 1, 1) := dk_4 (dk_at dksX0_turn_3 13 rfl rfl)
theorem dX0_turn_83 : decode cX0_turn 83 = .ok (.iload 4, 2) := dk_21 4 (dk_at dksX0_turn_3 14 rfl rfl)
theorem dX0_turn_85 : decode cX0_turn 85 = .ok (.ishl, 1) := dk_120 (dk_at dksX0_turn_3 16 rfl rfl)
theorem dX0_turn_86 : decode cX0_turn 86 = .ok (.ior, 1) := dk_128 (dk_at dksX0_turn_3 17 rfl rfl)
theorem dX0_turn_87 : decode cX0_turn 87 = .ok (.istore 6, 2) := dk_54 6 (dk_at dksX0_turn_3 18 rfl rfl)
theorem dX0_turn_89 : decode cX0_turn 89 = .ok (.aload_n 0, 1) := dk_42 (dk_at dksX0_turn_3 20 rfl rfl)
theorem dX0_turn_90 : decode cX0_turn 90 = .ok (.getfield 31, 3) := dk_180 0 31 (dk_at dksX0_turn_3 21 rfl rfl)
theorem dX0_turn_93 : decode cX0_turn 93 = .ok (.getfield 152, 3) := dk_180 0 152 (dk_at dksX0_turn_4 0 rfl rfl)
theorem dX0_turn_96 : decode cX0_turn 96 = .ok (.iload 5, 2) := dk_21 5 (dk_at dksX0_turn_4 3 rfl rfl)
theorem dX0_turn_98 : decode cX0_turn 98 = .ok (.iload 4, 2) := dk_21 4 (dk_at dksX0_turn_4 5 rfl rfl)
theorem dX0_turn_100 : decode cX0_turn 100 = .ok (.ishl, 1) := dk_120 (dk_at dksX0_turn_4 7 rfl rfl)
theorem dX0_turn_101 : decode cX0_turn 101 = .ok (.ior, 1) := dk_128 (dk_at dksX0_turn_4 8 rfl rfl)
theorem dX0_turn_102 : decode cX0_turn 102 = .ok (.istore 7, 2) := dk_54 7 (dk_at dksX0_turn_4 9 rfl rfl)
theorem dX0_turn_104 : decode cX0_turn 104 = .ok (.aload_n 0, 1) := dk_42 (dk_at dksX0_turn_4 11 rfl rfl)
theorem dX0_turn_105 : decode cX0_turn 105 = .ok (.iload 6, 2) := dk_21 6 (dk_at dksX0_turn_4 12 rfl rfl)
theorem dX0_turn_107 : decode cX0_turn 107 = .ok (.iload 7, 2) := dk_21 7 (dk_at dksX0_turn_4 14 rfl rfl)
theorem dX0_turn_109 : decode cX0_turn 109 = .ok (.invokevirtual 227, 3) := dk_182 0 227 (dk_at dksX0_turn_4 16 rfl rfl)
theorem dX0_turn_112 : decode cX0_turn 112 = .ok (.ifCond .eq 36, 3) := dk_153 0 36 (dk_at dksX0_turn_4 19 rfl rfl)
theorem dX0_turn_115 : decode cX0_turn 115 = .ok (.aload_n 0, 1) := dk_42 (dk_at dksX0_turn_4 22 rfl rfl)
theorem dX0_turn_116 : decode cX0_turn 116 = .ok (.iload 6, 2) := dk_21 6 (dk_at dksX0_turn_5 0 rfl rfl)
theorem dX0_turn_118 : decode cX0_turn 118 = .ok (.iload 7, 2) := dk_21 7 (dk_at dksX0_turn_5 2 rfl rfl)
theorem dX0_turn_120 : decode cX0_turn 120 = .ok (.iload_n 2, 1) := dk_28 (dk_at dksX0_turn_5 4 rfl rfl)
theorem dX0_turn_121 : decode cX0_turn 121 = .ok (.invokevirtual 451, 3) := dk_182 1 195 (dk_at dksX0_turn_5 5 rfl rfl)
theorem dX0_turn_124 : decode cX0_turn 124 = .ok (.iload_n 2, 1) := dk_28 (dk_at dksX0_turn_5 8 rfl rfl)
theorem dX0_turn_125 : decode cX0_turn 125 = .ok (.ifCond .ne 7, 3) := dk_154 0 7 (dk_at dksX0_turn_5 9 rfl rfl)
theorem dX0_turn_128 : decode cX0_turn 128 = .ok (.iconst 1, 1) := dk_4 (dk_at dksX0_turn_5 12 rfl rfl)
theorem dX0_turn_129 : decode cX0_turn 129 = .ok (.goto 4, 3) := dk_167 0 4 (dk_at dksX0_turn_5 13 rfl rfl)
theorem dX0_turn_132 : decode cX0_turn 132 = .ok (.iconst 0, 1) := dk_3 (dk_at dksX0_turn_5 16 rfl rfl)
theorem dX0_turn_133 : decode cX0_turn 133 = .ok (.if_icmp .ne 15, 3) := dk_160 0 15 (dk_at dksX0_turn_5 17 rfl rfl)
theorem dX0_turn_136 : decode cX0_turn 136 = .ok (.iload_n 3, 1) := dk_29 (dk_at dksX0_turn_5 20 rfl rfl)
theorem dX0_turn_137 : decode cX0_turn 137 = .ok (.ifCond .ne 8, 3) := dk_154 0 8 (dk_at dksX0_turn_5 21 rfl rfl)
theorem dX0_turn_140 : decode cX0_turn 140 = .ok (.iload 4, 2) := dk_21 4 (dk_at dksX0_turn_6 0 rfl rfl)
theorem dX0_turn_142 : decode cX0_turn 142 = .ok (.goto 5, 3) := dk_167 0 5 (dk_at dksX0_turn_6 2 rfl rfl)
theorem dX0_turn_145 : decode cX0_turn 145 = .ok (.iload 5, 2) := dk_21 5 (dk_at dksX0_turn_6 5 rfl rfl)
theorem dX0_turn_147 : decode cX0_turn 147 = .ok (.ireturn, 1) := dk_172 (dk_at dksX0_turn_6 7 rfl rfl)
theorem dX0_turn_148 : decode cX0_turn 148 = .ok (.iinc 5 1, 3) := dk_132 5 1 (dk_at dksX0_turn_6 8 rfl rfl)
theorem dX0_turn_151 : decode cX0_turn 151 = .ok (.goto (-82), 3) := dk_167 255 174 (dk_at dksX0_turn_6 11 rfl rfl)
theorem dX0_turn_154 : decode cX0_turn 154 = .ok (.iinc 4 1, 3) := dk_132 4 1 (dk_at dksX0_turn_6 14 rfl rfl)
theorem dX0_turn_157 : decode cX0_turn 157 = .ok (.goto (-121), 3) := dk_167 255 135 (dk_at dksX0_turn_6 17 rfl rfl)
theorem dX0_turn_160 : decode cX0_turn 160 = .ok (.bipush (-2), 2) := dk_16 254 (dk_at dksX0_turn_6 20 rfl rfl)
theorem dX0_turn_162 : decode cX0_turn 162 = .ok (.ireturn, 1) := dk_172 (dk_at dksX0_turn_6 22 rfl rfl)
abbrev cX0_together : ByteArray := prog_1_method_85_code
def yX0_together : MethodName := ⟨RX0, "together", "(I)I"⟩
def dkwX0_together_2 : List UInt8 := [160, 0, 5, 4, 172, 132, 2, 1, 167, 255, 222, 3, 172]
abbrev dktX0_together_2 : List UInt8 := dkwX0_together_2 ++ []
def dkwX0_together_1 : List UInt8 := [180, 0, 24, 182, 0, 142, 162, 0, 29, 42, 28, 182, 1, 91, 153, 0, 15, 42, 27, 28, 182, 1, 147, 27]
abbrev dktX0_together_1 : List UInt8 := dkwX0_together_1 ++ dktX0_together_2
def dkwX0_together_0 : List UInt8 := [27, 155, 0, 15, 27, 42, 180, 0, 31, 180, 0, 136, 122, 153, 0, 5, 2, 172, 3, 61, 28, 42]
abbrev dktX0_together_0 : List UInt8 := dkwX0_together_0 ++ dktX0_together_1
theorem dksX0_together_0 : cX0_together.data.toList.drop 0 = dktX0_together_0 := by decide +kernel
theorem dksX0_together_1 : cX0_together.data.toList.drop 22 = dktX0_together_1 := dk_seg dksX0_together_0 22 rfl rfl
theorem dksX0_together_2 : cX0_together.data.toList.drop 46 = dktX0_together_2 := dk_seg dksX0_together_1 24 rfl rfl
theorem dX0_together_0 : decode cX0_together 0 = .ok (.iload_n 1, 1) := dk_27 (dk_at dksX0_together_0 0 rfl rfl)
theorem dX0_together_1 : decode cX0_together 1 = .ok (.ifCond .lt 15, 3) := dk_155 0 15 (dk_at dksX0_together_0 1 rfl rfl)
theorem dX0_together_4 : decode cX0_together 4 = .ok (.iload_n 1, 1) := dk_27 (dk_at dksX0_together_0 4 rfl rfl)
theorem dX0_together_5 : decode cX0_together 5 = .ok (.aload_n 0, 1) := dk_42 (dk_at dksX0_together_0 5 rfl rfl)
theorem dX0_together_6 : decode cX0_together 6 = .ok (.getfield 31, 3) := dk_180 0 31 (dk_at dksX0_together_0 6 rfl rfl)
theorem dX0_together_9 : decode cX0_together 9 = .ok (.getfield 136, 3) := dk_180 0 136 (dk_at dksX0_together_0 9 rfl rfl)
theorem dX0_together_12 : decode cX0_together 12 = .ok (.ishr, 1) := dk_122 (dk_at dksX0_together_0 12 rfl rfl)
theorem dX0_together_13 : decode cX0_together 13 = .ok (.ifCond .eq 5, 3) := dk_153 0 5 (dk_at dksX0_together_0 13 rfl rfl)
theorem dX0_together_16 : decode cX0_together 16 = .ok (.iconst (-1), 1) := dk_2 (dk_at dksX0_together_0 16 rfl rfl)
theorem dX0_together_17 : decode cX0_together 17 = .ok (.ireturn, 1) := dk_172 (dk_at dksX0_together_0 17 rfl rfl)
theorem dX0_together_18 : decode cX0_together 18 = .ok (.iconst 0, 1) := dk_3 (dk_at dksX0_together_0 18 rfl rfl)
theorem dX0_together_19 : decode cX0_together 19 = .ok (.istore_n 2, 1) := dk_61 (dk_at dksX0_together_0 19 rfl rfl)
theorem dX0_together_20 : decode cX0_together 20 = .ok (.iload_n 2, 1) := dk_28 (dk_at dksX0_together_0 20 rfl rfl)
theorem dX0_together_21 : decode cX0_together 21 = .ok (.aload_n 0, 1) := dk_42 (dk_at dksX0_together_0 21 rfl rfl)
theorem dX0_together_22 : decode cX0_together 22 = .ok (.getfield 24, 3) := dk_180 0 24 (dk_at dksX0_together_1 0 rfl rfl)
theorem dX0_together_25 : decode cX0_together 25 = .ok (.invokevirtual 142, 3) := dk_182 0 142 (dk_at dksX0_together_1 3 rfl rfl)
theorem dX0_together_28 : decode cX0_together 28 = .ok (.if_icmp .ge 29, 3) := dk_162 0 29 (dk_at dksX0_together_1 6 rfl rfl)
theorem dX0_together_31 : decode cX0_together 31 = .ok (.aload_n 0, 1) := dk_42 (dk_at dksX0_together_1 9 rfl rfl)
theorem dX0_together_32 : decode cX0_together 32 = .ok (.iload_n 2, 1) := dk_28 (dk_at dksX0_together_1 10 rfl rfl)
theorem dX0_together_33 : decode cX0_together 33 = .ok (.invokevirtual 347, 3) := dk_182 1 91 (dk_at dksX0_together_1 11 rfl rfl)
theorem dX0_together_36 : decode cX0_together 36 = .ok (.ifCond .eq 15, 3) := dk_153 0 15 (dk_at dksX0_together_1 14 rfl rfl)
theorem dX0_together_39 : decode cX0_together 39 = .ok (.aload_n 0, 1) := dk_42 (dk_at dksX0_together_1 17 rfl rfl)
theorem dX0_together_40 : decode cX0_together 40 = .ok (.iload_n 1, 1) := dk_27 (dk_at dksX0_together_1 18 rfl rfl)
theorem dX0_together_41 : decode cX0_together 41 = .ok (.iload_n 2, 1) := dk_28 (dk_at dksX0_together_1 19 rfl rfl)
theorem dX0_together_42 : decode cX0_together 42 = .ok (.invokevirtual 403, 3) := dk_182 1 147 (dk_at dksX0_together_1 20 rfl rfl)
theorem dX0_together_45 : decode cX0_together 45 = .ok (.iload_n 1, 1) := dk_27 (dk_at dksX0_together_1 23 rfl rfl)
theorem dX0_together_46 : decode cX0_together 46 = .ok (.if_icmp .ne 5, 3) := dk_160 0 5 (dk_at dksX0_together_2 0 rfl rfl)
theorem dX0_together_49 : decode cX0_together 49 = .ok (.iconst 1, 1) := dk_4 (dk_at dksX0_together_2 3 rfl rfl)
theorem dX0_together_50 : decode cX0_together 50 = .ok (.ireturn, 1) := dk_172 (dk_at dksX0_together_2 4 rfl rfl)
theorem dX0_together_51 : decode cX0_together 51 = .ok (.iinc 2 1, 3) := dk_132 2 1 (dk_at dksX0_together_2 5 rfl rfl)
theorem dX0_together_54 : decode cX0_together 54 = .ok (.goto (-34), 3) := dk_167 255 222 (dk_at dksX0_together_2 8 rfl rfl)
theorem dX0_together_57 : decode cX0_together 57 = .ok (.iconst 0, 1) := dk_3 (dk_at dksX0_together_2 11 rfl rfl)
theorem dX0_together_58 : decode cX0_together 58 = .ok (.ireturn, 1) := dk_172 (dk_at dksX0_together_2 12 rfl rfl)
abbrev cX0_elect : ByteArray := prog_1_method_86_code
def yX0_elect : MethodName := ⟨RX0, "elect", "(I)I"⟩
def dkwX0_elect_4 : List UInt8 := [29, 184, 0, 198, 167, 0, 4, 29, 172]
abbrev dktX0_elect_4 : List UInt8 := dkwX0_elect_4 ++ []
def dkwX0_elect_3 : List UInt8 := [21, 6, 154, 0, 12, 21, 5, 29, 162, 0, 6, 21, 5, 62, 132, 4, 1, 167, 255, 189, 27, 154, 0, 10]
abbrev dktX0_elect_3 : List UInt8 := dkwX0_elect_3 ++ dktX0_elect_4
def dkwX0_elect_2 : List UInt8 := [21, 4, 182, 1, 147, 54, 5, 21, 5, 184, 0, 198, 29, 184, 0, 198, 100, 54, 6, 21, 6, 157, 0, 14]
abbrev dktX0_elect_2 : List UInt8 := dkwX0_elect_2 ++ dktX0_elect_3
def dkwX0_elect_1 : List UInt8 := [180, 0, 24, 182, 0, 142, 162, 0, 61, 42, 21, 4, 182, 1, 91, 154, 0, 6, 167, 0, 43, 42, 28]
abbrev dktX0_elect_1 : List UInt8 := dkwX0_elect_1 ++ dktX0_elect_2
def dkwX0_elect_0 : List UInt8 := [27, 3, 4, 184, 0, 96, 154, 0, 5, 2, 172, 42, 182, 1, 150, 61, 3, 62, 3, 54, 4, 21, 4, 42]
abbrev dktX0_elect_0 : List UInt8 := dkwX0_elect_0 ++ dktX0_elect_1
theorem dksX0_elect_0 : cX0_elect.data.toList.drop 0 = dktX0_elect_0 := by decide +kernel
theorem dksX0_elect_1 : cX0_elect.data.toList.drop 24 = dktX0_elect_1 := dk_seg dksX0_elect_0 24 rfl rfl
theorem dksX0_elect_2 : cX0_elect.data.toList.drop 47 = dktX0_elect_2 := dk_seg dksX0_elect_1 23 rfl rfl
theorem dksX0_elect_3 : cX0_elect.data.toList.drop 71 = dktX0_elect_3 := dk_seg dksX0_elect_2 24 rfl rfl
theorem dksX0_elect_4 : cX0_elect.data.toList.drop 95 = dktX0_elect_4 := dk_seg dksX0_elect_3 24 rfl rfl
theorem dX0_elect_0 : decode cX0_elect 0 = .ok (.iload_n 1, 1) := dk_27 (dk_at dksX0_elect_0 0 rfl rfl)
theorem dX0_elect_1 : decode cX0_elect 1 = .ok (.iconst 0, 1) := dk_3 (dk_at dksX0_elect_0 1 rfl rfl)
theorem dX0_elect_2 : decode cX0_elect 2 = .ok (.iconst 1, 1) := dk_4 (dk_at dksX0_elect_0 2 rfl rfl)
theorem dX0_elect_3 : decode cX0_elect 3 = .ok (.invokestatic 96, 3) := dk_184 0 96 (dk_at dksX0_elect_0 3 rfl rfl)
theorem dX0_elect_6 : decode cX0_elect 6 = .ok (.ifCond .ne 5, 3) := dk_154 0 5 (dk_at dksX0_elect_0 6 rfl rfl)
theorem dX0_elect_9 : decode cX0_elect 9 = .ok (.iconst (-1), 1) := dk_2 (dk_at dksX0_elect_0 9 rfl rfl)
theorem dX0_elect_10 : decode cX0_elect 10 = .ok (.ireturn, 1) := dk_172 (dk_at dksX0_elect_0 10 rfl rfl)
theorem dX0_elect_11 : decode cX0_elect 11 = .ok (.aload_n 0, 1) := dk_42 (dk_at dksX0_elect_0 11 rfl rfl)
theorem dX0_elect_12 : decode cX0_elect 12 = .ok (.invokevirtual 406, 3) := dk_182 1 150 (dk_at dksX0_elect_0 12 rfl rfl)
theorem dX0_elect_15 : decode cX0_elect 15 = .ok (.istore_n 2, 1) := dk_61 (dk_at dksX0_elect_0 15 rfl rfl)
theorem dX0_elect_16 : decode cX0_elect 16 = .ok (.iconst 0, 1) := dk_3 (dk_at dksX0_elect_0 16 rfl rfl)
theorem dX0_elect_17 : decode cX0_elect 17 = .ok (.istore_n 3, 1) := dk_62 (dk_at dksX0_elect_0 17 rfl rfl)
theorem dX0_elect_18 : decode cX0_elect 18 = .ok (.iconst 0, 1) := dk_3 (dk_at dksX0_elect_0 18 rfl rfl)
theorem dX0_elect_19 : decode cX0_elect 19 = .ok (.istore 4, 2) := dk_54 4 (dk_at dksX0_elect_0 19 rfl rfl)
theorem dX0_elect_21 : decode cX0_elect 21 = .ok (.iload 4, 2) := dk_21 4 (dk_at dksX0_elect_0 21 rfl rfl)
theorem dX0_elect_23 : decode cX0_elect 23 = .ok (.aload_n 0, 1) := dk_42 (dk_at dksX0_elect_0 23 rfl rfl)
theorem dX0_elect_24 : decode cX0_elect 24 = .ok (.getfield 24, 3) := dk_180 0 24 (dk_at dksX0_elect_1 0 rfl rfl)
theorem dX0_elect_27 : decode cX0_elect 27 = .ok (.invokevirtual 142, 3) := dk_182 0 142 (dk_at dksX0_elect_1 3 rfl rfl)
theorem dX0_elect_30 : decode cX0_elect 30 = .ok (.if_icmp .ge 61, 3) := dk_162 0 61 (dk_at dksX0_elect_1 6 rfl rfl)
theorem dX0_elect_33 : decode cX0_elect 33 = .ok (.aload_n 0, 1) := dk_42 (dk_at dksX0_elect_1 9 rfl rfl)
theorem dX0_elect_34 : decode cX0_elect 34 = .ok (.iload 4, 2) := dk_21 4 (dk_at dksX0_elect_1 10 rfl rfl)
theorem dX0_elect_36 : decode cX0_elect 36 = .ok (.invokevirtual 347, 3) := dk_182 1 91 (dk_at dksX0_elect_1 12 rfl rfl)
theorem dX0_elect_39 : decode cX0_elect 39 = .ok (.ifCond .ne 6, 3) := dk_154 0 6 (dk_at dksX0_elect_1 15 rfl rfl)
theorem dX0_elect_42 : decode cX0_elect 42 = .ok (.goto 43, 3) := dk_167 0 43 (dk_at dksX0_elect_1 18 rfl rfl)
theorem dX0_elect_45 : decode cX0_elect 45 = .ok (.aload_n 0, 1) := dk_42 (dk_at dksX0_elect_1 21 rfl rfl)
theorem dX0_elect_46 : decode cX0_elect 46 = .ok (.iload_n 2, 1) := dk_28 (dk_at dksX0_elect_1 22 rfl rfl)
theorem dX0_elect_47 : decode cX0_elect 47 = .ok (.iload 4, 2) := dk_21 4 (dk_at dksX0_elect_2 0 rfl rfl)
theorem dX0_elect_49 : decode cX0_elect 49 = .ok (.invokevirtual 403, 3) := dk_182 1 147 (dk_at dksX0_elect_2 2 rfl rfl)
theorem dX0_elect_52 : decode cX0_elect 52 = .ok (.istore 5, 2) := dk_54 5 (dk_at dksX0_elect_2 5 rfl rfl)
theorem dX0_elect_54 : decode cX0_elect 54 = .ok (.iload 5, 2) := dk_21 5 (dk_at dksX0_elect_2 7 rfl rfl)
theorem dX0_elect_56 : decode cX0_elect 56 = .ok (.invokestatic 198, 3) := dk_184 0 198 (dk_at dksX0_elect_2 9 rfl rfl)
theorem dX0_elect_59 : decode cX0_elect 59 = .ok (.iload_n 3, 1) := dk_29 (dk_at dksX0_elect_2 12 rfl rfl)
theorem dX0_elect_60 : decode cX0_elect 60 = .ok (.invokestatic 198, 3) := dk_184 0 198 (dk_at dksX0_elect_2 13 rfl rfl)
theorem dX0_elect_63 : decode cX0_elect 63 = .ok (.isub, 1) := dk_100 (dk_at dksX0_elect_2 16 rfl rfl)
theorem dX0_elect_64 : decode cX0_elect 64 = .ok (.istore 6, 2) := dk_54 6 (dk_at dksX0_elect_2 17 rfl rfl)
theorem dX0_elect_66 : decode cX0_elect 66 = .ok (.iload 6, 2) := dk_21 6 (dk_at dksX0_elect_2 19 rfl rfl)
theorem dX0_elect_68 : decode cX0_elect 68 = .ok (.ifCond .gt 14, 3) := dk_157 0 14 (dk_at dksX0_elect_2 21 rfl rfl)
theorem dX0_elect_71 : decode cX0_elect 71 = .ok (.iload 6, 2) := dk_21 6 (dk_at dksX0_elect_3 0 rfl rfl)
theorem dX0_elect_73 : decode cX0_elect 73 = .ok (.ifCond .ne 12, 3) := dk_154 0 12 (dk_at dksX0_elect_3 2 rfl rfl)
theorem dX0_elect_76 : decode cX0_elect 76 = .ok (.iload 5, 2) := dk_21 5 (dk_at dksX0_elect_3 5 rfl rfl)
theorem dX0_elect_78 : decode cX0_elect 78 = .ok (.iload_n 3, 1) := dk_29 (dk_at dksX0_elect_3 7 rfl rfl)
theorem dX0_elect_79 : decode cX0_elect 79 = .ok (.if_icmp .ge 6, 3) := dk_162 0 6 (dk_at dksX0_elect_3 8 rfl rfl)
theorem dX0_elect_82 : decode cX0_elect 82 = .ok (.iload 5, 2) := dk_21 5 (dk_at dksX0_elect_3 11 rfl rfl)
theorem dX0_elect_84 : decode cX0_elect 84 = .ok (.istore_n 3, 1) := dk_62 (dk_at dksX0_elect_3 13 rfl rfl)
theorem dX0_elect_85 : decode cX0_elect 85 = .ok (.iinc 4 1, 3) := dk_132 4 1 (dk_at dksX0_elect_3 14 rfl rfl)
theorem dX0_elect_88 : decode cX0_elect 88 = .ok (.goto (-67), 3) := dk_167 255 189 (dk_at dksX0_elect_3 17 rfl rfl)
theorem dX0_elect_91 : decode cX0_elect 91 = .ok (.iload_n 1, 1) := dk_27 (dk_at dksX0_elect_3 20 rfl rfl)
theorem dX0_elect_92 : decode cX0_elect 92 = .ok (.ifCond .ne 10, 3) := dk_154 0 10 (dk_at dksX0_elect_3 21 rfl rfl)
theorem dX0_elect_95 : decode cX0_elect 95 = .ok (.iload_n 3, 1) := dk_29 (dk_at dksX0_elect_4 0 rfl rfl)
theorem dX0_elect_96 : decode cX0_elect 96 = .ok (.invokestatic 198, 3) := dk_184 0 198 (dk_at dksX0_elect_4 1 rfl rfl)
theorem dX0_elect_99 : decode cX0_elect 99 = .ok (.goto 4, 3) := dk_167 0 4 (dk_at dksX0_elect_4 4 rfl rfl)
theorem dX0_elect_102 : decode cX0_elect 102 = .ok (.iload_n 3, 1) := dk_29 (dk_at dksX0_elect_4 7 rfl rfl)
theorem dX0_elect_103 : decode cX0_elect 103 = .ok (.ireturn, 1) := dk_172 (dk_at dksX0_elect_4 8 rfl rfl)
abbrev cX0_ask : ByteArray := prog_1_method_87_code
def yX0_ask : MethodName := ⟨RX0, "ask", "()I"⟩
def dkwX0_ask_3 : List UInt8 := [180, 0, 31, 180, 0, 149, 42, 180, 0, 31, 180, 0, 152, 182, 0, 216, 172]
abbrev dktX0_ask_3 : List UInt8 := dkwX0_ask_3 ++ []
def dkwX0_ask_2 : List UInt8 := [181, 0, 46, 42, 29, 133, 28, 133, 4, 184, 1, 143, 136, 181, 0, 49, 42, 43, 180, 0, 175, 42]
abbrev dktX0_ask_2 : List UInt8 := dkwX0_ask_2 ++ dktX0_ask_3
def dkwX0_ask_1 : List UInt8 := [182, 1, 140, 61, 42, 43, 180, 0, 175, 182, 1, 136, 62, 42, 29, 133, 28, 133, 3, 184, 1, 143, 136]
abbrev dktX0_ask_1 : List UInt8 := dkwX0_ask_1 ++ dktX0_ask_2
def dkwX0_ask_0 : List UInt8 := [42, 42, 180, 0, 24, 182, 0, 116, 182, 1, 198, 76, 167, 0, 10, 77, 42, 44, 182, 0, 123, 172, 42]
abbrev dktX0_ask_0 : List UInt8 := dkwX0_ask_0 ++ dktX0_ask_1
theorem dksX0_ask_0 : cX0_ask.data.toList.drop 0 = dktX0_ask_0 := by decide +kernel
theorem dksX0_ask_1 : cX0_ask.data.toList.drop 23 = dktX0_ask_1 := dk_seg dksX0_ask_0 23 rfl rfl
theorem dksX0_ask_2 : cX0_ask.data.toList.drop 46 = dktX0_ask_2 := dk_seg dksX0_ask_1 23 rfl rfl
theorem dksX0_ask_3 : cX0_ask.data.toList.drop 68 = dktX0_ask_3 := dk_seg dksX0_ask_2 22 rfl rfl
theorem dX0_ask_0 : decode cX0_ask 0 = .ok (.aload_n 0, 1) := dk_42 (dk_at dksX0_ask_0 0 rfl rfl)
theorem dX0_ask_1 : decode cX0_ask 1 = .ok (.aload_n 0, 1) := dk_42 (dk_at dksX0_ask_0 1 rfl rfl)
theorem dX0_ask_2 : decode cX0_ask 2 = .ok (.getfield 24, 3) := dk_180 0 24 (dk_at dksX0_ask_0 2 rfl rfl)
theorem dX0_ask_5 : decode cX0_ask 5 = .ok (.invokevirtual 116, 3) := dk_182 0 116 (dk_at dksX0_ask_0 5 rfl rfl)
theorem dX0_ask_8 : decode cX0_ask 8 = .ok (.invokevirtual 454, 3) := dk_182 1 198 (dk_at dksX0_ask_0 8 rfl rfl)
theorem dX0_ask_11 : decode cX0_ask 11 = .ok (.astore_n 1, 1) := dk_76 (dk_at dksX0_ask_0 11 rfl rfl)
theorem dX0_ask_12 : decode cX0_ask 12 = .ok (.goto 10, 3) := dk_167 0 10 (dk_at dksX0_ask_0 12 rfl rfl)
theorem dX0_ask_15 : decode cX0_ask 15 = .ok (.astore_n 2, 1) := dk_77 (dk_at dksX0_ask_0 15 rfl rfl)
theorem dX0_ask_16 : decode cX0_ask 16 = .ok (.aload_n 0, 1) := dk_42 (dk_at dksX0_ask_0 16 rfl rfl)
theorem dX0_ask_17 : decode cX0_ask 17 = .ok (.aload_n 2, 1) := dk_44 (dk_at dksX0_ask_0 17 rfl rfl)
theorem dX0_ask_18 : decode cX0_ask 18 = .ok (.invokevirtual 123, 3) := dk_182 0 123 (dk_at dksX0_ask_0 18 rfl rfl)
theorem dX0_ask_21 : decode cX0_ask 21 = .ok (.ireturn, 1) := dk_172 (dk_at dksX0_ask_0 21 rfl rfl)
theorem dX0_ask_22 : decode cX0_ask 22 = .ok (.aload_n 0, 1) := dk_42 (dk_at dksX0_ask_0 22 rfl rfl)
theorem dX0_ask_23 : decode cX0_ask 23 = .ok (.invokevirtual 396, 3) := dk_182 1 140 (dk_at dksX0_ask_1 0 rfl rfl)
theorem dX0_ask_26 : decode cX0_ask 26 = .ok (.istore_n 2, 1) := dk_61 (dk_at dksX0_ask_1 3 rfl rfl)
theorem dX0_ask_27 : decode cX0_ask 27 = .ok (.aload_n 0, 1) := dk_42 (dk_at dksX0_ask_1 4 rfl rfl)
theorem dX0_ask_28 : decode cX0_ask 28 = .ok (.aload_n 1, 1) := dk_43 (dk_at dksX0_ask_1 5 rfl rfl)
theorem dX0_ask_29 : decode cX0_ask 29 = .ok (.getfield 175, 3) := dk_180 0 175 (dk_at dksX0_ask_1 6 rfl rfl)
theorem dX0_ask_32 : decode cX0_ask 32 = .ok (.invokevirtual 392, 3) := dk_182 1 136 (dk_at dksX0_ask_1 9 rfl rfl)
theorem dX0_ask_35 : decode cX0_ask 35 = .ok (.istore_n 3, 1) := dk_62 (dk_at dksX0_ask_1 12 rfl rfl)
theorem dX0_ask_36 : decode cX0_ask 36 = .ok (.aload_n 0, 1) := dk_42 (dk_at dksX0_ask_1 13 rfl rfl)
theorem dX0_ask_37 : decode cX0_ask 37 = .ok (.iload_n 3, 1) := dk_29 (dk_at dksX0_ask_1 14 rfl rfl)
theorem dX0_ask_38 : decode cX0_ask 38 = .ok (.i2l, 1) := dk_133 (dk_at dksX0_ask_1 15 rfl rfl)
theorem dX0_ask_39 : decode cX0_ask 39 = .ok (.iload_n 2, 1) := dk_28 (dk_at dksX0_ask_1 16 rfl rfl)
theorem dX0_ask_40 : decode cX0_ask 40 = .ok (.i2l, 1) := dk_133 (dk_at dksX0_ask_1 17 rfl rfl)
theorem dX0_ask_41 : decode cX0_ask 41 = .ok (.iconst 0, 1) := dk_3 (dk_at dksX0_ask_1 18 rfl rfl)
theorem dX0_ask_42 : decode cX0_ask 42 = .ok (.invokestatic 399, 3) := dk_184 1 143 (dk_at dksX0_ask_1 19 rfl rfl)
theorem dX0_ask_45 : decode cX0_ask 45 = .ok (.l2i, 1) := dk_136 (dk_at dksX0_ask_1 22 rfl rfl)
theorem dX0_ask_46 : decode cX0_ask 46 = .ok (.putfield 46, 3) := dk_181 0 46 (dk_at dksX0_ask_2 0 rfl rfl)
theorem dX0_ask_49 : decode cX0_ask 49 = .ok (.aload_n 0, 1) := dk_42 (dk_at dksX0_ask_2 3 rfl rfl)
theorem dX0_ask_50 : decode cX0_ask 50 = .ok (.iload_n 3, 1) := dk_29 (dk_at dksX0_ask_2 4 rfl rfl)
theorem dX0_ask_51 : decode cX0_ask 51 = .ok (.i2l, 1) := dk_133 (dk_at dksX0_ask_2 5 rfl rfl)
theorem dX0_ask_52 : decode cX0_ask 52 = .ok (.iload_n 2, 1) := dk_28 (dk_at dksX0_ask_2 6 rfl rfl)
theorem dX0_ask_53 : decode cX0_ask 53 = .ok (.i2l, 1) := dk_133 (dk_at dksX0_ask_2 7 rfl rfl)
theorem dX0_ask_54 : decode cX0_ask 54 = .ok (.iconst 1, 1) := dk_4 (dk_at dksX0_ask_2 8 rfl rfl)
theorem dX0_ask_55 : decode cX0_ask 55 = .ok (.invokestatic 399, 3) := dk_184 1 143 (dk_at dksX0_ask_2 9 rfl rfl)
theorem dX0_ask_58 : decode cX0_ask 58 = .ok (.l2i, 1) := dk_136 (dk_at dksX0_ask_2 12 rfl rfl)
theorem dX0_ask_59 : decode cX0_ask 59 = .ok (.putfield 49, 3) := dk_181 0 49 (dk_at dksX0_ask_2 13 rfl rfl)
theorem dX0_ask_62 : decode cX0_ask 62 = .ok (.aload_n 0, 1) := dk_42 (dk_at dksX0_ask_2 16 rfl rfl)
theorem dX0_ask_63 : decode cX0_ask 63 = .ok (.aload_n 1, 1) := dk_43 (dk_at dksX0_ask_2 17 rfl rfl)
theorem dX0_ask_64 : decode cX0_ask 64 = .ok (.getfield 175, 3) := dk_180 0 175 (dk_at dksX0_ask_2 18 rfl rfl)
theorem dX0_ask_67 : decode cX0_ask 67 = .ok (.aload_n 0, 1) := dk_42 (dk_at dksX0_ask_2 21 rfl rfl)
theorem dX0_ask_68 : decode cX0_ask 68 = .ok (.getfield 31, 3) := dk_180 0 31 (dk_at dksX0_ask_3 0 rfl rfl)
theorem dX0_ask_71 : decode cX0_ask 71 = .ok (.getfield 149, 3) := dk_180 0 149 (dk_at dksX0_ask_3 3 rfl rfl)
theorem dX0_ask_74 : decode cX0_ask 74 = .ok (.aload_n 0, 1) := dk_42 (dk_at dksX0_ask_3 6 rfl rfl)
theorem dX0_ask_75 : decode cX0_ask 75 = .ok (.getfield 31, 3) := dk_180 0 31 (dk_at dksX0_ask_3 7 rfl rfl)
theorem dX0_ask_78 : decode cX0_ask 78 = .ok (.getfield 152, 3) := dk_180 0 152 (dk_at dksX0_ask_3 10 rfl rfl)
theorem dX0_ask_81 : decode cX0_ask 81 = .ok (.invokevirtual 216, 3) := dk_182 0 216 (dk_at dksX0_ask_3 13 rfl rfl)
theorem dX0_ask_84 : decode cX0_ask 84 = .ok (.ireturn, 1) := dk_172 (dk_at dksX0_ask_3 16 rfl rfl)
abbrev cX0_asked : ByteArray := prog_1_method_88_code
def yX0_asked : MethodName := ⟨RX0, "asked", "(I)I"⟩
def dkwX0_asked_1 : List UInt8 := [172]
abbrev dktX0_asked_1 : List UInt8 := dkwX0_asked_1 ++ []
def dkwX0_asked_0 : List UInt8 := [27, 154, 0, 10, 42, 180, 0, 46, 167, 0, 16, 27, 4, 160, 0, 10, 42, 180, 0, 49, 167, 0, 4, 2]
abbrev dktX0_asked_0 : List UInt8 := dkwX0_asked_0 ++ dktX0_asked_1
theorem dksX0_asked_0 : cX0_asked.data.toList.drop 0 = dktX0_asked_0 := by decide +kernel
theorem dksX0_asked_1 : cX0_asked.data.toList.drop 24 = dktX0_asked_1 := dk_seg dksX0_asked_0 24 rfl rfl
theorem dX0_asked_0 : decode cX0_asked 0 = .ok (.iload_n 1, 1) := dk_27 (dk_at dksX0_asked_0 0 rfl rfl)
theorem dX0_asked_1 : decode cX0_asked 1 = .ok (.ifCond .ne 10, 3) := dk_154 0 10 (dk_at dksX0_asked_0 1 rfl rfl)
theorem dX0_asked_4 : decode cX0_asked 4 = .ok (.aload_n 0, 1) := dk_42 (dk_at dksX0_asked_0 4 rfl rfl)
theorem dX0_asked_5 : decode cX0_asked 5 = .ok (.getfield 46, 3) := dk_180 0 46 (dk_at dksX0_asked_0 5 rfl rfl)
theorem dX0_asked_8 : decode cX0_asked 8 = .ok (.goto 16, 3) := dk_167 0 16 (dk_at dksX0_asked_0 8 rfl rfl)
theorem dX0_asked_11 : decode cX0_asked 11 = .ok (.iload_n 1, 1) := dk_27 (dk_at dksX0_asked_0 11 rfl rfl)
theorem dX0_asked_12 : decode cX0_asked 12 = .ok (.iconst 1, 1) := dk_4 (dk_at dksX0_asked_0 12 rfl rfl)
theorem dX0_asked_13 : decode cX0_asked 13 = .ok (.if_icmp .ne 10, 3) := dk_160 0 10 (dk_at dksX0_asked_0 13 rfl rfl)
theorem dX0_asked_16 : decode cX0_asked 16 = .ok (.aload_n 0, 1) := dk_42 (dk_at dksX0_asked_0 16 rfl rfl)
theorem dX0_asked_17 : decode cX0_asked 17 = .ok (.getfield 49, 3) := dk_180 0 49 (dk_at dksX0_asked_0 17 rfl rfl)
theorem dX0_asked_20 : decode cX0_asked 20 = .ok (.goto 4, 3) := dk_167 0 4 (dk_at dksX0_asked_0 20 rfl rfl)
theorem dX0_asked_23 : decode cX0_asked 23 = .ok (.iconst (-1), 1) := dk_2 (dk_at dksX0_asked_0 23 rfl rfl)
theorem dX0_asked_24 : decode cX0_asked 24 = .ok (.ireturn, 1) := dk_172 (dk_at dksX0_asked_1 0 rfl rfl)
abbrev cX0_count : ByteArray := prog_1_method_89_code
def yX0_count : MethodName := ⟨RX0, "count", "(I)I"⟩
def dkwX0_count_5 : List UInt8 := [172, 42, 180, 0, 93, 172, 42, 180, 0, 24, 180, 0, 244, 172, 2, 172]
abbrev dktX0_count_5 : List UInt8 := dkwX0_count_5 ++ []
def dkwX0_count_4 : List UInt8 := [153, 0, 7, 4, 167, 0, 4, 3, 172, 42, 180, 0, 31, 180, 0, 149, 184, 0, 198, 172, 42, 180, 0, 127]
abbrev dktX0_count_4 : List UInt8 := dkwX0_count_4 ++ dktX0_count_5
def dkwX0_count_3 : List UInt8 := [42, 182, 1, 150, 184, 0, 198, 172, 42, 180, 0, 31, 180, 1, 84, 172, 42, 180, 0, 31, 180, 1, 60]
abbrev dktX0_count_3 : List UInt8 := dkwX0_count_3 ++ dktX0_count_4
def dkwX0_count_2 : List UInt8 := [42, 180, 0, 24, 180, 0, 130, 172, 42, 180, 0, 24, 180, 0, 133, 172, 42, 180, 0, 31, 180, 0, 136, 172]
abbrev dktX0_count_2 : List UInt8 := dkwX0_count_2 ++ dktX0_count_3
def dkwX0_count_1 : List UInt8 := [170, 0, 0, 0, 0, 0, 140, 0, 0, 0, 0, 0, 0, 0, 9, 0, 0, 0, 55, 0, 0, 0, 63, 0, 0, 0, 71, 0, 0, 0, 79, 0, 0, 0, 87, 0, 0, 0, 95, 0, 0, 0, 111, 0, 0, 0, 122, 0, 0, 0, 127, 0, 0, 0, 132]
abbrev dktX0_count_1 : List UInt8 := dkwX0_count_1 ++ dktX0_count_2
def dkwX0_count_0 : List UInt8 := [27]
abbrev dktX0_count_0 : List UInt8 := dkwX0_count_0 ++ dktX0_count_1
theorem dksX0_count_0 : cX0_count.data.toList.drop 0 = dktX0_count_0 := by decide +kernel
theorem dksX0_count_1 : cX0_count.data.toList.drop 1 = dktX0_count_1 := dk_seg dksX0_count_0 1 rfl rfl
theorem dksX0_count_2 : cX0_count.data.toList.drop 56 = dktX0_count_2 := dk_seg dksX0_count_1 55 rfl rfl
theorem dksX0_count_3 : cX0_count.data.toList.drop 80 = dktX0_count_3 := dk_seg dksX0_count_2 24 rfl rfl
theorem dksX0_count_4 : cX0_count.data.toList.drop 103 = dktX0_count_4 := dk_seg dksX0_count_3 23 rfl rfl
theorem dksX0_count_5 : cX0_count.data.toList.drop 127 = dktX0_count_5 := dk_seg dksX0_count_4 24 rfl rfl
theorem dX0_count_0 : decode cX0_count 0 = .ok (.iload_n 1, 1) := dk_27 (dk_at dksX0_count_0 0 rfl rfl)
theorem dX0_count_1 : decode cX0_count 1 = .ok (.tableswitch 140 0 9 #[55, 63, 71, 79, 87, 95, 111, 122, 127, 132], 55) := by decide +kernel
theorem dX0_count_56 : decode cX0_count 56 = .ok (.aload_n 0, 1) := dk_42 (dk_at dksX0_count_2 0 rfl rfl)
theorem dX0_count_57 : decode cX0_count 57 = .ok (.getfield 24, 3) := dk_180 0 24 (dk_at dksX0_count_2 1 rfl rfl)
theorem dX0_count_60 : decode cX0_count 60 = .ok (.getfield 130, 3) := dk_180 0 130 (dk_at dksX0_count_2 4 rfl rfl)
theorem dX0_count_63 : decode cX0_count 63 = .ok (.ireturn, 1) := dk_172 (dk_at dksX0_count_2 7 rfl rfl)
theorem dX0_count_64 : decode cX0_count 64 = .ok (.aload_n 0, 1) := dk_42 (dk_at dksX0_count_2 8 rfl rfl)
theorem dX0_count_65 : decode cX0_count 65 = .ok (.getfield 24, 3) := dk_180 0 24 (dk_at dksX0_count_2 9 rfl rfl)
theorem dX0_count_68 : decode cX0_count 68 = .ok (.getfield 133, 3) := dk_180 0 133 (dk_at dksX0_count_2 12 rfl rfl)
theorem dX0_count_71 : decode cX0_count 71 = .ok (.ireturn, 1) := dk_172 (dk_at dksX0_count_2 15 rfl rfl)
theorem dX0_count_72 : decode cX0_count 72 = .ok (.aload_n 0, 1) := dk_42 (dk_at dksX0_count_2 16 rfl rfl)
theorem dX0_count_73 : decode cX0_count 73 = .ok (.getfield 31, 3) := dk_180 0 31 (dk_at dksX0_count_2 17 rfl rfl)
theorem dX0_count_76 : decode cX0_count 76 = .ok (.getfield 136, 3) := dk_180 0 136 (dk_at dksX0_count_2 20 rfl rfl)
theorem dX0_count_79 : decode cX0_count 79 = .ok (.ireturn, 1) := dk_172 (dk_at dksX0_count_2 23 rfl rfl)
theorem dX0_count_80 : decode cX0_count 80 = .ok (.aload_n 0, 1) := dk_42 (dk_at dksX0_count_3 0 rfl rfl)
theorem dX0_count_81 : decode cX0_count 81 = .ok (.invokevirtual 406, 3) := dk_182 1 150 (dk_at dksX0_count_3 1 rfl rfl)
theorem dX0_count_84 : decode cX0_count 84 = .ok (.invokestatic 198, 3) := dk_184 0 198 (dk_at dksX0_count_3 4 rfl rfl)
theorem dX0_count_87 : decode cX0_count 87 = .ok (.ireturn, 1) := dk_172 (dk_at dksX0_count_3 7 rfl rfl)
theorem dX0_count_88 : decode cX0_count 88 = .ok (.aload_n 0, 1) := dk_42 (dk_at dksX0_count_3 8 rfl rfl)
theorem dX0_count_89 : decode cX0_count 89 = .ok (.getfield 31, 3) := dk_180 0 31 (dk_at dksX0_count_3 9 rfl rfl)
theorem dX0_count_92 : decode cX0_count 92 = .ok (.getfield 340, 3) := dk_180 1 84 (dk_at dksX0_count_3 12 rfl rfl)
theorem dX0_count_95 : decode cX0_count 95 = .ok (.ireturn, 1) := dk_172 (dk_at dksX0_count_3 15 rfl rfl)
theorem dX0_count_96 : decode cX0_count 96 = .ok (.aload_n 0, 1) := dk_42 (dk_at dksX0_count_3 16 rfl rfl)
theorem dX0_count_97 : decode cX0_count 97 = .ok (.getfield 31, 3) := dk_180 0 31 (dk_at dksX0_count_3 17 rfl rfl)
theorem dX0_count_100 : decode cX0_count 100 = .ok (.getfield 316, 3) := dk_180 1 60 (dk_at dksX0_count_3 20 rfl rfl)
theorem dX0_count_103 : decode cX0_count 103 = .ok (.ifCond .eq 7, 3) := dk_153 0 7 (dk_at dksX0_count_4 0 rfl rfl)
theorem dX0_count_106 : decode cX0_count 106 = .ok (.iconst 1, 1) := dk_4 (dk_at dksX0_count_4 3 rfl rfl)
theorem dX0_count_107 : decode cX0_count 107 = .ok (.goto 4, 3) := dk_167 0 4 (dk_at dksX0_count_4 4 rfl rfl)
theorem dX0_count_110 : decode cX0_count 110 = .ok (.iconst 0, 1) := dk_3 (dk_at dksX0_count_4 7 rfl rfl)
theorem dX0_count_111 : decode cX0_count 111 = .ok (.ireturn, 1) := dk_172 (dk_at dksX0_count_4 8 rfl rfl)
theorem dX0_count_112 : decode cX0_count 112 = .ok (.aload_n 0, 1) := dk_42 (dk_at dksX0_count_4 9 rfl rfl)
theorem dX0_count_113 : decode cX0_count 113 = .ok (.getfield 31, 3) := dk_180 0 31 (dk_at dksX0_count_4 10 rfl rfl)
theorem dX0_count_116 : decode cX0_count 116 = .ok (.getfield 149, 3) := dk_180 0 149 (dk_at dksX0_count_4 13 rfl rfl)
theorem dX0_count_119 : decode cX0_count 119 = .ok (.invokestatic 198, 3) := dk_184 0 198 (dk_at dksX0_count_4 16 rfl rfl)
theorem dX0_count_122 : decode cX0_count 122 = .ok (.ireturn, 1) := dk_172 (dk_at dksX0_count_4 19 rfl rfl)
theorem dX0_count_123 : decode cX0_count 123 = .ok (.aload_n 0, 1) := dk_42 (dk_at dksX0_count_4 20 rfl rfl)
theorem dX0_count_124 : decode cX0_count 124 = .ok (.getfield 127, 3) := dk_180 0 127 (dk_at dksX0_count_4 21 rfl rfl)
theorem dX0_count_127 : decode cX0_count 127 = .ok (.ireturn, 1) := dk_172 (dk_at dksX0_count_5 0 rfl rfl)
theorem dX0_count_128 : decode cX0_count 128 = .ok (.aload_n 0, 1) := dk_42 (dk_at dksX0_count_5 1 rfl rfl)
theorem dX0_count_129 : decode cX0_count 129 = .ok (.getfield 93, 3) := dk_180 0 93 (dk_at dksX0_count_5 2 rfl rfl)
theorem dX0_count_132 : decode cX0_count 132 = .ok (.ireturn, 1) := dk_172 (dk_at dksX0_count_5 5 rfl rfl)
theorem dX0_count_133 : decode cX0_count 133 = .ok (.aload_n 0, 1) := dk_42 (dk_at dksX0_count_5 6 rfl rfl)
theorem dX0_count_134 : decode cX0_count 134 = .ok (.getfield 24, 3) := dk_180 0 24 (dk_at dksX0_count_5 7 rfl rfl)
theorem dX0_count_137 : decode cX0_count 137 = .ok (.getfield 244, 3) := dk_180 0 244 (dk_at dksX0_count_5 10 rfl rfl)
theorem dX0_count_140 : decode cX0_count 140 = .ok (.ireturn, 1) := dk_172 (dk_at dksX0_count_5 13 rfl rfl)
theorem dX0_count_141 : decode cX0_count 141 = .ok (.iconst (-1), 1) := dk_2 (dk_at dksX0_count_5 14 rfl rfl)
theorem dX0_count_142 : decode cX0_count 142 = .ok (.ireturn, 1) := dk_172 (dk_at dksX0_count_5 15 rfl rfl)
theorem q156 : (Jvm.Cond.initialized "StruckCounts") ∈ lw_all := lw_g (lw_at lw_m1 1 rfl) rfl
theorem q207 : (Jvm.Cond.instantiable "StruckCounts" (24 : Nat)) ∈ lw_all := lw_g (lw_at lw_m1 52 rfl) rfl
theorem q209 : (Jvm.Cond.instanceMethod ({ cls := "StruckCounts", name := "<init>", desc := "()V" } : Jvm.MethodName)) ∈ lw_all := lw_g (lw_at lw_m1 54 rfl) rfl
theorem q210 : (Jvm.Cond.code ({ cls := "StruckCounts", name := "<init>", desc := "()V" } : Jvm.MethodName) prog_1_method_3_code (2 : Nat) (Option.none : Option Jvm.ClassFile.FieldType)) ∈ lw_all := lw_g (lw_at lw_m1 55 rfl) rfl
theorem q211 : (Jvm.Cond.methodLink "StruckCounts" (1 : Nat) ({ cls := "java/lang/Object", name := "<init>", desc := "()V" } : Jvm.MethodName)) ∈ lw_all := lw_g (lw_at lw_m1 56 rfl) rfl
theorem q214 : (Jvm.Cond.classLink "StruckCounts" (17 : Nat) "StruckCounts$Suit") ∈ lw_all := lw_g (lw_at lw_m1 59 rfl) rfl
theorem q216 : (Jvm.Cond.methodLinkNest "StruckCounts" (19 : Nat) ({ cls := "StruckCounts$Suit", name := "<init>", desc := "()V" } : Jvm.MethodName) "StruckCounts") ∈ lw_tbl := lw_at lw_m1 61 rfl
theorem q327 : (Jvm.Cond.fieldLinkNest "StruckCounts" (259 : Nat) "StruckCounts$Suit" "couples" "Ljava/util/HashSet;" "StruckCounts") ∈ lw_tbl := lw_at lw_m1 172 rfl
theorem q330 : (Jvm.Cond.fieldLinkNest "StruckCounts" (155 : Nat) "StruckCounts$Suit" "counts" "Ljava/util/ArrayList;" "StruckCounts") ∈ lw_tbl := lw_at lw_m1 175 rfl
theorem q336 : (Jvm.Cond.fieldLinkNest "StruckCounts" (281 : Nat) "StruckCounts$Suit" "odds" "[I" "StruckCounts") ∈ lw_tbl := lw_at lw_m1 181 rfl
theorem q338 : (Jvm.Cond.fieldLinkNest "StruckCounts" (133 : Nat) "StruckCounts$Suit" "facts" "I" "StruckCounts") ∈ lw_tbl := lw_at lw_m1 183 rfl
theorem q341 : (Jvm.Cond.fieldLinkNest "StruckCounts" (130 : Nat) "StruckCounts$Suit" "lines" "I" "StruckCounts") ∈ lw_tbl := lw_at lw_m1 186 rfl
theorem q345 : (Jvm.Cond.fieldLinkNest "StruckCounts" (244 : Nat) "StruckCounts$Suit" "limit" "I" "StruckCounts") ∈ lw_tbl := lw_at lw_m1 190 rfl
theorem q348 : (Jvm.Cond.fieldLinkNest "StruckCounts" (139 : Nat) "StruckCounts$Suit" "isWorld" "[Z" "StruckCounts") ∈ lw_tbl := lw_at lw_m1 193 rfl
theorem q350 : (Jvm.Cond.fieldLinkNest "StruckCounts" (389 : Nat) "StruckCounts$Suit" "weight" "[I" "StruckCounts") ∈ lw_tbl := lw_at lw_m1 195 rfl
theorem q378 : (Jvm.Cond.methodLink "StruckCounts" (20 : Nat) ({ cls := "StruckCounts$Suit", name := "laid", desc := "()LStruckCounts$Suit;" } : Jvm.MethodName)) ∈ lw_all := lw_g (lw_at lw_m1 223 rfl) rfl
theorem q431 : (Jvm.Cond.static ({ cls := "StruckCounts", name := "has", desc := "(II)Z" } : Jvm.MethodName)) ∈ lw_all := lw_g (lw_at lw_m2 36 rfl) rfl
theorem q432 : (Jvm.Cond.code ({ cls := "StruckCounts", name := "has", desc := "(II)Z" } : Jvm.MethodName) prog_1_method_2_code (2 : Nat) (Option.some Jvm.ClassFile.FieldType.boolean)) ∈ lw_all := lw_g (lw_at lw_m2 37 rfl) rfl
theorem q477 : (Jvm.Cond.classLink "StruckCounts" (28 : Nat) "StruckCounts$State") ∈ lw_all := lw_g (lw_at lw_m2 82 rfl) rfl
theorem q479 : (Jvm.Cond.methodLinkNest "StruckCounts" (30 : Nat) ({ cls := "StruckCounts$State", name := "<init>", desc := "()V" } : Jvm.MethodName) "StruckCounts") ∈ lw_tbl := lw_at lw_m2 84 rfl
theorem q484 : (Jvm.Cond.fieldLinkNest "StruckCounts" (284 : Nat) "StruckCounts$State" "how" "[I" "StruckCounts") ∈ lw_tbl := lw_at lw_m2 89 rfl
theorem q486 : (Jvm.Cond.fieldLinkNest "StruckCounts" (164 : Nat) "StruckCounts$State" "like" "[I" "StruckCounts") ∈ lw_tbl := lw_at lw_m2 91 rfl
theorem q488 : (Jvm.Cond.fieldLinkNest "StruckCounts" (293 : Nat) "StruckCounts$State" "worth" "[I" "StruckCounts") ∈ lw_tbl := lw_at lw_m2 93 rfl
theorem q490 : (Jvm.Cond.fieldLinkNest "StruckCounts" (213 : Nat) "StruckCounts$State" "arose" "[I" "StruckCounts") ∈ lw_tbl := lw_at lw_m2 95 rfl
theorem q492 : (Jvm.Cond.fieldLinkNest "StruckCounts" (192 : Nat) "StruckCounts$State" "filed" "[I" "StruckCounts") ∈ lw_tbl := lw_at lw_m2 97 rfl
theorem q494 : (Jvm.Cond.fieldLinkNest "StruckCounts" (195 : Nat) "StruckCounts$State" "says" "[I" "StruckCounts") ∈ lw_tbl := lw_at lw_m2 99 rfl
theorem q496 : (Jvm.Cond.fieldLinkNest "StruckCounts" (247 : Nat) "StruckCounts$State" "so" "[I" "StruckCounts") ∈ lw_tbl := lw_at lw_m2 101 rfl
theorem q498 : (Jvm.Cond.fieldLinkNest "StruckCounts" (149 : Nat) "StruckCounts$State" "known" "I" "StruckCounts") ∈ lw_tbl := lw_at lw_m2 103 rfl
theorem q500 : (Jvm.Cond.fieldLinkNest "StruckCounts" (152 : Nat) "StruckCounts$State" "knownSo" "I" "StruckCounts") ∈ lw_tbl := lw_at lw_m2 105 rfl
theorem q502 : (Jvm.Cond.fieldLinkNest "StruckCounts" (136 : Nat) "StruckCounts$State" "many" "I" "StruckCounts") ∈ lw_tbl := lw_at lw_m2 107 rfl
theorem q504 : (Jvm.Cond.fieldLinkNest "StruckCounts" (220 : Nat) "StruckCounts$State" "struck" "I" "StruckCounts") ∈ lw_tbl := lw_at lw_m2 109 rfl
theorem q506 : (Jvm.Cond.fieldLinkNest "StruckCounts" (340 : Nat) "StruckCounts$State" "day" "I" "StruckCounts") ∈ lw_tbl := lw_at lw_m2 111 rfl
theorem q508 : (Jvm.Cond.fieldLinkNest "StruckCounts" (316 : Nat) "StruckCounts$State" "isClosed" "Z" "StruckCounts") ∈ lw_tbl := lw_at lw_m2 113 rfl
theorem q537 : (Jvm.Cond.methodLink "StruckCounts" (52 : Nat) ({ cls := "StruckCounts$State", name := "begins", desc := "(LStruckCounts$Suit;)LStruckCounts$State;" } : Jvm.MethodName)) ∈ lw_all := lw_g (lw_at lw_m2 142 rfl) rfl
theorem q548 : (Jvm.Cond.classLink "StruckCounts" (72 : Nat) "java/util/LinkedHashMap") ∈ lw_all := lw_g (lw_at lw_m2 153 rfl) rfl
theorem q549 : (Jvm.Cond.methodLink "StruckCounts" (74 : Nat) ({ cls := "java/util/LinkedHashMap", name := "<init>", desc := "(I)V" } : Jvm.MethodName)) ∈ lw_all := lw_g (lw_at lw_m2 154 rfl) rfl
theorem q569 : (Jvm.Cond.classLink "StruckCounts" (81 : Nat) "StruckCounts$Outcome") ∈ lw_all := lw_g (lw_at lw_m2 174 rfl) rfl
theorem q571 : (Jvm.Cond.fieldLink "StruckCounts" (9 : Nat) "StruckCounts" "text" "[B") ∈ lw_all := lw_g (lw_at lw_m2 176 rfl) rfl
theorem q572 : (Jvm.Cond.fieldLink "StruckCounts" (93 : Nat) "StruckCounts" "typed" "I") ∈ lw_all := lw_g (lw_at lw_m2 177 rfl) rfl
theorem q573 : (Jvm.Cond.fieldLink "StruckCounts" (100 : Nat) "StruckCounts" "faultKind" "I") ∈ lw_all := lw_g (lw_at lw_m2 178 rfl) rfl
theorem q574 : (Jvm.Cond.fieldLink "StruckCounts" (13 : Nat) "StruckCounts" "faultPlace" "I") ∈ lw_all := lw_g (lw_at lw_m2 179 rfl) rfl
theorem q575 : (Jvm.Cond.fieldLink "StruckCounts" (127 : Nat) "StruckCounts" "undos" "I") ∈ lw_all := lw_g (lw_at lw_m2 180 rfl) rfl
theorem q576 : (Jvm.Cond.fieldLink "StruckCounts" (24 : Nat) "StruckCounts" "suit" "LStruckCounts$Suit;") ∈ lw_all := lw_g (lw_at lw_m2 181 rfl) rfl
theorem q577 : (Jvm.Cond.fieldLink "StruckCounts" (31 : Nat) "StruckCounts" "now" "LStruckCounts$State;") ∈ lw_all := lw_g (lw_at lw_m2 182 rfl) rfl
theorem q578 : (Jvm.Cond.fieldLink "StruckCounts" (35 : Nat) "StruckCounts" "undone" "[LStruckCounts$State;") ∈ lw_all := lw_g (lw_at lw_m2 183 rfl) rfl
theorem q579 : (Jvm.Cond.fieldLink "StruckCounts" (39 : Nat) "StruckCounts" "kept" "[LStruckCounts$State;") ∈ lw_all := lw_g (lw_at lw_m2 184 rfl) rfl
theorem q580 : (Jvm.Cond.fieldLink "StruckCounts" (42 : Nat) "StruckCounts" "isKept" "[Z") ∈ lw_all := lw_g (lw_at lw_m2 185 rfl) rfl
theorem q581 : (Jvm.Cond.fieldLink "StruckCounts" (46 : Nat) "StruckCounts" "askedTop" "I") ∈ lw_all := lw_g (lw_at lw_m2 186 rfl) rfl
theorem q582 : (Jvm.Cond.fieldLink "StruckCounts" (49 : Nat) "StruckCounts" "askedBottom" "I") ∈ lw_all := lw_g (lw_at lw_m2 187 rfl) rfl
theorem q583 : (Jvm.Cond.fieldLink "StruckCounts" (56 : Nat) "StruckCounts" "injury" "[I") ∈ lw_all := lw_g (lw_at lw_m2 188 rfl) rfl
theorem q584 : (Jvm.Cond.fieldLink "StruckCounts" (356 : Nat) "StruckCounts" "lackFacts" "I") ∈ lw_all := lw_g (lw_at lw_m2 189 rfl) rfl
theorem q585 : (Jvm.Cond.fieldLink "StruckCounts" (359 : Nat) "StruckCounts" "lackSo" "I") ∈ lw_all := lw_g (lw_at lw_m2 190 rfl) rfl
theorem q586 : (Jvm.Cond.fieldLink "StruckCounts" (60 : Nat) "StruckCounts" "won" "[Z") ∈ lw_all := lw_g (lw_at lw_m2 191 rfl) rfl
theorem q587 : (Jvm.Cond.fieldLink "StruckCounts" (63 : Nat) "StruckCounts" "memo" "[I") ∈ lw_all := lw_g (lw_at lw_m2 192 rfl) rfl
theorem q588 : (Jvm.Cond.fieldLink "StruckCounts" (66 : Nat) "StruckCounts" "judgedAt" "[I") ∈ lw_all := lw_g (lw_at lw_m2 193 rfl) rfl
theorem q589 : (Jvm.Cond.fieldLink "StruckCounts" (69 : Nat) "StruckCounts" "paid" "[I") ∈ lw_all := lw_g (lw_at lw_m2 194 rfl) rfl
theorem q590 : (Jvm.Cond.fieldLink "StruckCounts" (77 : Nat) "StruckCounts" "outcomes" "Ljava/util/LinkedHashMap;") ∈ lw_all := lw_g (lw_at lw_m2 195 rfl) rfl
theorem q591 : (Jvm.Cond.fieldLink "StruckCounts" (83 : Nat) "StruckCounts" "inOrder" "[LStruckCounts$Outcome;") ∈ lw_all := lw_g (lw_at lw_m2 196 rfl) rfl
theorem q592 : (Jvm.Cond.fieldLink "StruckCounts" (87 : Nat) "StruckCounts" "proofFacts" "[I") ∈ lw_all := lw_g (lw_at lw_m2 197 rfl) rfl
theorem q593 : (Jvm.Cond.fieldLink "StruckCounts" (90 : Nat) "StruckCounts" "proofSo" "[I") ∈ lw_all := lw_g (lw_at lw_m2 198 rfl) rfl
theorem q594 : (Jvm.Cond.fieldLink "StruckCounts" (438 : Nat) "StruckCounts" "proofMany" "I") ∈ lw_all := lw_g (lw_at lw_m2 199 rfl) rfl
theorem q595 : (Jvm.Cond.laysFinal "StruckCounts" "StruckCounts" "text" "[B") ∈ lw_all := lw_g (lw_at lw_m2 200 rfl) rfl
theorem q596 : (Jvm.Cond.soleField "StruckCounts" "text") ∈ lw_all := lw_g (lw_at lw_m2 201 rfl) rfl
theorem q597 : (Jvm.Cond.lays "StruckCounts" "StruckCounts" "typed" "I") ∈ lw_all := lw_g (lw_at lw_m2 202 rfl) rfl
theorem q598 : (Jvm.Cond.soleField "StruckCounts" "typed") ∈ lw_all := lw_g (lw_at lw_m2 203 rfl) rfl
theorem q599 : (Jvm.Cond.lays "StruckCounts" "StruckCounts" "faultKind" "I") ∈ lw_all := lw_g (lw_at lw_m2 204 rfl) rfl
theorem q600 : (Jvm.Cond.soleField "StruckCounts" "faultKind") ∈ lw_all := lw_g (lw_at lw_m2 205 rfl) rfl
theorem q601 : (Jvm.Cond.lays "StruckCounts" "StruckCounts" "faultPlace" "I") ∈ lw_all := lw_g (lw_at lw_m2 206 rfl) rfl
theorem q602 : (Jvm.Cond.soleField "StruckCounts" "faultPlace") ∈ lw_all := lw_g (lw_at lw_m2 207 rfl) rfl
theorem q603 : (Jvm.Cond.lays "StruckCounts" "StruckCounts" "undos" "I") ∈ lw_all := lw_g (lw_at lw_m2 208 rfl) rfl
theorem q604 : (Jvm.Cond.soleField "StruckCounts" "undos") ∈ lw_all := lw_g (lw_at lw_m2 209 rfl) rfl
theorem q605 : (Jvm.Cond.lays "StruckCounts" "StruckCounts" "suit" "LStruckCounts$Suit;") ∈ lw_all := lw_g (lw_at lw_m2 210 rfl) rfl
theorem q606 : (Jvm.Cond.soleField "StruckCounts" "suit") ∈ lw_all := lw_g (lw_at lw_m2 211 rfl) rfl
theorem q607 : (Jvm.Cond.laysFinal "StruckCounts" "StruckCounts" "now" "LStruckCounts$State;") ∈ lw_all := lw_g (lw_at lw_m2 212 rfl) rfl
theorem q608 : (Jvm.Cond.soleField "StruckCounts" "now") ∈ lw_all := lw_g (lw_at lw_m2 213 rfl) rfl
theorem q609 : (Jvm.Cond.laysFinal "StruckCounts" "StruckCounts" "undone" "[LStruckCounts$State;") ∈ lw_all := lw_g (lw_at lw_m2 214 rfl) rfl
theorem q610 : (Jvm.Cond.soleField "StruckCounts" "undone") ∈ lw_all := lw_g (lw_at lw_m2 215 rfl) rfl
theorem q611 : (Jvm.Cond.laysFinal "StruckCounts" "StruckCounts" "kept" "[LStruckCounts$State;") ∈ lw_all := lw_g (lw_at lw_m2 216 rfl) rfl
theorem q612 : (Jvm.Cond.soleField "StruckCounts" "kept") ∈ lw_all := lw_g (lw_at lw_m2 217 rfl) rfl
theorem q613 : (Jvm.Cond.laysFinal "StruckCounts" "StruckCounts" "isKept" "[Z") ∈ lw_all := lw_g (lw_at lw_m2 218 rfl) rfl
theorem q614 : (Jvm.Cond.soleField "StruckCounts" "isKept") ∈ lw_all := lw_g (lw_at lw_m2 219 rfl) rfl
theorem q615 : (Jvm.Cond.lays "StruckCounts" "StruckCounts" "askedTop" "I") ∈ lw_all := lw_g (lw_at lw_m2 220 rfl) rfl
theorem q616 : (Jvm.Cond.soleField "StruckCounts" "askedTop") ∈ lw_all := lw_g (lw_at lw_m2 221 rfl) rfl
theorem q617 : (Jvm.Cond.lays "StruckCounts" "StruckCounts" "askedBottom" "I") ∈ lw_all := lw_g (lw_at lw_m2 222 rfl) rfl
theorem q618 : (Jvm.Cond.soleField "StruckCounts" "askedBottom") ∈ lw_all := lw_g (lw_at lw_m2 223 rfl) rfl
theorem q619 : (Jvm.Cond.laysFinal "StruckCounts" "StruckCounts" "injury" "[I") ∈ lw_all := lw_g (lw_at lw_m2 224 rfl) rfl
theorem q620 : (Jvm.Cond.soleField "StruckCounts" "injury") ∈ lw_all := lw_g (lw_at lw_m2 225 rfl) rfl
theorem q621 : (Jvm.Cond.lays "StruckCounts" "StruckCounts" "lackFacts" "I") ∈ lw_all := lw_g (lw_at lw_m2 226 rfl) rfl
theorem q622 : (Jvm.Cond.soleField "StruckCounts" "lackFacts") ∈ lw_all := lw_g (lw_at lw_m2 227 rfl) rfl
theorem q623 : (Jvm.Cond.lays "StruckCounts" "StruckCounts" "lackSo" "I") ∈ lw_all := lw_g (lw_at lw_m2 228 rfl) rfl
theorem q624 : (Jvm.Cond.soleField "StruckCounts" "lackSo") ∈ lw_all := lw_g (lw_at lw_m2 229 rfl) rfl
theorem q625 : (Jvm.Cond.laysFinal "StruckCounts" "StruckCounts" "won" "[Z") ∈ lw_all := lw_g (lw_at lw_m2 230 rfl) rfl
theorem q626 : (Jvm.Cond.soleField "StruckCounts" "won") ∈ lw_all := lw_g (lw_at lw_m2 231 rfl) rfl
theorem q627 : (Jvm.Cond.laysFinal "StruckCounts" "StruckCounts" "memo" "[I") ∈ lw_all := lw_g (lw_at lw_m2 232 rfl) rfl
theorem q628 : (Jvm.Cond.soleField "StruckCounts" "memo") ∈ lw_all := lw_g (lw_at lw_m2 233 rfl) rfl
theorem q629 : (Jvm.Cond.laysFinal "StruckCounts" "StruckCounts" "judgedAt" "[I") ∈ lw_all := lw_g (lw_at lw_m2 234 rfl) rfl
theorem q630 : (Jvm.Cond.soleField "StruckCounts" "judgedAt") ∈ lw_all := lw_g (lw_at lw_m2 235 rfl) rfl
theorem q631 : (Jvm.Cond.laysFinal "StruckCounts" "StruckCounts" "paid" "[I") ∈ lw_all := lw_g (lw_at lw_m2 236 rfl) rfl
theorem q632 : (Jvm.Cond.soleField "StruckCounts" "paid") ∈ lw_all := lw_g (lw_at lw_m2 237 rfl) rfl
theorem q633 : (Jvm.Cond.laysFinal "StruckCounts" "StruckCounts" "outcomes" "Ljava/util/LinkedHashMap;") ∈ lw_all := lw_g (lw_at lw_m2 238 rfl) rfl
theorem q634 : (Jvm.Cond.soleField "StruckCounts" "outcomes") ∈ lw_all := lw_g (lw_at lw_m2 239 rfl) rfl
theorem q635 : (Jvm.Cond.laysFinal "StruckCounts" "StruckCounts" "inOrder" "[LStruckCounts$Outcome;") ∈ lw_all := lw_g (lw_at lw_m3 0 rfl) rfl
theorem q636 : (Jvm.Cond.soleField "StruckCounts" "inOrder") ∈ lw_all := lw_g (lw_at lw_m3 1 rfl) rfl
theorem q637 : (Jvm.Cond.laysFinal "StruckCounts" "StruckCounts" "proofFacts" "[I") ∈ lw_all := lw_g (lw_at lw_m3 2 rfl) rfl
theorem q638 : (Jvm.Cond.soleField "StruckCounts" "proofFacts") ∈ lw_all := lw_g (lw_at lw_m3 3 rfl) rfl
theorem q639 : (Jvm.Cond.laysFinal "StruckCounts" "StruckCounts" "proofSo" "[I") ∈ lw_all := lw_g (lw_at lw_m3 4 rfl) rfl
theorem q640 : (Jvm.Cond.soleField "StruckCounts" "proofSo") ∈ lw_all := lw_g (lw_at lw_m3 5 rfl) rfl
theorem q641 : (Jvm.Cond.lays "StruckCounts" "StruckCounts" "proofMany" "I") ∈ lw_all := lw_g (lw_at lw_m3 6 rfl) rfl
theorem q642 : (Jvm.Cond.soleField "StruckCounts" "proofMany") ∈ lw_all := lw_g (lw_at lw_m3 7 rfl) rfl
theorem q643 : (Jvm.Cond.superclass "StruckCounts" "java/lang/Object") ∈ lw_all := lw_g (lw_at lw_m3 8 rfl) rfl
theorem q645 : (Jvm.Cond.instanceMethod ({ cls := "StruckCounts", name := "sign", desc := "(I)I" } : Jvm.MethodName)) ∈ lw_all := lw_g (lw_at lw_m3 10 rfl) rfl
theorem q646 : (Jvm.Cond.selects "StruckCounts" ({ cls := "StruckCounts", name := "sign", desc := "(I)I" } : Jvm.MethodName) ({ cls := "StruckCounts", name := "sign", desc := "(I)I" } : Jvm.MethodName)) ∈ lw_all := lw_g (lw_at lw_m3 11 rfl) rfl
theorem q647 : (Jvm.Cond.code ({ cls := "StruckCounts", name := "sign", desc := "(I)I" } : Jvm.MethodName) prog_1_method_4_code (3 : Nat) (Option.some Jvm.ClassFile.FieldType.int)) ∈ lw_all := lw_g (lw_at lw_m3 12 rfl) rfl
theorem q649 : (Jvm.Cond.instanceMethod ({ cls := "StruckCounts", name := "end", desc := "(I)Z" } : Jvm.MethodName)) ∈ lw_all := lw_g (lw_at lw_m3 14 rfl) rfl
theorem q650 : (Jvm.Cond.selects "StruckCounts" ({ cls := "StruckCounts", name := "end", desc := "(I)Z" } : Jvm.MethodName) ({ cls := "StruckCounts", name := "end", desc := "(I)Z" } : Jvm.MethodName)) ∈ lw_all := lw_g (lw_at lw_m3 15 rfl) rfl
theorem q651 : (Jvm.Cond.code ({ cls := "StruckCounts", name := "end", desc := "(I)Z" } : Jvm.MethodName) prog_1_method_5_code (2 : Nat) (Option.some Jvm.ClassFile.FieldType.boolean)) ∈ lw_all := lw_g (lw_at lw_m3 16 rfl) rfl
theorem q652 : (Jvm.Cond.methodLink "StruckCounts" (96 : Nat) ({ cls := "StruckCounts", name := "in", desc := "(III)Z" } : Jvm.MethodName)) ∈ lw_all := lw_g (lw_at lw_m3 17 rfl) rfl
theorem q653 : (Jvm.Cond.static ({ cls := "StruckCounts", name := "in", desc := "(III)Z" } : Jvm.MethodName)) ∈ lw_all := lw_g (lw_at lw_m3 18 rfl) rfl
theorem q654 : (Jvm.Cond.code ({ cls := "StruckCounts", name := "in", desc := "(III)Z" } : Jvm.MethodName) prog_1_method_1_code (3 : Nat) (Option.some Jvm.ClassFile.FieldType.boolean)) ∈ lw_all := lw_g (lw_at lw_m3 19 rfl) rfl
theorem q656 : (Jvm.Cond.instanceMethod ({ cls := "StruckCounts", name := "suit", desc := "()I" } : Jvm.MethodName)) ∈ lw_all := lw_g (lw_at lw_m3 21 rfl) rfl
theorem q657 : (Jvm.Cond.selects "StruckCounts" ({ cls := "StruckCounts", name := "suit", desc := "()I" } : Jvm.MethodName) ({ cls := "StruckCounts", name := "suit", desc := "()I" } : Jvm.MethodName)) ∈ lw_all := lw_g (lw_at lw_m3 22 rfl) rfl
theorem q658 : (Jvm.Cond.codeWith ({ cls := "StruckCounts", name := "suit", desc := "()I" } : Jvm.MethodName) prog_1_method_8_code (2 : Nat) (Option.some Jvm.ClassFile.FieldType.int) [((0 : Nat), (18 : Nat), (21 : Nat), (109 : Nat))]) ∈ lw_all := lw_g (lw_at lw_m3 23 rfl) rfl
theorem q659 : (Jvm.Cond.classLink "StruckCounts" (109 : Nat) "StruckCounts$Fault") ∈ lw_all := lw_g (lw_at lw_m3 24 rfl) rfl
theorem q660 : (Jvm.Cond.methodLink "StruckCounts" (116 : Nat) ({ cls := "StruckCounts", name := "reads", desc := "(LStruckCounts$Suit;)LStruckCounts$Reader;" } : Jvm.MethodName)) ∈ lw_all := lw_g (lw_at lw_m3 25 rfl) rfl
theorem q661 : (Jvm.Cond.privateMethod ({ cls := "StruckCounts", name := "reads", desc := "(LStruckCounts$Suit;)LStruckCounts$Reader;" } : Jvm.MethodName)) ∈ lw_tbl := lw_at lw_m3 26 rfl
theorem q662 : (Jvm.Cond.instanceMethod ({ cls := "StruckCounts", name := "reads", desc := "(LStruckCounts$Suit;)LStruckCounts$Reader;" } : Jvm.MethodName)) ∈ lw_all := lw_g (lw_at lw_m3 27 rfl) rfl
theorem q663 : (Jvm.Cond.code ({ cls := "StruckCounts", name := "reads", desc := "(LStruckCounts$Suit;)LStruckCounts$Reader;" } : Jvm.MethodName) prog_1_method_6_code (3 : Nat) (Option.some (Jvm.ClassFile.FieldType.object "StruckCounts$Reader"))) ∈ lw_all := lw_g (lw_at lw_m3 28 rfl) rfl
theorem q664 : (Jvm.Cond.classLink "StruckCounts" (103 : Nat) "StruckCounts$Reader") ∈ lw_all := lw_g (lw_at lw_m3 29 rfl) rfl
theorem q666 : (Jvm.Cond.methodLink "StruckCounts" (105 : Nat) ({ cls := "StruckCounts$Reader", name := "<init>", desc := "([BILStruckCounts$Suit;)V" } : Jvm.MethodName)) ∈ lw_all := lw_g (lw_at lw_m3 31 rfl) rfl
theorem q963 : (Jvm.Cond.methodLink "StruckCounts" (120 : Nat) ({ cls := "StruckCounts$Reader", name := "whole", desc := "()LStruckCounts$Suit;" } : Jvm.MethodName)) ∈ lw_all := lw_g (lw_at lw_m4 88 rfl) rfl
theorem q1036 : (Jvm.Cond.fieldLinkNest "StruckCounts" (108 : Nat) "StruckCounts$Fault" "kind" "I" "StruckCounts") ∈ lw_tbl := lw_at lw_m4 161 rfl
theorem q1038 : (Jvm.Cond.fieldLinkNest "StruckCounts" (113 : Nat) "StruckCounts$Fault" "place" "I" "StruckCounts") ∈ lw_tbl := lw_at lw_m4 163 rfl
theorem q1146 : (Jvm.Cond.selects "StruckCounts" ({ cls := "java/lang/Object", name := "hashCode", desc := "()I" } : Jvm.MethodName) ({ cls := "java/lang/Object", name := "hashCode", desc := "()I" } : Jvm.MethodName)) ∈ lw_all := lw_g (lw_at lw_m5 31 rfl) rfl
theorem q1176 : (Jvm.Cond.selects "StruckCounts" ({ cls := "java/lang/Object", name := "equals", desc := "(Ljava/lang/Object;)Z" } : Jvm.MethodName) ({ cls := "java/lang/Object", name := "equals", desc := "(Ljava/lang/Object;)Z" } : Jvm.MethodName)) ∈ lw_all := lw_g (lw_at lw_m5 61 rfl) rfl
theorem q1225 : (Jvm.Cond.selects "StruckCounts" ({ cls := "java/lang/Object", name := "getClass", desc := "()Ljava/lang/Class;" } : Jvm.MethodName) ({ cls := "java/lang/Object", name := "getClass", desc := "()Ljava/lang/Class;" } : Jvm.MethodName)) ∈ lw_all := lw_g (lw_at lw_m5 110 rfl) rfl
theorem q1812 : (Jvm.Cond.fieldLinkNest "StruckCounts" (182 : Nat) "StruckCounts$Told" "elements" "Ljava/util/ArrayList;" "StruckCounts") ∈ lw_tbl := lw_at lw_m7 217 rfl
theorem q1816 : (Jvm.Cond.fieldLinkNest "StruckCounts" (185 : Nat) "StruckCounts$Told" "pleas" "Ljava/util/ArrayList;" "StruckCounts") ∈ lw_tbl := lw_at lw_m7 221 rfl
theorem q1842 : (Jvm.Cond.fieldLinkNest "StruckCounts" (299 : Nat) "StruckCounts$Rule" "expr" "LStruckCounts$Expr;" "StruckCounts") ∈ lw_tbl := lw_at lw_m8 7 rfl
theorem q1844 : (Jvm.Cond.fieldLinkNest "StruckCounts" (175 : Nat) "StruckCounts$Rule" "is" "[Z" "StruckCounts") ∈ lw_tbl := lw_at lw_m8 9 rfl
theorem q1893 : (Jvm.Cond.methodLink "StruckCounts" (123 : Nat) ({ cls := "StruckCounts", name := "fails", desc := "(LStruckCounts$Fault;)I" } : Jvm.MethodName)) ∈ lw_all := lw_g (lw_at lw_m8 58 rfl) rfl
theorem q1894 : (Jvm.Cond.privateMethod ({ cls := "StruckCounts", name := "fails", desc := "(LStruckCounts$Fault;)I" } : Jvm.MethodName)) ∈ lw_tbl := lw_at lw_m8 59 rfl
theorem q1895 : (Jvm.Cond.instanceMethod ({ cls := "StruckCounts", name := "fails", desc := "(LStruckCounts$Fault;)I" } : Jvm.MethodName)) ∈ lw_all := lw_g (lw_at lw_m8 60 rfl) rfl
theorem q1896 : (Jvm.Cond.code ({ cls := "StruckCounts", name := "fails", desc := "(LStruckCounts$Fault;)I" } : Jvm.MethodName) prog_1_method_7_code (2 : Nat) (Option.some Jvm.ClassFile.FieldType.int)) ∈ lw_all := lw_g (lw_at lw_m8 61 rfl) rfl
theorem q1898 : (Jvm.Cond.instanceMethod ({ cls := "StruckCounts", name := "fault", desc := "(I)I" } : Jvm.MethodName)) ∈ lw_all := lw_g (lw_at lw_m8 63 rfl) rfl
theorem q1899 : (Jvm.Cond.selects "StruckCounts" ({ cls := "StruckCounts", name := "fault", desc := "(I)I" } : Jvm.MethodName) ({ cls := "StruckCounts", name := "fault", desc := "(I)I" } : Jvm.MethodName)) ∈ lw_all := lw_g (lw_at lw_m8 64 rfl) rfl
theorem q1900 : (Jvm.Cond.code ({ cls := "StruckCounts", name := "fault", desc := "(I)I" } : Jvm.MethodName) prog_1_method_9_code (2 : Nat) (Option.some Jvm.ClassFile.FieldType.int)) ∈ lw_all := lw_g (lw_at lw_m8 65 rfl) rfl
theorem q1902 : (Jvm.Cond.instanceMethod ({ cls := "StruckCounts", name := "fact", desc := "(II)I" } : Jvm.MethodName)) ∈ lw_all := lw_g (lw_at lw_m8 67 rfl) rfl
theorem q1903 : (Jvm.Cond.selects "StruckCounts" ({ cls := "StruckCounts", name := "fact", desc := "(II)I" } : Jvm.MethodName) ({ cls := "StruckCounts", name := "fact", desc := "(II)I" } : Jvm.MethodName)) ∈ lw_all := lw_g (lw_at lw_m8 68 rfl) rfl
theorem q1904 : (Jvm.Cond.code ({ cls := "StruckCounts", name := "fact", desc := "(II)I" } : Jvm.MethodName) prog_1_method_30_code (3 : Nat) (Option.some Jvm.ClassFile.FieldType.int)) ∈ lw_all := lw_g (lw_at lw_m8 69 rfl) rfl
theorem q1905 : (Jvm.Cond.methodLink "StruckCounts" (277 : Nat) ({ cls := "StruckCounts", name := "isFact", desc := "(I)Z" } : Jvm.MethodName)) ∈ lw_all := lw_g (lw_at lw_m8 70 rfl) rfl
theorem q1906 : (Jvm.Cond.privateMethod ({ cls := "StruckCounts", name := "isFact", desc := "(I)Z" } : Jvm.MethodName)) ∈ lw_tbl := lw_at lw_m8 71 rfl
theorem q1907 : (Jvm.Cond.instanceMethod ({ cls := "StruckCounts", name := "isFact", desc := "(I)Z" } : Jvm.MethodName)) ∈ lw_all := lw_g (lw_at lw_m8 72 rfl) rfl
theorem q1908 : (Jvm.Cond.code ({ cls := "StruckCounts", name := "isFact", desc := "(I)Z" } : Jvm.MethodName) prog_1_method_10_code (2 : Nat) (Option.some Jvm.ClassFile.FieldType.boolean)) ∈ lw_all := lw_g (lw_at lw_m8 73 rfl) rfl
theorem q1909 : (Jvm.Cond.methodLink "StruckCounts" (223 : Nat) ({ cls := "StruckCounts", name := "has", desc := "(II)Z" } : Jvm.MethodName)) ∈ lw_all := lw_g (lw_at lw_m8 74 rfl) rfl
theorem q1910 : (Jvm.Cond.methodLink "StruckCounts" (287 : Nat) ({ cls := "StruckCounts", name := "sayers", desc := "(I)I" } : Jvm.MethodName)) ∈ lw_all := lw_g (lw_at lw_m8 75 rfl) rfl
theorem q1911 : (Jvm.Cond.privateMethod ({ cls := "StruckCounts", name := "sayers", desc := "(I)I" } : Jvm.MethodName)) ∈ lw_tbl := lw_at lw_m8 76 rfl
theorem q1912 : (Jvm.Cond.instanceMethod ({ cls := "StruckCounts", name := "sayers", desc := "(I)I" } : Jvm.MethodName)) ∈ lw_all := lw_g (lw_at lw_m8 77 rfl) rfl
theorem q1913 : (Jvm.Cond.code ({ cls := "StruckCounts", name := "sayers", desc := "(I)I" } : Jvm.MethodName) prog_1_method_29_code (4 : Nat) (Option.some Jvm.ClassFile.FieldType.int)) ∈ lw_all := lw_g (lw_at lw_m8 78 rfl) rfl
theorem q1915 : (Jvm.Cond.instanceMethod ({ cls := "StruckCounts", name := "of", desc := "(II)I" } : Jvm.MethodName)) ∈ lw_all := lw_g (lw_at lw_m8 80 rfl) rfl
theorem q1916 : (Jvm.Cond.selects "StruckCounts" ({ cls := "StruckCounts", name := "of", desc := "(II)I" } : Jvm.MethodName) ({ cls := "StruckCounts", name := "of", desc := "(II)I" } : Jvm.MethodName)) ∈ lw_all := lw_g (lw_at lw_m8 81 rfl) rfl
theorem q1917 : (Jvm.Cond.code ({ cls := "StruckCounts", name := "of", desc := "(II)I" } : Jvm.MethodName) prog_1_method_31_code (3 : Nat) (Option.some Jvm.ClassFile.FieldType.int)) ∈ lw_all := lw_g (lw_at lw_m8 82 rfl) rfl
theorem q1918 : (Jvm.Cond.methodLink "StruckCounts" (290 : Nat) ({ cls := "StruckCounts", name := "isCount", desc := "(I)Z" } : Jvm.MethodName)) ∈ lw_all := lw_g (lw_at lw_m8 83 rfl) rfl
theorem q1919 : (Jvm.Cond.privateMethod ({ cls := "StruckCounts", name := "isCount", desc := "(I)Z" } : Jvm.MethodName)) ∈ lw_tbl := lw_at lw_m8 84 rfl
theorem q1920 : (Jvm.Cond.instanceMethod ({ cls := "StruckCounts", name := "isCount", desc := "(I)Z" } : Jvm.MethodName)) ∈ lw_all := lw_g (lw_at lw_m8 85 rfl) rfl
theorem q1921 : (Jvm.Cond.code ({ cls := "StruckCounts", name := "isCount", desc := "(I)Z" } : Jvm.MethodName) prog_1_method_11_code (2 : Nat) (Option.some Jvm.ClassFile.FieldType.boolean)) ∈ lw_all := lw_g (lw_at lw_m8 86 rfl) rfl
theorem q1922 : (Jvm.Cond.methodLink "StruckCounts" (204 : Nat) ({ cls := "StruckCounts", name := "back", desc := "(II)I" } : Jvm.MethodName)) ∈ lw_all := lw_g (lw_at lw_m8 87 rfl) rfl
theorem q1923 : (Jvm.Cond.privateMethod ({ cls := "StruckCounts", name := "back", desc := "(II)I" } : Jvm.MethodName)) ∈ lw_tbl := lw_at lw_m8 88 rfl
theorem q1924 : (Jvm.Cond.instanceMethod ({ cls := "StruckCounts", name := "back", desc := "(II)I" } : Jvm.MethodName)) ∈ lw_all := lw_g (lw_at lw_m8 89 rfl) rfl
theorem q1925 : (Jvm.Cond.code ({ cls := "StruckCounts", name := "back", desc := "(II)I" } : Jvm.MethodName) prog_1_method_19_code (5 : Nat) (Option.some Jvm.ClassFile.FieldType.int)) ∈ lw_all := lw_g (lw_at lw_m8 90 rfl) rfl
theorem q1926 : (Jvm.Cond.methodLink "StruckCounts" (198 : Nat) ({ cls := "java/lang/Integer", name := "bitCount", desc := "(I)I" } : Jvm.MethodName)) ∈ lw_all := lw_g (lw_at lw_m8 91 rfl) rfl
theorem q1932 : (Jvm.Cond.methodLink "StruckCounts" (208 : Nat) ({ cls := "java/lang/Math", name := "min", desc := "(II)I" } : Jvm.MethodName)) ∈ lw_all := lw_g (lw_at lw_m8 97 rfl) rfl
theorem q1933 : (Jvm.Cond.methodLink "StruckCounts" (241 : Nat) ({ cls := "StruckCounts", name := "age", desc := "(II)I" } : Jvm.MethodName)) ∈ lw_all := lw_g (lw_at lw_m8 98 rfl) rfl
theorem q1934 : (Jvm.Cond.privateMethod ({ cls := "StruckCounts", name := "age", desc := "(II)I" } : Jvm.MethodName)) ∈ lw_tbl := lw_at lw_m8 99 rfl
theorem q1935 : (Jvm.Cond.instanceMethod ({ cls := "StruckCounts", name := "age", desc := "(II)I" } : Jvm.MethodName)) ∈ lw_all := lw_g (lw_at lw_m8 100 rfl) rfl
theorem q1936 : (Jvm.Cond.code ({ cls := "StruckCounts", name := "age", desc := "(II)I" } : Jvm.MethodName) prog_1_method_20_code (3 : Nat) (Option.some Jvm.ClassFile.FieldType.int)) ∈ lw_all := lw_g (lw_at lw_m8 101 rfl) rfl
theorem q1937 : (Jvm.Cond.methodLink "StruckCounts" (178 : Nat) ({ cls := "StruckCounts", name := "told", desc := "(I)LStruckCounts$Told;" } : Jvm.MethodName)) ∈ lw_all := lw_g (lw_at lw_m8 102 rfl) rfl
theorem q1938 : (Jvm.Cond.privateMethod ({ cls := "StruckCounts", name := "told", desc := "(I)LStruckCounts$Told;" } : Jvm.MethodName)) ∈ lw_tbl := lw_at lw_m8 103 rfl
theorem q1939 : (Jvm.Cond.instanceMethod ({ cls := "StruckCounts", name := "told", desc := "(I)LStruckCounts$Told;" } : Jvm.MethodName)) ∈ lw_all := lw_g (lw_at lw_m8 104 rfl) rfl
theorem q1940 : (Jvm.Cond.code ({ cls := "StruckCounts", name := "told", desc := "(I)LStruckCounts$Told;" } : Jvm.MethodName) prog_1_method_16_code (3 : Nat) (Option.some (Jvm.ClassFile.FieldType.object "StruckCounts$Told"))) ∈ lw_all := lw_g (lw_at lw_m8 105 rfl) rfl
theorem q1941 : (Jvm.Cond.methodLink "StruckCounts" (159 : Nat) ({ cls := "java/util/ArrayList", name := "size", desc := "()I" } : Jvm.MethodName)) ∈ lw_all := lw_g (lw_at lw_m8 106 rfl) rfl
theorem q1942 : (Jvm.Cond.methodLink "StruckCounts" (167 : Nat) ({ cls := "java/util/ArrayList", name := "get", desc := "(I)Ljava/lang/Object;" } : Jvm.MethodName)) ∈ lw_all := lw_g (lw_at lw_m8 107 rfl) rfl
theorem q1943 : (Jvm.Cond.classLink "StruckCounts" (171 : Nat) "StruckCounts$Told") ∈ lw_all := lw_g (lw_at lw_m8 108 rfl) rfl
theorem q1944 : (Jvm.Cond.methodLink "StruckCounts" (254 : Nat) ({ cls := "StruckCounts", name := "failing", desc := "(I)I" } : Jvm.MethodName)) ∈ lw_all := lw_g (lw_at lw_m8 109 rfl) rfl
theorem q1945 : (Jvm.Cond.privateMethod ({ cls := "StruckCounts", name := "failing", desc := "(I)I" } : Jvm.MethodName)) ∈ lw_tbl := lw_at lw_m8 110 rfl
theorem q1946 : (Jvm.Cond.instanceMethod ({ cls := "StruckCounts", name := "failing", desc := "(I)I" } : Jvm.MethodName)) ∈ lw_all := lw_g (lw_at lw_m8 111 rfl) rfl
theorem q1947 : (Jvm.Cond.code ({ cls := "StruckCounts", name := "failing", desc := "(I)I" } : Jvm.MethodName) prog_1_method_25_code (2 : Nat) (Option.some Jvm.ClassFile.FieldType.int)) ∈ lw_all := lw_g (lw_at lw_m8 112 rfl) rfl
theorem q1948 : (Jvm.Cond.methodLink "StruckCounts" (250 : Nat) ({ cls := "StruckCounts", name := "failing", desc := "(III)I" } : Jvm.MethodName)) ∈ lw_all := lw_g (lw_at lw_m8 113 rfl) rfl
theorem q1949 : (Jvm.Cond.privateMethod ({ cls := "StruckCounts", name := "failing", desc := "(III)I" } : Jvm.MethodName)) ∈ lw_tbl := lw_at lw_m8 114 rfl
theorem q1950 : (Jvm.Cond.instanceMethod ({ cls := "StruckCounts", name := "failing", desc := "(III)I" } : Jvm.MethodName)) ∈ lw_all := lw_g (lw_at lw_m8 115 rfl) rfl
theorem q1951 : (Jvm.Cond.code ({ cls := "StruckCounts", name := "failing", desc := "(III)I" } : Jvm.MethodName) prog_1_method_24_code (5 : Nat) (Option.some Jvm.ClassFile.FieldType.int)) ∈ lw_all := lw_g (lw_at lw_m8 116 rfl) rfl
theorem q1952 : (Jvm.Cond.methodLink "StruckCounts" (227 : Nat) ({ cls := "StruckCounts", name := "isLeft", desc := "(II)Z" } : Jvm.MethodName)) ∈ lw_all := lw_g (lw_at lw_m8 117 rfl) rfl
theorem q1953 : (Jvm.Cond.privateMethod ({ cls := "StruckCounts", name := "isLeft", desc := "(II)Z" } : Jvm.MethodName)) ∈ lw_tbl := lw_at lw_m8 118 rfl
theorem q1954 : (Jvm.Cond.instanceMethod ({ cls := "StruckCounts", name := "isLeft", desc := "(II)Z" } : Jvm.MethodName)) ∈ lw_all := lw_g (lw_at lw_m8 119 rfl) rfl
theorem q1955 : (Jvm.Cond.code ({ cls := "StruckCounts", name := "isLeft", desc := "(II)Z" } : Jvm.MethodName) prog_1_method_13_code (4 : Nat) (Option.some Jvm.ClassFile.FieldType.boolean)) ∈ lw_all := lw_g (lw_at lw_m8 120 rfl) rfl
theorem q1956 : (Jvm.Cond.methodLink "StruckCounts" (142 : Nat) ({ cls := "StruckCounts$Suit", name := "sets", desc := "()I" } : Jvm.MethodName)) ∈ lw_all := lw_g (lw_at lw_m8 121 rfl) rfl
theorem q1957 : (Jvm.Cond.methodLink "StruckCounts" (146 : Nat) ({ cls := "StruckCounts", name := "agrees", desc := "(III)Z" } : Jvm.MethodName)) ∈ lw_all := lw_g (lw_at lw_m8 122 rfl) rfl
theorem q1958 : (Jvm.Cond.privateMethod ({ cls := "StruckCounts", name := "agrees", desc := "(III)Z" } : Jvm.MethodName)) ∈ lw_tbl := lw_at lw_m8 123 rfl
theorem q1959 : (Jvm.Cond.instanceMethod ({ cls := "StruckCounts", name := "agrees", desc := "(III)Z" } : Jvm.MethodName)) ∈ lw_all := lw_g (lw_at lw_m8 124 rfl) rfl
theorem q1960 : (Jvm.Cond.code ({ cls := "StruckCounts", name := "agrees", desc := "(III)Z" } : Jvm.MethodName) prog_1_method_12_code (4 : Nat) (Option.some Jvm.ClassFile.FieldType.boolean)) ∈ lw_all := lw_g (lw_at lw_m8 125 rfl) rfl
theorem q1961 : (Jvm.Cond.methodLink "StruckCounts" (230 : Nat) ({ cls := "StruckCounts", name := "areSure", desc := "(Ljava/util/ArrayList;II)Z" } : Jvm.MethodName)) ∈ lw_all := lw_g (lw_at lw_m8 126 rfl) rfl
theorem q1962 : (Jvm.Cond.privateMethod ({ cls := "StruckCounts", name := "areSure", desc := "(Ljava/util/ArrayList;II)Z" } : Jvm.MethodName)) ∈ lw_tbl := lw_at lw_m8 127 rfl
theorem q1963 : (Jvm.Cond.instanceMethod ({ cls := "StruckCounts", name := "areSure", desc := "(Ljava/util/ArrayList;II)Z" } : Jvm.MethodName)) ∈ lw_all := lw_g (lw_at lw_m8 128 rfl) rfl
theorem q1964 : (Jvm.Cond.code ({ cls := "StruckCounts", name := "areSure", desc := "(Ljava/util/ArrayList;II)Z" } : Jvm.MethodName) prog_1_method_21_code (5 : Nat) (Option.some Jvm.ClassFile.FieldType.boolean)) ∈ lw_all := lw_g (lw_at lw_m8 129 rfl) rfl
theorem q1965 : (Jvm.Cond.classLink "StruckCounts" (173 : Nat) "StruckCounts$Rule") ∈ lw_all := lw_g (lw_at lw_m8 130 rfl) rfl
theorem q1966 : (Jvm.Cond.methodLink "StruckCounts" (216 : Nat) ({ cls := "StruckCounts", name := "holdsIn", desc := "([ZII)I" } : Jvm.MethodName)) ∈ lw_all := lw_g (lw_at lw_m8 131 rfl) rfl
theorem q1967 : (Jvm.Cond.privateMethod ({ cls := "StruckCounts", name := "holdsIn", desc := "([ZII)I" } : Jvm.MethodName)) ∈ lw_tbl := lw_at lw_m8 132 rfl
theorem q1968 : (Jvm.Cond.instanceMethod ({ cls := "StruckCounts", name := "holdsIn", desc := "([ZII)I" } : Jvm.MethodName)) ∈ lw_all := lw_g (lw_at lw_m8 133 rfl) rfl
theorem q1969 : (Jvm.Cond.code ({ cls := "StruckCounts", name := "holdsIn", desc := "([ZII)I" } : Jvm.MethodName) prog_1_method_15_code (7 : Nat) (Option.some Jvm.ClassFile.FieldType.int)) ∈ lw_all := lw_g (lw_at lw_m8 134 rfl) rfl
theorem q1970 : (Jvm.Cond.methodLink "StruckCounts" (234 : Nat) ({ cls := "StruckCounts", name := "isAway", desc := "(Ljava/util/ArrayList;)Z" } : Jvm.MethodName)) ∈ lw_all := lw_g (lw_at lw_m8 135 rfl) rfl
theorem q1971 : (Jvm.Cond.privateMethod ({ cls := "StruckCounts", name := "isAway", desc := "(Ljava/util/ArrayList;)Z" } : Jvm.MethodName)) ∈ lw_tbl := lw_at lw_m8 136 rfl
theorem q1972 : (Jvm.Cond.instanceMethod ({ cls := "StruckCounts", name := "isAway", desc := "(Ljava/util/ArrayList;)Z" } : Jvm.MethodName)) ∈ lw_all := lw_g (lw_at lw_m8 137 rfl) rfl
theorem q1973 : (Jvm.Cond.code ({ cls := "StruckCounts", name := "isAway", desc := "(Ljava/util/ArrayList;)Z" } : Jvm.MethodName) prog_1_method_22_code (3 : Nat) (Option.some Jvm.ClassFile.FieldType.boolean)) ∈ lw_all := lw_g (lw_at lw_m8 138 rfl) rfl
theorem q1974 : (Jvm.Cond.methodLink "StruckCounts" (238 : Nat) ({ cls := "StruckCounts", name := "isBarred", desc := "(Ljava/util/ArrayList;II)Z" } : Jvm.MethodName)) ∈ lw_all := lw_g (lw_at lw_m8 139 rfl) rfl
theorem q1975 : (Jvm.Cond.privateMethod ({ cls := "StruckCounts", name := "isBarred", desc := "(Ljava/util/ArrayList;II)Z" } : Jvm.MethodName)) ∈ lw_tbl := lw_at lw_m8 140 rfl
theorem q1976 : (Jvm.Cond.instanceMethod ({ cls := "StruckCounts", name := "isBarred", desc := "(Ljava/util/ArrayList;II)Z" } : Jvm.MethodName)) ∈ lw_all := lw_g (lw_at lw_m8 141 rfl) rfl
theorem q1977 : (Jvm.Cond.code ({ cls := "StruckCounts", name := "isBarred", desc := "(Ljava/util/ArrayList;II)Z" } : Jvm.MethodName) prog_1_method_23_code (6 : Nat) (Option.some Jvm.ClassFile.FieldType.boolean)) ∈ lw_all := lw_g (lw_at lw_m8 142 rfl) rfl
theorem q1978 : (Jvm.Cond.methodLink "StruckCounts" (296 : Nat) ({ cls := "StruckCounts", name := "laysInjuries", desc := "()V" } : Jvm.MethodName)) ∈ lw_all := lw_g (lw_at lw_m8 143 rfl) rfl
theorem q1979 : (Jvm.Cond.privateMethod ({ cls := "StruckCounts", name := "laysInjuries", desc := "()V" } : Jvm.MethodName)) ∈ lw_tbl := lw_at lw_m8 144 rfl
theorem q1980 : (Jvm.Cond.instanceMethod ({ cls := "StruckCounts", name := "laysInjuries", desc := "()V" } : Jvm.MethodName)) ∈ lw_all := lw_g (lw_at lw_m8 145 rfl) rfl
theorem q1981 : (Jvm.Cond.code ({ cls := "StruckCounts", name := "laysInjuries", desc := "()V" } : Jvm.MethodName) prog_1_method_28_code (5 : Nat) (Option.none : Option Jvm.ClassFile.FieldType)) ∈ lw_all := lw_g (lw_at lw_m8 146 rfl) rfl
theorem q1982 : (Jvm.Cond.methodLink "StruckCounts" (274 : Nat) ({ cls := "StruckCounts", name := "areSame", desc := "(II)Z" } : Jvm.MethodName)) ∈ lw_all := lw_g (lw_at lw_m8 147 rfl) rfl
theorem q1983 : (Jvm.Cond.privateMethod ({ cls := "StruckCounts", name := "areSame", desc := "(II)Z" } : Jvm.MethodName)) ∈ lw_tbl := lw_at lw_m8 148 rfl
theorem q1984 : (Jvm.Cond.instanceMethod ({ cls := "StruckCounts", name := "areSame", desc := "(II)Z" } : Jvm.MethodName)) ∈ lw_all := lw_g (lw_at lw_m8 149 rfl) rfl
theorem q1985 : (Jvm.Cond.code ({ cls := "StruckCounts", name := "areSame", desc := "(II)Z" } : Jvm.MethodName) prog_1_method_27_code (3 : Nat) (Option.some Jvm.ClassFile.FieldType.boolean)) ∈ lw_all := lw_g (lw_at lw_m8 150 rfl) rfl
theorem q1986 : (Jvm.Cond.methodLink "StruckCounts" (256 : Nat) ({ cls := "java/lang/Math", name := "max", desc := "(II)I" } : Jvm.MethodName)) ∈ lw_all := lw_g (lw_at lw_m8 151 rfl) rfl
theorem q1987 : (Jvm.Cond.classLink "StruckCounts" (263 : Nat) "StruckCounts$Couple") ∈ lw_all := lw_g (lw_at lw_m8 152 rfl) rfl
theorem q1988 : (Jvm.Cond.methodLink "StruckCounts" (265 : Nat) ({ cls := "StruckCounts$Couple", name := "<init>", desc := "(II)V" } : Jvm.MethodName)) ∈ lw_all := lw_g (lw_at lw_m8 153 rfl) rfl
theorem q1989 : (Jvm.Cond.methodLink "StruckCounts" (268 : Nat) ({ cls := "java/util/HashSet", name := "contains", desc := "(Ljava/lang/Object;)Z" } : Jvm.MethodName)) ∈ lw_all := lw_g (lw_at lw_m8 154 rfl) rfl
theorem q1991 : (Jvm.Cond.instanceMethod ({ cls := "StruckCounts", name := "element", desc := "(III)I" } : Jvm.MethodName)) ∈ lw_all := lw_g (lw_at lw_m8 156 rfl) rfl
theorem q1992 : (Jvm.Cond.selects "StruckCounts" ({ cls := "StruckCounts", name := "element", desc := "(III)I" } : Jvm.MethodName) ({ cls := "StruckCounts", name := "element", desc := "(III)I" } : Jvm.MethodName)) ∈ lw_all := lw_g (lw_at lw_m8 157 rfl) rfl
theorem q1993 : (Jvm.Cond.code ({ cls := "StruckCounts", name := "element", desc := "(III)I" } : Jvm.MethodName) prog_1_method_33_code (4 : Nat) (Option.some Jvm.ClassFile.FieldType.int)) ∈ lw_all := lw_g (lw_at lw_m8 158 rfl) rfl
theorem q1994 : (Jvm.Cond.methodLink "StruckCounts" (308 : Nat) ({ cls := "StruckCounts", name := "looks", desc := "(Ljava/util/ArrayList;III)I" } : Jvm.MethodName)) ∈ lw_all := lw_g (lw_at lw_m8 159 rfl) rfl
theorem q1995 : (Jvm.Cond.privateMethod ({ cls := "StruckCounts", name := "looks", desc := "(Ljava/util/ArrayList;III)I" } : Jvm.MethodName)) ∈ lw_tbl := lw_at lw_m8 160 rfl
theorem q1996 : (Jvm.Cond.instanceMethod ({ cls := "StruckCounts", name := "looks", desc := "(Ljava/util/ArrayList;III)I" } : Jvm.MethodName)) ∈ lw_all := lw_g (lw_at lw_m8 161 rfl) rfl
theorem q1997 : (Jvm.Cond.code ({ cls := "StruckCounts", name := "looks", desc := "(Ljava/util/ArrayList;III)I" } : Jvm.MethodName) prog_1_method_32_code (6 : Nat) (Option.some Jvm.ClassFile.FieldType.int)) ∈ lw_all := lw_g (lw_at lw_m8 162 rfl) rfl
theorem q1998 : (Jvm.Cond.interfaceEntry "StruckCounts" (303 : Nat)) ∈ lw_tbl := lw_at lw_m8 163 rfl
theorem q1999 : (Jvm.Cond.methodLink "StruckCounts" (303 : Nat) ({ cls := "StruckCounts$Expr", name := "seen", desc := "(II)I" } : Jvm.MethodName)) ∈ lw_all := lw_g (lw_at lw_m8 164 rfl) rfl
theorem q2043 : (Jvm.Cond.instanceMethod ({ cls := "StruckCounts", name := "bar", desc := "(III)I" } : Jvm.MethodName)) ∈ lw_all := lw_g (lw_at lw_m8 208 rfl) rfl
theorem q2044 : (Jvm.Cond.selects "StruckCounts" ({ cls := "StruckCounts", name := "bar", desc := "(III)I" } : Jvm.MethodName) ({ cls := "StruckCounts", name := "bar", desc := "(III)I" } : Jvm.MethodName)) ∈ lw_all := lw_g (lw_at lw_m8 209 rfl) rfl
theorem q2045 : (Jvm.Cond.code ({ cls := "StruckCounts", name := "bar", desc := "(III)I" } : Jvm.MethodName) prog_1_method_34_code (4 : Nat) (Option.some Jvm.ClassFile.FieldType.int)) ∈ lw_all := lw_g (lw_at lw_m8 210 rfl) rfl
theorem q2047 : (Jvm.Cond.instanceMethod ({ cls := "StruckCounts", name := "answer", desc := "(II)I" } : Jvm.MethodName)) ∈ lw_all := lw_g (lw_at lw_m8 212 rfl) rfl
theorem q2048 : (Jvm.Cond.selects "StruckCounts" ({ cls := "StruckCounts", name := "answer", desc := "(II)I" } : Jvm.MethodName) ({ cls := "StruckCounts", name := "answer", desc := "(II)I" } : Jvm.MethodName)) ∈ lw_all := lw_g (lw_at lw_m8 213 rfl) rfl
theorem q2049 : (Jvm.Cond.code ({ cls := "StruckCounts", name := "answer", desc := "(II)I" } : Jvm.MethodName) prog_1_method_37_code (3 : Nat) (Option.some Jvm.ClassFile.FieldType.int)) ∈ lw_all := lw_g (lw_at lw_m8 214 rfl) rfl
theorem q2050 : (Jvm.Cond.methodLink "StruckCounts" (320 : Nat) ({ cls := "StruckCounts", name := "mayKnow", desc := "(IZ)Z" } : Jvm.MethodName)) ∈ lw_all := lw_g (lw_at lw_m8 215 rfl) rfl
theorem q2051 : (Jvm.Cond.privateMethod ({ cls := "StruckCounts", name := "mayKnow", desc := "(IZ)Z" } : Jvm.MethodName)) ∈ lw_tbl := lw_at lw_m8 216 rfl
theorem q2052 : (Jvm.Cond.instanceMethod ({ cls := "StruckCounts", name := "mayKnow", desc := "(IZ)Z" } : Jvm.MethodName)) ∈ lw_all := lw_g (lw_at lw_m8 217 rfl) rfl
theorem q2053 : (Jvm.Cond.code ({ cls := "StruckCounts", name := "mayKnow", desc := "(IZ)Z" } : Jvm.MethodName) prog_1_method_36_code (3 : Nat) (Option.some Jvm.ClassFile.FieldType.boolean)) ∈ lw_all := lw_g (lw_at lw_m8 218 rfl) rfl
theorem q2054 : (Jvm.Cond.methodLink "StruckCounts" (324 : Nat) ({ cls := "StruckCounts", name := "keeps", desc := "()V" } : Jvm.MethodName)) ∈ lw_all := lw_g (lw_at lw_m8 219 rfl) rfl
theorem q2055 : (Jvm.Cond.privateMethod ({ cls := "StruckCounts", name := "keeps", desc := "()V" } : Jvm.MethodName)) ∈ lw_tbl := lw_at lw_m8 220 rfl
theorem q2056 : (Jvm.Cond.instanceMethod ({ cls := "StruckCounts", name := "keeps", desc := "()V" } : Jvm.MethodName)) ∈ lw_all := lw_g (lw_at lw_m8 221 rfl) rfl
theorem q2057 : (Jvm.Cond.code ({ cls := "StruckCounts", name := "keeps", desc := "()V" } : Jvm.MethodName) prog_1_method_35_code (3 : Nat) (Option.none : Option Jvm.ClassFile.FieldType)) ∈ lw_all := lw_g (lw_at lw_m8 222 rfl) rfl
theorem q2058 : (Jvm.Cond.methodLink "StruckCounts" (312 : Nat) ({ cls := "StruckCounts$State", name := "be", desc := "(LStruckCounts$State;)V" } : Jvm.MethodName)) ∈ lw_all := lw_g (lw_at lw_m8 223 rfl) rfl
theorem q2066 : (Jvm.Cond.methodLink "StruckCounts" (327 : Nat) ({ cls := "StruckCounts$State", name := "knows", desc := "(IZI)V" } : Jvm.MethodName)) ∈ lw_all := lw_g (lw_at lw_m8 231 rfl) rfl
theorem q2070 : (Jvm.Cond.methodLink "StruckCounts" (331 : Nat) ({ cls := "StruckCounts$State", name := "answered", desc := "(I)I" } : Jvm.MethodName)) ∈ lw_all := lw_g (lw_at lw_m8 235 rfl) rfl
theorem q2075 : (Jvm.Cond.instanceMethod ({ cls := "StruckCounts", name := "withdraw", desc := "(I)I" } : Jvm.MethodName)) ∈ lw_all := lw_g (lw_at lw_m9 0 rfl) rfl
theorem q2076 : (Jvm.Cond.selects "StruckCounts" ({ cls := "StruckCounts", name := "withdraw", desc := "(I)I" } : Jvm.MethodName) ({ cls := "StruckCounts", name := "withdraw", desc := "(I)I" } : Jvm.MethodName)) ∈ lw_all := lw_g (lw_at lw_m9 1 rfl) rfl
theorem q2077 : (Jvm.Cond.code ({ cls := "StruckCounts", name := "withdraw", desc := "(I)I" } : Jvm.MethodName) prog_1_method_38_code (2 : Nat) (Option.some Jvm.ClassFile.FieldType.int)) ∈ lw_all := lw_g (lw_at lw_m9 2 rfl) rfl
theorem q2079 : (Jvm.Cond.instanceMethod ({ cls := "StruckCounts", name := "close", desc := "()I" } : Jvm.MethodName)) ∈ lw_all := lw_g (lw_at lw_m9 4 rfl) rfl
theorem q2080 : (Jvm.Cond.selects "StruckCounts" ({ cls := "StruckCounts", name := "close", desc := "()I" } : Jvm.MethodName) ({ cls := "StruckCounts", name := "close", desc := "()I" } : Jvm.MethodName)) ∈ lw_all := lw_g (lw_at lw_m9 5 rfl) rfl
theorem q2081 : (Jvm.Cond.code ({ cls := "StruckCounts", name := "close", desc := "()I" } : Jvm.MethodName) prog_1_method_40_code (5 : Nat) (Option.some Jvm.ClassFile.FieldType.int)) ∈ lw_all := lw_g (lw_at lw_m9 6 rfl) rfl
theorem q2082 : (Jvm.Cond.methodLink "StruckCounts" (334 : Nat) ({ cls := "StruckCounts", name := "firstSayer", desc := "(I)I" } : Jvm.MethodName)) ∈ lw_all := lw_g (lw_at lw_m9 7 rfl) rfl
theorem q2083 : (Jvm.Cond.privateMethod ({ cls := "StruckCounts", name := "firstSayer", desc := "(I)I" } : Jvm.MethodName)) ∈ lw_tbl := lw_at lw_m9 8 rfl
theorem q2084 : (Jvm.Cond.instanceMethod ({ cls := "StruckCounts", name := "firstSayer", desc := "(I)I" } : Jvm.MethodName)) ∈ lw_all := lw_g (lw_at lw_m9 9 rfl) rfl
theorem q2085 : (Jvm.Cond.code ({ cls := "StruckCounts", name := "firstSayer", desc := "(I)I" } : Jvm.MethodName) prog_1_method_39_code (3 : Nat) (Option.some Jvm.ClassFile.FieldType.int)) ∈ lw_all := lw_g (lw_at lw_m9 10 rfl) rfl
theorem q2087 : (Jvm.Cond.instanceMethod ({ cls := "StruckCounts", name := "find", desc := "(IZ)I" } : Jvm.MethodName)) ∈ lw_all := lw_g (lw_at lw_m9 12 rfl) rfl
theorem q2088 : (Jvm.Cond.selects "StruckCounts" ({ cls := "StruckCounts", name := "find", desc := "(IZ)I" } : Jvm.MethodName) ({ cls := "StruckCounts", name := "find", desc := "(IZ)I" } : Jvm.MethodName)) ∈ lw_all := lw_g (lw_at lw_m9 13 rfl) rfl
theorem q2089 : (Jvm.Cond.code ({ cls := "StruckCounts", name := "find", desc := "(IZ)I" } : Jvm.MethodName) prog_1_method_41_code (3 : Nat) (Option.some Jvm.ClassFile.FieldType.int)) ∈ lw_all := lw_g (lw_at lw_m9 14 rfl) rfl
theorem q2091 : (Jvm.Cond.instanceMethod ({ cls := "StruckCounts", name := "say", desc := "(III)I" } : Jvm.MethodName)) ∈ lw_all := lw_g (lw_at lw_m9 16 rfl) rfl
theorem q2092 : (Jvm.Cond.selects "StruckCounts" ({ cls := "StruckCounts", name := "say", desc := "(III)I" } : Jvm.MethodName) ({ cls := "StruckCounts", name := "say", desc := "(III)I" } : Jvm.MethodName)) ∈ lw_all := lw_g (lw_at lw_m9 17 rfl) rfl
theorem q2093 : (Jvm.Cond.code ({ cls := "StruckCounts", name := "say", desc := "(III)I" } : Jvm.MethodName) prog_1_method_43_code (5 : Nat) (Option.some Jvm.ClassFile.FieldType.int)) ∈ lw_all := lw_g (lw_at lw_m9 18 rfl) rfl
theorem q2094 : (Jvm.Cond.methodLink "StruckCounts" (337 : Nat) ({ cls := "StruckCounts", name := "saysSo", desc := "(III)Z" } : Jvm.MethodName)) ∈ lw_all := lw_g (lw_at lw_m9 19 rfl) rfl
theorem q2095 : (Jvm.Cond.privateMethod ({ cls := "StruckCounts", name := "saysSo", desc := "(III)Z" } : Jvm.MethodName)) ∈ lw_tbl := lw_at lw_m9 20 rfl
theorem q2096 : (Jvm.Cond.instanceMethod ({ cls := "StruckCounts", name := "saysSo", desc := "(III)Z" } : Jvm.MethodName)) ∈ lw_all := lw_g (lw_at lw_m9 21 rfl) rfl
theorem q2097 : (Jvm.Cond.code ({ cls := "StruckCounts", name := "saysSo", desc := "(III)Z" } : Jvm.MethodName) prog_1_method_42_code (4 : Nat) (Option.some Jvm.ClassFile.FieldType.boolean)) ∈ lw_all := lw_g (lw_at lw_m9 22 rfl) rfl
theorem q2099 : (Jvm.Cond.instanceMethod ({ cls := "StruckCounts", name := "add", desc := "(III)I" } : Jvm.MethodName)) ∈ lw_all := lw_g (lw_at lw_m9 24 rfl) rfl
theorem q2100 : (Jvm.Cond.selects "StruckCounts" ({ cls := "StruckCounts", name := "add", desc := "(III)I" } : Jvm.MethodName) ({ cls := "StruckCounts", name := "add", desc := "(III)I" } : Jvm.MethodName)) ∈ lw_all := lw_g (lw_at lw_m9 25 rfl) rfl
theorem q2101 : (Jvm.Cond.code ({ cls := "StruckCounts", name := "add", desc := "(III)I" } : Jvm.MethodName) prog_1_method_44_code (4 : Nat) (Option.some Jvm.ClassFile.FieldType.int)) ∈ lw_all := lw_g (lw_at lw_m9 26 rfl) rfl
theorem q2102 : (Jvm.Cond.methodLink "StruckCounts" (343 : Nat) ({ cls := "StruckCounts$State", name := "lays", desc := "(IIIII)V" } : Jvm.MethodName)) ∈ lw_all := lw_g (lw_at lw_m9 27 rfl) rfl
theorem q2104 : (Jvm.Cond.instanceMethod ({ cls := "StruckCounts", name := "strike", desc := "(I)I" } : Jvm.MethodName)) ∈ lw_all := lw_g (lw_at lw_m9 29 rfl) rfl
theorem q2105 : (Jvm.Cond.selects "StruckCounts" ({ cls := "StruckCounts", name := "strike", desc := "(I)I" } : Jvm.MethodName) ({ cls := "StruckCounts", name := "strike", desc := "(I)I" } : Jvm.MethodName)) ∈ lw_all := lw_g (lw_at lw_m9 30 rfl) rfl
theorem q2106 : (Jvm.Cond.code ({ cls := "StruckCounts", name := "strike", desc := "(I)I" } : Jvm.MethodName) prog_1_method_45_code (2 : Nat) (Option.some Jvm.ClassFile.FieldType.int)) ∈ lw_all := lw_g (lw_at lw_m9 31 rfl) rfl
theorem q2108 : (Jvm.Cond.instanceMethod ({ cls := "StruckCounts", name := "days", desc := "(I)I" } : Jvm.MethodName)) ∈ lw_all := lw_g (lw_at lw_m9 33 rfl) rfl
theorem q2109 : (Jvm.Cond.selects "StruckCounts" ({ cls := "StruckCounts", name := "days", desc := "(I)I" } : Jvm.MethodName) ({ cls := "StruckCounts", name := "days", desc := "(I)I" } : Jvm.MethodName)) ∈ lw_all := lw_g (lw_at lw_m9 34 rfl) rfl
theorem q2110 : (Jvm.Cond.code ({ cls := "StruckCounts", name := "days", desc := "(I)I" } : Jvm.MethodName) prog_1_method_46_code (2 : Nat) (Option.some Jvm.ClassFile.FieldType.int)) ∈ lw_all := lw_g (lw_at lw_m9 35 rfl) rfl
theorem q2112 : (Jvm.Cond.instanceMethod ({ cls := "StruckCounts", name := "undo", desc := "()I" } : Jvm.MethodName)) ∈ lw_all := lw_g (lw_at lw_m9 37 rfl) rfl
theorem q2113 : (Jvm.Cond.selects "StruckCounts" ({ cls := "StruckCounts", name := "undo", desc := "()I" } : Jvm.MethodName) ({ cls := "StruckCounts", name := "undo", desc := "()I" } : Jvm.MethodName)) ∈ lw_all := lw_g (lw_at lw_m9 38 rfl) rfl
theorem q2114 : (Jvm.Cond.code ({ cls := "StruckCounts", name := "undo", desc := "()I" } : Jvm.MethodName) prog_1_method_47_code (1 : Nat) (Option.some Jvm.ClassFile.FieldType.int)) ∈ lw_all := lw_g (lw_at lw_m9 39 rfl) rfl
theorem q2116 : (Jvm.Cond.instanceMethod ({ cls := "StruckCounts", name := "keep", desc := "(I)Z" } : Jvm.MethodName)) ∈ lw_all := lw_g (lw_at lw_m9 41 rfl) rfl
theorem q2117 : (Jvm.Cond.selects "StruckCounts" ({ cls := "StruckCounts", name := "keep", desc := "(I)Z" } : Jvm.MethodName) ({ cls := "StruckCounts", name := "keep", desc := "(I)Z" } : Jvm.MethodName)) ∈ lw_all := lw_g (lw_at lw_m9 42 rfl) rfl
theorem q2118 : (Jvm.Cond.code ({ cls := "StruckCounts", name := "keep", desc := "(I)Z" } : Jvm.MethodName) prog_1_method_48_code (2 : Nat) (Option.some Jvm.ClassFile.FieldType.boolean)) ∈ lw_all := lw_g (lw_at lw_m9 43 rfl) rfl
theorem q2120 : (Jvm.Cond.instanceMethod ({ cls := "StruckCounts", name := "again", desc := "(I)Z" } : Jvm.MethodName)) ∈ lw_all := lw_g (lw_at lw_m9 45 rfl) rfl
theorem q2121 : (Jvm.Cond.selects "StruckCounts" ({ cls := "StruckCounts", name := "again", desc := "(I)Z" } : Jvm.MethodName) ({ cls := "StruckCounts", name := "again", desc := "(I)Z" } : Jvm.MethodName)) ∈ lw_all := lw_g (lw_at lw_m9 46 rfl) rfl
theorem q2122 : (Jvm.Cond.code ({ cls := "StruckCounts", name := "again", desc := "(I)Z" } : Jvm.MethodName) prog_1_method_49_code (2 : Nat) (Option.some Jvm.ClassFile.FieldType.boolean)) ∈ lw_all := lw_g (lw_at lw_m9 47 rfl) rfl
theorem q2124 : (Jvm.Cond.instanceMethod ({ cls := "StruckCounts", name := "worlds", desc := "(I)I" } : Jvm.MethodName)) ∈ lw_all := lw_g (lw_at lw_m9 49 rfl) rfl
theorem q2125 : (Jvm.Cond.selects "StruckCounts" ({ cls := "StruckCounts", name := "worlds", desc := "(I)I" } : Jvm.MethodName) ({ cls := "StruckCounts", name := "worlds", desc := "(I)I" } : Jvm.MethodName)) ∈ lw_all := lw_g (lw_at lw_m9 50 rfl) rfl
theorem q2126 : (Jvm.Cond.code ({ cls := "StruckCounts", name := "worlds", desc := "(I)I" } : Jvm.MethodName) prog_1_method_50_code (4 : Nat) (Option.some Jvm.ClassFile.FieldType.int)) ∈ lw_all := lw_g (lw_at lw_m9 51 rfl) rfl
theorem q2127 : (Jvm.Cond.methodLink "StruckCounts" (347 : Nat) ({ cls := "StruckCounts", name := "isNow", desc := "(I)Z" } : Jvm.MethodName)) ∈ lw_all := lw_g (lw_at lw_m9 52 rfl) rfl
theorem q2128 : (Jvm.Cond.privateMethod ({ cls := "StruckCounts", name := "isNow", desc := "(I)Z" } : Jvm.MethodName)) ∈ lw_tbl := lw_at lw_m9 53 rfl
theorem q2129 : (Jvm.Cond.instanceMethod ({ cls := "StruckCounts", name := "isNow", desc := "(I)Z" } : Jvm.MethodName)) ∈ lw_all := lw_g (lw_at lw_m9 54 rfl) rfl
theorem q2130 : (Jvm.Cond.code ({ cls := "StruckCounts", name := "isNow", desc := "(I)Z" } : Jvm.MethodName) prog_1_method_14_code (2 : Nat) (Option.some Jvm.ClassFile.FieldType.boolean)) ∈ lw_all := lw_g (lw_at lw_m9 55 rfl) rfl
theorem q2132 : (Jvm.Cond.instanceMethod ({ cls := "StruckCounts", name := "clash", desc := "(II)I" } : Jvm.MethodName)) ∈ lw_all := lw_g (lw_at lw_m9 57 rfl) rfl
theorem q2133 : (Jvm.Cond.selects "StruckCounts" ({ cls := "StruckCounts", name := "clash", desc := "(II)I" } : Jvm.MethodName) ({ cls := "StruckCounts", name := "clash", desc := "(II)I" } : Jvm.MethodName)) ∈ lw_all := lw_g (lw_at lw_m9 58 rfl) rfl
theorem q2134 : (Jvm.Cond.code ({ cls := "StruckCounts", name := "clash", desc := "(II)I" } : Jvm.MethodName) prog_1_method_51_code (4 : Nat) (Option.some Jvm.ClassFile.FieldType.int)) ∈ lw_all := lw_g (lw_at lw_m9 59 rfl) rfl
theorem q2136 : (Jvm.Cond.instanceMethod ({ cls := "StruckCounts", name := "implied", desc := "(II)I" } : Jvm.MethodName)) ∈ lw_all := lw_g (lw_at lw_m9 61 rfl) rfl
theorem q2137 : (Jvm.Cond.selects "StruckCounts" ({ cls := "StruckCounts", name := "implied", desc := "(II)I" } : Jvm.MethodName) ({ cls := "StruckCounts", name := "implied", desc := "(II)I" } : Jvm.MethodName)) ∈ lw_all := lw_g (lw_at lw_m9 62 rfl) rfl
theorem q2138 : (Jvm.Cond.code ({ cls := "StruckCounts", name := "implied", desc := "(II)I" } : Jvm.MethodName) prog_1_method_52_code (4 : Nat) (Option.some Jvm.ClassFile.FieldType.int)) ∈ lw_all := lw_g (lw_at lw_m9 63 rfl) rfl
theorem q2139 : (Jvm.Cond.methodLink "StruckCounts" (350 : Nat) ({ cls := "StruckCounts", name := "isWon", desc := "(II)Z" } : Jvm.MethodName)) ∈ lw_all := lw_g (lw_at lw_m9 64 rfl) rfl
theorem q2140 : (Jvm.Cond.privateMethod ({ cls := "StruckCounts", name := "isWon", desc := "(II)Z" } : Jvm.MethodName)) ∈ lw_tbl := lw_at lw_m9 65 rfl
theorem q2141 : (Jvm.Cond.instanceMethod ({ cls := "StruckCounts", name := "isWon", desc := "(II)Z" } : Jvm.MethodName)) ∈ lw_all := lw_g (lw_at lw_m9 66 rfl) rfl
theorem q2142 : (Jvm.Cond.code ({ cls := "StruckCounts", name := "isWon", desc := "(II)Z" } : Jvm.MethodName) prog_1_method_18_code (5 : Nat) (Option.some Jvm.ClassFile.FieldType.boolean)) ∈ lw_all := lw_g (lw_at lw_m9 67 rfl) rfl
theorem q2143 : (Jvm.Cond.methodLink "StruckCounts" (188 : Nat) ({ cls := "StruckCounts", name := "holdsAny", desc := "(Ljava/util/ArrayList;I)Z" } : Jvm.MethodName)) ∈ lw_all := lw_g (lw_at lw_m9 68 rfl) rfl
theorem q2144 : (Jvm.Cond.static ({ cls := "StruckCounts", name := "holdsAny", desc := "(Ljava/util/ArrayList;I)Z" } : Jvm.MethodName)) ∈ lw_all := lw_g (lw_at lw_m9 69 rfl) rfl
theorem q2145 : (Jvm.Cond.code ({ cls := "StruckCounts", name := "holdsAny", desc := "(Ljava/util/ArrayList;I)Z" } : Jvm.MethodName) prog_1_method_17_code (3 : Nat) (Option.some Jvm.ClassFile.FieldType.boolean)) ∈ lw_all := lw_g (lw_at lw_m9 70 rfl) rfl
theorem q2147 : (Jvm.Cond.instanceMethod ({ cls := "StruckCounts", name := "lacks", desc := "(II)I" } : Jvm.MethodName)) ∈ lw_all := lw_g (lw_at lw_m9 72 rfl) rfl
theorem q2148 : (Jvm.Cond.selects "StruckCounts" ({ cls := "StruckCounts", name := "lacks", desc := "(II)I" } : Jvm.MethodName) ({ cls := "StruckCounts", name := "lacks", desc := "(II)I" } : Jvm.MethodName)) ∈ lw_all := lw_g (lw_at lw_m9 73 rfl) rfl
theorem q2149 : (Jvm.Cond.code ({ cls := "StruckCounts", name := "lacks", desc := "(II)I" } : Jvm.MethodName) prog_1_method_55_code (3 : Nat) (Option.some Jvm.ClassFile.FieldType.int)) ∈ lw_all := lw_g (lw_at lw_m9 74 rfl) rfl
theorem q2150 : (Jvm.Cond.methodLink "StruckCounts" (362 : Nat) ({ cls := "StruckCounts", name := "hasLack", desc := "(II)Z" } : Jvm.MethodName)) ∈ lw_all := lw_g (lw_at lw_m9 75 rfl) rfl
theorem q2151 : (Jvm.Cond.privateMethod ({ cls := "StruckCounts", name := "hasLack", desc := "(II)Z" } : Jvm.MethodName)) ∈ lw_tbl := lw_at lw_m9 76 rfl
theorem q2152 : (Jvm.Cond.instanceMethod ({ cls := "StruckCounts", name := "hasLack", desc := "(II)Z" } : Jvm.MethodName)) ∈ lw_all := lw_g (lw_at lw_m9 77 rfl) rfl
theorem q2153 : (Jvm.Cond.code ({ cls := "StruckCounts", name := "hasLack", desc := "(II)Z" } : Jvm.MethodName) prog_1_method_53_code (5 : Nat) (Option.some Jvm.ClassFile.FieldType.boolean)) ∈ lw_all := lw_g (lw_at lw_m9 78 rfl) rfl
theorem q2154 : (Jvm.Cond.methodLink "StruckCounts" (353 : Nat) ({ cls := "StruckCounts", name := "lacksBy", desc := "(II)Z" } : Jvm.MethodName)) ∈ lw_all := lw_g (lw_at lw_m9 79 rfl) rfl
theorem q2155 : (Jvm.Cond.privateMethod ({ cls := "StruckCounts", name := "lacksBy", desc := "(II)Z" } : Jvm.MethodName)) ∈ lw_tbl := lw_at lw_m9 80 rfl
theorem q2156 : (Jvm.Cond.instanceMethod ({ cls := "StruckCounts", name := "lacksBy", desc := "(II)Z" } : Jvm.MethodName)) ∈ lw_all := lw_g (lw_at lw_m9 81 rfl) rfl
theorem q2157 : (Jvm.Cond.code ({ cls := "StruckCounts", name := "lacksBy", desc := "(II)Z" } : Jvm.MethodName) prog_1_method_54_code (4 : Nat) (Option.some Jvm.ClassFile.FieldType.boolean)) ∈ lw_all := lw_g (lw_at lw_m9 82 rfl) rfl
theorem q2159 : (Jvm.Cond.instanceMethod ({ cls := "StruckCounts", name := "grown", desc := "(II)I" } : Jvm.MethodName)) ∈ lw_all := lw_g (lw_at lw_m9 84 rfl) rfl
theorem q2160 : (Jvm.Cond.selects "StruckCounts" ({ cls := "StruckCounts", name := "grown", desc := "(II)I" } : Jvm.MethodName) ({ cls := "StruckCounts", name := "grown", desc := "(II)I" } : Jvm.MethodName)) ∈ lw_all := lw_g (lw_at lw_m9 85 rfl) rfl
theorem q2161 : (Jvm.Cond.codeWith ({ cls := "StruckCounts", name := "grown", desc := "(II)I" } : Jvm.MethodName) prog_1_method_56_code (5 : Nat) (Option.some Jvm.ClassFile.FieldType.int) [((31 : Nat), (55 : Nat), (58 : Nat), (368 : Nat))]) ∈ lw_all := lw_g (lw_at lw_m9 86 rfl) rfl
theorem q2162 : (Jvm.Cond.classLink "StruckCounts" (368 : Nat) "java/lang/ArithmeticException") ∈ lw_all := lw_g (lw_at lw_m9 87 rfl) rfl
theorem q2186 : (Jvm.Cond.methodLink "StruckCounts" (365 : Nat) ({ cls := "java/lang/Math", name := "addExact", desc := "(II)I" } : Jvm.MethodName)) ∈ lw_all := lw_g (lw_at lw_m9 111 rfl) rfl
theorem q2193 : (Jvm.Cond.instanceMethod ({ cls := "StruckCounts", name := "issues", desc := "(I)I" } : Jvm.MethodName)) ∈ lw_all := lw_g (lw_at lw_m9 118 rfl) rfl
theorem q2194 : (Jvm.Cond.selects "StruckCounts" ({ cls := "StruckCounts", name := "issues", desc := "(I)I" } : Jvm.MethodName) ({ cls := "StruckCounts", name := "issues", desc := "(I)I" } : Jvm.MethodName)) ∈ lw_all := lw_g (lw_at lw_m9 119 rfl) rfl
theorem q2195 : (Jvm.Cond.code ({ cls := "StruckCounts", name := "issues", desc := "(I)I" } : Jvm.MethodName) prog_1_method_60_code (6 : Nat) (Option.some Jvm.ClassFile.FieldType.int)) ∈ lw_all := lw_g (lw_at lw_m9 120 rfl) rfl
theorem q2196 : (Jvm.Cond.methodLink "StruckCounts" (373 : Nat) ({ cls := "StruckCounts", name := "laysWon", desc := "(I)V" } : Jvm.MethodName)) ∈ lw_all := lw_g (lw_at lw_m9 121 rfl) rfl
theorem q2197 : (Jvm.Cond.privateMethod ({ cls := "StruckCounts", name := "laysWon", desc := "(I)V" } : Jvm.MethodName)) ∈ lw_tbl := lw_at lw_m9 122 rfl
theorem q2198 : (Jvm.Cond.instanceMethod ({ cls := "StruckCounts", name := "laysWon", desc := "(I)V" } : Jvm.MethodName)) ∈ lw_all := lw_g (lw_at lw_m9 123 rfl) rfl
theorem q2199 : (Jvm.Cond.code ({ cls := "StruckCounts", name := "laysWon", desc := "(I)V" } : Jvm.MethodName) prog_1_method_57_code (3 : Nat) (Option.none : Option Jvm.ClassFile.FieldType)) ∈ lw_all := lw_g (lw_at lw_m9 124 rfl) rfl
theorem q2201 : (Jvm.Cond.instanceMethod ({ cls := "StruckCounts", name := "judged", desc := "(I)I" } : Jvm.MethodName)) ∈ lw_all := lw_g (lw_at lw_m9 126 rfl) rfl
theorem q2202 : (Jvm.Cond.selects "StruckCounts" ({ cls := "StruckCounts", name := "judged", desc := "(I)I" } : Jvm.MethodName) ({ cls := "StruckCounts", name := "judged", desc := "(I)I" } : Jvm.MethodName)) ∈ lw_all := lw_g (lw_at lw_m9 127 rfl) rfl
theorem q2203 : (Jvm.Cond.code ({ cls := "StruckCounts", name := "judged", desc := "(I)I" } : Jvm.MethodName) prog_1_method_61_code (2 : Nat) (Option.some Jvm.ClassFile.FieldType.int)) ∈ lw_all := lw_g (lw_at lw_m9 128 rfl) rfl
theorem q2204 : (Jvm.Cond.methodLink "StruckCounts" (376 : Nat) ({ cls := "StruckCounts", name := "judgedBy", desc := "(II)I" } : Jvm.MethodName)) ∈ lw_all := lw_g (lw_at lw_m9 129 rfl) rfl
theorem q2205 : (Jvm.Cond.privateMethod ({ cls := "StruckCounts", name := "judgedBy", desc := "(II)I" } : Jvm.MethodName)) ∈ lw_tbl := lw_at lw_m9 130 rfl
theorem q2206 : (Jvm.Cond.instanceMethod ({ cls := "StruckCounts", name := "judgedBy", desc := "(II)I" } : Jvm.MethodName)) ∈ lw_all := lw_g (lw_at lw_m9 131 rfl) rfl
theorem q2207 : (Jvm.Cond.code ({ cls := "StruckCounts", name := "judgedBy", desc := "(II)I" } : Jvm.MethodName) prog_1_method_59_code (4 : Nat) (Option.some Jvm.ClassFile.FieldType.int)) ∈ lw_all := lw_g (lw_at lw_m9 132 rfl) rfl
theorem q2208 : (Jvm.Cond.methodLink "StruckCounts" (370 : Nat) ({ cls := "StruckCounts", name := "code", desc := "(II)I" } : Jvm.MethodName)) ∈ lw_all := lw_g (lw_at lw_m9 133 rfl) rfl
theorem q2209 : (Jvm.Cond.static ({ cls := "StruckCounts", name := "code", desc := "(II)I" } : Jvm.MethodName)) ∈ lw_all := lw_g (lw_at lw_m9 134 rfl) rfl
theorem q2210 : (Jvm.Cond.code ({ cls := "StruckCounts", name := "code", desc := "(II)I" } : Jvm.MethodName) prog_1_method_58_code (4 : Nat) (Option.some Jvm.ClassFile.FieldType.int)) ∈ lw_all := lw_g (lw_at lw_m9 135 rfl) rfl
theorem q2212 : (Jvm.Cond.instanceMethod ({ cls := "StruckCounts", name := "tries", desc := "(II)I" } : Jvm.MethodName)) ∈ lw_all := lw_g (lw_at lw_m9 137 rfl) rfl
theorem q2213 : (Jvm.Cond.selects "StruckCounts" ({ cls := "StruckCounts", name := "tries", desc := "(II)I" } : Jvm.MethodName) ({ cls := "StruckCounts", name := "tries", desc := "(II)I" } : Jvm.MethodName)) ∈ lw_all := lw_g (lw_at lw_m9 138 rfl) rfl
theorem q2214 : (Jvm.Cond.code ({ cls := "StruckCounts", name := "tries", desc := "(II)I" } : Jvm.MethodName) prog_1_method_64_code (5 : Nat) (Option.some Jvm.ClassFile.FieldType.int)) ∈ lw_all := lw_g (lw_at lw_m9 139 rfl) rfl
theorem q2215 : (Jvm.Cond.methodLink "StruckCounts" (379 : Nat) ({ cls := "StruckCounts", name := "fewest", desc := "(II)I" } : Jvm.MethodName)) ∈ lw_all := lw_g (lw_at lw_m9 140 rfl) rfl
theorem q2216 : (Jvm.Cond.privateMethod ({ cls := "StruckCounts", name := "fewest", desc := "(II)I" } : Jvm.MethodName)) ∈ lw_tbl := lw_at lw_m9 141 rfl
theorem q2217 : (Jvm.Cond.instanceMethod ({ cls := "StruckCounts", name := "fewest", desc := "(II)I" } : Jvm.MethodName)) ∈ lw_all := lw_g (lw_at lw_m9 142 rfl) rfl
theorem q2218 : (Jvm.Cond.code ({ cls := "StruckCounts", name := "fewest", desc := "(II)I" } : Jvm.MethodName) prog_1_method_63_code (6 : Nat) (Option.some Jvm.ClassFile.FieldType.int)) ∈ lw_all := lw_g (lw_at lw_m9 143 rfl) rfl
theorem q2219 : (Jvm.Cond.methodLink "StruckCounts" (382 : Nat) ({ cls := "StruckCounts", name := "worst", desc := "(III)I" } : Jvm.MethodName)) ∈ lw_all := lw_g (lw_at lw_m9 144 rfl) rfl
theorem q2220 : (Jvm.Cond.privateMethod ({ cls := "StruckCounts", name := "worst", desc := "(III)I" } : Jvm.MethodName)) ∈ lw_tbl := lw_at lw_m9 145 rfl
theorem q2221 : (Jvm.Cond.instanceMethod ({ cls := "StruckCounts", name := "worst", desc := "(III)I" } : Jvm.MethodName)) ∈ lw_all := lw_g (lw_at lw_m9 146 rfl) rfl
theorem q2222 : (Jvm.Cond.code ({ cls := "StruckCounts", name := "worst", desc := "(III)I" } : Jvm.MethodName) prog_1_method_62_code (6 : Nat) (Option.some Jvm.ClassFile.FieldType.int)) ∈ lw_all := lw_g (lw_at lw_m9 147 rfl) rfl
theorem q2224 : (Jvm.Cond.instanceMethod ({ cls := "StruckCounts", name := "chance", desc := "(II)I" } : Jvm.MethodName)) ∈ lw_all := lw_g (lw_at lw_m9 149 rfl) rfl
theorem q2225 : (Jvm.Cond.selects "StruckCounts" ({ cls := "StruckCounts", name := "chance", desc := "(II)I" } : Jvm.MethodName) ({ cls := "StruckCounts", name := "chance", desc := "(II)I" } : Jvm.MethodName)) ∈ lw_all := lw_g (lw_at lw_m9 150 rfl) rfl
theorem q2226 : (Jvm.Cond.code ({ cls := "StruckCounts", name := "chance", desc := "(II)I" } : Jvm.MethodName) prog_1_method_69_code (3 : Nat) (Option.some Jvm.ClassFile.FieldType.int)) ∈ lw_all := lw_g (lw_at lw_m9 151 rfl) rfl
theorem q2227 : (Jvm.Cond.methodLink "StruckCounts" (392 : Nat) ({ cls := "StruckCounts", name := "weightOf", desc := "([Z)I" } : Jvm.MethodName)) ∈ lw_all := lw_g (lw_at lw_m9 152 rfl) rfl
theorem q2228 : (Jvm.Cond.privateMethod ({ cls := "StruckCounts", name := "weightOf", desc := "([Z)I" } : Jvm.MethodName)) ∈ lw_tbl := lw_at lw_m9 153 rfl
theorem q2229 : (Jvm.Cond.instanceMethod ({ cls := "StruckCounts", name := "weightOf", desc := "([Z)I" } : Jvm.MethodName)) ∈ lw_all := lw_g (lw_at lw_m9 154 rfl) rfl
theorem q2230 : (Jvm.Cond.code ({ cls := "StruckCounts", name := "weightOf", desc := "([Z)I" } : Jvm.MethodName) prog_1_method_66_code (4 : Nat) (Option.some Jvm.ClassFile.FieldType.int)) ∈ lw_all := lw_g (lw_at lw_m9 155 rfl) rfl
theorem q2231 : (Jvm.Cond.methodLink "StruckCounts" (396 : Nat) ({ cls := "StruckCounts", name := "weightOfAll", desc := "()I" } : Jvm.MethodName)) ∈ lw_all := lw_g (lw_at lw_m9 156 rfl) rfl
theorem q2232 : (Jvm.Cond.privateMethod ({ cls := "StruckCounts", name := "weightOfAll", desc := "()I" } : Jvm.MethodName)) ∈ lw_tbl := lw_at lw_m9 157 rfl
theorem q2233 : (Jvm.Cond.instanceMethod ({ cls := "StruckCounts", name := "weightOfAll", desc := "()I" } : Jvm.MethodName)) ∈ lw_all := lw_g (lw_at lw_m9 158 rfl) rfl
theorem q2234 : (Jvm.Cond.code ({ cls := "StruckCounts", name := "weightOfAll", desc := "()I" } : Jvm.MethodName) prog_1_method_67_code (1 : Nat) (Option.some Jvm.ClassFile.FieldType.int)) ∈ lw_all := lw_g (lw_at lw_m9 159 rfl) rfl
theorem q2235 : (Jvm.Cond.methodLink "StruckCounts" (399 : Nat) ({ cls := "StruckCounts", name := "lowest", desc := "(JJI)J" } : Jvm.MethodName)) ∈ lw_all := lw_g (lw_at lw_m9 160 rfl) rfl
theorem q2236 : (Jvm.Cond.static ({ cls := "StruckCounts", name := "lowest", desc := "(JJI)J" } : Jvm.MethodName)) ∈ lw_all := lw_g (lw_at lw_m9 161 rfl) rfl
theorem q2237 : (Jvm.Cond.code ({ cls := "StruckCounts", name := "lowest", desc := "(JJI)J" } : Jvm.MethodName) prog_1_method_68_code (7 : Nat) (Option.some Jvm.ClassFile.FieldType.long)) ∈ lw_all := lw_g (lw_at lw_m9 162 rfl) rfl
theorem q2238 : (Jvm.Cond.methodLink "StruckCounts" (385 : Nat) ({ cls := "StruckCounts", name := "common", desc := "(JJ)J" } : Jvm.MethodName)) ∈ lw_all := lw_g (lw_at lw_m9 163 rfl) rfl
theorem q2239 : (Jvm.Cond.static ({ cls := "StruckCounts", name := "common", desc := "(JJ)J" } : Jvm.MethodName)) ∈ lw_all := lw_g (lw_at lw_m9 164 rfl) rfl
theorem q2240 : (Jvm.Cond.code ({ cls := "StruckCounts", name := "common", desc := "(JJ)J" } : Jvm.MethodName) prog_1_method_65_code (4 : Nat) (Option.some Jvm.ClassFile.FieldType.long)) ∈ lw_all := lw_g (lw_at lw_m9 165 rfl) rfl
theorem q2242 : (Jvm.Cond.instanceMethod ({ cls := "StruckCounts", name := "award", desc := "(I)I" } : Jvm.MethodName)) ∈ lw_all := lw_g (lw_at lw_m9 167 rfl) rfl
theorem q2243 : (Jvm.Cond.selects "StruckCounts" ({ cls := "StruckCounts", name := "award", desc := "(I)I" } : Jvm.MethodName) ({ cls := "StruckCounts", name := "award", desc := "(I)I" } : Jvm.MethodName)) ∈ lw_all := lw_g (lw_at lw_m9 168 rfl) rfl
theorem q2244 : (Jvm.Cond.code ({ cls := "StruckCounts", name := "award", desc := "(I)I" } : Jvm.MethodName) prog_1_method_72_code (8 : Nat) (Option.some Jvm.ClassFile.FieldType.int)) ∈ lw_all := lw_g (lw_at lw_m9 169 rfl) rfl
theorem q2245 : (Jvm.Cond.methodLink "StruckCounts" (406 : Nat) ({ cls := "StruckCounts", name := "standing", desc := "()I" } : Jvm.MethodName)) ∈ lw_all := lw_g (lw_at lw_m9 170 rfl) rfl
theorem q2246 : (Jvm.Cond.privateMethod ({ cls := "StruckCounts", name := "standing", desc := "()I" } : Jvm.MethodName)) ∈ lw_tbl := lw_at lw_m9 171 rfl
theorem q2247 : (Jvm.Cond.instanceMethod ({ cls := "StruckCounts", name := "standing", desc := "()I" } : Jvm.MethodName)) ∈ lw_all := lw_g (lw_at lw_m9 172 rfl) rfl
theorem q2248 : (Jvm.Cond.code ({ cls := "StruckCounts", name := "standing", desc := "()I" } : Jvm.MethodName) prog_1_method_26_code (3 : Nat) (Option.some Jvm.ClassFile.FieldType.int)) ∈ lw_all := lw_g (lw_at lw_m9 173 rfl) rfl
theorem q2249 : (Jvm.Cond.methodLink "StruckCounts" (409 : Nat) ({ cls := "StruckCounts", name := "awardIn", desc := "(II)I" } : Jvm.MethodName)) ∈ lw_all := lw_g (lw_at lw_m9 174 rfl) rfl
theorem q2250 : (Jvm.Cond.privateMethod ({ cls := "StruckCounts", name := "awardIn", desc := "(II)I" } : Jvm.MethodName)) ∈ lw_tbl := lw_at lw_m9 175 rfl
theorem q2251 : (Jvm.Cond.instanceMethod ({ cls := "StruckCounts", name := "awardIn", desc := "(II)I" } : Jvm.MethodName)) ∈ lw_all := lw_g (lw_at lw_m9 176 rfl) rfl
theorem q2252 : (Jvm.Cond.code ({ cls := "StruckCounts", name := "awardIn", desc := "(II)I" } : Jvm.MethodName) prog_1_method_71_code (6 : Nat) (Option.some Jvm.ClassFile.FieldType.int)) ∈ lw_all := lw_g (lw_at lw_m9 177 rfl) rfl
theorem q2253 : (Jvm.Cond.methodLink "StruckCounts" (403 : Nat) ({ cls := "StruckCounts", name := "wonOf", desc := "(II)I" } : Jvm.MethodName)) ∈ lw_all := lw_g (lw_at lw_m9 178 rfl) rfl
theorem q2254 : (Jvm.Cond.privateMethod ({ cls := "StruckCounts", name := "wonOf", desc := "(II)I" } : Jvm.MethodName)) ∈ lw_tbl := lw_at lw_m9 179 rfl
theorem q2255 : (Jvm.Cond.instanceMethod ({ cls := "StruckCounts", name := "wonOf", desc := "(II)I" } : Jvm.MethodName)) ∈ lw_all := lw_g (lw_at lw_m9 180 rfl) rfl
theorem q2256 : (Jvm.Cond.code ({ cls := "StruckCounts", name := "wonOf", desc := "(II)I" } : Jvm.MethodName) prog_1_method_70_code (5 : Nat) (Option.some Jvm.ClassFile.FieldType.int)) ∈ lw_all := lw_g (lw_at lw_m9 181 rfl) rfl
theorem q2258 : (Jvm.Cond.instanceMethod ({ cls := "StruckCounts", name := "meant", desc := "(I)J" } : Jvm.MethodName)) ∈ lw_all := lw_g (lw_at lw_m9 183 rfl) rfl
theorem q2259 : (Jvm.Cond.selects "StruckCounts" ({ cls := "StruckCounts", name := "meant", desc := "(I)J" } : Jvm.MethodName) ({ cls := "StruckCounts", name := "meant", desc := "(I)J" } : Jvm.MethodName)) ∈ lw_all := lw_g (lw_at lw_m9 184 rfl) rfl
theorem q2260 : (Jvm.Cond.code ({ cls := "StruckCounts", name := "meant", desc := "(I)J" } : Jvm.MethodName) prog_1_method_73_code (6 : Nat) (Option.some Jvm.ClassFile.FieldType.long)) ∈ lw_all := lw_g (lw_at lw_m9 185 rfl) rfl
theorem q2261 : (Jvm.Cond.constantLong "StruckCounts" (412 : Nat) (-1 : Int64)) ∈ lw_all := lw_g (lw_at lw_m9 186 rfl) rfl
theorem q2263 : (Jvm.Cond.instanceMethod ({ cls := "StruckCounts", name := "outcomes", desc := "()I" } : Jvm.MethodName)) ∈ lw_all := lw_g (lw_at lw_m9 188 rfl) rfl
theorem q2264 : (Jvm.Cond.selects "StruckCounts" ({ cls := "StruckCounts", name := "outcomes", desc := "()I" } : Jvm.MethodName) ({ cls := "StruckCounts", name := "outcomes", desc := "()I" } : Jvm.MethodName)) ∈ lw_all := lw_g (lw_at lw_m9 189 rfl) rfl
theorem q2265 : (Jvm.Cond.code ({ cls := "StruckCounts", name := "outcomes", desc := "()I" } : Jvm.MethodName) prog_1_method_75_code (1 : Nat) (Option.some Jvm.ClassFile.FieldType.int)) ∈ lw_all := lw_g (lw_at lw_m9 190 rfl) rfl
theorem q2266 : (Jvm.Cond.methodLink "StruckCounts" (429 : Nat) ({ cls := "StruckCounts", name := "laysOutcomes", desc := "()V" } : Jvm.MethodName)) ∈ lw_all := lw_g (lw_at lw_m9 191 rfl) rfl
theorem q2267 : (Jvm.Cond.privateMethod ({ cls := "StruckCounts", name := "laysOutcomes", desc := "()V" } : Jvm.MethodName)) ∈ lw_tbl := lw_at lw_m9 192 rfl
theorem q2268 : (Jvm.Cond.instanceMethod ({ cls := "StruckCounts", name := "laysOutcomes", desc := "()V" } : Jvm.MethodName)) ∈ lw_all := lw_g (lw_at lw_m9 193 rfl) rfl
theorem q2269 : (Jvm.Cond.code ({ cls := "StruckCounts", name := "laysOutcomes", desc := "()V" } : Jvm.MethodName) prog_1_method_74_code (5 : Nat) (Option.none : Option Jvm.ClassFile.FieldType)) ∈ lw_all := lw_g (lw_at lw_m9 194 rfl) rfl
theorem q2270 : (Jvm.Cond.methodLink "StruckCounts" (414 : Nat) ({ cls := "java/util/LinkedHashMap", name := "clear", desc := "()V" } : Jvm.MethodName)) ∈ lw_all := lw_g (lw_at lw_m9 195 rfl) rfl
theorem q2278 : (Jvm.Cond.methodLink "StruckCounts" (417 : Nat) ({ cls := "StruckCounts$Outcome", name := "<init>", desc := "(II)V" } : Jvm.MethodName)) ∈ lw_all := lw_g (lw_at lw_m9 203 rfl) rfl
theorem q2283 : (Jvm.Cond.fieldLinkNest "StruckCounts" (432 : Nat) "StruckCounts$Outcome" "set" "I" "StruckCounts") ∈ lw_tbl := lw_at lw_m9 208 rfl
theorem q2285 : (Jvm.Cond.fieldLinkNest "StruckCounts" (435 : Nat) "StruckCounts$Outcome" "first" "I" "StruckCounts") ∈ lw_tbl := lw_at lw_m9 210 rfl
theorem q2286 : (Jvm.Cond.fieldLinkNest "StruckCounts" (426 : Nat) "StruckCounts$Outcome" "worlds" "I" "StruckCounts") ∈ lw_tbl := lw_at lw_m9 211 rfl
theorem q2294 : (Jvm.Cond.methodLink "StruckCounts" (418 : Nat) ({ cls := "java/util/LinkedHashMap", name := "get", desc := "(Ljava/lang/Object;)Ljava/lang/Object;" } : Jvm.MethodName)) ∈ lw_all := lw_g (lw_at lw_m9 219 rfl) rfl
theorem q2295 : (Jvm.Cond.methodLink "StruckCounts" (421 : Nat) ({ cls := "java/util/LinkedHashMap", name := "size", desc := "()I" } : Jvm.MethodName)) ∈ lw_all := lw_g (lw_at lw_m9 220 rfl) rfl
theorem q2301 : (Jvm.Cond.methodLink "StruckCounts" (422 : Nat) ({ cls := "java/util/LinkedHashMap", name := "put", desc := "(Ljava/lang/Object;Ljava/lang/Object;)Ljava/lang/Object;" } : Jvm.MethodName)) ∈ lw_all := lw_g (lw_at lw_m9 226 rfl) rfl
theorem q2303 : (Jvm.Cond.instanceMethod ({ cls := "StruckCounts", name := "outcome", desc := "(II)I" } : Jvm.MethodName)) ∈ lw_all := lw_g (lw_at lw_m9 228 rfl) rfl
theorem q2304 : (Jvm.Cond.selects "StruckCounts" ({ cls := "StruckCounts", name := "outcome", desc := "(II)I" } : Jvm.MethodName) ({ cls := "StruckCounts", name := "outcome", desc := "(II)I" } : Jvm.MethodName)) ∈ lw_all := lw_g (lw_at lw_m9 229 rfl) rfl
theorem q2305 : (Jvm.Cond.code ({ cls := "StruckCounts", name := "outcome", desc := "(II)I" } : Jvm.MethodName) prog_1_method_76_code (4 : Nat) (Option.some Jvm.ClassFile.FieldType.int)) ∈ lw_all := lw_g (lw_at lw_m9 230 rfl) rfl
theorem q2307 : (Jvm.Cond.instanceMethod ({ cls := "StruckCounts", name := "proofs", desc := "(IZ)I" } : Jvm.MethodName)) ∈ lw_all := lw_g (lw_at lw_m9 232 rfl) rfl
theorem q2308 : (Jvm.Cond.selects "StruckCounts" ({ cls := "StruckCounts", name := "proofs", desc := "(IZ)I" } : Jvm.MethodName) ({ cls := "StruckCounts", name := "proofs", desc := "(IZ)I" } : Jvm.MethodName)) ∈ lw_all := lw_g (lw_at lw_m9 233 rfl) rfl
theorem q2309 : (Jvm.Cond.code ({ cls := "StruckCounts", name := "proofs", desc := "(IZ)I" } : Jvm.MethodName) prog_1_method_80_code (3 : Nat) (Option.some Jvm.ClassFile.FieldType.int)) ∈ lw_all := lw_g (lw_at lw_m9 234 rfl) rfl
theorem q2310 : (Jvm.Cond.methodLink "StruckCounts" (447 : Nat) ({ cls := "StruckCounts", name := "laysProofs", desc := "(IZ)V" } : Jvm.MethodName)) ∈ lw_all := lw_g (lw_at lw_m9 235 rfl) rfl
theorem q2311 : (Jvm.Cond.privateMethod ({ cls := "StruckCounts", name := "laysProofs", desc := "(IZ)V" } : Jvm.MethodName)) ∈ lw_tbl := lw_at lw_m9 236 rfl
theorem q2312 : (Jvm.Cond.instanceMethod ({ cls := "StruckCounts", name := "laysProofs", desc := "(IZ)V" } : Jvm.MethodName)) ∈ lw_all := lw_g (lw_at lw_m9 237 rfl) rfl
theorem q2313 : (Jvm.Cond.code ({ cls := "StruckCounts", name := "laysProofs", desc := "(IZ)V" } : Jvm.MethodName) prog_1_method_78_code (5 : Nat) (Option.none : Option Jvm.ClassFile.FieldType)) ∈ lw_all := lw_g (lw_at lw_m9 238 rfl) rfl
theorem q2314 : (Jvm.Cond.methodLink "StruckCounts" (441 : Nat) ({ cls := "StruckCounts", name := "laysProofsOf", desc := "(II)V" } : Jvm.MethodName)) ∈ lw_all := lw_g (lw_at lw_m9 239 rfl) rfl
theorem q2315 : (Jvm.Cond.privateMethod ({ cls := "StruckCounts", name := "laysProofsOf", desc := "(II)V" } : Jvm.MethodName)) ∈ lw_tbl := lw_at lw_m10 0 rfl
theorem q2316 : (Jvm.Cond.instanceMethod ({ cls := "StruckCounts", name := "laysProofsOf", desc := "(II)V" } : Jvm.MethodName)) ∈ lw_all := lw_g (lw_at lw_m10 1 rfl) rfl
theorem q2317 : (Jvm.Cond.code ({ cls := "StruckCounts", name := "laysProofsOf", desc := "(II)V" } : Jvm.MethodName) prog_1_method_79_code (4 : Nat) (Option.none : Option Jvm.ClassFile.FieldType)) ∈ lw_all := lw_g (lw_at lw_m10 2 rfl) rfl
theorem q2318 : (Jvm.Cond.methodLink "StruckCounts" (444 : Nat) ({ cls := "StruckCounts", name := "isProof", desc := "(III)Z" } : Jvm.MethodName)) ∈ lw_all := lw_g (lw_at lw_m10 3 rfl) rfl
theorem q2319 : (Jvm.Cond.privateMethod ({ cls := "StruckCounts", name := "isProof", desc := "(III)Z" } : Jvm.MethodName)) ∈ lw_tbl := lw_at lw_m10 4 rfl
theorem q2320 : (Jvm.Cond.instanceMethod ({ cls := "StruckCounts", name := "isProof", desc := "(III)Z" } : Jvm.MethodName)) ∈ lw_all := lw_g (lw_at lw_m10 5 rfl) rfl
theorem q2321 : (Jvm.Cond.code ({ cls := "StruckCounts", name := "isProof", desc := "(III)Z" } : Jvm.MethodName) prog_1_method_77_code (6 : Nat) (Option.some Jvm.ClassFile.FieldType.boolean)) ∈ lw_all := lw_g (lw_at lw_m10 6 rfl) rfl
theorem q2323 : (Jvm.Cond.instanceMethod ({ cls := "StruckCounts", name := "proof", desc := "(IZII)I" } : Jvm.MethodName)) ∈ lw_all := lw_g (lw_at lw_m10 8 rfl) rfl
theorem q2324 : (Jvm.Cond.selects "StruckCounts" ({ cls := "StruckCounts", name := "proof", desc := "(IZII)I" } : Jvm.MethodName) ({ cls := "StruckCounts", name := "proof", desc := "(IZII)I" } : Jvm.MethodName)) ∈ lw_all := lw_g (lw_at lw_m10 9 rfl) rfl
theorem q2325 : (Jvm.Cond.code ({ cls := "StruckCounts", name := "proof", desc := "(IZII)I" } : Jvm.MethodName) prog_1_method_81_code (5 : Nat) (Option.some Jvm.ClassFile.FieldType.int)) ∈ lw_all := lw_g (lw_at lw_m10 10 rfl) rfl
theorem q2327 : (Jvm.Cond.instanceMethod ({ cls := "StruckCounts", name := "duel", desc := "(II)I" } : Jvm.MethodName)) ∈ lw_all := lw_g (lw_at lw_m10 12 rfl) rfl
theorem q2328 : (Jvm.Cond.selects "StruckCounts" ({ cls := "StruckCounts", name := "duel", desc := "(II)I" } : Jvm.MethodName) ({ cls := "StruckCounts", name := "duel", desc := "(II)I" } : Jvm.MethodName)) ∈ lw_all := lw_g (lw_at lw_m10 13 rfl) rfl
theorem q2329 : (Jvm.Cond.code ({ cls := "StruckCounts", name := "duel", desc := "(II)I" } : Jvm.MethodName) prog_1_method_83_code (3 : Nat) (Option.some Jvm.ClassFile.FieldType.int)) ∈ lw_all := lw_g (lw_at lw_m10 14 rfl) rfl
theorem q2330 : (Jvm.Cond.methodLink "StruckCounts" (451 : Nat) ({ cls := "StruckCounts", name := "pleaderWins", desc := "(III)Z" } : Jvm.MethodName)) ∈ lw_all := lw_g (lw_at lw_m10 15 rfl) rfl
theorem q2331 : (Jvm.Cond.privateMethod ({ cls := "StruckCounts", name := "pleaderWins", desc := "(III)Z" } : Jvm.MethodName)) ∈ lw_tbl := lw_at lw_m10 16 rfl
theorem q2332 : (Jvm.Cond.instanceMethod ({ cls := "StruckCounts", name := "pleaderWins", desc := "(III)Z" } : Jvm.MethodName)) ∈ lw_all := lw_g (lw_at lw_m10 17 rfl) rfl
theorem q2333 : (Jvm.Cond.code ({ cls := "StruckCounts", name := "pleaderWins", desc := "(III)Z" } : Jvm.MethodName) prog_1_method_82_code (10 : Nat) (Option.some Jvm.ClassFile.FieldType.boolean)) ∈ lw_all := lw_g (lw_at lw_m10 18 rfl) rfl
theorem q2335 : (Jvm.Cond.instanceMethod ({ cls := "StruckCounts", name := "turn", desc := "(III)I" } : Jvm.MethodName)) ∈ lw_all := lw_g (lw_at lw_m10 20 rfl) rfl
theorem q2336 : (Jvm.Cond.selects "StruckCounts" ({ cls := "StruckCounts", name := "turn", desc := "(III)I" } : Jvm.MethodName) ({ cls := "StruckCounts", name := "turn", desc := "(III)I" } : Jvm.MethodName)) ∈ lw_all := lw_g (lw_at lw_m10 21 rfl) rfl
theorem q2337 : (Jvm.Cond.code ({ cls := "StruckCounts", name := "turn", desc := "(III)I" } : Jvm.MethodName) prog_1_method_84_code (8 : Nat) (Option.some Jvm.ClassFile.FieldType.int)) ∈ lw_all := lw_g (lw_at lw_m10 22 rfl) rfl
theorem q2339 : (Jvm.Cond.instanceMethod ({ cls := "StruckCounts", name := "together", desc := "(I)I" } : Jvm.MethodName)) ∈ lw_all := lw_g (lw_at lw_m10 24 rfl) rfl
theorem q2340 : (Jvm.Cond.selects "StruckCounts" ({ cls := "StruckCounts", name := "together", desc := "(I)I" } : Jvm.MethodName) ({ cls := "StruckCounts", name := "together", desc := "(I)I" } : Jvm.MethodName)) ∈ lw_all := lw_g (lw_at lw_m10 25 rfl) rfl
theorem q2341 : (Jvm.Cond.code ({ cls := "StruckCounts", name := "together", desc := "(I)I" } : Jvm.MethodName) prog_1_method_85_code (3 : Nat) (Option.some Jvm.ClassFile.FieldType.int)) ∈ lw_all := lw_g (lw_at lw_m10 26 rfl) rfl
theorem q2343 : (Jvm.Cond.instanceMethod ({ cls := "StruckCounts", name := "elect", desc := "(I)I" } : Jvm.MethodName)) ∈ lw_all := lw_g (lw_at lw_m10 28 rfl) rfl
theorem q2344 : (Jvm.Cond.selects "StruckCounts" ({ cls := "StruckCounts", name := "elect", desc := "(I)I" } : Jvm.MethodName) ({ cls := "StruckCounts", name := "elect", desc := "(I)I" } : Jvm.MethodName)) ∈ lw_all := lw_g (lw_at lw_m10 29 rfl) rfl
theorem q2345 : (Jvm.Cond.code ({ cls := "StruckCounts", name := "elect", desc := "(I)I" } : Jvm.MethodName) prog_1_method_86_code (7 : Nat) (Option.some Jvm.ClassFile.FieldType.int)) ∈ lw_all := lw_g (lw_at lw_m10 30 rfl) rfl
theorem q2347 : (Jvm.Cond.instanceMethod ({ cls := "StruckCounts", name := "ask", desc := "()I" } : Jvm.MethodName)) ∈ lw_all := lw_g (lw_at lw_m10 32 rfl) rfl
theorem q2348 : (Jvm.Cond.selects "StruckCounts" ({ cls := "StruckCounts", name := "ask", desc := "()I" } : Jvm.MethodName) ({ cls := "StruckCounts", name := "ask", desc := "()I" } : Jvm.MethodName)) ∈ lw_all := lw_g (lw_at lw_m10 33 rfl) rfl
theorem q2349 : (Jvm.Cond.codeWith ({ cls := "StruckCounts", name := "ask", desc := "()I" } : Jvm.MethodName) prog_1_method_87_code (4 : Nat) (Option.some Jvm.ClassFile.FieldType.int) [((0 : Nat), (12 : Nat), (15 : Nat), (109 : Nat))]) ∈ lw_all := lw_g (lw_at lw_m10 34 rfl) rfl
theorem q2350 : (Jvm.Cond.methodLink "StruckCounts" (454 : Nat) ({ cls := "StruckCounts$Reader", name := "asked", desc := "()LStruckCounts$Rule;" } : Jvm.MethodName)) ∈ lw_all := lw_g (lw_at lw_m10 35 rfl) rfl
theorem q2356 : (Jvm.Cond.instanceMethod ({ cls := "StruckCounts", name := "asked", desc := "(I)I" } : Jvm.MethodName)) ∈ lw_all := lw_g (lw_at lw_m10 41 rfl) rfl
theorem q2357 : (Jvm.Cond.selects "StruckCounts" ({ cls := "StruckCounts", name := "asked", desc := "(I)I" } : Jvm.MethodName) ({ cls := "StruckCounts", name := "asked", desc := "(I)I" } : Jvm.MethodName)) ∈ lw_all := lw_g (lw_at lw_m10 42 rfl) rfl
theorem q2358 : (Jvm.Cond.code ({ cls := "StruckCounts", name := "asked", desc := "(I)I" } : Jvm.MethodName) prog_1_method_88_code (2 : Nat) (Option.some Jvm.ClassFile.FieldType.int)) ∈ lw_all := lw_g (lw_at lw_m10 43 rfl) rfl
theorem q2360 : (Jvm.Cond.instanceMethod ({ cls := "StruckCounts", name := "count", desc := "(I)I" } : Jvm.MethodName)) ∈ lw_all := lw_g (lw_at lw_m10 45 rfl) rfl
theorem q2361 : (Jvm.Cond.selects "StruckCounts" ({ cls := "StruckCounts", name := "count", desc := "(I)I" } : Jvm.MethodName) ({ cls := "StruckCounts", name := "count", desc := "(I)I" } : Jvm.MethodName)) ∈ lw_all := lw_g (lw_at lw_m10 46 rfl) rfl
theorem q2362 : (Jvm.Cond.code ({ cls := "StruckCounts", name := "count", desc := "(I)I" } : Jvm.MethodName) prog_1_method_89_code (2 : Nat) (Option.some Jvm.ClassFile.FieldType.int)) ∈ lw_all := lw_g (lw_at lw_m10 47 rfl) rfl
theorem q3081 : (Jvm.Cond.castable "StruckCounts" "java/lang/Object") ∈ lw_tbl := lw_at lw_m13 46 rfl
theorem in_X0 : ∀ w ∈ wsX00, w ∈ lw_all := lw_in wsX00 [595, 597, 599, 601, 603, 605, 607, 609, 611, 613, 615, 617, 619, 621, 623, 625, 627, 629, 631, 633, 635, 637, 639, 641] (by decide +kernel) (by decide +kernel)

/-! StruckCounts$Suit -/
set_option maxRecDepth 100000
def RX1 : String := "StruckCounts$Suit"
def TX1 : u_T := fun k => match k with
  | 0 => ("StruckCounts$Suit", "names", "Ljava/util/LinkedHashMap;", true)
  | 1 => ("StruckCounts$Suit", "couples", "Ljava/util/HashSet;", true)
  | 2 => ("StruckCounts$Suit", "counts", "Ljava/util/ArrayList;", true)
  | 3 => ("StruckCounts$Suit", "nevers", "Ljava/util/ArrayList;", true)
  | 4 => ("StruckCounts$Suit", "odds", "[I", true)
  | 5 => ("StruckCounts$Suit", "facts", "I", false)
  | 6 => ("StruckCounts$Suit", "pleas", "I", false)
  | 7 => ("StruckCounts$Suit", "lines", "I", false)
  | 8 => ("StruckCounts$Suit", "limit", "I", false)
  | 9 => ("StruckCounts$Suit", "hasLimit", "Z", false)
  | 10 => ("StruckCounts$Suit", "isWorld", "[Z", false)
  | _ => ("StruckCounts$Suit", "weight", "[I", false)
def tyX1 : Nat → FieldType := fun k => match k with
  | 0 => .object "java/util/LinkedHashMap"
  | 1 => .object "java/util/HashSet"
  | 2 => .object "java/util/ArrayList"
  | 3 => .object "java/util/ArrayList"
  | 4 => .array .int
  | 5 => .int
  | 6 => .int
  | 7 => .int
  | 8 => .int
  | 9 => .boolean
  | 10 => .array .boolean
  | _ => .array .int
abbrev wsX10 : List Cond := u_ws RX1 TX1 12
theorem nmX1 : ∀ a, a < 12 → ∀ b, b < 12 → a ≠ b → (TX1 a).2.1 ≠ (TX1 b).2.1 := by decide +kernel
theorem tyX1_ok : ∀ k, k < 12 → parseFieldDescriptor (TX1 k).2.2.1 = some (tyX1 k) := by decide +kernel
abbrev cX1_init : ByteArray := prog_15_method_1_code
def yX1_init : MethodName := ⟨RX1, "<init>", "()V"⟩
def dkwX1_init_3 : List UInt8 := [181, 0, 45, 42, 3, 188, 10, 181, 0, 49, 177]
abbrev dktX1_init_3 : List UInt8 := dkwX1_init_3 ++ []
def dkwX1_init_2 : List UInt8 := [181, 0, 34, 42, 16, 8, 188, 10, 181, 0, 37, 42, 17, 1, 44, 181, 0, 41, 42, 3, 188, 4]
abbrev dktX1_init_2 : List UInt8 := dkwX1_init_2 ++ dktX1_init_3
def dkwX1_init_1 : List UInt8 := [181, 0, 21, 42, 187, 0, 25, 89, 7, 183, 0, 27, 181, 0, 30, 42, 187, 0, 25, 89, 7, 183, 0, 27]
abbrev dktX1_init_1 : List UInt8 := dkwX1_init_1 ++ dktX1_init_2
def dkwX1_init_0 : List UInt8 := [42, 183, 0, 3, 42, 187, 0, 9, 89, 183, 0, 11, 181, 0, 12, 42, 187, 0, 18, 89, 183, 0, 20]
abbrev dktX1_init_0 : List UInt8 := dkwX1_init_0 ++ dktX1_init_1
theorem dksX1_init_0 : cX1_init.data.toList.drop 0 = dktX1_init_0 := by decide +kernel
theorem dksX1_init_1 : cX1_init.data.toList.drop 23 = dktX1_init_1 := dk_seg dksX1_init_0 23 rfl rfl
theorem dksX1_init_2 : cX1_init.data.toList.drop 47 = dktX1_init_2 := dk_seg dksX1_init_1 24 rfl rfl
theorem dksX1_init_3 : cX1_init.data.toList.drop 69 = dktX1_init_3 := dk_seg dksX1_init_2 22 rfl rfl
theorem dX1_init_0 : decode cX1_init 0 = .ok (.aload_n 0, 1) := dk_42 (dk_at dksX1_init_0 0 rfl rfl)
theorem dX1_init_1 : decode cX1_init 1 = .ok (.invokespecial 3, 3) := dk_183 0 3 (dk_at dksX1_init_0 1 rfl rfl)
theorem dX1_init_4 : decode cX1_init 4 = .ok (.aload_n 0, 1) := dk_42 (dk_at dksX1_init_0 4 rfl rfl)
theorem dX1_init_5 : decode cX1_init 5 = .ok (.new 9, 3) := dk_187 0 9 (dk_at dksX1_init_0 5 rfl rfl)
theorem dX1_init_8 : decode cX1_init 8 = .ok (.dup, 1) := dk_89 (dk_at dksX1_init_0 8 rfl rfl)
theorem dX1_init_9 : decode cX1_init 9 = .ok (.invokespecial 11, 3) := dk_183 0 11 (dk_at dksX1_init_0 9 rfl rfl)
theorem dX1_init_12 : decode cX1_init 12 = .ok (.putfield 12, 3) := dk_181 0 12 (dk_at dksX1_init_0 12 rfl rfl)
theorem dX1_init_15 : decode cX1_init 15 = .ok (.aload_n 0, 1) := dk_42 (dk_at dksX1_init_0 15 rfl rfl)
theorem dX1_init_16 : decode cX1_init 16 = .ok (.new 18, 3) := dk_187 0 18 (dk_at dksX1_init_0 16 rfl rfl)
theorem dX1_init_19 : decode cX1_init 19 = .ok (.dup, 1) := dk_89 (dk_at dksX1_init_0 19 rfl rfl)
theorem dX1_init_20 : decode cX1_init 20 = .ok (.invokespecial 20, 3) := dk_183 0 20 (dk_at dksX1_init_0 20 rfl rfl)
theorem dX1_init_23 : decode cX1_init 23 = .ok (.putfield 21, 3) := dk_181 0 21 (dk_at dksX1_init_1 0 rfl rfl)
theorem dX1_init_26 : decode cX1_init 26 = .ok (.aload_n 0, 1) := dk_42 (dk_at dksX1_init_1 3 rfl rfl)
theorem dX1_init_27 : decode cX1_init 27 = .ok (.new 25, 3) := dk_187 0 25 (dk_at dksX1_init_1 4 rfl rfl)
theorem dX1_init_30 : decode cX1_init 30 = .ok (.dup, 1) := dk_89 (dk_at dksX1_init_1 7 rfl rfl)
theorem dX1_init_31 : decode cX1_init 31 = .ok (.iconst 4, 1) := dk_7 (dk_at dksX1_init_1 8 rfl rfl)
theorem dX1_init_32 : decode cX1_init 32 = .ok (.invokespecial 27, 3) := dk_183 0 27 (dk_at dksX1_init_1 9 rfl rfl)
theorem dX1_init_35 : decode cX1_init 35 = .ok (.putfield 30, 3) := dk_181 0 30 (dk_at dksX1_init_1 12 rfl rfl)
theorem dX1_init_38 : decode cX1_init 38 = .ok (.aload_n 0, 1) := dk_42 (dk_at dksX1_init_1 15 rfl rfl)
theorem dX1_init_39 : decode cX1_init 39 = .ok (.new 25, 3) := dk_187 0 25 (dk_at dksX1_init_1 16 rfl rfl)
theorem dX1_init_42 : decode cX1_init 42 = .ok (.dup, 1) := dk_89 (dk_at dksX1_init_1 19 rfl rfl)
theorem dX1_init_43 : decode cX1_init 43 = .ok (.iconst 4, 1) := dk_7 (dk_at dksX1_init_1 20 rfl rfl)
theorem dX1_init_44 : decode cX1_init 44 = .ok (.invokespecial 27, 3) := dk_183 0 27 (dk_at dksX1_init_1 21 rfl rfl)
theorem dX1_init_47 : decode cX1_init 47 = .ok (.putfield 34, 3) := dk_181 0 34 (dk_at dksX1_init_2 0 rfl rfl)
theorem dX1_init_50 : decode cX1_init 50 = .ok (.aload_n 0, 1) := dk_42 (dk_at dksX1_init_2 3 rfl rfl)
theorem dX1_init_51 : decode cX1_init 51 = .ok (.bipush 8, 2) := dk_16 8 (dk_at dksX1_init_2 4 rfl rfl)
theorem dX1_init_53 : decode cX1_init 53 = .ok (.newarray .int, 2) := dk_188_10 (dk_at dksX1_init_2 6 rfl rfl)
theorem dX1_init_55 : decode cX1_init 55 = .ok (.putfield 37, 3) := dk_181 0 37 (dk_at dksX1_init_2 8 rfl rfl)
theorem dX1_init_58 : decode cX1_init 58 = .ok (.aload_n 0, 1) := dk_42 (dk_at dksX1_init_2 11 rfl rfl)
theorem dX1_init_59 : decode cX1_init 59 = .ok (.sipush 300, 3) := dk_17 1 44 (dk_at dksX1_init_2 12 rfl rfl)
theorem dX1_init_62 : decode cX1_init 62 = .ok (.putfield 41, 3) := dk_181 0 41 (dk_at dksX1_init_2 15 rfl rfl)
theorem dX1_init_65 : decode cX1_init 65 = .ok (.aload_n 0, 1) := dk_42 (dk_at dksX1_init_2 18 rfl rfl)
theorem dX1_init_66 : decode cX1_init 66 = .ok (.iconst 0, 1) := dk_3 (dk_at dksX1_init_2 19 rfl rfl)
theorem dX1_init_67 : decode cX1_init 67 = .ok (.newarray .boolean, 2) := dk_188_4 (dk_at dksX1_init_2 20 rfl rfl)
theorem dX1_init_69 : decode cX1_init 69 = .ok (.putfield 45, 3) := dk_181 0 45 (dk_at dksX1_init_3 0 rfl rfl)
theorem dX1_init_72 : decode cX1_init 72 = .ok (.aload_n 0, 1) := dk_42 (dk_at dksX1_init_3 3 rfl rfl)
theorem dX1_init_73 : decode cX1_init 73 = .ok (.iconst 0, 1) := dk_3 (dk_at dksX1_init_3 4 rfl rfl)
theorem dX1_init_74 : decode cX1_init 74 = .ok (.newarray .int, 2) := dk_188_10 (dk_at dksX1_init_3 5 rfl rfl)
theorem dX1_init_76 : decode cX1_init 76 = .ok (.putfield 49, 3) := dk_181 0 49 (dk_at dksX1_init_3 7 rfl rfl)
theorem dX1_init_79 : decode cX1_init 79 = .ok (.return_, 1) := dk_177 (dk_at dksX1_init_3 10 rfl rfl)
abbrev cX1_laid : ByteArray := prog_15_method_5_code
def yX1_laid : MethodName := ⟨RX1, "laid", "()LStruckCounts$Suit;"⟩
def dkwX1_laid_6 : List UInt8 := [180, 0, 30, 27, 182, 0, 59, 192, 0, 79, 180, 0, 88, 182, 0, 84, 132, 1, 1, 167, 255, 206, 42, 176]
abbrev dktX1_laid_6 : List UInt8 := dkwX1_laid_6 ++ []
def dkwX1_laid_5 : List UInt8 := [162, 0, 45, 42, 42, 180, 0, 30, 27, 182, 0, 59, 192, 0, 79, 180, 0, 81, 182, 0, 84, 42, 42]
abbrev dktX1_laid_5 : List UInt8 := dkwX1_laid_5 ++ dktX1_laid_6
def dkwX1_laid_4 : List UInt8 := [132, 2, 1, 167, 255, 210, 132, 1, 1, 167, 255, 176, 3, 60, 27, 42, 180, 0, 30, 182, 0, 55]
abbrev dktX1_laid_4 : List UInt8 := dkwX1_laid_4 ++ dktX1_laid_5
def dkwX1_laid_3 : List UInt8 := [153, 0, 12, 42, 180, 0, 37, 28, 46, 167, 0, 12, 16, 10, 42, 180, 0, 37, 28, 46, 100, 104, 79]
abbrev dktX1_laid_3 : List UInt8 := dkwX1_laid_3 ++ dktX1_laid_4
def dkwX1_laid_2 : List UInt8 := [3, 61, 28, 42, 180, 0, 52, 162, 0, 44, 42, 180, 0, 49, 27, 92, 46, 27, 28, 184, 0, 75]
abbrev dktX1_laid_2 : List UInt8 := dkwX1_laid_2 ++ dktX1_laid_3
def dkwX1_laid_1 : List UInt8 := [182, 0, 69, 162, 0, 78, 42, 180, 0, 45, 27, 42, 27, 182, 0, 72, 84, 42, 180, 0, 49, 27, 4, 79]
abbrev dktX1_laid_1 : List UInt8 := dkwX1_laid_1 ++ dktX1_laid_2
def dkwX1_laid_0 : List UInt8 := [42, 42, 182, 0, 69, 188, 4, 181, 0, 45, 42, 42, 182, 0, 69, 188, 10, 181, 0, 49, 3, 60, 27, 42]
abbrev dktX1_laid_0 : List UInt8 := dkwX1_laid_0 ++ dktX1_laid_1
theorem dksX1_laid_0 : cX1_laid.data.toList.drop 0 = dktX1_laid_0 := by decide +kernel
theorem dksX1_laid_1 : cX1_laid.data.toList.drop 24 = dktX1_laid_1 := dk_seg dksX1_laid_0 24 rfl rfl
theorem dksX1_laid_2 : cX1_laid.data.toList.drop 48 = dktX1_laid_2 := dk_seg dksX1_laid_1 24 rfl rfl
theorem dksX1_laid_3 : cX1_laid.data.toList.drop 70 = dktX1_laid_3 := dk_seg dksX1_laid_2 22 rfl rfl
theorem dksX1_laid_4 : cX1_laid.data.toList.drop 93 = dktX1_laid_4 := dk_seg dksX1_laid_3 23 rfl rfl
theorem dksX1_laid_5 : cX1_laid.data.toList.drop 115 = dktX1_laid_5 := dk_seg dksX1_laid_4 22 rfl rfl
theorem dksX1_laid_6 : cX1_laid.data.toList.drop 138 = dktX1_laid_6 := dk_seg dksX1_laid_5 23 rfl rfl
theorem dX1_laid_0 : decode cX1_laid 0 = .ok (.aload_n 0, 1) := dk_42 (dk_at dksX1_laid_0 0 rfl rfl)
theorem dX1_laid_1 : decode cX1_laid 1 = .ok (.aload_n 0, 1) := dk_42 (dk_at dksX1_laid_0 1 rfl rfl)
theorem dX1_laid_2 : decode cX1_laid 2 = .ok (.invokevirtual 69, 3) := dk_182 0 69 (dk_at dksX1_laid_0 2 rfl rfl)
theorem dX1_laid_5 : decode cX1_laid 5 = .ok (.newarray .boolean, 2) := dk_188_4 (dk_at dksX1_laid_0 5 rfl rfl)
theorem dX1_laid_7 : decode cX1_laid 7 = .ok (.putfield 45, 3) := dk_181 0 45 (dk_at dksX1_laid_0 7 rfl rfl)
theorem dX1_laid_10 : decode cX1_laid 10 = .ok (.aload_n 0, 1) := dk_42 (dk_at dksX1_laid_0 10 rfl rfl)
theorem dX1_laid_11 : decode cX1_laid 11 = .ok (.aload_n 0, 1) := dk_42 (dk_at dksX1_laid_0 11 rfl rfl)
theorem dX1_laid_12 : decode cX1_laid 12 = .ok (.invokevirtual 69, 3) := dk_182 0 69 (dk_at dksX1_laid_0 12 rfl rfl)
theorem dX1_laid_15 : decode cX1_laid 15 = .ok (.newarray .int, 2) := dk_188_10 (dk_at dksX1_laid_0 15 rfl rfl)
theorem dX1_laid_17 : decode cX1_laid 17 = .ok (.putfield 49, 3) := dk_181 0 49 (dk_at dksX1_laid_0 17 rfl rfl)
theorem dX1_laid_20 : decode cX1_laid 20 = .ok (.iconst 0, 1) := dk_3 (dk_at dksX1_laid_0 20 rfl rfl)
theorem dX1_laid_21 : decode cX1_laid 21 = .ok (.istore_n 1, 1) := dk_60 (dk_at dksX1_laid_0 21 rfl rfl)
theorem dX1_laid_22 : decode cX1_laid 22 = .ok (.iload_n 1, 1) := dk_27 (dk_at dksX1_laid_0 22 rfl rfl)
theorem dX1_laid_23 : decode cX1_laid 23 = .ok (.aload_n 0, 1) := dk_42 (dk_at dksX1_laid_0 23 rfl rfl)
theorem dX1_laid_24 : decode cX1_laid 24 = .ok (.invokevirtual 69, 3) := dk_182 0 69 (dk_at dksX1_laid_1 0 rfl rfl)
theorem dX1_laid_27 : decode cX1_laid 27 = .ok (.if_icmp .ge 78, 3) := dk_162 0 78 (dk_at dksX1_laid_1 3 rfl rfl)
theorem dX1_laid_30 : decode cX1_laid 30 = .ok (.aload_n 0, 1) := dk_42 (dk_at dksX1_laid_1 6 rfl rfl)
theorem dX1_laid_31 : decode cX1_laid 31 = .ok (.getfield 45, 3) := dk_180 0 45 (dk_at dksX1_laid_1 7 rfl rfl)
theorem dX1_laid_34 : decode cX1_laid 34 = .ok (.iload_n 1, 1) := dk_27 (dk_at dksX1_laid_1 10 rfl rfl)
theorem dX1_laid_35 : decode cX1_laid 35 = .ok (.aload_n 0, 1) := dk_42 (dk_at dksX1_laid_1 11 rfl rfl)
theorem dX1_laid_36 : decode cX1_laid 36 = .ok (.iload_n 1, 1) := dk_27 (dk_at dksX1_laid_1 12 rfl rfl)
theorem dX1_laid_37 : decode cX1_laid 37 = .ok (.invokevirtual 72, 3) := dk_182 0 72 (dk_at dksX1_laid_1 13 rfl rfl)
theorem dX1_laid_40 : decode cX1_laid 40 = .ok (.bastore, 1) := dk_84 (dk_at dksX1_laid_1 16 rfl rfl)
theorem dX1_laid_41 : decode cX1_laid 41 = .ok (.aload_n 0, 1) := dk_42 (dk_at dksX1_laid_1 17 rfl rfl)
theorem dX1_laid_42 : decode cX1_laid 42 = .ok (.getfield 49, 3) := dk_180 0 49 (dk_at dksX1_laid_1 18 rfl rfl)
theorem dX1_laid_45 : decode cX1_laid 45 = .ok (.iload_n 1, 1) := dk_27 (dk_at dksX1_laid_1 21 rfl rfl)
theorem dX1_laid_46 : decode cX1_laid 46 = .ok (.iconst 1, 1) := dk_4 (dk_at dksX1_laid_1 22 rfl rfl)
theorem dX1_laid_47 : decode cX1_laid 47 = .ok (.iastore, 1) := dk_79 (dk_at dksX1_laid_1 23 rfl rfl)
theorem dX1_laid_48 : decode cX1_laid 48 = .ok (.iconst 0, 1) := dk_3 (dk_at dksX1_laid_2 0 rfl rfl)
theorem dX1_laid_49 : decode cX1_laid 49 = .ok (.istore_n 2, 1) := dk_61 (dk_at dksX1_laid_2 1 rfl rfl)
theorem dX1_laid_50 : decode cX1_laid 50 = .ok (.iload_n 2, 1) := dk_28 (dk_at dksX1_laid_2 2 rfl rfl)
theorem dX1_laid_51 : decode cX1_laid 51 = .ok (.aload_n 0, 1) := dk_42 (dk_at dksX1_laid_2 3 rfl rfl)
theorem dX1_laid_52 : decode cX1_laid 52 = .ok (.getfield 52, 3) := dk_180 0 52 (dk_at dksX1_laid_2 4 rfl rfl)
theorem dX1_laid_55 : decode cX1_laid 55 = .ok (.if_icmp .ge 44, 3) := dk_162 0 44 (dk_at dksX1_laid_2 7 rfl rfl)
theorem dX1_laid_58 : decode cX1_laid 58 = .ok (.aload_n 0, 1) := dk_42 (dk_at dksX1_laid_2 10 rfl rfl)
theorem dX1_laid_59 : decode cX1_laid 59 = .ok (.getfield 49, 3) := dk_180 0 49 (dk_at dksX1_laid_2 11 rfl rfl)
theorem dX1_laid_62 : decode cX1_laid 62 = .ok (.iload_n 1, 1) := dk_27 (dk_at dksX1_laid_2 14 rfl rfl)
theorem dX1_laid_63 : decode cX1_laid 63 = .ok (.dup2, 1) := dk_92 (dk_at dksX1_laid_2 15 rfl rfl)
theorem dX1_laid_64 : decode cX1_laid 64 = .ok (.iaload, 1) := dk_46 (dk_at dksX1_laid_2 16 rfl rfl)
theorem dX1_laid_65 : decode cX1_laid 65 = .ok (.iload_n 1, 1) := dk_27 (dk_at dksX1_laid_2 17 rfl rfl)
theorem dX1_laid_66 : decode cX1_laid 66 = .ok (.iload_n 2, 1) := dk_28 (dk_at dksX1_laid_2 18 rfl rfl)
theorem dX1_laid_67 : decode cX1_laid 67 = .ok (.invokestatic 75, 3) := dk_184 0 75 (dk_at dksX1_laid_2 19 rfl rfl)
theorem dX1_laid_70 : decode cX1_laid 70 = .ok (.ifCond .eq 12, 3) := dk_153 0 12 (dk_at dksX1_laid_3 0 rfl rfl)
theorem dX1_laid_73 : decode cX1_laid 73 = .ok (.aload_n 0, 1) := dk_42 (dk_at dksX1_laid_3 3 rfl rfl)
theorem dX1_laid_74 : decode cX1_laid 74 = .ok (.getfield 37, 3) := dk_180 0 37 (dk_at dksX1_laid_3 4 rfl rfl)
theorem dX1_laid_77 : decode cX1_laid 77 = .ok (.iload_n 2, 1) := dk_28 (dk_at dksX1_laid_3 7 rfl rfl)
theorem dX1_laid_78 : decode cX1_laid 78 = .ok (.iaload, 1) := dk_46 (dk_at dksX1_laid_3 8 rfl rfl)
theorem dX1_laid_79 : decode cX1_laid 79 = .ok (.goto 12, 3) := dk_167 0 12 (dk_at dksX1_laid_3 9 rfl rfl)
theorem dX1_laid_82 : decode cX1_laid 82 = .ok (.bipush 10, 2) := dk_16 10 (dk_at dksX1_laid_3 12 rfl rfl)
theorem dX1_laid_84 : decode cX1_laid 84 = .ok (.aload_n 0, 1) := dk_42 (dk_at dksX1_laid_3 14 rfl rfl)
theorem dX1_laid_85 : decode cX1_laid 85 = .ok (.getfield 37, 3) := dk_180 0 37 (dk_at dksX1_laid_3 15 rfl rfl)
theorem dX1_laid_88 : decode cX1_laid 88 = .ok (.iload_n 2, 1) := dk_28 (dk_at dksX1_laid_3 18 rfl rfl)
theorem dX1_laid_89 : decode cX1_laid 89 = .ok (.iaload, 1) := dk_46 (dk_at dksX1_laid_3 19 rfl rfl)
theorem dX1_laid_90 : decode cX1_laid 90 = .ok (.isub, 1) := dk_100 (dk_at dksX1_laid_3 20 rfl rfl)
theorem dX1_laid_91 : decode cX1_laid 91 = .ok (.imul, 1) := dk_104 (dk_at dksX1_laid_3 21 rfl rfl)
theorem dX1_laid_92 : decode cX1_laid 92 = .ok (.iastore, 1) := dk_79 (dk_at dksX1_laid_3 22 rfl rfl)
theorem dX1_laid_93 : decode cX1_laid 93 = .ok (.iinc 2 1, 3) := dk_132 2 1 (dk_at dksX1_laid_4 0 rfl rfl)
theorem dX1_laid_96 : decode cX1_laid 96 = .ok (.goto (-46), 3) := dk_167 255 210 (dk_at dksX1_laid_4 3 rfl rfl)
theorem dX1_laid_99 : decode cX1_laid 99 = .ok (.iinc 1 1, 3) := dk_132 1 1 (dk_at dksX1_laid_4 6 rfl rfl)
theorem dX1_laid_102 : decode cX1_laid 102 = .ok (.goto (-80), 3) := dk_167 255 176 (dk_at dksX1_laid_4 9 rfl rfl)
theorem dX1_laid_105 : decode cX1_laid 105 = .ok (.iconst 0, 1) := dk_3 (dk_at dksX1_laid_4 12 rfl rfl)
theorem dX1_laid_106 : decode cX1_laid 106 = .ok (.istore_n 1, 1) := dk_60 (dk_at dksX1_laid_4 13 rfl rfl)
theorem dX1_laid_107 : decode cX1_laid 107 = .ok (.iload_n 1, 1) := dk_27 (dk_at dksX1_laid_4 14 rfl rfl)
theorem dX1_laid_108 : decode cX1_laid 108 = .ok (.aload_n 0, 1) := dk_42 (dk_at dksX1_laid_4 15 rfl rfl)
theorem dX1_laid_109 : decode cX1_laid 109 = .ok (.getfield 30, 3) := dk_180 0 30 (dk_at dksX1_laid_4 16 rfl rfl)
theorem dX1_laid_112 : decode cX1_laid 112 = .ok (.invokevirtual 55, 3) := dk_182 0 55 (dk_at dksX1_laid_4 19 rfl rfl)
theorem dX1_laid_115 : decode cX1_laid 115 = .ok (.if_icmp .ge 45, 3) := dk_162 0 45 (dk_at dksX1_laid_5 0 rfl rfl)
theorem dX1_laid_118 : decode cX1_laid 118 = .ok (.aload_n 0, 1) := dk_42 (dk_at dksX1_laid_5 3 rfl rfl)
theorem dX1_laid_119 : decode cX1_laid 119 = .ok (.aload_n 0, 1) := dk_42 (dk_at dksX1_laid_5 4 rfl rfl)
theorem dX1_laid_120 : decode cX1_laid 120 = .ok (.getfield 30, 3) := dk_180 0 30 (dk_at dksX1_laid_5 5 rfl rfl)
theorem dX1_laid_123 : decode cX1_laid 123 = .ok (.iload_n 1, 1) := dk_27 (dk_at dksX1_laid_5 8 rfl rfl)
theorem dX1_laid_124 : decode cX1_laid 124 = .ok (.invokevirtual 59, 3) := dk_182 0 59 (dk_at dksX1_laid_5 9 rfl rfl)
theorem dX1_laid_127 : decode cX1_laid 127 = .ok (.checkcast 79, 3) := dk_192 0 79 (dk_at dksX1_laid_5 12 rfl rfl)
theorem dX1_laid_130 : decode cX1_laid 130 = .ok (.getfield 81, 3) := dk_180 0 81 (dk_at dksX1_laid_5 15 rfl rfl)
theorem dX1_laid_133 : decode cX1_laid 133 = .ok (.invokevirtual 84, 3) := dk_182 0 84 (dk_at dksX1_laid_5 18 rfl rfl)
theorem dX1_laid_136 : decode cX1_laid 136 = .ok (.aload_n 0, 1) := dk_42 (dk_at dksX1_laid_5 21 rfl rfl)
theorem dX1_laid_137 : decode cX1_laid 137 = .ok (.aload_n 0, 1) := dk_42 (dk_at dksX1_laid_5 22 rfl rfl)
theorem dX1_laid_138 : decode cX1_laid 138 = .ok (.getfield 30, 3) := dk_180 0 30 (dk_at dksX1_laid_6 0 rfl rfl)
theorem dX1_laid_141 : decode cX1_laid 141 = .ok (.iload_n 1, 1) := dk_27 (dk_at dksX1_laid_6 3 rfl rfl)
theorem dX1_laid_142 : decode cX1_laid 142 = .ok (.invokevirtual 59, 3) := dk_182 0 59 (dk_at dksX1_laid_6 4 rfl rfl)
theorem dX1_laid_145 : decode cX1_laid 145 = .ok (.checkcast 79, 3) := dk_192 0 79 (dk_at dksX1_laid_6 7 rfl rfl)
theorem dX1_laid_148 : decode cX1_laid 148 = .ok (.getfield 88, 3) := dk_180 0 88 (dk_at dksX1_laid_6 10 rfl rfl)
theorem dX1_laid_151 : decode cX1_laid 151 = .ok (.invokevirtual 84, 3) := dk_182 0 84 (dk_at dksX1_laid_6 13 rfl rfl)
theorem dX1_laid_154 : decode cX1_laid 154 = .ok (.iinc 1 1, 3) := dk_132 1 1 (dk_at dksX1_laid_6 16 rfl rfl)
theorem dX1_laid_157 : decode cX1_laid 157 = .ok (.goto (-50), 3) := dk_167 255 206 (dk_at dksX1_laid_6 19 rfl rfl)
theorem dX1_laid_160 : decode cX1_laid 160 = .ok (.aload_n 0, 1) := dk_42 (dk_at dksX1_laid_6 22 rfl rfl)
theorem dX1_laid_161 : decode cX1_laid 161 = .ok (.areturn, 1) := dk_176 (dk_at dksX1_laid_6 23 rfl rfl)
abbrev cX1_sets : ByteArray := prog_15_method_2_code
def yX1_sets : MethodName := ⟨RX1, "sets", "()I"⟩
def dkwX1_sets_0 : List UInt8 := [4, 42, 180, 0, 52, 120, 172]
abbrev dktX1_sets_0 : List UInt8 := dkwX1_sets_0 ++ []
theorem dksX1_sets_0 : cX1_sets.data.toList.drop 0 = dktX1_sets_0 := by decide +kernel
theorem dX1_sets_0 : decode cX1_sets 0 = .ok (.iconst 1, 1) := dk_4 (dk_at dksX1_sets_0 0 rfl rfl)
theorem dX1_sets_1 : decode cX1_sets 1 = .ok (.aload_n 0, 1) := dk_42 (dk_at dksX1_sets_0 1 rfl rfl)
theorem dX1_sets_2 : decode cX1_sets 2 = .ok (.getfield 52, 3) := dk_180 0 52 (dk_at dksX1_sets_0 2 rfl rfl)
theorem dX1_sets_5 : decode cX1_sets 5 = .ok (.ishl, 1) := dk_120 (dk_at dksX1_sets_0 5 rfl rfl)
theorem dX1_sets_6 : decode cX1_sets 6 = .ok (.ireturn, 1) := dk_172 (dk_at dksX1_sets_0 6 rfl rfl)
abbrev cX1_mayBe : ByteArray := prog_15_method_3_code
def yX1_mayBe : MethodName := ⟨RX1, "mayBe", "(I)Z"⟩
def dkwX1_mayBe_1 : List UInt8 := [27, 185, 0, 65, 2, 0, 153, 0, 5, 3, 172, 132, 2, 1, 167, 255, 220, 4, 172]
abbrev dktX1_mayBe_1 : List UInt8 := dkwX1_mayBe_1 ++ []
def dkwX1_mayBe_0 : List UInt8 := [3, 61, 28, 42, 180, 0, 34, 182, 0, 55, 162, 0, 31, 42, 180, 0, 34, 28, 182, 0, 59, 192, 0, 63]
abbrev dktX1_mayBe_0 : List UInt8 := dkwX1_mayBe_0 ++ dktX1_mayBe_1
theorem dksX1_mayBe_0 : cX1_mayBe.data.toList.drop 0 = dktX1_mayBe_0 := by decide +kernel
theorem dksX1_mayBe_1 : cX1_mayBe.data.toList.drop 24 = dktX1_mayBe_1 := dk_seg dksX1_mayBe_0 24 rfl rfl
theorem dX1_mayBe_0 : decode cX1_mayBe 0 = .ok (.iconst 0, 1) := dk_3 (dk_at dksX1_mayBe_0 0 rfl rfl)
theorem dX1_mayBe_1 : decode cX1_mayBe 1 = .ok (.istore_n 2, 1) := dk_61 (dk_at dksX1_mayBe_0 1 rfl rfl)
theorem dX1_mayBe_2 : decode cX1_mayBe 2 = .ok (.iload_n 2, 1) := dk_28 (dk_at dksX1_mayBe_0 2 rfl rfl)
theorem dX1_mayBe_3 : decode cX1_mayBe 3 = .ok (.aload_n 0, 1) := dk_42 (dk_at dksX1_mayBe_0 3 rfl rfl)
theorem dX1_mayBe_4 : decode cX1_mayBe 4 = .ok (.getfield 34, 3) := dk_180 0 34 (dk_at dksX1_mayBe_0 4 rfl rfl)
theorem dX1_mayBe_7 : decode cX1_mayBe 7 = .ok (.invokevirtual 55, 3) := dk_182 0 55 (dk_at dksX1_mayBe_0 7 rfl rfl)
theorem dX1_mayBe_10 : decode cX1_mayBe 10 = .ok (.if_icmp .ge 31, 3) := dk_162 0 31 (dk_at dksX1_mayBe_0 10 rfl rfl)
theorem dX1_mayBe_13 : decode cX1_mayBe 13 = .ok (.aload_n 0, 1) := dk_42 (dk_at dksX1_mayBe_0 13 rfl rfl)
theorem dX1_mayBe_14 : decode cX1_mayBe 14 = .ok (.getfield 34, 3) := dk_180 0 34 (dk_at dksX1_mayBe_0 14 rfl rfl)
theorem dX1_mayBe_17 : decode cX1_mayBe 17 = .ok (.iload_n 2, 1) := dk_28 (dk_at dksX1_mayBe_0 17 rfl rfl)
theorem dX1_mayBe_18 : decode cX1_mayBe 18 = .ok (.invokevirtual 59, 3) := dk_182 0 59 (dk_at dksX1_mayBe_0 18 rfl rfl)
theorem dX1_mayBe_21 : decode cX1_mayBe 21 = .ok (.checkcast 63, 3) := dk_192 0 63 (dk_at dksX1_mayBe_0 21 rfl rfl)
theorem dX1_mayBe_24 : decode cX1_mayBe 24 = .ok (.iload_n 1, 1) := dk_27 (dk_at dksX1_mayBe_1 0 rfl rfl)
theorem dX1_mayBe_25 : decode cX1_mayBe 25 = .ok (.invokeinterface 65 2, 5) := by decide +kernel
theorem dX1_mayBe_30 : decode cX1_mayBe 30 = .ok (.ifCond .eq 5, 3) := dk_153 0 5 (dk_at dksX1_mayBe_1 6 rfl rfl)
theorem dX1_mayBe_33 : decode cX1_mayBe 33 = .ok (.iconst 0, 1) := dk_3 (dk_at dksX1_mayBe_1 9 rfl rfl)
theorem dX1_mayBe_34 : decode cX1_mayBe 34 = .ok (.ireturn, 1) := dk_172 (dk_at dksX1_mayBe_1 10 rfl rfl)
theorem dX1_mayBe_35 : decode cX1_mayBe 35 = .ok (.iinc 2 1, 3) := dk_132 2 1 (dk_at dksX1_mayBe_1 11 rfl rfl)
theorem dX1_mayBe_38 : decode cX1_mayBe 38 = .ok (.goto (-36), 3) := dk_167 255 220 (dk_at dksX1_mayBe_1 14 rfl rfl)
theorem dX1_mayBe_41 : decode cX1_mayBe 41 = .ok (.iconst 1, 1) := dk_4 (dk_at dksX1_mayBe_1 17 rfl rfl)
theorem dX1_mayBe_42 : decode cX1_mayBe 42 = .ok (.ireturn, 1) := dk_172 (dk_at dksX1_mayBe_1 18 rfl rfl)
abbrev cX1_laysAll : ByteArray := prog_15_method_6_code
def yX1_laysAll : MethodName := ⟨RX1, "laysAll", "(Ljava/util/ArrayList;)V"⟩
def dkwX1_laysAll_1 : List UInt8 := [182, 0, 93, 87, 132, 2, 1, 167, 255, 229, 177]
abbrev dktX1_laysAll_1 : List UInt8 := dkwX1_laysAll_1 ++ []
def dkwX1_laysAll_0 : List UInt8 := [3, 61, 28, 43, 182, 0, 55, 162, 0, 25, 43, 28, 182, 0, 59, 192, 0, 91, 42, 180, 0, 52]
abbrev dktX1_laysAll_0 : List UInt8 := dkwX1_laysAll_0 ++ dktX1_laysAll_1
theorem dksX1_laysAll_0 : cX1_laysAll.data.toList.drop 0 = dktX1_laysAll_0 := by decide +kernel
theorem dksX1_laysAll_1 : cX1_laysAll.data.toList.drop 22 = dktX1_laysAll_1 := dk_seg dksX1_laysAll_0 22 rfl rfl
theorem dX1_laysAll_0 : decode cX1_laysAll 0 = .ok (.iconst 0, 1) := dk_3 (dk_at dksX1_laysAll_0 0 rfl rfl)
theorem dX1_laysAll_1 : decode cX1_laysAll 1 = .ok (.istore_n 2, 1) := dk_61 (dk_at dksX1_laysAll_0 1 rfl rfl)
theorem dX1_laysAll_2 : decode cX1_laysAll 2 = .ok (.iload_n 2, 1) := dk_28 (dk_at dksX1_laysAll_0 2 rfl rfl)
theorem dX1_laysAll_3 : decode cX1_laysAll 3 = .ok (.aload_n 1, 1) := dk_43 (dk_at dksX1_laysAll_0 3 rfl rfl)
theorem dX1_laysAll_4 : decode cX1_laysAll 4 = .ok (.invokevirtual 55, 3) := dk_182 0 55 (dk_at dksX1_laysAll_0 4 rfl rfl)
theorem dX1_laysAll_7 : decode cX1_laysAll 7 = .ok (.if_icmp .ge 25, 3) := dk_162 0 25 (dk_at dksX1_laysAll_0 7 rfl rfl)
theorem dX1_laysAll_10 : decode cX1_laysAll 10 = .ok (.aload_n 1, 1) := dk_43 (dk_at dksX1_laysAll_0 10 rfl rfl)
theorem dX1_laysAll_11 : decode cX1_laysAll 11 = .ok (.iload_n 2, 1) := dk_28 (dk_at dksX1_laysAll_0 11 rfl rfl)
theorem dX1_laysAll_12 : decode cX1_laysAll 12 = .ok (.invokevirtual 59, 3) := dk_182 0 59 (dk_at dksX1_laysAll_0 12 rfl rfl)
theorem dX1_laysAll_15 : decode cX1_laysAll 15 = .ok (.checkcast 91, 3) := dk_192 0 91 (dk_at dksX1_laysAll_0 15 rfl rfl)
theorem dX1_laysAll_18 : decode cX1_laysAll 18 = .ok (.aload_n 0, 1) := dk_42 (dk_at dksX1_laysAll_0 18 rfl rfl)
theorem dX1_laysAll_19 : decode cX1_laysAll 19 = .ok (.getfield 52, 3) := dk_180 0 52 (dk_at dksX1_laysAll_0 19 rfl rfl)
theorem dX1_laysAll_22 : decode cX1_laysAll 22 = .ok (.invokevirtual 93, 3) := dk_182 0 93 (dk_at dksX1_laysAll_1 0 rfl rfl)
theorem dX1_laysAll_25 : decode cX1_laysAll 25 = .ok (.pop, 1) := dk_87 (dk_at dksX1_laysAll_1 3 rfl rfl)
theorem dX1_laysAll_26 : decode cX1_laysAll 26 = .ok (.iinc 2 1, 3) := dk_132 2 1 (dk_at dksX1_laysAll_1 4 rfl rfl)
theorem dX1_laysAll_29 : decode cX1_laysAll 29 = .ok (.goto (-27), 3) := dk_167 255 229 (dk_at dksX1_laysAll_1 7 rfl rfl)
theorem dX1_laysAll_32 : decode cX1_laysAll 32 = .ok (.return_, 1) := dk_177 (dk_at dksX1_laysAll_1 10 rfl rfl)
abbrev cX1_hasWorld : ByteArray := prog_15_method_4_code
def yX1_hasWorld : MethodName := ⟨RX1, "hasWorld", "()Z"⟩
def dkwX1_hasWorld_1 : List UInt8 := [167, 255, 235, 3, 172]
abbrev dktX1_hasWorld_1 : List UInt8 := dkwX1_hasWorld_1 ++ []
def dkwX1_hasWorld_0 : List UInt8 := [3, 60, 27, 42, 182, 0, 69, 162, 0, 19, 42, 27, 182, 0, 72, 153, 0, 5, 4, 172, 132, 1, 1]
abbrev dktX1_hasWorld_0 : List UInt8 := dkwX1_hasWorld_0 ++ dktX1_hasWorld_1
theorem dksX1_hasWorld_0 : cX1_hasWorld.data.toList.drop 0 = dktX1_hasWorld_0 := by decide +kernel
theorem dksX1_hasWorld_1 : cX1_hasWorld.data.toList.drop 23 = dktX1_hasWorld_1 := dk_seg dksX1_hasWorld_0 23 rfl rfl
theorem dX1_hasWorld_0 : decode cX1_hasWorld 0 = .ok (.iconst 0, 1) := dk_3 (dk_at dksX1_hasWorld_0 0 rfl rfl)
theorem dX1_hasWorld_1 : decode cX1_hasWorld 1 = .ok (.istore_n 1, 1) := dk_60 (dk_at dksX1_hasWorld_0 1 rfl rfl)
theorem dX1_hasWorld_2 : decode cX1_hasWorld 2 = .ok (.iload_n 1, 1) := dk_27 (dk_at dksX1_hasWorld_0 2 rfl rfl)
theorem dX1_hasWorld_3 : decode cX1_hasWorld 3 = .ok (.aload_n 0, 1) := dk_42 (dk_at dksX1_hasWorld_0 3 rfl rfl)
theorem dX1_hasWorld_4 : decode cX1_hasWorld 4 = .ok (.invokevirtual 69, 3) := dk_182 0 69 (dk_at dksX1_hasWorld_0 4 rfl rfl)
theorem dX1_hasWorld_7 : decode cX1_hasWorld 7 = .ok (.if_icmp .ge 19, 3) := dk_162 0 19 (dk_at dksX1_hasWorld_0 7 rfl rfl)
theorem dX1_hasWorld_10 : decode cX1_hasWorld 10 = .ok (.aload_n 0, 1) := dk_42 (dk_at dksX1_hasWorld_0 10 rfl rfl)
theorem dX1_hasWorld_11 : decode cX1_hasWorld 11 = .ok (.iload_n 1, 1) := dk_27 (dk_at dksX1_hasWorld_0 11 rfl rfl)
theorem dX1_hasWorld_12 : decode cX1_hasWorld 12 = .ok (.invokevirtual 72, 3) := dk_182 0 72 (dk_at dksX1_hasWorld_0 12 rfl rfl)
theorem dX1_hasWorld_15 : decode cX1_hasWorld 15 = .ok (.ifCond .eq 5, 3) := dk_153 0 5 (dk_at dksX1_hasWorld_0 15 rfl rfl)
theorem dX1_hasWorld_18 : decode cX1_hasWorld 18 = .ok (.iconst 1, 1) := dk_4 (dk_at dksX1_hasWorld_0 18 rfl rfl)
theorem dX1_hasWorld_19 : decode cX1_hasWorld 19 = .ok (.ireturn, 1) := dk_172 (dk_at dksX1_hasWorld_0 19 rfl rfl)
theorem dX1_hasWorld_20 : decode cX1_hasWorld 20 = .ok (.iinc 1 1, 3) := dk_132 1 1 (dk_at dksX1_hasWorld_0 20 rfl rfl)
theorem dX1_hasWorld_23 : decode cX1_hasWorld 23 = .ok (.goto (-21), 3) := dk_167 255 235 (dk_at dksX1_hasWorld_1 0 rfl rfl)
theorem dX1_hasWorld_26 : decode cX1_hasWorld 26 = .ok (.iconst 0, 1) := dk_3 (dk_at dksX1_hasWorld_1 3 rfl rfl)
theorem dX1_hasWorld_27 : decode cX1_hasWorld 27 = .ok (.ireturn, 1) := dk_172 (dk_at dksX1_hasWorld_1 4 rfl rfl)
theorem q157 : (Jvm.Cond.initialized "StruckCounts$Suit") ∈ lw_all := lw_g (lw_at lw_m1 2 rfl) rfl
theorem q215 : (Jvm.Cond.instantiable "StruckCounts$Suit" (12 : Nat)) ∈ lw_all := lw_g (lw_at lw_m1 60 rfl) rfl
theorem q217 : (Jvm.Cond.instanceMethod ({ cls := "StruckCounts$Suit", name := "<init>", desc := "()V" } : Jvm.MethodName)) ∈ lw_all := lw_g (lw_at lw_m1 62 rfl) rfl
theorem q218 : (Jvm.Cond.code ({ cls := "StruckCounts$Suit", name := "<init>", desc := "()V" } : Jvm.MethodName) prog_15_method_1_code (1 : Nat) (Option.none : Option Jvm.ClassFile.FieldType)) ∈ lw_all := lw_g (lw_at lw_m1 63 rfl) rfl
theorem q219 : (Jvm.Cond.methodLink "StruckCounts$Suit" (3 : Nat) ({ cls := "java/lang/Object", name := "<init>", desc := "()V" } : Jvm.MethodName)) ∈ lw_all := lw_g (lw_at lw_m1 64 rfl) rfl
theorem q220 : (Jvm.Cond.classLink "StruckCounts$Suit" (9 : Nat) "java/util/LinkedHashMap") ∈ lw_all := lw_g (lw_at lw_m1 65 rfl) rfl
theorem q222 : (Jvm.Cond.methodLink "StruckCounts$Suit" (11 : Nat) ({ cls := "java/util/LinkedHashMap", name := "<init>", desc := "()V" } : Jvm.MethodName)) ∈ lw_all := lw_g (lw_at lw_m1 67 rfl) rfl
theorem q270 : (Jvm.Cond.classLink "StruckCounts$Suit" (18 : Nat) "java/util/HashSet") ∈ lw_all := lw_g (lw_at lw_m1 115 rfl) rfl
theorem q272 : (Jvm.Cond.methodLink "StruckCounts$Suit" (20 : Nat) ({ cls := "java/util/HashSet", name := "<init>", desc := "()V" } : Jvm.MethodName)) ∈ lw_all := lw_g (lw_at lw_m1 117 rfl) rfl
theorem q298 : (Jvm.Cond.classLink "StruckCounts$Suit" (25 : Nat) "java/util/ArrayList") ∈ lw_all := lw_g (lw_at lw_m1 143 rfl) rfl
theorem q300 : (Jvm.Cond.methodLink "StruckCounts$Suit" (27 : Nat) ({ cls := "java/util/ArrayList", name := "<init>", desc := "(I)V" } : Jvm.MethodName)) ∈ lw_all := lw_g (lw_at lw_m1 145 rfl) rfl
theorem q323 : (Jvm.Cond.fieldLink "StruckCounts$Suit" (12 : Nat) "StruckCounts$Suit" "names" "Ljava/util/LinkedHashMap;") ∈ lw_all := lw_g (lw_at lw_m1 168 rfl) rfl
theorem q325 : (Jvm.Cond.fieldLink "StruckCounts$Suit" (21 : Nat) "StruckCounts$Suit" "couples" "Ljava/util/HashSet;") ∈ lw_all := lw_g (lw_at lw_m1 170 rfl) rfl
theorem q328 : (Jvm.Cond.fieldLink "StruckCounts$Suit" (30 : Nat) "StruckCounts$Suit" "counts" "Ljava/util/ArrayList;") ∈ lw_all := lw_g (lw_at lw_m1 173 rfl) rfl
theorem q332 : (Jvm.Cond.fieldLink "StruckCounts$Suit" (34 : Nat) "StruckCounts$Suit" "nevers" "Ljava/util/ArrayList;") ∈ lw_all := lw_g (lw_at lw_m1 177 rfl) rfl
theorem q334 : (Jvm.Cond.fieldLink "StruckCounts$Suit" (37 : Nat) "StruckCounts$Suit" "odds" "[I") ∈ lw_all := lw_g (lw_at lw_m1 179 rfl) rfl
theorem q337 : (Jvm.Cond.fieldLink "StruckCounts$Suit" (52 : Nat) "StruckCounts$Suit" "facts" "I") ∈ lw_all := lw_g (lw_at lw_m1 182 rfl) rfl
theorem q343 : (Jvm.Cond.fieldLink "StruckCounts$Suit" (41 : Nat) "StruckCounts$Suit" "limit" "I") ∈ lw_all := lw_g (lw_at lw_m1 188 rfl) rfl
theorem q347 : (Jvm.Cond.fieldLink "StruckCounts$Suit" (45 : Nat) "StruckCounts$Suit" "isWorld" "[Z") ∈ lw_all := lw_g (lw_at lw_m1 192 rfl) rfl
theorem q349 : (Jvm.Cond.fieldLink "StruckCounts$Suit" (49 : Nat) "StruckCounts$Suit" "weight" "[I") ∈ lw_all := lw_g (lw_at lw_m1 194 rfl) rfl
theorem q351 : (Jvm.Cond.laysFinal "StruckCounts$Suit" "StruckCounts$Suit" "names" "Ljava/util/LinkedHashMap;") ∈ lw_all := lw_g (lw_at lw_m1 196 rfl) rfl
theorem q352 : (Jvm.Cond.soleField "StruckCounts$Suit" "names") ∈ lw_all := lw_g (lw_at lw_m1 197 rfl) rfl
theorem q353 : (Jvm.Cond.laysFinal "StruckCounts$Suit" "StruckCounts$Suit" "couples" "Ljava/util/HashSet;") ∈ lw_all := lw_g (lw_at lw_m1 198 rfl) rfl
theorem q354 : (Jvm.Cond.soleField "StruckCounts$Suit" "couples") ∈ lw_all := lw_g (lw_at lw_m1 199 rfl) rfl
theorem q355 : (Jvm.Cond.laysFinal "StruckCounts$Suit" "StruckCounts$Suit" "counts" "Ljava/util/ArrayList;") ∈ lw_all := lw_g (lw_at lw_m1 200 rfl) rfl
theorem q356 : (Jvm.Cond.soleField "StruckCounts$Suit" "counts") ∈ lw_all := lw_g (lw_at lw_m1 201 rfl) rfl
theorem q357 : (Jvm.Cond.laysFinal "StruckCounts$Suit" "StruckCounts$Suit" "nevers" "Ljava/util/ArrayList;") ∈ lw_all := lw_g (lw_at lw_m1 202 rfl) rfl
theorem q358 : (Jvm.Cond.soleField "StruckCounts$Suit" "nevers") ∈ lw_all := lw_g (lw_at lw_m1 203 rfl) rfl
theorem q359 : (Jvm.Cond.laysFinal "StruckCounts$Suit" "StruckCounts$Suit" "odds" "[I") ∈ lw_all := lw_g (lw_at lw_m1 204 rfl) rfl
theorem q360 : (Jvm.Cond.soleField "StruckCounts$Suit" "odds") ∈ lw_all := lw_g (lw_at lw_m1 205 rfl) rfl
theorem q361 : (Jvm.Cond.lays "StruckCounts$Suit" "StruckCounts$Suit" "facts" "I") ∈ lw_all := lw_g (lw_at lw_m1 206 rfl) rfl
theorem q362 : (Jvm.Cond.soleField "StruckCounts$Suit" "facts") ∈ lw_all := lw_g (lw_at lw_m1 207 rfl) rfl
theorem q363 : (Jvm.Cond.lays "StruckCounts$Suit" "StruckCounts$Suit" "pleas" "I") ∈ lw_all := lw_g (lw_at lw_m1 208 rfl) rfl
theorem q364 : (Jvm.Cond.soleField "StruckCounts$Suit" "pleas") ∈ lw_all := lw_g (lw_at lw_m1 209 rfl) rfl
theorem q365 : (Jvm.Cond.lays "StruckCounts$Suit" "StruckCounts$Suit" "lines" "I") ∈ lw_all := lw_g (lw_at lw_m1 210 rfl) rfl
theorem q366 : (Jvm.Cond.soleField "StruckCounts$Suit" "lines") ∈ lw_all := lw_g (lw_at lw_m1 211 rfl) rfl
theorem q367 : (Jvm.Cond.lays "StruckCounts$Suit" "StruckCounts$Suit" "limit" "I") ∈ lw_all := lw_g (lw_at lw_m1 212 rfl) rfl
theorem q368 : (Jvm.Cond.soleField "StruckCounts$Suit" "limit") ∈ lw_all := lw_g (lw_at lw_m1 213 rfl) rfl
theorem q369 : (Jvm.Cond.lays "StruckCounts$Suit" "StruckCounts$Suit" "hasLimit" "Z") ∈ lw_all := lw_g (lw_at lw_m1 214 rfl) rfl
theorem q370 : (Jvm.Cond.soleField "StruckCounts$Suit" "hasLimit") ∈ lw_all := lw_g (lw_at lw_m1 215 rfl) rfl
theorem q371 : (Jvm.Cond.lays "StruckCounts$Suit" "StruckCounts$Suit" "isWorld" "[Z") ∈ lw_all := lw_g (lw_at lw_m1 216 rfl) rfl
theorem q372 : (Jvm.Cond.soleField "StruckCounts$Suit" "isWorld") ∈ lw_all := lw_g (lw_at lw_m1 217 rfl) rfl
theorem q373 : (Jvm.Cond.lays "StruckCounts$Suit" "StruckCounts$Suit" "weight" "[I") ∈ lw_all := lw_g (lw_at lw_m1 218 rfl) rfl
theorem q374 : (Jvm.Cond.soleField "StruckCounts$Suit" "weight") ∈ lw_all := lw_g (lw_at lw_m1 219 rfl) rfl
theorem q375 : (Jvm.Cond.superclass "StruckCounts$Suit" "java/lang/Object") ∈ lw_all := lw_g (lw_at lw_m1 220 rfl) rfl
theorem q379 : (Jvm.Cond.instanceMethod ({ cls := "StruckCounts$Suit", name := "laid", desc := "()LStruckCounts$Suit;" } : Jvm.MethodName)) ∈ lw_all := lw_g (lw_at lw_m1 224 rfl) rfl
theorem q380 : (Jvm.Cond.selects "StruckCounts$Suit" ({ cls := "StruckCounts$Suit", name := "laid", desc := "()LStruckCounts$Suit;" } : Jvm.MethodName) ({ cls := "StruckCounts$Suit", name := "laid", desc := "()LStruckCounts$Suit;" } : Jvm.MethodName)) ∈ lw_all := lw_g (lw_at lw_m1 225 rfl) rfl
theorem q381 : (Jvm.Cond.code ({ cls := "StruckCounts$Suit", name := "laid", desc := "()LStruckCounts$Suit;" } : Jvm.MethodName) prog_15_method_5_code (3 : Nat) (Option.some (Jvm.ClassFile.FieldType.object "StruckCounts$Suit"))) ∈ lw_all := lw_g (lw_at lw_m1 226 rfl) rfl
theorem q382 : (Jvm.Cond.methodLink "StruckCounts$Suit" (69 : Nat) ({ cls := "StruckCounts$Suit", name := "sets", desc := "()I" } : Jvm.MethodName)) ∈ lw_all := lw_g (lw_at lw_m1 227 rfl) rfl
theorem q383 : (Jvm.Cond.instanceMethod ({ cls := "StruckCounts$Suit", name := "sets", desc := "()I" } : Jvm.MethodName)) ∈ lw_all := lw_g (lw_at lw_m1 228 rfl) rfl
theorem q384 : (Jvm.Cond.selects "StruckCounts$Suit" ({ cls := "StruckCounts$Suit", name := "sets", desc := "()I" } : Jvm.MethodName) ({ cls := "StruckCounts$Suit", name := "sets", desc := "()I" } : Jvm.MethodName)) ∈ lw_all := lw_g (lw_at lw_m1 229 rfl) rfl
theorem q385 : (Jvm.Cond.code ({ cls := "StruckCounts$Suit", name := "sets", desc := "()I" } : Jvm.MethodName) prog_15_method_2_code (1 : Nat) (Option.some Jvm.ClassFile.FieldType.int)) ∈ lw_all := lw_g (lw_at lw_m1 230 rfl) rfl
theorem q386 : (Jvm.Cond.methodLink "StruckCounts$Suit" (72 : Nat) ({ cls := "StruckCounts$Suit", name := "mayBe", desc := "(I)Z" } : Jvm.MethodName)) ∈ lw_all := lw_g (lw_at lw_m1 231 rfl) rfl
theorem q387 : (Jvm.Cond.instanceMethod ({ cls := "StruckCounts$Suit", name := "mayBe", desc := "(I)Z" } : Jvm.MethodName)) ∈ lw_all := lw_g (lw_at lw_m1 232 rfl) rfl
theorem q388 : (Jvm.Cond.selects "StruckCounts$Suit" ({ cls := "StruckCounts$Suit", name := "mayBe", desc := "(I)Z" } : Jvm.MethodName) ({ cls := "StruckCounts$Suit", name := "mayBe", desc := "(I)Z" } : Jvm.MethodName)) ∈ lw_all := lw_g (lw_at lw_m1 233 rfl) rfl
theorem q389 : (Jvm.Cond.code ({ cls := "StruckCounts$Suit", name := "mayBe", desc := "(I)Z" } : Jvm.MethodName) prog_15_method_3_code (3 : Nat) (Option.some Jvm.ClassFile.FieldType.boolean)) ∈ lw_all := lw_g (lw_at lw_m1 234 rfl) rfl
theorem q390 : (Jvm.Cond.methodLink "StruckCounts$Suit" (55 : Nat) ({ cls := "java/util/ArrayList", name := "size", desc := "()I" } : Jvm.MethodName)) ∈ lw_all := lw_g (lw_at lw_m1 235 rfl) rfl
theorem q394 : (Jvm.Cond.methodLink "StruckCounts$Suit" (59 : Nat) ({ cls := "java/util/ArrayList", name := "get", desc := "(I)Ljava/lang/Object;" } : Jvm.MethodName)) ∈ lw_all := lw_g (lw_at lw_m1 239 rfl) rfl
theorem q408 : (Jvm.Cond.classLink "StruckCounts$Suit" (63 : Nat) "StruckCounts$Expr") ∈ lw_all := lw_g (lw_at lw_m2 13 rfl) rfl
theorem q409 : (Jvm.Cond.interfaceEntry "StruckCounts$Suit" (65 : Nat)) ∈ lw_tbl := lw_at lw_m2 14 rfl
theorem q410 : (Jvm.Cond.methodLink "StruckCounts$Suit" (65 : Nat) ({ cls := "StruckCounts$Expr", name := "holds", desc := "(I)Z" } : Jvm.MethodName)) ∈ lw_all := lw_g (lw_at lw_m2 15 rfl) rfl
theorem q464 : (Jvm.Cond.methodLinkNest "StruckCounts$Suit" (75 : Nat) ({ cls := "StruckCounts", name := "has", desc := "(II)Z" } : Jvm.MethodName) "StruckCounts") ∈ lw_tbl := lw_at lw_m2 69 rfl
theorem q465 : (Jvm.Cond.classLink "StruckCounts$Suit" (79 : Nat) "StruckCounts$Told") ∈ lw_all := lw_g (lw_at lw_m2 70 rfl) rfl
theorem q466 : (Jvm.Cond.methodLink "StruckCounts$Suit" (84 : Nat) ({ cls := "StruckCounts$Suit", name := "laysAll", desc := "(Ljava/util/ArrayList;)V" } : Jvm.MethodName)) ∈ lw_all := lw_g (lw_at lw_m2 71 rfl) rfl
theorem q467 : (Jvm.Cond.privateMethod ({ cls := "StruckCounts$Suit", name := "laysAll", desc := "(Ljava/util/ArrayList;)V" } : Jvm.MethodName)) ∈ lw_tbl := lw_at lw_m2 72 rfl
theorem q468 : (Jvm.Cond.instanceMethod ({ cls := "StruckCounts$Suit", name := "laysAll", desc := "(Ljava/util/ArrayList;)V" } : Jvm.MethodName)) ∈ lw_all := lw_g (lw_at lw_m2 73 rfl) rfl
theorem q469 : (Jvm.Cond.code ({ cls := "StruckCounts$Suit", name := "laysAll", desc := "(Ljava/util/ArrayList;)V" } : Jvm.MethodName) prog_15_method_6_code (3 : Nat) (Option.none : Option Jvm.ClassFile.FieldType)) ∈ lw_all := lw_g (lw_at lw_m2 74 rfl) rfl
theorem q470 : (Jvm.Cond.classLink "StruckCounts$Suit" (91 : Nat) "StruckCounts$Rule") ∈ lw_all := lw_g (lw_at lw_m2 75 rfl) rfl
theorem q471 : (Jvm.Cond.methodLink "StruckCounts$Suit" (93 : Nat) ({ cls := "StruckCounts$Rule", name := "laid", desc := "(I)LStruckCounts$Rule;" } : Jvm.MethodName)) ∈ lw_all := lw_g (lw_at lw_m2 76 rfl) rfl
theorem q1163 : (Jvm.Cond.selects "StruckCounts$Suit" ({ cls := "java/lang/Object", name := "hashCode", desc := "()I" } : Jvm.MethodName) ({ cls := "java/lang/Object", name := "hashCode", desc := "()I" } : Jvm.MethodName)) ∈ lw_all := lw_g (lw_at lw_m5 48 rfl) rfl
theorem q1195 : (Jvm.Cond.selects "StruckCounts$Suit" ({ cls := "java/lang/Object", name := "equals", desc := "(Ljava/lang/Object;)Z" } : Jvm.MethodName) ({ cls := "java/lang/Object", name := "equals", desc := "(Ljava/lang/Object;)Z" } : Jvm.MethodName)) ∈ lw_all := lw_g (lw_at lw_m5 80 rfl) rfl
theorem q1238 : (Jvm.Cond.selects "StruckCounts$Suit" ({ cls := "java/lang/Object", name := "getClass", desc := "()Ljava/lang/Class;" } : Jvm.MethodName) ({ cls := "java/lang/Object", name := "getClass", desc := "()Ljava/lang/Class;" } : Jvm.MethodName)) ∈ lw_all := lw_g (lw_at lw_m5 123 rfl) rfl
theorem q1811 : (Jvm.Cond.fieldLinkNest "StruckCounts$Suit" (81 : Nat) "StruckCounts$Told" "elements" "Ljava/util/ArrayList;" "StruckCounts") ∈ lw_tbl := lw_at lw_m7 216 rfl
theorem q1815 : (Jvm.Cond.fieldLinkNest "StruckCounts$Suit" (88 : Nat) "StruckCounts$Told" "pleas" "Ljava/util/ArrayList;" "StruckCounts") ∈ lw_tbl := lw_at lw_m7 220 rfl
theorem q1889 : (Jvm.Cond.instanceMethod ({ cls := "StruckCounts$Suit", name := "hasWorld", desc := "()Z" } : Jvm.MethodName)) ∈ lw_all := lw_g (lw_at lw_m8 54 rfl) rfl
theorem q1890 : (Jvm.Cond.selects "StruckCounts$Suit" ({ cls := "StruckCounts$Suit", name := "hasWorld", desc := "()Z" } : Jvm.MethodName) ({ cls := "StruckCounts$Suit", name := "hasWorld", desc := "()Z" } : Jvm.MethodName)) ∈ lw_all := lw_g (lw_at lw_m8 55 rfl) rfl
theorem q1891 : (Jvm.Cond.code ({ cls := "StruckCounts$Suit", name := "hasWorld", desc := "()Z" } : Jvm.MethodName) prog_15_method_4_code (2 : Nat) (Option.some Jvm.ClassFile.FieldType.boolean)) ∈ lw_all := lw_g (lw_at lw_m8 56 rfl) rfl
theorem q3082 : (Jvm.Cond.castable "StruckCounts$Suit" "java/lang/Object") ∈ lw_tbl := lw_at lw_m13 47 rfl
theorem in_X1 : ∀ w ∈ wsX10, w ∈ lw_all := lw_in wsX10 [351, 353, 355, 357, 359, 361, 363, 365, 367, 369, 371, 373] (by decide +kernel) (by decide +kernel)

/-! StruckCounts$Fact -/
set_option maxRecDepth 100000
def RX10 : String := "StruckCounts$Fact"
def TX10 : u_T := fun k => match k with
  | _ => ("StruckCounts$Fact", "number", "I", true)
def tyX10 : Nat → FieldType := fun k => match k with
  | _ => .int
abbrev wsX100 : List Cond := u_ws RX10 TX10 1
theorem nmX10 : ∀ a, a < 1 → ∀ b, b < 1 → a ≠ b → (TX10 a).2.1 ≠ (TX10 b).2.1 := by decide +kernel
theorem tyX10_ok : ∀ k, k < 1 → parseFieldDescriptor (TX10 k).2.2.1 = some (tyX10 k) := by decide +kernel
abbrev cX10_holds : ByteArray := prog_5_method_2_code
def yX10_holds : MethodName := ⟨RX10, "holds", "(I)Z"⟩
def dkwX10_holds_0 : List UInt8 := [27, 42, 180, 0, 9, 184, 0, 15, 172]
abbrev dktX10_holds_0 : List UInt8 := dkwX10_holds_0 ++ []
theorem dksX10_holds_0 : cX10_holds.data.toList.drop 0 = dktX10_holds_0 := by decide +kernel
theorem dX10_holds_0 : decode cX10_holds 0 = .ok (.iload_n 1, 1) := dk_27 (dk_at dksX10_holds_0 0 rfl rfl)
theorem dX10_holds_1 : decode cX10_holds 1 = .ok (.aload_n 0, 1) := dk_42 (dk_at dksX10_holds_0 1 rfl rfl)
theorem dX10_holds_2 : decode cX10_holds 2 = .ok (.getfield 9, 3) := dk_180 0 9 (dk_at dksX10_holds_0 2 rfl rfl)
theorem dX10_holds_5 : decode cX10_holds 5 = .ok (.invokestatic 15, 3) := dk_184 0 15 (dk_at dksX10_holds_0 5 rfl rfl)
theorem dX10_holds_8 : decode cX10_holds 8 = .ok (.ireturn, 1) := dk_172 (dk_at dksX10_holds_0 8 rfl rfl)
abbrev cX10_init : ByteArray := prog_5_method_1_code
def yX10_init : MethodName := ⟨RX10, "<init>", "(I)V"⟩
def dkwX10_init_0 : List UInt8 := [42, 183, 0, 3, 42, 27, 181, 0, 9, 177]
abbrev dktX10_init_0 : List UInt8 := dkwX10_init_0 ++ []
theorem dksX10_init_0 : cX10_init.data.toList.drop 0 = dktX10_init_0 := by decide +kernel
theorem dX10_init_0 : decode cX10_init 0 = .ok (.aload_n 0, 1) := dk_42 (dk_at dksX10_init_0 0 rfl rfl)
theorem dX10_init_1 : decode cX10_init 1 = .ok (.invokespecial 3, 3) := dk_183 0 3 (dk_at dksX10_init_0 1 rfl rfl)
theorem dX10_init_4 : decode cX10_init 4 = .ok (.aload_n 0, 1) := dk_42 (dk_at dksX10_init_0 4 rfl rfl)
theorem dX10_init_5 : decode cX10_init 5 = .ok (.iload_n 1, 1) := dk_27 (dk_at dksX10_init_0 5 rfl rfl)
theorem dX10_init_6 : decode cX10_init 6 = .ok (.putfield 9, 3) := dk_181 0 9 (dk_at dksX10_init_0 6 rfl rfl)
theorem dX10_init_9 : decode cX10_init 9 = .ok (.return_, 1) := dk_177 (dk_at dksX10_init_0 9 rfl rfl)
abbrev cX10_seen : ByteArray := prog_5_method_3_code
def yX10_seen : MethodName := ⟨RX10, "seen", "(II)I"⟩
def dkwX10_seen_1 : List UInt8 := [153, 0, 7, 4, 167, 0, 4, 3, 172]
abbrev dktX10_seen_1 : List UInt8 := dkwX10_seen_1 ++ []
def dkwX10_seen_0 : List UInt8 := [27, 42, 180, 0, 9, 184, 0, 15, 154, 0, 7, 5, 167, 0, 19, 28, 42, 180, 0, 9, 184, 0, 15]
abbrev dktX10_seen_0 : List UInt8 := dkwX10_seen_0 ++ dktX10_seen_1
theorem dksX10_seen_0 : cX10_seen.data.toList.drop 0 = dktX10_seen_0 := by decide +kernel
theorem dksX10_seen_1 : cX10_seen.data.toList.drop 23 = dktX10_seen_1 := dk_seg dksX10_seen_0 23 rfl rfl
theorem dX10_seen_0 : decode cX10_seen 0 = .ok (.iload_n 1, 1) := dk_27 (dk_at dksX10_seen_0 0 rfl rfl)
theorem dX10_seen_1 : decode cX10_seen 1 = .ok (.aload_n 0, 1) := dk_42 (dk_at dksX10_seen_0 1 rfl rfl)
theorem dX10_seen_2 : decode cX10_seen 2 = .ok (.getfield 9, 3) := dk_180 0 9 (dk_at dksX10_seen_0 2 rfl rfl)
theorem dX10_seen_5 : decode cX10_seen 5 = .ok (.invokestatic 15, 3) := dk_184 0 15 (dk_at dksX10_seen_0 5 rfl rfl)
theorem dX10_seen_8 : decode cX10_seen 8 = .ok (.ifCond .ne 7, 3) := dk_154 0 7 (dk_at dksX10_seen_0 8 rfl rfl)
theorem dX10_seen_11 : decode cX10_seen 11 = .ok (.iconst 2, 1) := dk_5 (dk_at dksX10_seen_0 11 rfl rfl)
theorem dX10_seen_12 : decode cX10_seen 12 = .ok (.goto 19, 3) := dk_167 0 19 (dk_at dksX10_seen_0 12 rfl rfl)
theorem dX10_seen_15 : decode cX10_seen 15 = .ok (.iload_n 2, 1) := dk_28 (dk_at dksX10_seen_0 15 rfl rfl)
theorem dX10_seen_16 : decode cX10_seen 16 = .ok (.aload_n 0, 1) := dk_42 (dk_at dksX10_seen_0 16 rfl rfl)
theorem dX10_seen_17 : decode cX10_seen 17 = .ok (.getfield 9, 3) := dk_180 0 9 (dk_at dksX10_seen_0 17 rfl rfl)
theorem dX10_seen_20 : decode cX10_seen 20 = .ok (.invokestatic 15, 3) := dk_184 0 15 (dk_at dksX10_seen_0 20 rfl rfl)
theorem dX10_seen_23 : decode cX10_seen 23 = .ok (.ifCond .eq 7, 3) := dk_153 0 7 (dk_at dksX10_seen_1 0 rfl rfl)
theorem dX10_seen_26 : decode cX10_seen 26 = .ok (.iconst 1, 1) := dk_4 (dk_at dksX10_seen_1 3 rfl rfl)
theorem dX10_seen_27 : decode cX10_seen 27 = .ok (.goto 4, 3) := dk_167 0 4 (dk_at dksX10_seen_1 4 rfl rfl)
theorem dX10_seen_30 : decode cX10_seen 30 = .ok (.iconst 0, 1) := dk_3 (dk_at dksX10_seen_1 7 rfl rfl)
theorem dX10_seen_31 : decode cX10_seen 31 = .ok (.ireturn, 1) := dk_172 (dk_at dksX10_seen_1 8 rfl rfl)
theorem q197 : (Jvm.Cond.initialized "StruckCounts$Fact") ∈ lw_all := lw_g (lw_at lw_m1 42 rfl) rfl
theorem q424 : (Jvm.Cond.castable "StruckCounts$Fact" "StruckCounts$Expr") ∈ lw_tbl := lw_at lw_m2 29 rfl
theorem q425 : (Jvm.Cond.selects "StruckCounts$Fact" ({ cls := "StruckCounts$Expr", name := "holds", desc := "(I)Z" } : Jvm.MethodName) ({ cls := "StruckCounts$Fact", name := "holds", desc := "(I)Z" } : Jvm.MethodName)) ∈ lw_all := lw_g (lw_at lw_m2 30 rfl) rfl
theorem q426 : (Jvm.Cond.unhidden "StruckCounts$Fact" "holds" "(I)Z") ∈ lw_tbl := lw_at lw_m2 31 rfl
theorem q427 : (Jvm.Cond.instanceMethod ({ cls := "StruckCounts$Fact", name := "holds", desc := "(I)Z" } : Jvm.MethodName)) ∈ lw_all := lw_g (lw_at lw_m2 32 rfl) rfl
theorem q428 : (Jvm.Cond.publicMethod ({ cls := "StruckCounts$Fact", name := "holds", desc := "(I)Z" } : Jvm.MethodName)) ∈ lw_tbl := lw_at lw_m2 33 rfl
theorem q429 : (Jvm.Cond.code ({ cls := "StruckCounts$Fact", name := "holds", desc := "(I)Z" } : Jvm.MethodName) prog_5_method_2_code (2 : Nat) (Option.some Jvm.ClassFile.FieldType.boolean)) ∈ lw_all := lw_g (lw_at lw_m2 34 rfl) rfl
theorem q430 : (Jvm.Cond.methodLinkNest "StruckCounts$Fact" (15 : Nat) ({ cls := "StruckCounts", name := "has", desc := "(II)Z" } : Jvm.MethodName) "StruckCounts") ∈ lw_tbl := lw_at lw_m2 35 rfl
theorem q1151 : (Jvm.Cond.selects "StruckCounts$Fact" ({ cls := "java/lang/Object", name := "hashCode", desc := "()I" } : Jvm.MethodName) ({ cls := "java/lang/Object", name := "hashCode", desc := "()I" } : Jvm.MethodName)) ∈ lw_all := lw_g (lw_at lw_m5 36 rfl) rfl
theorem q1182 : (Jvm.Cond.selects "StruckCounts$Fact" ({ cls := "java/lang/Object", name := "equals", desc := "(Ljava/lang/Object;)Z" } : Jvm.MethodName) ({ cls := "java/lang/Object", name := "equals", desc := "(Ljava/lang/Object;)Z" } : Jvm.MethodName)) ∈ lw_all := lw_g (lw_at lw_m5 67 rfl) rfl
theorem q1228 : (Jvm.Cond.selects "StruckCounts$Fact" ({ cls := "java/lang/Object", name := "getClass", desc := "()Ljava/lang/Class;" } : Jvm.MethodName) ({ cls := "java/lang/Object", name := "getClass", desc := "()Ljava/lang/Class;" } : Jvm.MethodName)) ∈ lw_all := lw_g (lw_at lw_m5 113 rfl) rfl
theorem q1770 : (Jvm.Cond.instantiable "StruckCounts$Fact" (1 : Nat)) ∈ lw_all := lw_g (lw_at lw_m7 175 rfl) rfl
theorem q1772 : (Jvm.Cond.instanceMethod ({ cls := "StruckCounts$Fact", name := "<init>", desc := "(I)V" } : Jvm.MethodName)) ∈ lw_all := lw_g (lw_at lw_m7 177 rfl) rfl
theorem q1773 : (Jvm.Cond.code ({ cls := "StruckCounts$Fact", name := "<init>", desc := "(I)V" } : Jvm.MethodName) prog_5_method_1_code (2 : Nat) (Option.none : Option Jvm.ClassFile.FieldType)) ∈ lw_all := lw_g (lw_at lw_m7 178 rfl) rfl
theorem q1774 : (Jvm.Cond.methodLink "StruckCounts$Fact" (3 : Nat) ({ cls := "java/lang/Object", name := "<init>", desc := "()V" } : Jvm.MethodName)) ∈ lw_all := lw_g (lw_at lw_m7 179 rfl) rfl
theorem q1775 : (Jvm.Cond.fieldLink "StruckCounts$Fact" (9 : Nat) "StruckCounts$Fact" "number" "I") ∈ lw_all := lw_g (lw_at lw_m7 180 rfl) rfl
theorem q1776 : (Jvm.Cond.laysFinal "StruckCounts$Fact" "StruckCounts$Fact" "number" "I") ∈ lw_all := lw_g (lw_at lw_m7 181 rfl) rfl
theorem q1777 : (Jvm.Cond.soleField "StruckCounts$Fact" "number") ∈ lw_all := lw_g (lw_at lw_m7 182 rfl) rfl
theorem q1778 : (Jvm.Cond.superclass "StruckCounts$Fact" "java/lang/Object") ∈ lw_all := lw_g (lw_at lw_m7 183 rfl) rfl
theorem q2009 : (Jvm.Cond.selects "StruckCounts$Fact" ({ cls := "StruckCounts$Expr", name := "seen", desc := "(II)I" } : Jvm.MethodName) ({ cls := "StruckCounts$Fact", name := "seen", desc := "(II)I" } : Jvm.MethodName)) ∈ lw_all := lw_g (lw_at lw_m8 174 rfl) rfl
theorem q2010 : (Jvm.Cond.unhidden "StruckCounts$Fact" "seen" "(II)I") ∈ lw_tbl := lw_at lw_m8 175 rfl
theorem q2011 : (Jvm.Cond.instanceMethod ({ cls := "StruckCounts$Fact", name := "seen", desc := "(II)I" } : Jvm.MethodName)) ∈ lw_all := lw_g (lw_at lw_m8 176 rfl) rfl
theorem q2012 : (Jvm.Cond.publicMethod ({ cls := "StruckCounts$Fact", name := "seen", desc := "(II)I" } : Jvm.MethodName)) ∈ lw_tbl := lw_at lw_m8 177 rfl
theorem q2013 : (Jvm.Cond.code ({ cls := "StruckCounts$Fact", name := "seen", desc := "(II)I" } : Jvm.MethodName) prog_5_method_3_code (3 : Nat) (Option.some Jvm.ClassFile.FieldType.int)) ∈ lw_all := lw_g (lw_at lw_m8 178 rfl) rfl
theorem q2038 : (Jvm.Cond.unhidden "StruckCounts$Fact" "mayBeSeen" "(II)Z") ∈ lw_tbl := lw_at lw_m8 203 rfl
theorem q3099 : (Jvm.Cond.castable "StruckCounts$Fact" "java/lang/Object") ∈ lw_tbl := lw_at lw_m13 64 rfl
theorem in_X10 : ∀ w ∈ wsX100, w ∈ lw_all := lw_in wsX100 [1776] (by decide +kernel) (by decide +kernel)

/-! StruckCounts$All -/
set_option maxRecDepth 100000
def RX11 : String := "StruckCounts$All"
def TX11 : u_T := fun k => match k with
  | _ => ("StruckCounts$Some", "parts", "Ljava/util/ArrayList;", true)
def tyX11 : Nat → FieldType := fun k => match k with
  | _ => .object "java/util/ArrayList"
abbrev wsX110 : List Cond := u_ws RX11 TX11 1
theorem nmX11 : ∀ a, a < 1 → ∀ b, b < 1 → a ≠ b → (TX11 a).2.1 ≠ (TX11 b).2.1 := by decide +kernel
theorem tyX11_ok : ∀ k, k < 1 → parseFieldDescriptor (TX11 k).2.2.1 = some (tyX11 k) := by decide +kernel
abbrev cX11_due : ByteArray := prog_2_method_2_code
def yX11_due : MethodName := ⟨RX11, "due", "()I"⟩
theorem dX11_due_0 : decode cX11_due 0 = .ok (.aload_n 0, 1) := by decide +kernel
theorem dX11_due_1 : decode cX11_due 1 = .ok (.invokevirtual 7, 3) := by decide +kernel
theorem dX11_due_4 : decode cX11_due 4 = .ok (.ireturn, 1) := by decide +kernel
abbrev cX11_init : ByteArray := prog_2_method_1_code
def yX11_init : MethodName := ⟨RX11, "<init>", "(Ljava/util/ArrayList;)V"⟩
def dkwX11_init_0 : List UInt8 := [42, 43, 183, 0, 1, 177]
abbrev dktX11_init_0 : List UInt8 := dkwX11_init_0 ++ []
theorem dksX11_init_0 : cX11_init.data.toList.drop 0 = dktX11_init_0 := by decide +kernel
theorem dX11_init_0 : decode cX11_init 0 = .ok (.aload_n 0, 1) := dk_42 (dk_at dksX11_init_0 0 rfl rfl)
theorem dX11_init_1 : decode cX11_init 1 = .ok (.aload_n 1, 1) := dk_43 (dk_at dksX11_init_0 1 rfl rfl)
theorem dX11_init_2 : decode cX11_init 2 = .ok (.invokespecial 1, 3) := dk_183 0 1 (dk_at dksX11_init_0 2 rfl rfl)
theorem dX11_init_5 : decode cX11_init 5 = .ok (.return_, 1) := dk_177 (dk_at dksX11_init_0 5 rfl rfl)
theorem q198 : (Jvm.Cond.initialized "StruckCounts$All") ∈ lw_all := lw_g (lw_at lw_m1 43 rfl) rfl
theorem q413 : (Jvm.Cond.castable "StruckCounts$All" "StruckCounts$Expr") ∈ lw_tbl := lw_at lw_m2 18 rfl
theorem q414 : (Jvm.Cond.selects "StruckCounts$All" ({ cls := "StruckCounts$Expr", name := "holds", desc := "(I)Z" } : Jvm.MethodName) ({ cls := "StruckCounts$Some", name := "holds", desc := "(I)Z" } : Jvm.MethodName)) ∈ lw_all := lw_g (lw_at lw_m2 19 rfl) rfl
theorem q415 : (Jvm.Cond.unhidden "StruckCounts$All" "holds" "(I)Z") ∈ lw_tbl := lw_at lw_m2 20 rfl
theorem q451 : (Jvm.Cond.selects "StruckCounts$All" ({ cls := "StruckCounts$Some", name := "due", desc := "()I" } : Jvm.MethodName) ({ cls := "StruckCounts$All", name := "due", desc := "()I" } : Jvm.MethodName)) ∈ lw_all := lw_g (lw_at lw_m2 56 rfl) rfl
theorem q452 : (Jvm.Cond.instanceMethod ({ cls := "StruckCounts$All", name := "due", desc := "()I" } : Jvm.MethodName)) ∈ lw_all := lw_g (lw_at lw_m2 57 rfl) rfl
theorem q453 : (Jvm.Cond.code ({ cls := "StruckCounts$All", name := "due", desc := "()I" } : Jvm.MethodName) prog_2_method_2_code (1 : Nat) (Option.some Jvm.ClassFile.FieldType.int)) ∈ lw_all := lw_g (lw_at lw_m2 58 rfl) rfl
theorem q454 : (Jvm.Cond.methodLink "StruckCounts$All" (7 : Nat) ({ cls := "StruckCounts$All", name := "size", desc := "()I" } : Jvm.MethodName)) ∈ lw_all := lw_g (lw_at lw_m2 59 rfl) rfl
theorem q455 : (Jvm.Cond.sameMethod "StruckCounts$All" "StruckCounts$Some" "size" "()I") ∈ lw_all := lw_g (lw_at lw_m2 60 rfl) rfl
theorem q457 : (Jvm.Cond.selects "StruckCounts$All" ({ cls := "StruckCounts$All", name := "size", desc := "()I" } : Jvm.MethodName) ({ cls := "StruckCounts$Some", name := "size", desc := "()I" } : Jvm.MethodName)) ∈ lw_all := lw_g (lw_at lw_m2 62 rfl) rfl
theorem q1147 : (Jvm.Cond.selects "StruckCounts$All" ({ cls := "java/lang/Object", name := "hashCode", desc := "()I" } : Jvm.MethodName) ({ cls := "java/lang/Object", name := "hashCode", desc := "()I" } : Jvm.MethodName)) ∈ lw_all := lw_g (lw_at lw_m5 32 rfl) rfl
theorem q1177 : (Jvm.Cond.selects "StruckCounts$All" ({ cls := "java/lang/Object", name := "equals", desc := "(Ljava/lang/Object;)Z" } : Jvm.MethodName) ({ cls := "java/lang/Object", name := "equals", desc := "(Ljava/lang/Object;)Z" } : Jvm.MethodName)) ∈ lw_all := lw_g (lw_at lw_m5 62 rfl) rfl
theorem q1226 : (Jvm.Cond.selects "StruckCounts$All" ({ cls := "java/lang/Object", name := "getClass", desc := "()Ljava/lang/Class;" } : Jvm.MethodName) ({ cls := "java/lang/Object", name := "getClass", desc := "()Ljava/lang/Class;" } : Jvm.MethodName)) ∈ lw_all := lw_g (lw_at lw_m5 111 rfl) rfl
theorem q1782 : (Jvm.Cond.instantiable "StruckCounts$All" (1 : Nat)) ∈ lw_all := lw_g (lw_at lw_m7 187 rfl) rfl
theorem q1784 : (Jvm.Cond.instanceMethod ({ cls := "StruckCounts$All", name := "<init>", desc := "(Ljava/util/ArrayList;)V" } : Jvm.MethodName)) ∈ lw_all := lw_g (lw_at lw_m7 189 rfl) rfl
theorem q1785 : (Jvm.Cond.code ({ cls := "StruckCounts$All", name := "<init>", desc := "(Ljava/util/ArrayList;)V" } : Jvm.MethodName) prog_2_method_1_code (2 : Nat) (Option.none : Option Jvm.ClassFile.FieldType)) ∈ lw_all := lw_g (lw_at lw_m7 190 rfl) rfl
theorem q1786 : (Jvm.Cond.methodLink "StruckCounts$All" (1 : Nat) ({ cls := "StruckCounts$Some", name := "<init>", desc := "(Ljava/util/ArrayList;)V" } : Jvm.MethodName)) ∈ lw_all := lw_g (lw_at lw_m7 191 rfl) rfl
theorem q1787 : (Jvm.Cond.laysFinal "StruckCounts$All" "StruckCounts$Some" "parts" "Ljava/util/ArrayList;") ∈ lw_all := lw_g (lw_at lw_m7 192 rfl) rfl
theorem q1788 : (Jvm.Cond.superclass "StruckCounts$All" "StruckCounts$Some") ∈ lw_all := lw_g (lw_at lw_m7 193 rfl) rfl
theorem q2002 : (Jvm.Cond.selects "StruckCounts$All" ({ cls := "StruckCounts$Expr", name := "seen", desc := "(II)I" } : Jvm.MethodName) ({ cls := "StruckCounts$Some", name := "seen", desc := "(II)I" } : Jvm.MethodName)) ∈ lw_all := lw_g (lw_at lw_m8 167 rfl) rfl
theorem q2003 : (Jvm.Cond.unhidden "StruckCounts$All" "seen" "(II)I") ∈ lw_tbl := lw_at lw_m8 168 rfl
theorem q2032 : (Jvm.Cond.unhidden "StruckCounts$All" "mayBeSeen" "(II)Z") ∈ lw_tbl := lw_at lw_m8 197 rfl
theorem q3100 : (Jvm.Cond.castable "StruckCounts$All" "java/lang/Object") ∈ lw_tbl := lw_at lw_m13 65 rfl
theorem in_X11 : ∀ w ∈ wsX110, w ∈ lw_all := lw_in wsX110 [1787] (by decide +kernel) (by decide +kernel)

/-! StruckCounts$Told -/
set_option maxRecDepth 100000
def RX12 : String := "StruckCounts$Told"
def TX12 : u_T := fun k => match k with
  | 0 => ("StruckCounts$Told", "worth", "I", true)
  | 1 => ("StruckCounts$Told", "arose", "I", true)
  | 2 => ("StruckCounts$Told", "elements", "Ljava/util/ArrayList;", true)
  | 3 => ("StruckCounts$Told", "pleas", "Ljava/util/ArrayList;", true)
  | 4 => ("StruckCounts$Told", "says", "I", false)
  | _ => ("StruckCounts$Told", "so", "I", false)
def tyX12 : Nat → FieldType := fun k => match k with
  | 0 => .int
  | 1 => .int
  | 2 => .object "java/util/ArrayList"
  | 3 => .object "java/util/ArrayList"
  | 4 => .int
  | _ => .int
abbrev wsX120 : List Cond := u_ws RX12 TX12 6
theorem nmX12 : ∀ a, a < 6 → ∀ b, b < 6 → a ≠ b → (TX12 a).2.1 ≠ (TX12 b).2.1 := by decide +kernel
theorem tyX12_ok : ∀ k, k < 6 → parseFieldDescriptor (TX12 k).2.2.1 = some (tyX12 k) := by decide +kernel
abbrev cX12_init : ByteArray := prog_16_method_1_code
def yX12_init : MethodName := ⟨RX12, "<init>", "(II)V"⟩
def dkwX12_init_1 : List UInt8 := [183, 0, 9, 181, 0, 18, 42, 27, 181, 0, 21, 42, 28, 181, 0, 25, 177]
abbrev dktX12_init_1 : List UInt8 := dkwX12_init_1 ++ []
def dkwX12_init_0 : List UInt8 := [42, 183, 0, 1, 42, 187, 0, 7, 89, 7, 183, 0, 9, 181, 0, 12, 42, 187, 0, 7, 89, 5]
abbrev dktX12_init_0 : List UInt8 := dkwX12_init_0 ++ dktX12_init_1
theorem dksX12_init_0 : cX12_init.data.toList.drop 0 = dktX12_init_0 := by decide +kernel
theorem dksX12_init_1 : cX12_init.data.toList.drop 22 = dktX12_init_1 := dk_seg dksX12_init_0 22 rfl rfl
theorem dX12_init_0 : decode cX12_init 0 = .ok (.aload_n 0, 1) := dk_42 (dk_at dksX12_init_0 0 rfl rfl)
theorem dX12_init_1 : decode cX12_init 1 = .ok (.invokespecial 1, 3) := dk_183 0 1 (dk_at dksX12_init_0 1 rfl rfl)
theorem dX12_init_4 : decode cX12_init 4 = .ok (.aload_n 0, 1) := dk_42 (dk_at dksX12_init_0 4 rfl rfl)
theorem dX12_init_5 : decode cX12_init 5 = .ok (.new 7, 3) := dk_187 0 7 (dk_at dksX12_init_0 5 rfl rfl)
theorem dX12_init_8 : decode cX12_init 8 = .ok (.dup, 1) := dk_89 (dk_at dksX12_init_0 8 rfl rfl)
theorem dX12_init_9 : decode cX12_init 9 = .ok (.iconst 4, 1) := dk_7 (dk_at dksX12_init_0 9 rfl rfl)
theorem dX12_init_10 : decode cX12_init 10 = .ok (.invokespecial 9, 3) := dk_183 0 9 (dk_at dksX12_init_0 10 rfl rfl)
theorem dX12_init_13 : decode cX12_init 13 = .ok (.putfield 12, 3) := dk_181 0 12 (dk_at dksX12_init_0 13 rfl rfl)
theorem dX12_init_16 : decode cX12_init 16 = .ok (.aload_n 0, 1) := dk_42 (dk_at dksX12_init_0 16 rfl rfl)
theorem dX12_init_17 : decode cX12_init 17 = .ok (.new 7, 3) := dk_187 0 7 (dk_at dksX12_init_0 17 rfl rfl)
theorem dX12_init_20 : decode cX12_init 20 = .ok (.dup, 1) := dk_89 (dk_at dksX12_init_0 20 rfl rfl)
theorem dX12_init_21 : decode cX12_init 21 = .ok (.iconst 2, 1) := dk_5 (dk_at dksX12_init_0 21 rfl rfl)
theorem dX12_init_22 : decode cX12_init 22 = .ok (.invokespecial 9, 3) := dk_183 0 9 (dk_at dksX12_init_1 0 rfl rfl)
theorem dX12_init_25 : decode cX12_init 25 = .ok (.putfield 18, 3) := dk_181 0 18 (dk_at dksX12_init_1 3 rfl rfl)
theorem dX12_init_28 : decode cX12_init 28 = .ok (.aload_n 0, 1) := dk_42 (dk_at dksX12_init_1 6 rfl rfl)
theorem dX12_init_29 : decode cX12_init 29 = .ok (.iload_n 1, 1) := dk_27 (dk_at dksX12_init_1 7 rfl rfl)
theorem dX12_init_30 : decode cX12_init 30 = .ok (.putfield 21, 3) := dk_181 0 21 (dk_at dksX12_init_1 8 rfl rfl)
theorem dX12_init_33 : decode cX12_init 33 = .ok (.aload_n 0, 1) := dk_42 (dk_at dksX12_init_1 11 rfl rfl)
theorem dX12_init_34 : decode cX12_init 34 = .ok (.iload_n 2, 1) := dk_28 (dk_at dksX12_init_1 12 rfl rfl)
theorem dX12_init_35 : decode cX12_init 35 = .ok (.putfield 25, 3) := dk_181 0 25 (dk_at dksX12_init_1 13 rfl rfl)
theorem dX12_init_38 : decode cX12_init 38 = .ok (.return_, 1) := dk_177 (dk_at dksX12_init_1 16 rfl rfl)
theorem q199 : (Jvm.Cond.initialized "StruckCounts$Told") ∈ lw_all := lw_g (lw_at lw_m1 44 rfl) rfl
theorem q1164 : (Jvm.Cond.selects "StruckCounts$Told" ({ cls := "java/lang/Object", name := "hashCode", desc := "()I" } : Jvm.MethodName) ({ cls := "java/lang/Object", name := "hashCode", desc := "()I" } : Jvm.MethodName)) ∈ lw_all := lw_g (lw_at lw_m5 49 rfl) rfl
theorem q1196 : (Jvm.Cond.selects "StruckCounts$Told" ({ cls := "java/lang/Object", name := "equals", desc := "(Ljava/lang/Object;)Z" } : Jvm.MethodName) ({ cls := "java/lang/Object", name := "equals", desc := "(Ljava/lang/Object;)Z" } : Jvm.MethodName)) ∈ lw_all := lw_g (lw_at lw_m5 81 rfl) rfl
theorem q1239 : (Jvm.Cond.selects "StruckCounts$Told" ({ cls := "java/lang/Object", name := "getClass", desc := "()Ljava/lang/Class;" } : Jvm.MethodName) ({ cls := "java/lang/Object", name := "getClass", desc := "()Ljava/lang/Class;" } : Jvm.MethodName)) ∈ lw_all := lw_g (lw_at lw_m5 124 rfl) rfl
theorem q1799 : (Jvm.Cond.instantiable "StruckCounts$Told" (6 : Nat)) ∈ lw_all := lw_g (lw_at lw_m7 204 rfl) rfl
theorem q1801 : (Jvm.Cond.instanceMethod ({ cls := "StruckCounts$Told", name := "<init>", desc := "(II)V" } : Jvm.MethodName)) ∈ lw_all := lw_g (lw_at lw_m7 206 rfl) rfl
theorem q1802 : (Jvm.Cond.code ({ cls := "StruckCounts$Told", name := "<init>", desc := "(II)V" } : Jvm.MethodName) prog_16_method_1_code (3 : Nat) (Option.none : Option Jvm.ClassFile.FieldType)) ∈ lw_all := lw_g (lw_at lw_m7 207 rfl) rfl
theorem q1803 : (Jvm.Cond.methodLink "StruckCounts$Told" (1 : Nat) ({ cls := "java/lang/Object", name := "<init>", desc := "()V" } : Jvm.MethodName)) ∈ lw_all := lw_g (lw_at lw_m7 208 rfl) rfl
theorem q1804 : (Jvm.Cond.classLink "StruckCounts$Told" (7 : Nat) "java/util/ArrayList") ∈ lw_all := lw_g (lw_at lw_m7 209 rfl) rfl
theorem q1805 : (Jvm.Cond.methodLink "StruckCounts$Told" (9 : Nat) ({ cls := "java/util/ArrayList", name := "<init>", desc := "(I)V" } : Jvm.MethodName)) ∈ lw_all := lw_g (lw_at lw_m7 210 rfl) rfl
theorem q1806 : (Jvm.Cond.fieldLink "StruckCounts$Told" (21 : Nat) "StruckCounts$Told" "worth" "I") ∈ lw_all := lw_g (lw_at lw_m7 211 rfl) rfl
theorem q1808 : (Jvm.Cond.fieldLink "StruckCounts$Told" (25 : Nat) "StruckCounts$Told" "arose" "I") ∈ lw_all := lw_g (lw_at lw_m7 213 rfl) rfl
theorem q1810 : (Jvm.Cond.fieldLink "StruckCounts$Told" (12 : Nat) "StruckCounts$Told" "elements" "Ljava/util/ArrayList;") ∈ lw_all := lw_g (lw_at lw_m7 215 rfl) rfl
theorem q1814 : (Jvm.Cond.fieldLink "StruckCounts$Told" (18 : Nat) "StruckCounts$Told" "pleas" "Ljava/util/ArrayList;") ∈ lw_all := lw_g (lw_at lw_m7 219 rfl) rfl
theorem q1822 : (Jvm.Cond.laysFinal "StruckCounts$Told" "StruckCounts$Told" "worth" "I") ∈ lw_all := lw_g (lw_at lw_m7 227 rfl) rfl
theorem q1823 : (Jvm.Cond.soleField "StruckCounts$Told" "worth") ∈ lw_all := lw_g (lw_at lw_m7 228 rfl) rfl
theorem q1824 : (Jvm.Cond.laysFinal "StruckCounts$Told" "StruckCounts$Told" "arose" "I") ∈ lw_all := lw_g (lw_at lw_m7 229 rfl) rfl
theorem q1825 : (Jvm.Cond.soleField "StruckCounts$Told" "arose") ∈ lw_all := lw_g (lw_at lw_m7 230 rfl) rfl
theorem q1826 : (Jvm.Cond.laysFinal "StruckCounts$Told" "StruckCounts$Told" "elements" "Ljava/util/ArrayList;") ∈ lw_all := lw_g (lw_at lw_m7 231 rfl) rfl
theorem q1827 : (Jvm.Cond.soleField "StruckCounts$Told" "elements") ∈ lw_all := lw_g (lw_at lw_m7 232 rfl) rfl
theorem q1828 : (Jvm.Cond.laysFinal "StruckCounts$Told" "StruckCounts$Told" "pleas" "Ljava/util/ArrayList;") ∈ lw_all := lw_g (lw_at lw_m7 233 rfl) rfl
theorem q1829 : (Jvm.Cond.soleField "StruckCounts$Told" "pleas") ∈ lw_all := lw_g (lw_at lw_m7 234 rfl) rfl
theorem q1830 : (Jvm.Cond.lays "StruckCounts$Told" "StruckCounts$Told" "says" "I") ∈ lw_all := lw_g (lw_at lw_m7 235 rfl) rfl
theorem q1831 : (Jvm.Cond.soleField "StruckCounts$Told" "says") ∈ lw_all := lw_g (lw_at lw_m7 236 rfl) rfl
theorem q1832 : (Jvm.Cond.lays "StruckCounts$Told" "StruckCounts$Told" "so" "I") ∈ lw_all := lw_g (lw_at lw_m7 237 rfl) rfl
theorem q1833 : (Jvm.Cond.soleField "StruckCounts$Told" "so") ∈ lw_all := lw_g (lw_at lw_m7 238 rfl) rfl
theorem q1834 : (Jvm.Cond.superclass "StruckCounts$Told" "java/lang/Object") ∈ lw_all := lw_g (lw_at lw_m7 239 rfl) rfl
theorem q3102 : (Jvm.Cond.castable "StruckCounts$Told" "java/lang/Object") ∈ lw_tbl := lw_at lw_m13 67 rfl
theorem in_X12 : ∀ w ∈ wsX120, w ∈ lw_all := lw_in wsX120 [1822, 1824, 1826, 1828, 1830, 1832] (by decide +kernel) (by decide +kernel)

/-! StruckCounts$Rule -/
set_option maxRecDepth 100000
def RX13 : String := "StruckCounts$Rule"
def TX13 : u_T := fun k => match k with
  | 0 => ("StruckCounts$Rule", "expr", "LStruckCounts$Expr;", true)
  | _ => ("StruckCounts$Rule", "is", "[Z", false)
def tyX13 : Nat → FieldType := fun k => match k with
  | 0 => .object "StruckCounts$Expr"
  | _ => .array .boolean
abbrev wsX130 : List Cond := u_ws RX13 TX13 2
theorem nmX13 : ∀ a, a < 2 → ∀ b, b < 2 → a ≠ b → (TX13 a).2.1 ≠ (TX13 b).2.1 := by decide +kernel
theorem tyX13_ok : ∀ k, k < 2 → parseFieldDescriptor (TX13 k).2.2.1 = some (tyX13 k) := by decide +kernel
abbrev cX13_laid : ByteArray := prog_11_method_2_code
def yX13_laid : MethodName := ⟨RX13, "laid", "(I)LStruckCounts$Rule;"⟩
def dkwX13_laid_1 : List UInt8 := [28, 42, 180, 0, 13, 28, 185, 0, 17, 2, 0, 84, 132, 2, 1, 167, 255, 228, 42, 176]
abbrev dktX13_laid_1 : List UInt8 := dkwX13_laid_1 ++ []
def dkwX13_laid_0 : List UInt8 := [42, 4, 27, 120, 188, 4, 181, 0, 7, 3, 61, 28, 42, 180, 0, 7, 190, 162, 0, 25, 42, 180, 0, 7]
abbrev dktX13_laid_0 : List UInt8 := dkwX13_laid_0 ++ dktX13_laid_1
theorem dksX13_laid_0 : cX13_laid.data.toList.drop 0 = dktX13_laid_0 := by decide +kernel
theorem dksX13_laid_1 : cX13_laid.data.toList.drop 24 = dktX13_laid_1 := dk_seg dksX13_laid_0 24 rfl rfl
theorem dX13_laid_0 : decode cX13_laid 0 = .ok (.aload_n 0, 1) := dk_42 (dk_at dksX13_laid_0 0 rfl rfl)
theorem dX13_laid_1 : decode cX13_laid 1 = .ok (.iconst 1, 1) := dk_4 (dk_at dksX13_laid_0 1 rfl rfl)
theorem dX13_laid_2 : decode cX13_laid 2 = .ok (.iload_n 1, 1) := dk_27 (dk_at dksX13_laid_0 2 rfl rfl)
theorem dX13_laid_3 : decode cX13_laid 3 = .ok (.ishl, 1) := dk_120 (dk_at dksX13_laid_0 3 rfl rfl)
theorem dX13_laid_4 : decode cX13_laid 4 = .ok (.newarray .boolean, 2) := dk_188_4 (dk_at dksX13_laid_0 4 rfl rfl)
theorem dX13_laid_6 : decode cX13_laid 6 = .ok (.putfield 7, 3) := dk_181 0 7 (dk_at dksX13_laid_0 6 rfl rfl)
theorem dX13_laid_9 : decode cX13_laid 9 = .ok (.iconst 0, 1) := dk_3 (dk_at dksX13_laid_0 9 rfl rfl)
theorem dX13_laid_10 : decode cX13_laid 10 = .ok (.istore_n 2, 1) := dk_61 (dk_at dksX13_laid_0 10 rfl rfl)
theorem dX13_laid_11 : decode cX13_laid 11 = .ok (.iload_n 2, 1) := dk_28 (dk_at dksX13_laid_0 11 rfl rfl)
theorem dX13_laid_12 : decode cX13_laid 12 = .ok (.aload_n 0, 1) := dk_42 (dk_at dksX13_laid_0 12 rfl rfl)
theorem dX13_laid_13 : decode cX13_laid 13 = .ok (.getfield 7, 3) := dk_180 0 7 (dk_at dksX13_laid_0 13 rfl rfl)
theorem dX13_laid_16 : decode cX13_laid 16 = .ok (.arraylength, 1) := dk_190 (dk_at dksX13_laid_0 16 rfl rfl)
theorem dX13_laid_17 : decode cX13_laid 17 = .ok (.if_icmp .ge 25, 3) := dk_162 0 25 (dk_at dksX13_laid_0 17 rfl rfl)
theorem dX13_laid_20 : decode cX13_laid 20 = .ok (.aload_n 0, 1) := dk_42 (dk_at dksX13_laid_0 20 rfl rfl)
theorem dX13_laid_21 : decode cX13_laid 21 = .ok (.getfield 7, 3) := dk_180 0 7 (dk_at dksX13_laid_0 21 rfl rfl)
theorem dX13_laid_24 : decode cX13_laid 24 = .ok (.iload_n 2, 1) := dk_28 (dk_at dksX13_laid_1 0 rfl rfl)
theorem dX13_laid_25 : decode cX13_laid 25 = .ok (.aload_n 0, 1) := dk_42 (dk_at dksX13_laid_1 1 rfl rfl)
theorem dX13_laid_26 : decode cX13_laid 26 = .ok (.getfield 13, 3) := dk_180 0 13 (dk_at dksX13_laid_1 2 rfl rfl)
theorem dX13_laid_29 : decode cX13_laid 29 = .ok (.iload_n 2, 1) := dk_28 (dk_at dksX13_laid_1 5 rfl rfl)
theorem dX13_laid_30 : decode cX13_laid 30 = .ok (.invokeinterface 17 2, 5) := by decide +kernel
theorem dX13_laid_35 : decode cX13_laid 35 = .ok (.bastore, 1) := dk_84 (dk_at dksX13_laid_1 11 rfl rfl)
theorem dX13_laid_36 : decode cX13_laid 36 = .ok (.iinc 2 1, 3) := dk_132 2 1 (dk_at dksX13_laid_1 12 rfl rfl)
theorem dX13_laid_39 : decode cX13_laid 39 = .ok (.goto (-28), 3) := dk_167 255 228 (dk_at dksX13_laid_1 15 rfl rfl)
theorem dX13_laid_42 : decode cX13_laid 42 = .ok (.aload_n 0, 1) := dk_42 (dk_at dksX13_laid_1 18 rfl rfl)
theorem dX13_laid_43 : decode cX13_laid 43 = .ok (.areturn, 1) := dk_176 (dk_at dksX13_laid_1 19 rfl rfl)
abbrev cX13_init : ByteArray := prog_11_method_1_code
def yX13_init : MethodName := ⟨RX13, "<init>", "(LStruckCounts$Expr;)V"⟩
def dkwX13_init_0 : List UInt8 := [42, 183, 0, 1, 42, 3, 188, 4, 181, 0, 7, 42, 43, 181, 0, 13, 177]
abbrev dktX13_init_0 : List UInt8 := dkwX13_init_0 ++ []
theorem dksX13_init_0 : cX13_init.data.toList.drop 0 = dktX13_init_0 := by decide +kernel
theorem dX13_init_0 : decode cX13_init 0 = .ok (.aload_n 0, 1) := dk_42 (dk_at dksX13_init_0 0 rfl rfl)
theorem dX13_init_1 : decode cX13_init 1 = .ok (.invokespecial 1, 3) := dk_183 0 1 (dk_at dksX13_init_0 1 rfl rfl)
theorem dX13_init_4 : decode cX13_init 4 = .ok (.aload_n 0, 1) := dk_42 (dk_at dksX13_init_0 4 rfl rfl)
theorem dX13_init_5 : decode cX13_init 5 = .ok (.iconst 0, 1) := dk_3 (dk_at dksX13_init_0 5 rfl rfl)
theorem dX13_init_6 : decode cX13_init 6 = .ok (.newarray .boolean, 2) := dk_188_4 (dk_at dksX13_init_0 6 rfl rfl)
theorem dX13_init_8 : decode cX13_init 8 = .ok (.putfield 7, 3) := dk_181 0 7 (dk_at dksX13_init_0 8 rfl rfl)
theorem dX13_init_11 : decode cX13_init 11 = .ok (.aload_n 0, 1) := dk_42 (dk_at dksX13_init_0 11 rfl rfl)
theorem dX13_init_12 : decode cX13_init 12 = .ok (.aload_n 1, 1) := dk_43 (dk_at dksX13_init_0 12 rfl rfl)
theorem dX13_init_13 : decode cX13_init 13 = .ok (.putfield 13, 3) := dk_181 0 13 (dk_at dksX13_init_0 13 rfl rfl)
theorem dX13_init_16 : decode cX13_init 16 = .ok (.return_, 1) := dk_177 (dk_at dksX13_init_0 16 rfl rfl)
theorem q200 : (Jvm.Cond.initialized "StruckCounts$Rule") ∈ lw_all := lw_g (lw_at lw_m1 45 rfl) rfl
theorem q472 : (Jvm.Cond.instanceMethod ({ cls := "StruckCounts$Rule", name := "laid", desc := "(I)LStruckCounts$Rule;" } : Jvm.MethodName)) ∈ lw_all := lw_g (lw_at lw_m2 77 rfl) rfl
theorem q473 : (Jvm.Cond.selects "StruckCounts$Rule" ({ cls := "StruckCounts$Rule", name := "laid", desc := "(I)LStruckCounts$Rule;" } : Jvm.MethodName) ({ cls := "StruckCounts$Rule", name := "laid", desc := "(I)LStruckCounts$Rule;" } : Jvm.MethodName)) ∈ lw_all := lw_g (lw_at lw_m2 78 rfl) rfl
theorem q474 : (Jvm.Cond.code ({ cls := "StruckCounts$Rule", name := "laid", desc := "(I)LStruckCounts$Rule;" } : Jvm.MethodName) prog_11_method_2_code (3 : Nat) (Option.some (Jvm.ClassFile.FieldType.object "StruckCounts$Rule"))) ∈ lw_all := lw_g (lw_at lw_m2 79 rfl) rfl
theorem q475 : (Jvm.Cond.interfaceEntry "StruckCounts$Rule" (17 : Nat)) ∈ lw_tbl := lw_at lw_m2 80 rfl
theorem q476 : (Jvm.Cond.methodLink "StruckCounts$Rule" (17 : Nat) ({ cls := "StruckCounts$Expr", name := "holds", desc := "(I)Z" } : Jvm.MethodName)) ∈ lw_all := lw_g (lw_at lw_m2 81 rfl) rfl
theorem q1159 : (Jvm.Cond.selects "StruckCounts$Rule" ({ cls := "java/lang/Object", name := "hashCode", desc := "()I" } : Jvm.MethodName) ({ cls := "java/lang/Object", name := "hashCode", desc := "()I" } : Jvm.MethodName)) ∈ lw_all := lw_g (lw_at lw_m5 44 rfl) rfl
theorem q1191 : (Jvm.Cond.selects "StruckCounts$Rule" ({ cls := "java/lang/Object", name := "equals", desc := "(Ljava/lang/Object;)Z" } : Jvm.MethodName) ({ cls := "java/lang/Object", name := "equals", desc := "(Ljava/lang/Object;)Z" } : Jvm.MethodName)) ∈ lw_all := lw_g (lw_at lw_m5 76 rfl) rfl
theorem q1234 : (Jvm.Cond.selects "StruckCounts$Rule" ({ cls := "java/lang/Object", name := "getClass", desc := "()Ljava/lang/Class;" } : Jvm.MethodName) ({ cls := "java/lang/Object", name := "getClass", desc := "()Ljava/lang/Class;" } : Jvm.MethodName)) ∈ lw_all := lw_g (lw_at lw_m5 119 rfl) rfl
theorem q1836 : (Jvm.Cond.instantiable "StruckCounts$Rule" (2 : Nat)) ∈ lw_all := lw_g (lw_at lw_m8 1 rfl) rfl
theorem q1838 : (Jvm.Cond.instanceMethod ({ cls := "StruckCounts$Rule", name := "<init>", desc := "(LStruckCounts$Expr;)V" } : Jvm.MethodName)) ∈ lw_all := lw_g (lw_at lw_m8 3 rfl) rfl
theorem q1839 : (Jvm.Cond.code ({ cls := "StruckCounts$Rule", name := "<init>", desc := "(LStruckCounts$Expr;)V" } : Jvm.MethodName) prog_11_method_1_code (2 : Nat) (Option.none : Option Jvm.ClassFile.FieldType)) ∈ lw_all := lw_g (lw_at lw_m8 4 rfl) rfl
theorem q1840 : (Jvm.Cond.methodLink "StruckCounts$Rule" (1 : Nat) ({ cls := "java/lang/Object", name := "<init>", desc := "()V" } : Jvm.MethodName)) ∈ lw_all := lw_g (lw_at lw_m8 5 rfl) rfl
theorem q1841 : (Jvm.Cond.fieldLink "StruckCounts$Rule" (13 : Nat) "StruckCounts$Rule" "expr" "LStruckCounts$Expr;") ∈ lw_all := lw_g (lw_at lw_m8 6 rfl) rfl
theorem q1843 : (Jvm.Cond.fieldLink "StruckCounts$Rule" (7 : Nat) "StruckCounts$Rule" "is" "[Z") ∈ lw_all := lw_g (lw_at lw_m8 8 rfl) rfl
theorem q1845 : (Jvm.Cond.laysFinal "StruckCounts$Rule" "StruckCounts$Rule" "expr" "LStruckCounts$Expr;") ∈ lw_all := lw_g (lw_at lw_m8 10 rfl) rfl
theorem q1846 : (Jvm.Cond.soleField "StruckCounts$Rule" "expr") ∈ lw_all := lw_g (lw_at lw_m8 11 rfl) rfl
theorem q1847 : (Jvm.Cond.lays "StruckCounts$Rule" "StruckCounts$Rule" "is" "[Z") ∈ lw_all := lw_g (lw_at lw_m8 12 rfl) rfl
theorem q1848 : (Jvm.Cond.soleField "StruckCounts$Rule" "is") ∈ lw_all := lw_g (lw_at lw_m8 13 rfl) rfl
theorem q1849 : (Jvm.Cond.superclass "StruckCounts$Rule" "java/lang/Object") ∈ lw_all := lw_g (lw_at lw_m8 14 rfl) rfl
theorem q3103 : (Jvm.Cond.castable "StruckCounts$Rule" "java/lang/Object") ∈ lw_tbl := lw_at lw_m13 68 rfl
theorem in_X13 : ∀ w ∈ wsX130, w ∈ lw_all := lw_in wsX130 [1845, 1847] (by decide +kernel) (by decide +kernel)

/-! StruckCounts$Couple -/
set_option maxRecDepth 100000
def RX14 : String := "StruckCounts$Couple"
def TX14 : u_T := fun k => match k with
  | 0 => ("StruckCounts$Couple", "one", "I", true)
  | _ => ("StruckCounts$Couple", "other", "I", true)
def tyX14 : Nat → FieldType := fun k => match k with
  | 0 => .int
  | _ => .int
abbrev wsX140 : List Cond := u_ws RX14 TX14 2
theorem nmX14 : ∀ a, a < 2 → ∀ b, b < 2 → a ≠ b → (TX14 a).2.1 ≠ (TX14 b).2.1 := by decide +kernel
theorem tyX14_ok : ∀ k, k < 2 → parseFieldDescriptor (TX14 k).2.2.1 = some (tyX14 k) := by decide +kernel
abbrev cX14_hashCode : ByteArray := prog_3_method_3_code
def yX14_hashCode : MethodName := ⟨RX14, "hashCode", "()I"⟩
def dkwX14_hashCode_0 : List UInt8 := [4, 42, 180, 0, 7, 120, 4, 42, 180, 0, 13, 120, 128, 172]
abbrev dktX14_hashCode_0 : List UInt8 := dkwX14_hashCode_0 ++ []
theorem dksX14_hashCode_0 : cX14_hashCode.data.toList.drop 0 = dktX14_hashCode_0 := by decide +kernel
theorem dX14_hashCode_0 : decode cX14_hashCode 0 = .ok (.iconst 1, 1) := dk_4 (dk_at dksX14_hashCode_0 0 rfl rfl)
theorem dX14_hashCode_1 : decode cX14_hashCode 1 = .ok (.aload_n 0, 1) := dk_42 (dk_at dksX14_hashCode_0 1 rfl rfl)
theorem dX14_hashCode_2 : decode cX14_hashCode 2 = .ok (.getfield 7, 3) := dk_180 0 7 (dk_at dksX14_hashCode_0 2 rfl rfl)
theorem dX14_hashCode_5 : decode cX14_hashCode 5 = .ok (.ishl, 1) := dk_120 (dk_at dksX14_hashCode_0 5 rfl rfl)
theorem dX14_hashCode_6 : decode cX14_hashCode 6 = .ok (.iconst 1, 1) := dk_4 (dk_at dksX14_hashCode_0 6 rfl rfl)
theorem dX14_hashCode_7 : decode cX14_hashCode 7 = .ok (.aload_n 0, 1) := dk_42 (dk_at dksX14_hashCode_0 7 rfl rfl)
theorem dX14_hashCode_8 : decode cX14_hashCode 8 = .ok (.getfield 13, 3) := dk_180 0 13 (dk_at dksX14_hashCode_0 8 rfl rfl)
theorem dX14_hashCode_11 : decode cX14_hashCode 11 = .ok (.ishl, 1) := dk_120 (dk_at dksX14_hashCode_0 11 rfl rfl)
theorem dX14_hashCode_12 : decode cX14_hashCode 12 = .ok (.ior, 1) := dk_128 (dk_at dksX14_hashCode_0 12 rfl rfl)
theorem dX14_hashCode_13 : decode cX14_hashCode 13 = .ok (.ireturn, 1) := dk_172 (dk_at dksX14_hashCode_0 13 rfl rfl)
abbrev cX14_equals : ByteArray := prog_3_method_2_code
def yX14_equals : MethodName := ⟨RX14, "equals", "(Ljava/lang/Object;)Z"⟩
def dkwX14_equals_2 : List UInt8 := [160, 0, 18, 42, 180, 0, 13, 44, 180, 0, 7, 160, 0, 7, 4, 167, 0, 4, 3, 172]
abbrev dktX14_equals_2 : List UInt8 := dkwX14_equals_2 ++ []
def dkwX14_equals_1 : List UInt8 := [160, 0, 14, 42, 180, 0, 13, 44, 180, 0, 13, 159, 0, 25, 42, 180, 0, 7, 44, 180, 0, 13]
abbrev dktX14_equals_1 : List UInt8 := dkwX14_equals_1 ++ dktX14_equals_2
def dkwX14_equals_0 : List UInt8 := [43, 193, 0, 8, 154, 0, 5, 3, 172, 43, 192, 0, 8, 77, 42, 180, 0, 7, 44, 180, 0, 7]
abbrev dktX14_equals_0 : List UInt8 := dkwX14_equals_0 ++ dktX14_equals_1
theorem dksX14_equals_0 : cX14_equals.data.toList.drop 0 = dktX14_equals_0 := by decide +kernel
theorem dksX14_equals_1 : cX14_equals.data.toList.drop 22 = dktX14_equals_1 := dk_seg dksX14_equals_0 22 rfl rfl
theorem dksX14_equals_2 : cX14_equals.data.toList.drop 44 = dktX14_equals_2 := dk_seg dksX14_equals_1 22 rfl rfl
theorem dX14_equals_0 : decode cX14_equals 0 = .ok (.aload_n 1, 1) := dk_43 (dk_at dksX14_equals_0 0 rfl rfl)
theorem dX14_equals_1 : decode cX14_equals 1 = .ok (.instanceof 8, 3) := dk_193 0 8 (dk_at dksX14_equals_0 1 rfl rfl)
theorem dX14_equals_4 : decode cX14_equals 4 = .ok (.ifCond .ne 5, 3) := dk_154 0 5 (dk_at dksX14_equals_0 4 rfl rfl)
theorem dX14_equals_7 : decode cX14_equals 7 = .ok (.iconst 0, 1) := dk_3 (dk_at dksX14_equals_0 7 rfl rfl)
theorem dX14_equals_8 : decode cX14_equals 8 = .ok (.ireturn, 1) := dk_172 (dk_at dksX14_equals_0 8 rfl rfl)
theorem dX14_equals_9 : decode cX14_equals 9 = .ok (.aload_n 1, 1) := dk_43 (dk_at dksX14_equals_0 9 rfl rfl)
theorem dX14_equals_10 : decode cX14_equals 10 = .ok (.checkcast 8, 3) := dk_192 0 8 (dk_at dksX14_equals_0 10 rfl rfl)
theorem dX14_equals_13 : decode cX14_equals 13 = .ok (.astore_n 2, 1) := dk_77 (dk_at dksX14_equals_0 13 rfl rfl)
theorem dX14_equals_14 : decode cX14_equals 14 = .ok (.aload_n 0, 1) := dk_42 (dk_at dksX14_equals_0 14 rfl rfl)
theorem dX14_equals_15 : decode cX14_equals 15 = .ok (.getfield 7, 3) := dk_180 0 7 (dk_at dksX14_equals_0 15 rfl rfl)
theorem dX14_equals_18 : decode cX14_equals 18 = .ok (.aload_n 2, 1) := dk_44 (dk_at dksX14_equals_0 18 rfl rfl)
theorem dX14_equals_19 : decode cX14_equals 19 = .ok (.getfield 7, 3) := dk_180 0 7 (dk_at dksX14_equals_0 19 rfl rfl)
theorem dX14_equals_22 : decode cX14_equals 22 = .ok (.if_icmp .ne 14, 3) := dk_160 0 14 (dk_at dksX14_equals_1 0 rfl rfl)
theorem dX14_equals_25 : decode cX14_equals 25 = .ok (.aload_n 0, 1) := dk_42 (dk_at dksX14_equals_1 3 rfl rfl)
theorem dX14_equals_26 : decode cX14_equals 26 = .ok (.getfield 13, 3) := dk_180 0 13 (dk_at dksX14_equals_1 4 rfl rfl)
theorem dX14_equals_29 : decode cX14_equals 29 = .ok (.aload_n 2, 1) := dk_44 (dk_at dksX14_equals_1 7 rfl rfl)
theorem dX14_equals_30 : decode cX14_equals 30 = .ok (.getfield 13, 3) := dk_180 0 13 (dk_at dksX14_equals_1 8 rfl rfl)
theorem dX14_equals_33 : decode cX14_equals 33 = .ok (.if_icmp .eq 25, 3) := dk_159 0 25 (dk_at dksX14_equals_1 11 rfl rfl)
theorem dX14_equals_36 : decode cX14_equals 36 = .ok (.aload_n 0, 1) := dk_42 (dk_at dksX14_equals_1 14 rfl rfl)
theorem dX14_equals_37 : decode cX14_equals 37 = .ok (.getfield 7, 3) := dk_180 0 7 (dk_at dksX14_equals_1 15 rfl rfl)
theorem dX14_equals_40 : decode cX14_equals 40 = .ok (.aload_n 2, 1) := dk_44 (dk_at dksX14_equals_1 18 rfl rfl)
theorem dX14_equals_41 : decode cX14_equals 41 = .ok (.getfield 13, 3) := dk_180 0 13 (dk_at dksX14_equals_1 19 rfl rfl)
theorem dX14_equals_44 : decode cX14_equals 44 = .ok (.if_icmp .ne 18, 3) := dk_160 0 18 (dk_at dksX14_equals_2 0 rfl rfl)
theorem dX14_equals_47 : decode cX14_equals 47 = .ok (.aload_n 0, 1) := dk_42 (dk_at dksX14_equals_2 3 rfl rfl)
theorem dX14_equals_48 : decode cX14_equals 48 = .ok (.getfield 13, 3) := dk_180 0 13 (dk_at dksX14_equals_2 4 rfl rfl)
theorem dX14_equals_51 : decode cX14_equals 51 = .ok (.aload_n 2, 1) := dk_44 (dk_at dksX14_equals_2 7 rfl rfl)
theorem dX14_equals_52 : decode cX14_equals 52 = .ok (.getfield 7, 3) := dk_180 0 7 (dk_at dksX14_equals_2 8 rfl rfl)
theorem dX14_equals_55 : decode cX14_equals 55 = .ok (.if_icmp .ne 7, 3) := dk_160 0 7 (dk_at dksX14_equals_2 11 rfl rfl)
theorem dX14_equals_58 : decode cX14_equals 58 = .ok (.iconst 1, 1) := dk_4 (dk_at dksX14_equals_2 14 rfl rfl)
theorem dX14_equals_59 : decode cX14_equals 59 = .ok (.goto 4, 3) := dk_167 0 4 (dk_at dksX14_equals_2 15 rfl rfl)
theorem dX14_equals_62 : decode cX14_equals 62 = .ok (.iconst 0, 1) := dk_3 (dk_at dksX14_equals_2 18 rfl rfl)
theorem dX14_equals_63 : decode cX14_equals 63 = .ok (.ireturn, 1) := dk_172 (dk_at dksX14_equals_2 19 rfl rfl)
abbrev cX14_init : ByteArray := prog_3_method_1_code
def yX14_init : MethodName := ⟨RX14, "<init>", "(II)V"⟩
def dkwX14_init_0 : List UInt8 := [42, 183, 0, 1, 42, 27, 181, 0, 7, 42, 28, 181, 0, 13, 177]
abbrev dktX14_init_0 : List UInt8 := dkwX14_init_0 ++ []
theorem dksX14_init_0 : cX14_init.data.toList.drop 0 = dktX14_init_0 := by decide +kernel
theorem dX14_init_0 : decode cX14_init 0 = .ok (.aload_n 0, 1) := dk_42 (dk_at dksX14_init_0 0 rfl rfl)
theorem dX14_init_1 : decode cX14_init 1 = .ok (.invokespecial 1, 3) := dk_183 0 1 (dk_at dksX14_init_0 1 rfl rfl)
theorem dX14_init_4 : decode cX14_init 4 = .ok (.aload_n 0, 1) := dk_42 (dk_at dksX14_init_0 4 rfl rfl)
theorem dX14_init_5 : decode cX14_init 5 = .ok (.iload_n 1, 1) := dk_27 (dk_at dksX14_init_0 5 rfl rfl)
theorem dX14_init_6 : decode cX14_init 6 = .ok (.putfield 7, 3) := dk_181 0 7 (dk_at dksX14_init_0 6 rfl rfl)
theorem dX14_init_9 : decode cX14_init 9 = .ok (.aload_n 0, 1) := dk_42 (dk_at dksX14_init_0 9 rfl rfl)
theorem dX14_init_10 : decode cX14_init 10 = .ok (.iload_n 2, 1) := dk_28 (dk_at dksX14_init_0 10 rfl rfl)
theorem dX14_init_11 : decode cX14_init 11 = .ok (.putfield 13, 3) := dk_181 0 13 (dk_at dksX14_init_0 11 rfl rfl)
theorem dX14_init_14 : decode cX14_init 14 = .ok (.return_, 1) := dk_177 (dk_at dksX14_init_0 14 rfl rfl)
theorem q201 : (Jvm.Cond.initialized "StruckCounts$Couple") ∈ lw_all := lw_g (lw_at lw_m1 46 rfl) rfl
theorem q1148 : (Jvm.Cond.selects "StruckCounts$Couple" ({ cls := "java/lang/Object", name := "hashCode", desc := "()I" } : Jvm.MethodName) ({ cls := "StruckCounts$Couple", name := "hashCode", desc := "()I" } : Jvm.MethodName)) ∈ lw_all := lw_g (lw_at lw_m5 33 rfl) rfl
theorem q1149 : (Jvm.Cond.instanceMethod ({ cls := "StruckCounts$Couple", name := "hashCode", desc := "()I" } : Jvm.MethodName)) ∈ lw_all := lw_g (lw_at lw_m5 34 rfl) rfl
theorem q1150 : (Jvm.Cond.code ({ cls := "StruckCounts$Couple", name := "hashCode", desc := "()I" } : Jvm.MethodName) prog_3_method_3_code (1 : Nat) (Option.some Jvm.ClassFile.FieldType.int)) ∈ lw_all := lw_g (lw_at lw_m5 35 rfl) rfl
theorem q1178 : (Jvm.Cond.selects "StruckCounts$Couple" ({ cls := "java/lang/Object", name := "equals", desc := "(Ljava/lang/Object;)Z" } : Jvm.MethodName) ({ cls := "StruckCounts$Couple", name := "equals", desc := "(Ljava/lang/Object;)Z" } : Jvm.MethodName)) ∈ lw_all := lw_g (lw_at lw_m5 63 rfl) rfl
theorem q1179 : (Jvm.Cond.instanceMethod ({ cls := "StruckCounts$Couple", name := "equals", desc := "(Ljava/lang/Object;)Z" } : Jvm.MethodName)) ∈ lw_all := lw_g (lw_at lw_m5 64 rfl) rfl
theorem q1180 : (Jvm.Cond.code ({ cls := "StruckCounts$Couple", name := "equals", desc := "(Ljava/lang/Object;)Z" } : Jvm.MethodName) prog_3_method_2_code (3 : Nat) (Option.some Jvm.ClassFile.FieldType.boolean)) ∈ lw_all := lw_g (lw_at lw_m5 65 rfl) rfl
theorem q1181 : (Jvm.Cond.classLink "StruckCounts$Couple" (8 : Nat) "StruckCounts$Couple") ∈ lw_all := lw_g (lw_at lw_m5 66 rfl) rfl
theorem q1227 : (Jvm.Cond.selects "StruckCounts$Couple" ({ cls := "java/lang/Object", name := "getClass", desc := "()Ljava/lang/Class;" } : Jvm.MethodName) ({ cls := "java/lang/Object", name := "getClass", desc := "()Ljava/lang/Class;" } : Jvm.MethodName)) ∈ lw_all := lw_g (lw_at lw_m5 112 rfl) rfl
theorem q1864 : (Jvm.Cond.instantiable "StruckCounts$Couple" (2 : Nat)) ∈ lw_all := lw_g (lw_at lw_m8 29 rfl) rfl
theorem q1866 : (Jvm.Cond.instanceMethod ({ cls := "StruckCounts$Couple", name := "<init>", desc := "(II)V" } : Jvm.MethodName)) ∈ lw_all := lw_g (lw_at lw_m8 31 rfl) rfl
theorem q1867 : (Jvm.Cond.code ({ cls := "StruckCounts$Couple", name := "<init>", desc := "(II)V" } : Jvm.MethodName) prog_3_method_1_code (3 : Nat) (Option.none : Option Jvm.ClassFile.FieldType)) ∈ lw_all := lw_g (lw_at lw_m8 32 rfl) rfl
theorem q1868 : (Jvm.Cond.methodLink "StruckCounts$Couple" (1 : Nat) ({ cls := "java/lang/Object", name := "<init>", desc := "()V" } : Jvm.MethodName)) ∈ lw_all := lw_g (lw_at lw_m8 33 rfl) rfl
theorem q1869 : (Jvm.Cond.fieldLink "StruckCounts$Couple" (7 : Nat) "StruckCounts$Couple" "one" "I") ∈ lw_all := lw_g (lw_at lw_m8 34 rfl) rfl
theorem q1870 : (Jvm.Cond.fieldLink "StruckCounts$Couple" (13 : Nat) "StruckCounts$Couple" "other" "I") ∈ lw_all := lw_g (lw_at lw_m8 35 rfl) rfl
theorem q1871 : (Jvm.Cond.laysFinal "StruckCounts$Couple" "StruckCounts$Couple" "one" "I") ∈ lw_all := lw_g (lw_at lw_m8 36 rfl) rfl
theorem q1872 : (Jvm.Cond.soleField "StruckCounts$Couple" "one") ∈ lw_all := lw_g (lw_at lw_m8 37 rfl) rfl
theorem q1873 : (Jvm.Cond.laysFinal "StruckCounts$Couple" "StruckCounts$Couple" "other" "I") ∈ lw_all := lw_g (lw_at lw_m8 38 rfl) rfl
theorem q1874 : (Jvm.Cond.soleField "StruckCounts$Couple" "other") ∈ lw_all := lw_g (lw_at lw_m8 39 rfl) rfl
theorem q1875 : (Jvm.Cond.superclass "StruckCounts$Couple" "java/lang/Object") ∈ lw_all := lw_g (lw_at lw_m8 40 rfl) rfl
theorem q3104 : (Jvm.Cond.castable "StruckCounts$Couple" "java/lang/Object") ∈ lw_tbl := lw_at lw_m13 69 rfl
theorem in_X14 : ∀ w ∈ wsX140, w ∈ lw_all := lw_in wsX140 [1871, 1873] (by decide +kernel) (by decide +kernel)

/-! StruckCounts$Expr -/
set_option maxRecDepth 100000
def RX15 : String := "StruckCounts$Expr"
abbrev cX15_turned : ByteArray := prog_4_method_3_code
def yX15_turned : MethodName := ⟨RX15, "turned", "(I)I"⟩
def dkwX15_turned_0 : List UInt8 := [26, 5, 160, 0, 7, 5, 167, 0, 6, 4, 26, 100, 172]
abbrev dktX15_turned_0 : List UInt8 := dkwX15_turned_0 ++ []
theorem dksX15_turned_0 : cX15_turned.data.toList.drop 0 = dktX15_turned_0 := by decide +kernel
theorem dX15_turned_0 : decode cX15_turned 0 = .ok (.iload_n 0, 1) := dk_26 (dk_at dksX15_turned_0 0 rfl rfl)
theorem dX15_turned_1 : decode cX15_turned 1 = .ok (.iconst 2, 1) := dk_5 (dk_at dksX15_turned_0 1 rfl rfl)
theorem dX15_turned_2 : decode cX15_turned 2 = .ok (.if_icmp .ne 7, 3) := dk_160 0 7 (dk_at dksX15_turned_0 2 rfl rfl)
theorem dX15_turned_5 : decode cX15_turned 5 = .ok (.iconst 2, 1) := dk_5 (dk_at dksX15_turned_0 5 rfl rfl)
theorem dX15_turned_6 : decode cX15_turned 6 = .ok (.goto 6, 3) := dk_167 0 6 (dk_at dksX15_turned_0 6 rfl rfl)
theorem dX15_turned_9 : decode cX15_turned 9 = .ok (.iconst 1, 1) := dk_4 (dk_at dksX15_turned_0 9 rfl rfl)
theorem dX15_turned_10 : decode cX15_turned 10 = .ok (.iload_n 0, 1) := dk_26 (dk_at dksX15_turned_0 10 rfl rfl)
theorem dX15_turned_11 : decode cX15_turned 11 = .ok (.isub, 1) := dk_100 (dk_at dksX15_turned_0 11 rfl rfl)
theorem dX15_turned_12 : decode cX15_turned 12 = .ok (.ireturn, 1) := dk_172 (dk_at dksX15_turned_0 12 rfl rfl)
abbrev cX15_mayBeSeen : ByteArray := prog_4_method_4_code
def yX15_mayBeSeen : MethodName := ⟨RX15, "mayBeSeen", "(II)Z"⟩
def dkwX15_mayBeSeen_0 : List UInt8 := [42, 27, 28, 185, 0, 3, 3, 0, 153, 0, 7, 4, 167, 0, 4, 3, 172]
abbrev dktX15_mayBeSeen_0 : List UInt8 := dkwX15_mayBeSeen_0 ++ []
theorem dksX15_mayBeSeen_0 : cX15_mayBeSeen.data.toList.drop 0 = dktX15_mayBeSeen_0 := by decide +kernel
theorem dX15_mayBeSeen_0 : decode cX15_mayBeSeen 0 = .ok (.aload_n 0, 1) := dk_42 (dk_at dksX15_mayBeSeen_0 0 rfl rfl)
theorem dX15_mayBeSeen_1 : decode cX15_mayBeSeen 1 = .ok (.iload_n 1, 1) := dk_27 (dk_at dksX15_mayBeSeen_0 1 rfl rfl)
theorem dX15_mayBeSeen_2 : decode cX15_mayBeSeen 2 = .ok (.iload_n 2, 1) := dk_28 (dk_at dksX15_mayBeSeen_0 2 rfl rfl)
theorem dX15_mayBeSeen_3 : decode cX15_mayBeSeen 3 = .ok (.invokeinterface 3 3, 5) := by decide +kernel
theorem dX15_mayBeSeen_8 : decode cX15_mayBeSeen 8 = .ok (.ifCond .eq 7, 3) := dk_153 0 7 (dk_at dksX15_mayBeSeen_0 8 rfl rfl)
theorem dX15_mayBeSeen_11 : decode cX15_mayBeSeen 11 = .ok (.iconst 1, 1) := dk_4 (dk_at dksX15_mayBeSeen_0 11 rfl rfl)
theorem dX15_mayBeSeen_12 : decode cX15_mayBeSeen 12 = .ok (.goto 4, 3) := dk_167 0 4 (dk_at dksX15_mayBeSeen_0 12 rfl rfl)
theorem dX15_mayBeSeen_15 : decode cX15_mayBeSeen 15 = .ok (.iconst 0, 1) := dk_3 (dk_at dksX15_mayBeSeen_0 15 rfl rfl)
theorem dX15_mayBeSeen_16 : decode cX15_mayBeSeen 16 = .ok (.ireturn, 1) := dk_172 (dk_at dksX15_mayBeSeen_0 16 rfl rfl)
theorem q202 : (Jvm.Cond.initialized "StruckCounts$Expr") ∈ lw_all := lw_g (lw_at lw_m1 47 rfl) rfl
theorem q411 : (Jvm.Cond.interfaceMethod "StruckCounts$Expr" "StruckCounts$Expr" "holds" "(I)Z") ∈ lw_tbl := lw_at lw_m2 16 rfl
theorem q412 : (Jvm.Cond.declares ({ cls := "StruckCounts$Expr", name := "holds", desc := "(I)Z" } : Jvm.MethodName)) ∈ lw_tbl := lw_at lw_m2 17 rfl
theorem q2000 : (Jvm.Cond.interfaceMethod "StruckCounts$Expr" "StruckCounts$Expr" "seen" "(II)I") ∈ lw_tbl := lw_at lw_m8 165 rfl
theorem q2001 : (Jvm.Cond.declares ({ cls := "StruckCounts$Expr", name := "seen", desc := "(II)I" } : Jvm.MethodName)) ∈ lw_tbl := lw_at lw_m8 166 rfl
theorem q2026 : (Jvm.Cond.static ({ cls := "StruckCounts$Expr", name := "turned", desc := "(I)I" } : Jvm.MethodName)) ∈ lw_all := lw_g (lw_at lw_m8 191 rfl) rfl
theorem q2027 : (Jvm.Cond.code ({ cls := "StruckCounts$Expr", name := "turned", desc := "(I)I" } : Jvm.MethodName) prog_4_method_3_code (1 : Nat) (Option.some Jvm.ClassFile.FieldType.int)) ∈ lw_all := lw_g (lw_at lw_m8 192 rfl) rfl
theorem q2030 : (Jvm.Cond.interfaceMethod "StruckCounts$Expr" "StruckCounts$Expr" "mayBeSeen" "(II)Z") ∈ lw_tbl := lw_at lw_m8 195 rfl
theorem q2031 : (Jvm.Cond.declares ({ cls := "StruckCounts$Expr", name := "mayBeSeen", desc := "(II)Z" } : Jvm.MethodName)) ∈ lw_tbl := lw_at lw_m8 196 rfl
theorem q2033 : (Jvm.Cond.instanceMethod ({ cls := "StruckCounts$Expr", name := "mayBeSeen", desc := "(II)Z" } : Jvm.MethodName)) ∈ lw_all := lw_g (lw_at lw_m8 198 rfl) rfl
theorem q2034 : (Jvm.Cond.publicMethod ({ cls := "StruckCounts$Expr", name := "mayBeSeen", desc := "(II)Z" } : Jvm.MethodName)) ∈ lw_tbl := lw_at lw_m8 199 rfl
theorem q2035 : (Jvm.Cond.code ({ cls := "StruckCounts$Expr", name := "mayBeSeen", desc := "(II)Z" } : Jvm.MethodName) prog_4_method_4_code (3 : Nat) (Option.some Jvm.ClassFile.FieldType.boolean)) ∈ lw_all := lw_g (lw_at lw_m8 200 rfl) rfl
theorem q2036 : (Jvm.Cond.interfaceEntry "StruckCounts$Expr" (3 : Nat)) ∈ lw_tbl := lw_at lw_m8 201 rfl
theorem q2037 : (Jvm.Cond.methodLink "StruckCounts$Expr" (3 : Nat) ({ cls := "StruckCounts$Expr", name := "seen", desc := "(II)I" } : Jvm.MethodName)) ∈ lw_all := lw_g (lw_at lw_m8 202 rfl) rfl

/-! StruckCounts$Outcome -/
set_option maxRecDepth 100000
def RX16 : String := "StruckCounts$Outcome"
def TX16 : u_T := fun k => match k with
  | 0 => ("StruckCounts$Outcome", "set", "I", true)
  | 1 => ("StruckCounts$Outcome", "first", "I", true)
  | _ => ("StruckCounts$Outcome", "worlds", "I", false)
def tyX16 : Nat → FieldType := fun k => match k with
  | 0 => .int
  | 1 => .int
  | _ => .int
abbrev wsX160 : List Cond := u_ws RX16 TX16 3
theorem nmX16 : ∀ a, a < 3 → ∀ b, b < 3 → a ≠ b → (TX16 a).2.1 ≠ (TX16 b).2.1 := by decide +kernel
theorem tyX16_ok : ∀ k, k < 3 → parseFieldDescriptor (TX16 k).2.2.1 = some (tyX16 k) := by decide +kernel
abbrev cX16_hashCode : ByteArray := prog_8_method_3_code
def yX16_hashCode : MethodName := ⟨RX16, "hashCode", "()I"⟩
theorem dX16_hashCode_0 : decode cX16_hashCode 0 = .ok (.aload_n 0, 1) := by decide +kernel
theorem dX16_hashCode_1 : decode cX16_hashCode 1 = .ok (.getfield 7, 3) := by decide +kernel
theorem dX16_hashCode_4 : decode cX16_hashCode 4 = .ok (.ireturn, 1) := by decide +kernel
abbrev cX16_equals : ByteArray := prog_8_method_2_code
def yX16_equals : MethodName := ⟨RX16, "equals", "(Ljava/lang/Object;)Z"⟩
def dkwX16_equals_1 : List UInt8 := [167, 0, 4, 3, 172]
abbrev dktX16_equals_1 : List UInt8 := dkwX16_equals_1 ++ []
def dkwX16_equals_0 : List UInt8 := [43, 193, 0, 8, 153, 0, 21, 43, 192, 0, 8, 180, 0, 7, 42, 180, 0, 7, 160, 0, 7, 4]
abbrev dktX16_equals_0 : List UInt8 := dkwX16_equals_0 ++ dktX16_equals_1
theorem dksX16_equals_0 : cX16_equals.data.toList.drop 0 = dktX16_equals_0 := by decide +kernel
theorem dksX16_equals_1 : cX16_equals.data.toList.drop 22 = dktX16_equals_1 := dk_seg dksX16_equals_0 22 rfl rfl
theorem dX16_equals_0 : decode cX16_equals 0 = .ok (.aload_n 1, 1) := dk_43 (dk_at dksX16_equals_0 0 rfl rfl)
theorem dX16_equals_1 : decode cX16_equals 1 = .ok (.instanceof 8, 3) := dk_193 0 8 (dk_at dksX16_equals_0 1 rfl rfl)
theorem dX16_equals_4 : decode cX16_equals 4 = .ok (.ifCond .eq 21, 3) := dk_153 0 21 (dk_at dksX16_equals_0 4 rfl rfl)
theorem dX16_equals_7 : decode cX16_equals 7 = .ok (.aload_n 1, 1) := dk_43 (dk_at dksX16_equals_0 7 rfl rfl)
theorem dX16_equals_8 : decode cX16_equals 8 = .ok (.checkcast 8, 3) := dk_192 0 8 (dk_at dksX16_equals_0 8 rfl rfl)
theorem dX16_equals_11 : decode cX16_equals 11 = .ok (.getfield 7, 3) := dk_180 0 7 (dk_at dksX16_equals_0 11 rfl rfl)
theorem dX16_equals_14 : decode cX16_equals 14 = .ok (.aload_n 0, 1) := dk_42 (dk_at dksX16_equals_0 14 rfl rfl)
theorem dX16_equals_15 : decode cX16_equals 15 = .ok (.getfield 7, 3) := dk_180 0 7 (dk_at dksX16_equals_0 15 rfl rfl)
theorem dX16_equals_18 : decode cX16_equals 18 = .ok (.if_icmp .ne 7, 3) := dk_160 0 7 (dk_at dksX16_equals_0 18 rfl rfl)
theorem dX16_equals_21 : decode cX16_equals 21 = .ok (.iconst 1, 1) := dk_4 (dk_at dksX16_equals_0 21 rfl rfl)
theorem dX16_equals_22 : decode cX16_equals 22 = .ok (.goto 4, 3) := dk_167 0 4 (dk_at dksX16_equals_1 0 rfl rfl)
theorem dX16_equals_25 : decode cX16_equals 25 = .ok (.iconst 0, 1) := dk_3 (dk_at dksX16_equals_1 3 rfl rfl)
theorem dX16_equals_26 : decode cX16_equals 26 = .ok (.ireturn, 1) := dk_172 (dk_at dksX16_equals_1 4 rfl rfl)
abbrev cX16_init : ByteArray := prog_8_method_1_code
def yX16_init : MethodName := ⟨RX16, "<init>", "(II)V"⟩
def dkwX16_init_0 : List UInt8 := [42, 183, 0, 1, 42, 27, 181, 0, 7, 42, 28, 181, 0, 13, 177]
abbrev dktX16_init_0 : List UInt8 := dkwX16_init_0 ++ []
theorem dksX16_init_0 : cX16_init.data.toList.drop 0 = dktX16_init_0 := by decide +kernel
theorem dX16_init_0 : decode cX16_init 0 = .ok (.aload_n 0, 1) := dk_42 (dk_at dksX16_init_0 0 rfl rfl)
theorem dX16_init_1 : decode cX16_init 1 = .ok (.invokespecial 1, 3) := dk_183 0 1 (dk_at dksX16_init_0 1 rfl rfl)
theorem dX16_init_4 : decode cX16_init 4 = .ok (.aload_n 0, 1) := dk_42 (dk_at dksX16_init_0 4 rfl rfl)
theorem dX16_init_5 : decode cX16_init 5 = .ok (.iload_n 1, 1) := dk_27 (dk_at dksX16_init_0 5 rfl rfl)
theorem dX16_init_6 : decode cX16_init 6 = .ok (.putfield 7, 3) := dk_181 0 7 (dk_at dksX16_init_0 6 rfl rfl)
theorem dX16_init_9 : decode cX16_init 9 = .ok (.aload_n 0, 1) := dk_42 (dk_at dksX16_init_0 9 rfl rfl)
theorem dX16_init_10 : decode cX16_init 10 = .ok (.iload_n 2, 1) := dk_28 (dk_at dksX16_init_0 10 rfl rfl)
theorem dX16_init_11 : decode cX16_init 11 = .ok (.putfield 13, 3) := dk_181 0 13 (dk_at dksX16_init_0 11 rfl rfl)
theorem dX16_init_14 : decode cX16_init 14 = .ok (.return_, 1) := dk_177 (dk_at dksX16_init_0 14 rfl rfl)
theorem q205 : (Jvm.Cond.initialized "StruckCounts$Outcome") ∈ lw_all := lw_g (lw_at lw_m1 50 rfl) rfl
theorem q1154 : (Jvm.Cond.selects "StruckCounts$Outcome" ({ cls := "java/lang/Object", name := "hashCode", desc := "()I" } : Jvm.MethodName) ({ cls := "StruckCounts$Outcome", name := "hashCode", desc := "()I" } : Jvm.MethodName)) ∈ lw_all := lw_g (lw_at lw_m5 39 rfl) rfl
theorem q1155 : (Jvm.Cond.instanceMethod ({ cls := "StruckCounts$Outcome", name := "hashCode", desc := "()I" } : Jvm.MethodName)) ∈ lw_all := lw_g (lw_at lw_m5 40 rfl) rfl
theorem q1156 : (Jvm.Cond.code ({ cls := "StruckCounts$Outcome", name := "hashCode", desc := "()I" } : Jvm.MethodName) prog_8_method_3_code (1 : Nat) (Option.some Jvm.ClassFile.FieldType.int)) ∈ lw_all := lw_g (lw_at lw_m5 41 rfl) rfl
theorem q1185 : (Jvm.Cond.selects "StruckCounts$Outcome" ({ cls := "java/lang/Object", name := "equals", desc := "(Ljava/lang/Object;)Z" } : Jvm.MethodName) ({ cls := "StruckCounts$Outcome", name := "equals", desc := "(Ljava/lang/Object;)Z" } : Jvm.MethodName)) ∈ lw_all := lw_g (lw_at lw_m5 70 rfl) rfl
theorem q1186 : (Jvm.Cond.instanceMethod ({ cls := "StruckCounts$Outcome", name := "equals", desc := "(Ljava/lang/Object;)Z" } : Jvm.MethodName)) ∈ lw_all := lw_g (lw_at lw_m5 71 rfl) rfl
theorem q1187 : (Jvm.Cond.code ({ cls := "StruckCounts$Outcome", name := "equals", desc := "(Ljava/lang/Object;)Z" } : Jvm.MethodName) prog_8_method_2_code (2 : Nat) (Option.some Jvm.ClassFile.FieldType.boolean)) ∈ lw_all := lw_g (lw_at lw_m5 72 rfl) rfl
theorem q1188 : (Jvm.Cond.classLink "StruckCounts$Outcome" (8 : Nat) "StruckCounts$Outcome") ∈ lw_all := lw_g (lw_at lw_m5 73 rfl) rfl
theorem q1231 : (Jvm.Cond.selects "StruckCounts$Outcome" ({ cls := "java/lang/Object", name := "getClass", desc := "()Ljava/lang/Class;" } : Jvm.MethodName) ({ cls := "java/lang/Object", name := "getClass", desc := "()Ljava/lang/Class;" } : Jvm.MethodName)) ∈ lw_all := lw_g (lw_at lw_m5 116 rfl) rfl
theorem q2277 : (Jvm.Cond.instantiable "StruckCounts$Outcome" (3 : Nat)) ∈ lw_all := lw_g (lw_at lw_m9 202 rfl) rfl
theorem q2279 : (Jvm.Cond.instanceMethod ({ cls := "StruckCounts$Outcome", name := "<init>", desc := "(II)V" } : Jvm.MethodName)) ∈ lw_all := lw_g (lw_at lw_m9 204 rfl) rfl
theorem q2280 : (Jvm.Cond.code ({ cls := "StruckCounts$Outcome", name := "<init>", desc := "(II)V" } : Jvm.MethodName) prog_8_method_1_code (3 : Nat) (Option.none : Option Jvm.ClassFile.FieldType)) ∈ lw_all := lw_g (lw_at lw_m9 205 rfl) rfl
theorem q2281 : (Jvm.Cond.methodLink "StruckCounts$Outcome" (1 : Nat) ({ cls := "java/lang/Object", name := "<init>", desc := "()V" } : Jvm.MethodName)) ∈ lw_all := lw_g (lw_at lw_m9 206 rfl) rfl
theorem q2282 : (Jvm.Cond.fieldLink "StruckCounts$Outcome" (7 : Nat) "StruckCounts$Outcome" "set" "I") ∈ lw_all := lw_g (lw_at lw_m9 207 rfl) rfl
theorem q2284 : (Jvm.Cond.fieldLink "StruckCounts$Outcome" (13 : Nat) "StruckCounts$Outcome" "first" "I") ∈ lw_all := lw_g (lw_at lw_m9 209 rfl) rfl
theorem q2287 : (Jvm.Cond.laysFinal "StruckCounts$Outcome" "StruckCounts$Outcome" "set" "I") ∈ lw_all := lw_g (lw_at lw_m9 212 rfl) rfl
theorem q2288 : (Jvm.Cond.soleField "StruckCounts$Outcome" "set") ∈ lw_all := lw_g (lw_at lw_m9 213 rfl) rfl
theorem q2289 : (Jvm.Cond.laysFinal "StruckCounts$Outcome" "StruckCounts$Outcome" "first" "I") ∈ lw_all := lw_g (lw_at lw_m9 214 rfl) rfl
theorem q2290 : (Jvm.Cond.soleField "StruckCounts$Outcome" "first") ∈ lw_all := lw_g (lw_at lw_m9 215 rfl) rfl
theorem q2291 : (Jvm.Cond.lays "StruckCounts$Outcome" "StruckCounts$Outcome" "worlds" "I") ∈ lw_all := lw_g (lw_at lw_m9 216 rfl) rfl
theorem q2292 : (Jvm.Cond.soleField "StruckCounts$Outcome" "worlds") ∈ lw_all := lw_g (lw_at lw_m9 217 rfl) rfl
theorem q2293 : (Jvm.Cond.superclass "StruckCounts$Outcome" "java/lang/Object") ∈ lw_all := lw_g (lw_at lw_m9 218 rfl) rfl
theorem q3079 : (Jvm.Cond.castable "StruckCounts$Outcome" "java/lang/Object") ∈ lw_tbl := lw_at lw_m13 44 rfl
theorem in_X16 : ∀ w ∈ wsX160, w ∈ lw_all := lw_in wsX160 [2287, 2289, 2291] (by decide +kernel) (by decide +kernel)

/-! StruckCounts$State -/
set_option maxRecDepth 100000
def RX2 : String := "StruckCounts$State"
def TX2 : u_T := fun k => match k with
  | 0 => ("StruckCounts$State", "how", "[I", true)
  | 1 => ("StruckCounts$State", "like", "[I", true)
  | 2 => ("StruckCounts$State", "worth", "[I", true)
  | 3 => ("StruckCounts$State", "arose", "[I", true)
  | 4 => ("StruckCounts$State", "filed", "[I", true)
  | 5 => ("StruckCounts$State", "says", "[I", true)
  | 6 => ("StruckCounts$State", "so", "[I", true)
  | 7 => ("StruckCounts$State", "known", "I", false)
  | 8 => ("StruckCounts$State", "knownSo", "I", false)
  | 9 => ("StruckCounts$State", "many", "I", false)
  | 10 => ("StruckCounts$State", "struck", "I", false)
  | 11 => ("StruckCounts$State", "day", "I", false)
  | _ => ("StruckCounts$State", "isClosed", "Z", false)
def tyX2 : Nat → FieldType := fun k => match k with
  | 0 => .array .int
  | 1 => .array .int
  | 2 => .array .int
  | 3 => .array .int
  | 4 => .array .int
  | 5 => .array .int
  | 6 => .array .int
  | 7 => .int
  | 8 => .int
  | 9 => .int
  | 10 => .int
  | 11 => .int
  | _ => .boolean
abbrev wsX20 : List Cond := u_ws RX2 TX2 13
set_option maxRecDepth 100000 in
theorem nmX2 : ∀ a, a < 13 → ∀ b, b < 13 → a ≠ b → (TX2 a).2.1 ≠ (TX2 b).2.1 := by decide +kernel
set_option maxRecDepth 100000 in
theorem tyX2_ok : ∀ k, k < 13 → parseFieldDescriptor (TX2 k).2.2.1 = some (tyX2 k) := by decide +kernel
abbrev cX2_init : ByteArray := prog_14_method_1_code
def yX2_init : MethodName := ⟨RX2, "<init>", "()V"⟩
def dkwX2_init_2 : List UInt8 := [188, 10, 181, 0, 27, 42, 16, 8, 188, 10, 181, 0, 30, 177]
abbrev dktX2_init_2 : List UInt8 := dkwX2_init_2 ++ []
def dkwX2_init_1 : List UInt8 := [188, 10, 181, 0, 18, 42, 16, 8, 188, 10, 181, 0, 21, 42, 16, 8, 188, 10, 181, 0, 24, 42, 16, 8]
abbrev dktX2_init_1 : List UInt8 := dkwX2_init_1 ++ dktX2_init_2
def dkwX2_init_0 : List UInt8 := [42, 183, 0, 3, 42, 16, 8, 188, 10, 181, 0, 9, 42, 16, 8, 188, 10, 181, 0, 15, 42, 16, 8]
abbrev dktX2_init_0 : List UInt8 := dkwX2_init_0 ++ dktX2_init_1
theorem dksX2_init_0 : cX2_init.data.toList.drop 0 = dktX2_init_0 := by decide +kernel
theorem dksX2_init_1 : cX2_init.data.toList.drop 23 = dktX2_init_1 := dk_seg dksX2_init_0 23 rfl rfl
theorem dksX2_init_2 : cX2_init.data.toList.drop 47 = dktX2_init_2 := dk_seg dksX2_init_1 24 rfl rfl
theorem dX2_init_0 : decode cX2_init 0 = .ok (.aload_n 0, 1) := dk_42 (dk_at dksX2_init_0 0 rfl rfl)
theorem dX2_init_1 : decode cX2_init 1 = .ok (.invokespecial 3, 3) := dk_183 0 3 (dk_at dksX2_init_0 1 rfl rfl)
theorem dX2_init_4 : decode cX2_init 4 = .ok (.aload_n 0, 1) := dk_42 (dk_at dksX2_init_0 4 rfl rfl)
theorem dX2_init_5 : decode cX2_init 5 = .ok (.bipush 8, 2) := dk_16 8 (dk_at dksX2_init_0 5 rfl rfl)
theorem dX2_init_7 : decode cX2_init 7 = .ok (.newarray .int, 2) := dk_188_10 (dk_at dksX2_init_0 7 rfl rfl)
theorem dX2_init_9 : decode cX2_init 9 = .ok (.putfield 9, 3) := dk_181 0 9 (dk_at dksX2_init_0 9 rfl rfl)
theorem dX2_init_12 : decode cX2_init 12 = .ok (.aload_n 0, 1) := dk_42 (dk_at dksX2_init_0 12 rfl rfl)
theorem dX2_init_13 : decode cX2_init 13 = .ok (.bipush 8, 2) := dk_16 8 (dk_at dksX2_init_0 13 rfl rfl)
theorem dX2_init_15 : decode cX2_init 15 = .ok (.newarray .int, 2) := dk_188_10 (dk_at dksX2_init_0 15 rfl rfl)
theorem dX2_init_17 : decode cX2_init 17 = .ok (.putfield 15, 3) := dk_181 0 15 (dk_at dksX2_init_0 17 rfl rfl)
theorem dX2_init_20 : decode cX2_init 20 = .ok (.aload_n 0, 1) := dk_42 (dk_at dksX2_init_0 20 rfl rfl)
theorem dX2_init_21 : decode cX2_init 21 = .ok (.bipush 8, 2) := dk_16 8 (dk_at dksX2_init_0 21 rfl rfl)
theorem dX2_init_23 : decode cX2_init 23 = .ok (.newarray .int, 2) := dk_188_10 (dk_at dksX2_init_1 0 rfl rfl)
theorem dX2_init_25 : decode cX2_init 25 = .ok (.putfield 18, 3) := dk_181 0 18 (dk_at dksX2_init_1 2 rfl rfl)
theorem dX2_init_28 : decode cX2_init 28 = .ok (.aload_n 0, 1) := dk_42 (dk_at dksX2_init_1 5 rfl rfl)
theorem dX2_init_29 : decode cX2_init 29 = .ok (.bipush 8, 2) := dk_16 8 (dk_at dksX2_init_1 6 rfl rfl)
theorem dX2_init_31 : decode cX2_init 31 = .ok (.newarray .int, 2) := dk_188_10 (dk_at dksX2_init_1 8 rfl rfl)
theorem dX2_init_33 : decode cX2_init 33 = .ok (.putfield 21, 3) := dk_181 0 21 (dk_at dksX2_init_1 10 rfl rfl)
theorem dX2_init_36 : decode cX2_init 36 = .ok (.aload_n 0, 1) := dk_42 (dk_at dksX2_init_1 13 rfl rfl)
theorem dX2_init_37 : decode cX2_init 37 = .ok (.bipush 8, 2) := dk_16 8 (dk_at dksX2_init_1 14 rfl rfl)
theorem dX2_init_39 : decode cX2_init 39 = .ok (.newarray .int, 2) := dk_188_10 (dk_at dksX2_init_1 16 rfl rfl)
theorem dX2_init_41 : decode cX2_init 41 = .ok (.putfield 24, 3) := dk_181 0 24 (dk_at dksX2_init_1 18 rfl rfl)
theorem dX2_init_44 : decode cX2_init 44 = .ok (.aload_n 0, 1) := dk_42 (dk_at dksX2_init_1 21 rfl rfl)
theorem dX2_init_45 : decode cX2_init 45 = .ok (.bipush 8, 2) := dk_16 8 (dk_at dksX2_init_1 22 rfl rfl)
theorem dX2_init_47 : decode cX2_init 47 = .ok (.newarray .int, 2) := dk_188_10 (dk_at dksX2_init_2 0 rfl rfl)
theorem dX2_init_49 : decode cX2_init 49 = .ok (.putfield 27, 3) := dk_181 0 27 (dk_at dksX2_init_2 2 rfl rfl)
theorem dX2_init_52 : decode cX2_init 52 = .ok (.aload_n 0, 1) := dk_42 (dk_at dksX2_init_2 5 rfl rfl)
theorem dX2_init_53 : decode cX2_init 53 = .ok (.bipush 8, 2) := dk_16 8 (dk_at dksX2_init_2 6 rfl rfl)
theorem dX2_init_55 : decode cX2_init 55 = .ok (.newarray .int, 2) := dk_188_10 (dk_at dksX2_init_2 8 rfl rfl)
theorem dX2_init_57 : decode cX2_init 57 = .ok (.putfield 30, 3) := dk_181 0 30 (dk_at dksX2_init_2 10 rfl rfl)
theorem dX2_init_60 : decode cX2_init 60 = .ok (.return_, 1) := dk_177 (dk_at dksX2_init_2 13 rfl rfl)
abbrev cX2_begins : ByteArray := prog_14_method_4_code
def yX2_begins : MethodName := ⟨RX2, "begins", "(LStruckCounts$Suit;)LStruckCounts$State;"⟩
def dkwX2_begins_5 : List UInt8 := [167, 255, 198, 42, 176]
abbrev dktX2_begins_5 : List UInt8 := dkwX2_begins_5 ++ []
def dkwX2_begins_4 : List UInt8 := [180, 0, 27, 28, 45, 180, 0, 89, 79, 42, 180, 0, 30, 28, 45, 180, 0, 91, 79, 132, 2, 1]
abbrev dktX2_begins_4 : List UInt8 := dkwX2_begins_4 ++ dktX2_begins_5
def dkwX2_begins_3 : List UInt8 := [28, 182, 0, 75, 192, 0, 79, 78, 42, 28, 28, 45, 180, 0, 81, 45, 180, 0, 83, 3, 182, 0, 85, 42]
abbrev dktX2_begins_3 : List UInt8 := dkwX2_begins_3 ++ dktX2_begins_4
def dkwX2_begins_2 : List UInt8 := [43, 180, 0, 63, 182, 0, 69, 181, 0, 50, 3, 61, 28, 42, 180, 0, 50, 162, 0, 56, 43, 180, 0, 63]
abbrev dktX2_begins_2 : List UInt8 := dkwX2_begins_2 ++ dktX2_begins_3
def dkwX2_begins_1 : List UInt8 := [181, 0, 43, 42, 3, 181, 0, 47, 42, 3, 181, 0, 53, 42, 3, 181, 0, 56, 42, 3, 181, 0, 59, 42]
abbrev dktX2_begins_1 : List UInt8 := dkwX2_begins_1 ++ dktX2_begins_2
def dkwX2_begins_0 : List UInt8 := [3, 61, 28, 16, 8, 162, 0, 16, 42, 180, 0, 9, 28, 3, 79, 132, 2, 1, 167, 255, 240, 42, 3]
abbrev dktX2_begins_0 : List UInt8 := dkwX2_begins_0 ++ dktX2_begins_1
theorem dksX2_begins_0 : cX2_begins.data.toList.drop 0 = dktX2_begins_0 := by decide +kernel
theorem dksX2_begins_1 : cX2_begins.data.toList.drop 23 = dktX2_begins_1 := dk_seg dksX2_begins_0 23 rfl rfl
theorem dksX2_begins_2 : cX2_begins.data.toList.drop 47 = dktX2_begins_2 := dk_seg dksX2_begins_1 24 rfl rfl
theorem dksX2_begins_3 : cX2_begins.data.toList.drop 71 = dktX2_begins_3 := dk_seg dksX2_begins_2 24 rfl rfl
theorem dksX2_begins_4 : cX2_begins.data.toList.drop 95 = dktX2_begins_4 := dk_seg dksX2_begins_3 24 rfl rfl
theorem dksX2_begins_5 : cX2_begins.data.toList.drop 117 = dktX2_begins_5 := dk_seg dksX2_begins_4 22 rfl rfl
theorem dX2_begins_0 : decode cX2_begins 0 = .ok (.iconst 0, 1) := dk_3 (dk_at dksX2_begins_0 0 rfl rfl)
theorem dX2_begins_1 : decode cX2_begins 1 = .ok (.istore_n 2, 1) := dk_61 (dk_at dksX2_begins_0 1 rfl rfl)
theorem dX2_begins_2 : decode cX2_begins 2 = .ok (.iload_n 2, 1) := dk_28 (dk_at dksX2_begins_0 2 rfl rfl)
theorem dX2_begins_3 : decode cX2_begins 3 = .ok (.bipush 8, 2) := dk_16 8 (dk_at dksX2_begins_0 3 rfl rfl)
theorem dX2_begins_5 : decode cX2_begins 5 = .ok (.if_icmp .ge 16, 3) := dk_162 0 16 (dk_at dksX2_begins_0 5 rfl rfl)
theorem dX2_begins_8 : decode cX2_begins 8 = .ok (.aload_n 0, 1) := dk_42 (dk_at dksX2_begins_0 8 rfl rfl)
theorem dX2_begins_9 : decode cX2_begins 9 = .ok (.getfield 9, 3) := dk_180 0 9 (dk_at dksX2_begins_0 9 rfl rfl)
theorem dX2_begins_12 : decode cX2_begins 12 = .ok (.iload_n 2, 1) := dk_28 (dk_at dksX2_begins_0 12 rfl rfl)
theorem dX2_begins_13 : decode cX2_begins 13 = .ok (.iconst 0, 1) := dk_3 (dk_at dksX2_begins_0 13 rfl rfl)
theorem dX2_begins_14 : decode cX2_begins 14 = .ok (.iastore, 1) := dk_79 (dk_at dksX2_begins_0 14 rfl rfl)
theorem dX2_begins_15 : decode cX2_begins 15 = .ok (.iinc 2 1, 3) := dk_132 2 1 (dk_at dksX2_begins_0 15 rfl rfl)
theorem dX2_begins_18 : decode cX2_begins 18 = .ok (.goto (-16), 3) := dk_167 255 240 (dk_at dksX2_begins_0 18 rfl rfl)
theorem dX2_begins_21 : decode cX2_begins 21 = .ok (.aload_n 0, 1) := dk_42 (dk_at dksX2_begins_0 21 rfl rfl)
theorem dX2_begins_22 : decode cX2_begins 22 = .ok (.iconst 0, 1) := dk_3 (dk_at dksX2_begins_0 22 rfl rfl)
theorem dX2_begins_23 : decode cX2_begins 23 = .ok (.putfield 43, 3) := dk_181 0 43 (dk_at dksX2_begins_1 0 rfl rfl)
theorem dX2_begins_26 : decode cX2_begins 26 = .ok (.aload_n 0, 1) := dk_42 (dk_at dksX2_begins_1 3 rfl rfl)
theorem dX2_begins_27 : decode cX2_begins 27 = .ok (.iconst 0, 1) := dk_3 (dk_at dksX2_begins_1 4 rfl rfl)
theorem dX2_begins_28 : decode cX2_begins 28 = .ok (.putfield 47, 3) := dk_181 0 47 (dk_at dksX2_begins_1 5 rfl rfl)
theorem dX2_begins_31 : decode cX2_begins 31 = .ok (.aload_n 0, 1) := dk_42 (dk_at dksX2_begins_1 8 rfl rfl)
theorem dX2_begins_32 : decode cX2_begins 32 = .ok (.iconst 0, 1) := dk_3 (dk_at dksX2_begins_1 9 rfl rfl)
theorem dX2_begins_33 : decode cX2_begins 33 = .ok (.putfield 53, 3) := dk_181 0 53 (dk_at dksX2_begins_1 10 rfl rfl)
theorem dX2_begins_36 : decode cX2_begins 36 = .ok (.aload_n 0, 1) := dk_42 (dk_at dksX2_begins_1 13 rfl rfl)
theorem dX2_begins_37 : decode cX2_begins 37 = .ok (.iconst 0, 1) := dk_3 (dk_at dksX2_begins_1 14 rfl rfl)
theorem dX2_begins_38 : decode cX2_begins 38 = .ok (.putfield 56, 3) := dk_181 0 56 (dk_at dksX2_begins_1 15 rfl rfl)
theorem dX2_begins_41 : decode cX2_begins 41 = .ok (.aload_n 0, 1) := dk_42 (dk_at dksX2_begins_1 18 rfl rfl)
theorem dX2_begins_42 : decode cX2_begins 42 = .ok (.iconst 0, 1) := dk_3 (dk_at dksX2_begins_1 19 rfl rfl)
theorem dX2_begins_43 : decode cX2_begins 43 = .ok (.putfield 59, 3) := dk_181 0 59 (dk_at dksX2_begins_1 20 rfl rfl)
theorem dX2_begins_46 : decode cX2_begins 46 = .ok (.aload_n 0, 1) := dk_42 (dk_at dksX2_begins_1 23 rfl rfl)
theorem dX2_begins_47 : decode cX2_begins 47 = .ok (.aload_n 1, 1) := dk_43 (dk_at dksX2_begins_2 0 rfl rfl)
theorem dX2_begins_48 : decode cX2_begins 48 = .ok (.getfield 63, 3) := dk_180 0 63 (dk_at dksX2_begins_2 1 rfl rfl)
theorem dX2_begins_51 : decode cX2_begins 51 = .ok (.invokevirtual 69, 3) := dk_182 0 69 (dk_at dksX2_begins_2 4 rfl rfl)
theorem dX2_begins_54 : decode cX2_begins 54 = .ok (.putfield 50, 3) := dk_181 0 50 (dk_at dksX2_begins_2 7 rfl rfl)
theorem dX2_begins_57 : decode cX2_begins 57 = .ok (.iconst 0, 1) := dk_3 (dk_at dksX2_begins_2 10 rfl rfl)
theorem dX2_begins_58 : decode cX2_begins 58 = .ok (.istore_n 2, 1) := dk_61 (dk_at dksX2_begins_2 11 rfl rfl)
theorem dX2_begins_59 : decode cX2_begins 59 = .ok (.iload_n 2, 1) := dk_28 (dk_at dksX2_begins_2 12 rfl rfl)
theorem dX2_begins_60 : decode cX2_begins 60 = .ok (.aload_n 0, 1) := dk_42 (dk_at dksX2_begins_2 13 rfl rfl)
theorem dX2_begins_61 : decode cX2_begins 61 = .ok (.getfield 50, 3) := dk_180 0 50 (dk_at dksX2_begins_2 14 rfl rfl)
theorem dX2_begins_64 : decode cX2_begins 64 = .ok (.if_icmp .ge 56, 3) := dk_162 0 56 (dk_at dksX2_begins_2 17 rfl rfl)
theorem dX2_begins_67 : decode cX2_begins 67 = .ok (.aload_n 1, 1) := dk_43 (dk_at dksX2_begins_2 20 rfl rfl)
theorem dX2_begins_68 : decode cX2_begins 68 = .ok (.getfield 63, 3) := dk_180 0 63 (dk_at dksX2_begins_2 21 rfl rfl)
theorem dX2_begins_71 : decode cX2_begins 71 = .ok (.iload_n 2, 1) := dk_28 (dk_at dksX2_begins_3 0 rfl rfl)
theorem dX2_begins_72 : decode cX2_begins 72 = .ok (.invokevirtual 75, 3) := dk_182 0 75 (dk_at dksX2_begins_3 1 rfl rfl)
theorem dX2_begins_75 : decode cX2_begins 75 = .ok (.checkcast 79, 3) := dk_192 0 79 (dk_at dksX2_begins_3 4 rfl rfl)
theorem dX2_begins_78 : decode cX2_begins 78 = .ok (.astore_n 3, 1) := dk_78 (dk_at dksX2_begins_3 7 rfl rfl)
theorem dX2_begins_79 : decode cX2_begins 79 = .ok (.aload_n 0, 1) := dk_42 (dk_at dksX2_begins_3 8 rfl rfl)
theorem dX2_begins_80 : decode cX2_begins 80 = .ok (.iload_n 2, 1) := dk_28 (dk_at dksX2_begins_3 9 rfl rfl)
theorem dX2_begins_81 : decode cX2_begins 81 = .ok (.iload_n 2, 1) := dk_28 (dk_at dksX2_begins_3 10 rfl rfl)
theorem dX2_begins_82 : decode cX2_begins 82 = .ok (.aload_n 3, 1) := dk_45 (dk_at dksX2_begins_3 11 rfl rfl)
theorem dX2_begins_83 : decode cX2_begins 83 = .ok (.getfield 81, 3) := dk_180 0 81 (dk_at dksX2_begins_3 12 rfl rfl)
theorem dX2_begins_86 : decode cX2_begins 86 = .ok (.aload_n 3, 1) := dk_45 (dk_at dksX2_begins_3 15 rfl rfl)
theorem dX2_begins_87 : decode cX2_begins 87 = .ok (.getfield 83, 3) := dk_180 0 83 (dk_at dksX2_begins_3 16 rfl rfl)
theorem dX2_begins_90 : decode cX2_begins 90 = .ok (.iconst 0, 1) := dk_3 (dk_at dksX2_begins_3 19 rfl rfl)
theorem dX2_begins_91 : decode cX2_begins 91 = .ok (.invokevirtual 85, 3) := dk_182 0 85 (dk_at dksX2_begins_3 20 rfl rfl)
theorem dX2_begins_94 : decode cX2_begins 94 = .ok (.aload_n 0, 1) := dk_42 (dk_at dksX2_begins_3 23 rfl rfl)
theorem dX2_begins_95 : decode cX2_begins 95 = .ok (.getfield 27, 3) := dk_180 0 27 (dk_at dksX2_begins_4 0 rfl rfl)
theorem dX2_begins_98 : decode cX2_begins 98 = .ok (.iload_n 2, 1) := dk_28 (dk_at dksX2_begins_4 3 rfl rfl)
theorem dX2_begins_99 : decode cX2_begins 99 = .ok (.aload_n 3, 1) := dk_45 (dk_at dksX2_begins_4 4 rfl rfl)
theorem dX2_begins_100 : decode cX2_begins 100 = .ok (.getfield 89, 3) := dk_180 0 89 (dk_at dksX2_begins_4 5 rfl rfl)
theorem dX2_begins_103 : decode cX2_begins 103 = .ok (.iastore, 1) := dk_79 (dk_at dksX2_begins_4 8 rfl rfl)
theorem dX2_begins_104 : decode cX2_begins 104 = .ok (.aload_n 0, 1) := dk_42 (dk_at dksX2_begins_4 9 rfl rfl)
theorem dX2_begins_105 : decode cX2_begins 105 = .ok (.getfield 30, 3) := dk_180 0 30 (dk_at dksX2_begins_4 10 rfl rfl)
theorem dX2_begins_108 : decode cX2_begins 108 = .ok (.iload_n 2, 1) := dk_28 (dk_at dksX2_begins_4 13 rfl rfl)
theorem dX2_begins_109 : decode cX2_begins 109 = .ok (.aload_n 3, 1) := dk_45 (dk_at dksX2_begins_4 14 rfl rfl)
theorem dX2_begins_110 : decode cX2_begins 110 = .ok (.getfield 91, 3) := dk_180 0 91 (dk_at dksX2_begins_4 15 rfl rfl)
theorem dX2_begins_113 : decode cX2_begins 113 = .ok (.iastore, 1) := dk_79 (dk_at dksX2_begins_4 18 rfl rfl)
theorem dX2_begins_114 : decode cX2_begins 114 = .ok (.iinc 2 1, 3) := dk_132 2 1 (dk_at dksX2_begins_4 19 rfl rfl)
theorem dX2_begins_117 : decode cX2_begins 117 = .ok (.goto (-58), 3) := dk_167 255 198 (dk_at dksX2_begins_5 0 rfl rfl)
theorem dX2_begins_120 : decode cX2_begins 120 = .ok (.aload_n 0, 1) := dk_42 (dk_at dksX2_begins_5 3 rfl rfl)
theorem dX2_begins_121 : decode cX2_begins 121 = .ok (.areturn, 1) := dk_176 (dk_at dksX2_begins_5 4 rfl rfl)
abbrev cX2_lays : ByteArray := prog_14_method_5_code
def yX2_lays : MethodName := ⟨RX2, "lays", "(IIIII)V"⟩
def dkwX2_lays_1 : List UInt8 := [180, 0, 24, 27, 21, 5, 79, 42, 180, 0, 27, 27, 3, 79, 42, 180, 0, 30, 27, 3, 79, 177]
abbrev dktX2_lays_1 : List UInt8 := dkwX2_lays_1 ++ []
def dkwX2_lays_0 : List UInt8 := [42, 180, 0, 15, 27, 28, 79, 42, 180, 0, 18, 27, 29, 79, 42, 180, 0, 21, 27, 21, 4, 79, 42]
abbrev dktX2_lays_0 : List UInt8 := dkwX2_lays_0 ++ dktX2_lays_1
theorem dksX2_lays_0 : cX2_lays.data.toList.drop 0 = dktX2_lays_0 := by decide +kernel
theorem dksX2_lays_1 : cX2_lays.data.toList.drop 23 = dktX2_lays_1 := dk_seg dksX2_lays_0 23 rfl rfl
theorem dX2_lays_0 : decode cX2_lays 0 = .ok (.aload_n 0, 1) := dk_42 (dk_at dksX2_lays_0 0 rfl rfl)
theorem dX2_lays_1 : decode cX2_lays 1 = .ok (.getfield 15, 3) := dk_180 0 15 (dk_at dksX2_lays_0 1 rfl rfl)
theorem dX2_lays_4 : decode cX2_lays 4 = .ok (.iload_n 1, 1) := dk_27 (dk_at dksX2_lays_0 4 rfl rfl)
theorem dX2_lays_5 : decode cX2_lays 5 = .ok (.iload_n 2, 1) := dk_28 (dk_at dksX2_lays_0 5 rfl rfl)
theorem dX2_lays_6 : decode cX2_lays 6 = .ok (.iastore, 1) := dk_79 (dk_at dksX2_lays_0 6 rfl rfl)
theorem dX2_lays_7 : decode cX2_lays 7 = .ok (.aload_n 0, 1) := dk_42 (dk_at dksX2_lays_0 7 rfl rfl)
theorem dX2_lays_8 : decode cX2_lays 8 = .ok (.getfield 18, 3) := dk_180 0 18 (dk_at dksX2_lays_0 8 rfl rfl)
theorem dX2_lays_11 : decode cX2_lays 11 = .ok (.iload_n 1, 1) := dk_27 (dk_at dksX2_lays_0 11 rfl rfl)
theorem dX2_lays_12 : decode cX2_lays 12 = .ok (.iload_n 3, 1) := dk_29 (dk_at dksX2_lays_0 12 rfl rfl)
theorem dX2_lays_13 : decode cX2_lays 13 = .ok (.iastore, 1) := dk_79 (dk_at dksX2_lays_0 13 rfl rfl)
theorem dX2_lays_14 : decode cX2_lays 14 = .ok (.aload_n 0, 1) := dk_42 (dk_at dksX2_lays_0 14 rfl rfl)
theorem dX2_lays_15 : decode cX2_lays 15 = .ok (.getfield 21, 3) := dk_180 0 21 (dk_at dksX2_lays_0 15 rfl rfl)
theorem dX2_lays_18 : decode cX2_lays 18 = .ok (.iload_n 1, 1) := dk_27 (dk_at dksX2_lays_0 18 rfl rfl)
theorem dX2_lays_19 : decode cX2_lays 19 = .ok (.iload 4, 2) := dk_21 4 (dk_at dksX2_lays_0 19 rfl rfl)
theorem dX2_lays_21 : decode cX2_lays 21 = .ok (.iastore, 1) := dk_79 (dk_at dksX2_lays_0 21 rfl rfl)
theorem dX2_lays_22 : decode cX2_lays 22 = .ok (.aload_n 0, 1) := dk_42 (dk_at dksX2_lays_0 22 rfl rfl)
theorem dX2_lays_23 : decode cX2_lays 23 = .ok (.getfield 24, 3) := dk_180 0 24 (dk_at dksX2_lays_1 0 rfl rfl)
theorem dX2_lays_26 : decode cX2_lays 26 = .ok (.iload_n 1, 1) := dk_27 (dk_at dksX2_lays_1 3 rfl rfl)
theorem dX2_lays_27 : decode cX2_lays 27 = .ok (.iload 5, 2) := dk_21 5 (dk_at dksX2_lays_1 4 rfl rfl)
theorem dX2_lays_29 : decode cX2_lays 29 = .ok (.iastore, 1) := dk_79 (dk_at dksX2_lays_1 6 rfl rfl)
theorem dX2_lays_30 : decode cX2_lays 30 = .ok (.aload_n 0, 1) := dk_42 (dk_at dksX2_lays_1 7 rfl rfl)
theorem dX2_lays_31 : decode cX2_lays 31 = .ok (.getfield 27, 3) := dk_180 0 27 (dk_at dksX2_lays_1 8 rfl rfl)
theorem dX2_lays_34 : decode cX2_lays 34 = .ok (.iload_n 1, 1) := dk_27 (dk_at dksX2_lays_1 11 rfl rfl)
theorem dX2_lays_35 : decode cX2_lays 35 = .ok (.iconst 0, 1) := dk_3 (dk_at dksX2_lays_1 12 rfl rfl)
theorem dX2_lays_36 : decode cX2_lays 36 = .ok (.iastore, 1) := dk_79 (dk_at dksX2_lays_1 13 rfl rfl)
theorem dX2_lays_37 : decode cX2_lays 37 = .ok (.aload_n 0, 1) := dk_42 (dk_at dksX2_lays_1 14 rfl rfl)
theorem dX2_lays_38 : decode cX2_lays 38 = .ok (.getfield 30, 3) := dk_180 0 30 (dk_at dksX2_lays_1 15 rfl rfl)
theorem dX2_lays_41 : decode cX2_lays 41 = .ok (.iload_n 1, 1) := dk_27 (dk_at dksX2_lays_1 18 rfl rfl)
theorem dX2_lays_42 : decode cX2_lays 42 = .ok (.iconst 0, 1) := dk_3 (dk_at dksX2_lays_1 19 rfl rfl)
theorem dX2_lays_43 : decode cX2_lays 43 = .ok (.iastore, 1) := dk_79 (dk_at dksX2_lays_1 20 rfl rfl)
theorem dX2_lays_44 : decode cX2_lays 44 = .ok (.return_, 1) := dk_177 (dk_at dksX2_lays_1 21 rfl rfl)
abbrev cX2_be : ByteArray := prog_14_method_2_code
def yX2_be : MethodName := ⟨RX2, "be", "(LStruckCounts$State;)V"⟩
def dkwX2_be_5 : List UInt8 := [180, 0, 56, 181, 0, 56, 42, 43, 180, 0, 59, 181, 0, 59, 177]
abbrev dktX2_be_5 : List UInt8 := dkwX2_be_5 ++ []
def dkwX2_be_4 : List UInt8 := [180, 0, 47, 181, 0, 47, 42, 43, 180, 0, 50, 181, 0, 50, 42, 43, 180, 0, 53, 181, 0, 53, 42, 43]
abbrev dktX2_be_4 : List UInt8 := dkwX2_be_4 ++ dktX2_be_5
def dkwX2_be_3 : List UInt8 := [184, 0, 39, 43, 180, 0, 30, 42, 180, 0, 30, 184, 0, 39, 42, 43, 180, 0, 43, 181, 0, 43, 42, 43]
abbrev dktX2_be_3 : List UInt8 := dkwX2_be_3 ++ dktX2_be_4
def dkwX2_be_2 : List UInt8 := [184, 0, 39, 43, 180, 0, 24, 42, 180, 0, 24, 184, 0, 39, 43, 180, 0, 27, 42, 180, 0, 27]
abbrev dktX2_be_2 : List UInt8 := dkwX2_be_2 ++ dktX2_be_3
def dkwX2_be_1 : List UInt8 := [184, 0, 39, 43, 180, 0, 18, 42, 180, 0, 18, 184, 0, 39, 43, 180, 0, 21, 42, 180, 0, 21]
abbrev dktX2_be_1 : List UInt8 := dkwX2_be_1 ++ dktX2_be_2
def dkwX2_be_0 : List UInt8 := [43, 180, 0, 9, 3, 42, 180, 0, 9, 3, 16, 8, 184, 0, 33, 43, 180, 0, 15, 42, 180, 0, 15]
abbrev dktX2_be_0 : List UInt8 := dkwX2_be_0 ++ dktX2_be_1
theorem dksX2_be_0 : cX2_be.data.toList.drop 0 = dktX2_be_0 := by decide +kernel
theorem dksX2_be_1 : cX2_be.data.toList.drop 23 = dktX2_be_1 := dk_seg dksX2_be_0 23 rfl rfl
theorem dksX2_be_2 : cX2_be.data.toList.drop 45 = dktX2_be_2 := dk_seg dksX2_be_1 22 rfl rfl
theorem dksX2_be_3 : cX2_be.data.toList.drop 67 = dktX2_be_3 := dk_seg dksX2_be_2 22 rfl rfl
theorem dksX2_be_4 : cX2_be.data.toList.drop 91 = dktX2_be_4 := dk_seg dksX2_be_3 24 rfl rfl
theorem dksX2_be_5 : cX2_be.data.toList.drop 115 = dktX2_be_5 := dk_seg dksX2_be_4 24 rfl rfl
theorem dX2_be_0 : decode cX2_be 0 = .ok (.aload_n 1, 1) := dk_43 (dk_at dksX2_be_0 0 rfl rfl)
theorem dX2_be_1 : decode cX2_be 1 = .ok (.getfield 9, 3) := dk_180 0 9 (dk_at dksX2_be_0 1 rfl rfl)
theorem dX2_be_4 : decode cX2_be 4 = .ok (.iconst 0, 1) := dk_3 (dk_at dksX2_be_0 4 rfl rfl)
theorem dX2_be_5 : decode cX2_be 5 = .ok (.aload_n 0, 1) := dk_42 (dk_at dksX2_be_0 5 rfl rfl)
theorem dX2_be_6 : decode cX2_be 6 = .ok (.getfield 9, 3) := dk_180 0 9 (dk_at dksX2_be_0 6 rfl rfl)
theorem dX2_be_9 : decode cX2_be 9 = .ok (.iconst 0, 1) := dk_3 (dk_at dksX2_be_0 9 rfl rfl)
theorem dX2_be_10 : decode cX2_be 10 = .ok (.bipush 8, 2) := dk_16 8 (dk_at dksX2_be_0 10 rfl rfl)
theorem dX2_be_12 : decode cX2_be 12 = .ok (.invokestatic 33, 3) := dk_184 0 33 (dk_at dksX2_be_0 12 rfl rfl)
theorem dX2_be_15 : decode cX2_be 15 = .ok (.aload_n 1, 1) := dk_43 (dk_at dksX2_be_0 15 rfl rfl)
theorem dX2_be_16 : decode cX2_be 16 = .ok (.getfield 15, 3) := dk_180 0 15 (dk_at dksX2_be_0 16 rfl rfl)
theorem dX2_be_19 : decode cX2_be 19 = .ok (.aload_n 0, 1) := dk_42 (dk_at dksX2_be_0 19 rfl rfl)
theorem dX2_be_20 : decode cX2_be 20 = .ok (.getfield 15, 3) := dk_180 0 15 (dk_at dksX2_be_0 20 rfl rfl)
theorem dX2_be_23 : decode cX2_be 23 = .ok (.invokestatic 39, 3) := dk_184 0 39 (dk_at dksX2_be_1 0 rfl rfl)
theorem dX2_be_26 : decode cX2_be 26 = .ok (.aload_n 1, 1) := dk_43 (dk_at dksX2_be_1 3 rfl rfl)
theorem dX2_be_27 : decode cX2_be 27 = .ok (.getfield 18, 3) := dk_180 0 18 (dk_at dksX2_be_1 4 rfl rfl)
theorem dX2_be_30 : decode cX2_be 30 = .ok (.aload_n 0, 1) := dk_42 (dk_at dksX2_be_1 7 rfl rfl)
theorem dX2_be_31 : decode cX2_be 31 = .ok (.getfield 18, 3) := dk_180 0 18 (dk_at dksX2_be_1 8 rfl rfl)
theorem dX2_be_34 : decode cX2_be 34 = .ok (.invokestatic 39, 3) := dk_184 0 39 (dk_at dksX2_be_1 11 rfl rfl)
theorem dX2_be_37 : decode cX2_be 37 = .ok (.aload_n 1, 1) := dk_43 (dk_at dksX2_be_1 14 rfl rfl)
theorem dX2_be_38 : decode cX2_be 38 = .ok (.getfield 21, 3) := dk_180 0 21 (dk_at dksX2_be_1 15 rfl rfl)
theorem dX2_be_41 : decode cX2_be 41 = .ok (.aload_n 0, 1) := dk_42 (dk_at dksX2_be_1 18 rfl rfl)
theorem dX2_be_42 : decode cX2_be 42 = .ok (.getfield 21, 3) := dk_180 0 21 (dk_at dksX2_be_1 19 rfl rfl)
theorem dX2_be_45 : decode cX2_be 45 = .ok (.invokestatic 39, 3) := dk_184 0 39 (dk_at dksX2_be_2 0 rfl rfl)
theorem dX2_be_48 : decode cX2_be 48 = .ok (.aload_n 1, 1) := dk_43 (dk_at dksX2_be_2 3 rfl rfl)
theorem dX2_be_49 : decode cX2_be 49 = .ok (.getfield 24, 3) := dk_180 0 24 (dk_at dksX2_be_2 4 rfl rfl)
theorem dX2_be_52 : decode cX2_be 52 = .ok (.aload_n 0, 1) := dk_42 (dk_at dksX2_be_2 7 rfl rfl)
theorem dX2_be_53 : decode cX2_be 53 = .ok (.getfield 24, 3) := dk_180 0 24 (dk_at dksX2_be_2 8 rfl rfl)
theorem dX2_be_56 : decode cX2_be 56 = .ok (.invokestatic 39, 3) := dk_184 0 39 (dk_at dksX2_be_2 11 rfl rfl)
theorem dX2_be_59 : decode cX2_be 59 = .ok (.aload_n 1, 1) := dk_43 (dk_at dksX2_be_2 14 rfl rfl)
theorem dX2_be_60 : decode cX2_be 60 = .ok (.getfield 27, 3) := dk_180 0 27 (dk_at dksX2_be_2 15 rfl rfl)
theorem dX2_be_63 : decode cX2_be 63 = .ok (.aload_n 0, 1) := dk_42 (dk_at dksX2_be_2 18 rfl rfl)
theorem dX2_be_64 : decode cX2_be 64 = .ok (.getfield 27, 3) := dk_180 0 27 (dk_at dksX2_be_2 19 rfl rfl)
theorem dX2_be_67 : decode cX2_be 67 = .ok (.invokestatic 39, 3) := dk_184 0 39 (dk_at dksX2_be_3 0 rfl rfl)
theorem dX2_be_70 : decode cX2_be 70 = .ok (.aload_n 1, 1) := dk_43 (dk_at dksX2_be_3 3 rfl rfl)
theorem dX2_be_71 : decode cX2_be 71 = .ok (.getfield 30, 3) := dk_180 0 30 (dk_at dksX2_be_3 4 rfl rfl)
theorem dX2_be_74 : decode cX2_be 74 = .ok (.aload_n 0, 1) := dk_42 (dk_at dksX2_be_3 7 rfl rfl)
theorem dX2_be_75 : decode cX2_be 75 = .ok (.getfield 30, 3) := dk_180 0 30 (dk_at dksX2_be_3 8 rfl rfl)
theorem dX2_be_78 : decode cX2_be 78 = .ok (.invokestatic 39, 3) := dk_184 0 39 (dk_at dksX2_be_3 11 rfl rfl)
theorem dX2_be_81 : decode cX2_be 81 = .ok (.aload_n 0, 1) := dk_42 (dk_at dksX2_be_3 14 rfl rfl)
theorem dX2_be_82 : decode cX2_be 82 = .ok (.aload_n 1, 1) := dk_43 (dk_at dksX2_be_3 15 rfl rfl)
theorem dX2_be_83 : decode cX2_be 83 = .ok (.getfield 43, 3) := dk_180 0 43 (dk_at dksX2_be_3 16 rfl rfl)
theorem dX2_be_86 : decode cX2_be 86 = .ok (.putfield 43, 3) := dk_181 0 43 (dk_at dksX2_be_3 19 rfl rfl)
theorem dX2_be_89 : decode cX2_be 89 = .ok (.aload_n 0, 1) := dk_42 (dk_at dksX2_be_3 22 rfl rfl)
theorem dX2_be_90 : decode cX2_be 90 = .ok (.aload_n 1, 1) := dk_43 (dk_at dksX2_be_3 23 rfl rfl)
theorem dX2_be_91 : decode cX2_be 91 = .ok (.getfield 47, 3) := dk_180 0 47 (dk_at dksX2_be_4 0 rfl rfl)
theorem dX2_be_94 : decode cX2_be 94 = .ok (.putfield 47, 3) := dk_181 0 47 (dk_at dksX2_be_4 3 rfl rfl)
theorem dX2_be_97 : decode cX2_be 97 = .ok (.aload_n 0, 1) := dk_42 (dk_at dksX2_be_4 6 rfl rfl)
theorem dX2_be_98 : decode cX2_be 98 = .ok (.aload_n 1, 1) := dk_43 (dk_at dksX2_be_4 7 rfl rfl)
theorem dX2_be_99 : decode cX2_be 99 = .ok (.getfield 50, 3) := dk_180 0 50 (dk_at dksX2_be_4 8 rfl rfl)
theorem dX2_be_102 : decode cX2_be 102 = .ok (.putfield 50, 3) := dk_181 0 50 (dk_at dksX2_be_4 11 rfl rfl)
theorem dX2_be_105 : decode cX2_be 105 = .ok (.aload_n 0, 1) := dk_42 (dk_at dksX2_be_4 14 rfl rfl)
theorem dX2_be_106 : decode cX2_be 106 = .ok (.aload_n 1, 1) := dk_43 (dk_at dksX2_be_4 15 rfl rfl)
theorem dX2_be_107 : decode cX2_be 107 = .ok (.getfield 53, 3) := dk_180 0 53 (dk_at dksX2_be_4 16 rfl rfl)
theorem dX2_be_110 : decode cX2_be 110 = .ok (.putfield 53, 3) := dk_181 0 53 (dk_at dksX2_be_4 19 rfl rfl)
theorem dX2_be_113 : decode cX2_be 113 = .ok (.aload_n 0, 1) := dk_42 (dk_at dksX2_be_4 22 rfl rfl)
theorem dX2_be_114 : decode cX2_be 114 = .ok (.aload_n 1, 1) := dk_43 (dk_at dksX2_be_4 23 rfl rfl)
theorem dX2_be_115 : decode cX2_be 115 = .ok (.getfield 56, 3) := dk_180 0 56 (dk_at dksX2_be_5 0 rfl rfl)
theorem dX2_be_118 : decode cX2_be 118 = .ok (.putfield 56, 3) := dk_181 0 56 (dk_at dksX2_be_5 3 rfl rfl)
theorem dX2_be_121 : decode cX2_be 121 = .ok (.aload_n 0, 1) := dk_42 (dk_at dksX2_be_5 6 rfl rfl)
theorem dX2_be_122 : decode cX2_be 122 = .ok (.aload_n 1, 1) := dk_43 (dk_at dksX2_be_5 7 rfl rfl)
theorem dX2_be_123 : decode cX2_be 123 = .ok (.getfield 59, 3) := dk_180 0 59 (dk_at dksX2_be_5 8 rfl rfl)
theorem dX2_be_126 : decode cX2_be 126 = .ok (.putfield 59, 3) := dk_181 0 59 (dk_at dksX2_be_5 11 rfl rfl)
theorem dX2_be_129 : decode cX2_be 129 = .ok (.return_, 1) := dk_177 (dk_at dksX2_be_5 14 rfl rfl)
abbrev cX2_copies : ByteArray := prog_14_method_3_code
def yX2_copies : MethodName := ⟨RX2, "copies", "([I[I)V"⟩
def dkwX2_copies_0 : List UInt8 := [42, 3, 43, 3, 16, 8, 184, 0, 33, 177]
abbrev dktX2_copies_0 : List UInt8 := dkwX2_copies_0 ++ []
theorem dksX2_copies_0 : cX2_copies.data.toList.drop 0 = dktX2_copies_0 := by decide +kernel
theorem dX2_copies_0 : decode cX2_copies 0 = .ok (.aload_n 0, 1) := dk_42 (dk_at dksX2_copies_0 0 rfl rfl)
theorem dX2_copies_1 : decode cX2_copies 1 = .ok (.iconst 0, 1) := dk_3 (dk_at dksX2_copies_0 1 rfl rfl)
theorem dX2_copies_2 : decode cX2_copies 2 = .ok (.aload_n 1, 1) := dk_43 (dk_at dksX2_copies_0 2 rfl rfl)
theorem dX2_copies_3 : decode cX2_copies 3 = .ok (.iconst 0, 1) := dk_3 (dk_at dksX2_copies_0 3 rfl rfl)
theorem dX2_copies_4 : decode cX2_copies 4 = .ok (.bipush 8, 2) := dk_16 8 (dk_at dksX2_copies_0 4 rfl rfl)
theorem dX2_copies_6 : decode cX2_copies 6 = .ok (.invokestatic 33, 3) := dk_184 0 33 (dk_at dksX2_copies_0 6 rfl rfl)
theorem dX2_copies_9 : decode cX2_copies 9 = .ok (.return_, 1) := dk_177 (dk_at dksX2_copies_0 9 rfl rfl)
abbrev cX2_knows : ByteArray := prog_14_method_6_code
def yX2_knows : MethodName := ⟨RX2, "knows", "(IZI)V"⟩
def dkwX2_knows_1 : List UInt8 := [28, 153, 0, 9, 4, 27, 120, 167, 0, 4, 3, 128, 181, 0, 47, 177]
abbrev dktX2_knows_1 : List UInt8 := dkwX2_knows_1 ++ []
def dkwX2_knows_0 : List UInt8 := [42, 180, 0, 9, 27, 29, 79, 42, 89, 180, 0, 43, 4, 27, 120, 128, 181, 0, 43, 42, 89, 180, 0, 47]
abbrev dktX2_knows_0 : List UInt8 := dkwX2_knows_0 ++ dktX2_knows_1
theorem dksX2_knows_0 : cX2_knows.data.toList.drop 0 = dktX2_knows_0 := by decide +kernel
theorem dksX2_knows_1 : cX2_knows.data.toList.drop 24 = dktX2_knows_1 := dk_seg dksX2_knows_0 24 rfl rfl
theorem dX2_knows_0 : decode cX2_knows 0 = .ok (.aload_n 0, 1) := dk_42 (dk_at dksX2_knows_0 0 rfl rfl)
theorem dX2_knows_1 : decode cX2_knows 1 = .ok (.getfield 9, 3) := dk_180 0 9 (dk_at dksX2_knows_0 1 rfl rfl)
theorem dX2_knows_4 : decode cX2_knows 4 = .ok (.iload_n 1, 1) := dk_27 (dk_at dksX2_knows_0 4 rfl rfl)
theorem dX2_knows_5 : decode cX2_knows 5 = .ok (.iload_n 3, 1) := dk_29 (dk_at dksX2_knows_0 5 rfl rfl)
theorem dX2_knows_6 : decode cX2_knows 6 = .ok (.iastore, 1) := dk_79 (dk_at dksX2_knows_0 6 rfl rfl)
theorem dX2_knows_7 : decode cX2_knows 7 = .ok (.aload_n 0, 1) := dk_42 (dk_at dksX2_knows_0 7 rfl rfl)
theorem dX2_knows_8 : decode cX2_knows 8 = .ok (.dup, 1) := dk_89 (dk_at dksX2_knows_0 8 rfl rfl)
theorem dX2_knows_9 : decode cX2_knows 9 = .ok (.getfield 43, 3) := dk_180 0 43 (dk_at dksX2_knows_0 9 rfl rfl)
theorem dX2_knows_12 : decode cX2_knows 12 = .ok (.iconst 1, 1) := dk_4 (dk_at dksX2_knows_0 12 rfl rfl)
theorem dX2_knows_13 : decode cX2_knows 13 = .ok (.iload_n 1, 1) := dk_27 (dk_at dksX2_knows_0 13 rfl rfl)
theorem dX2_knows_14 : decode cX2_knows 14 = .ok (.ishl, 1) := dk_120 (dk_at dksX2_knows_0 14 rfl rfl)
theorem dX2_knows_15 : decode cX2_knows 15 = .ok (.ior, 1) := dk_128 (dk_at dksX2_knows_0 15 rfl rfl)
theorem dX2_knows_16 : decode cX2_knows 16 = .ok (.putfield 43, 3) := dk_181 0 43 (dk_at dksX2_knows_0 16 rfl rfl)
theorem dX2_knows_19 : decode cX2_knows 19 = .ok (.aload_n 0, 1) := dk_42 (dk_at dksX2_knows_0 19 rfl rfl)
theorem dX2_knows_20 : decode cX2_knows 20 = .ok (.dup, 1) := dk_89 (dk_at dksX2_knows_0 20 rfl rfl)
theorem dX2_knows_21 : decode cX2_knows 21 = .ok (.getfield 47, 3) := dk_180 0 47 (dk_at dksX2_knows_0 21 rfl rfl)
theorem dX2_knows_24 : decode cX2_knows 24 = .ok (.iload_n 2, 1) := dk_28 (dk_at dksX2_knows_1 0 rfl rfl)
theorem dX2_knows_25 : decode cX2_knows 25 = .ok (.ifCond .eq 9, 3) := dk_153 0 9 (dk_at dksX2_knows_1 1 rfl rfl)
theorem dX2_knows_28 : decode cX2_knows 28 = .ok (.iconst 1, 1) := dk_4 (dk_at dksX2_knows_1 4 rfl rfl)
theorem dX2_knows_29 : decode cX2_knows 29 = .ok (.iload_n 1, 1) := dk_27 (dk_at dksX2_knows_1 5 rfl rfl)
theorem dX2_knows_30 : decode cX2_knows 30 = .ok (.ishl, 1) := dk_120 (dk_at dksX2_knows_1 6 rfl rfl)
theorem dX2_knows_31 : decode cX2_knows 31 = .ok (.goto 4, 3) := dk_167 0 4 (dk_at dksX2_knows_1 7 rfl rfl)
theorem dX2_knows_34 : decode cX2_knows 34 = .ok (.iconst 0, 1) := dk_3 (dk_at dksX2_knows_1 10 rfl rfl)
theorem dX2_knows_35 : decode cX2_knows 35 = .ok (.ior, 1) := dk_128 (dk_at dksX2_knows_1 11 rfl rfl)
theorem dX2_knows_36 : decode cX2_knows 36 = .ok (.putfield 47, 3) := dk_181 0 47 (dk_at dksX2_knows_1 12 rfl rfl)
theorem dX2_knows_39 : decode cX2_knows 39 = .ok (.return_, 1) := dk_177 (dk_at dksX2_knows_1 15 rfl rfl)
abbrev cX2_answered : ByteArray := prog_14_method_7_code
def yX2_answered : MethodName := ⟨RX2, "answered", "(I)I"⟩
def dkwX2_answered_1 : List UInt8 := [96, 61, 132, 3, 1, 167, 255, 231, 28, 172]
abbrev dktX2_answered_1 : List UInt8 := dkwX2_answered_1 ++ []
def dkwX2_answered_0 : List UInt8 := [3, 61, 3, 62, 29, 27, 162, 0, 26, 28, 42, 180, 0, 9, 29, 46, 154, 0, 7, 3, 167, 0, 4, 4]
abbrev dktX2_answered_0 : List UInt8 := dkwX2_answered_0 ++ dktX2_answered_1
theorem dksX2_answered_0 : cX2_answered.data.toList.drop 0 = dktX2_answered_0 := by decide +kernel
theorem dksX2_answered_1 : cX2_answered.data.toList.drop 24 = dktX2_answered_1 := dk_seg dksX2_answered_0 24 rfl rfl
theorem dX2_answered_0 : decode cX2_answered 0 = .ok (.iconst 0, 1) := dk_3 (dk_at dksX2_answered_0 0 rfl rfl)
theorem dX2_answered_1 : decode cX2_answered 1 = .ok (.istore_n 2, 1) := dk_61 (dk_at dksX2_answered_0 1 rfl rfl)
theorem dX2_answered_2 : decode cX2_answered 2 = .ok (.iconst 0, 1) := dk_3 (dk_at dksX2_answered_0 2 rfl rfl)
theorem dX2_answered_3 : decode cX2_answered 3 = .ok (.istore_n 3, 1) := dk_62 (dk_at dksX2_answered_0 3 rfl rfl)
theorem dX2_answered_4 : decode cX2_answered 4 = .ok (.iload_n 3, 1) := dk_29 (dk_at dksX2_answered_0 4 rfl rfl)
theorem dX2_answered_5 : decode cX2_answered 5 = .ok (.iload_n 1, 1) := dk_27 (dk_at dksX2_answered_0 5 rfl rfl)
theorem dX2_answered_6 : decode cX2_answered 6 = .ok (.if_icmp .ge 26, 3) := dk_162 0 26 (dk_at dksX2_answered_0 6 rfl rfl)
theorem dX2_answered_9 : decode cX2_answered 9 = .ok (.iload_n 2, 1) := dk_28 (dk_at dksX2_answered_0 9 rfl rfl)
theorem dX2_answered_10 : decode cX2_answered 10 = .ok (.aload_n 0, 1) := dk_42 (dk_at dksX2_answered_0 10 rfl rfl)
theorem dX2_answered_11 : decode cX2_answered 11 = .ok (.getfield 9, 3) := dk_180 0 9 (dk_at dksX2_answered_0 11 rfl rfl)
theorem dX2_answered_14 : decode cX2_answered 14 = .ok (.iload_n 3, 1) := dk_29 (dk_at dksX2_answered_0 14 rfl rfl)
theorem dX2_answered_15 : decode cX2_answered 15 = .ok (.iaload, 1) := dk_46 (dk_at dksX2_answered_0 15 rfl rfl)
theorem dX2_answered_16 : decode cX2_answered 16 = .ok (.ifCond .ne 7, 3) := dk_154 0 7 (dk_at dksX2_answered_0 16 rfl rfl)
theorem dX2_answered_19 : decode cX2_answered 19 = .ok (.iconst 0, 1) := dk_3 (dk_at dksX2_answered_0 19 rfl rfl)
theorem dX2_answered_20 : decode cX2_answered 20 = .ok (.goto 4, 3) := dk_167 0 4 (dk_at dksX2_answered_0 20 rfl rfl)
theorem dX2_answered_23 : decode cX2_answered 23 = .ok (.iconst 1, 1) := dk_4 (dk_at dksX2_answered_0 23 rfl rfl)
theorem dX2_answered_24 : decode cX2_answered 24 = .ok (.iadd, 1) := dk_96 (dk_at dksX2_answered_1 0 rfl rfl)
theorem dX2_answered_25 : decode cX2_answered 25 = .ok (.istore_n 2, 1) := dk_61 (dk_at dksX2_answered_1 1 rfl rfl)
theorem dX2_answered_26 : decode cX2_answered 26 = .ok (.iinc 3 1, 3) := dk_132 3 1 (dk_at dksX2_answered_1 2 rfl rfl)
theorem dX2_answered_29 : decode cX2_answered 29 = .ok (.goto (-25), 3) := dk_167 255 231 (dk_at dksX2_answered_1 5 rfl rfl)
theorem dX2_answered_32 : decode cX2_answered 32 = .ok (.iload_n 2, 1) := dk_28 (dk_at dksX2_answered_1 8 rfl rfl)
theorem dX2_answered_33 : decode cX2_answered 33 = .ok (.ireturn, 1) := dk_172 (dk_at dksX2_answered_1 9 rfl rfl)
theorem q168 : (Jvm.Cond.initialized "StruckCounts$State") ∈ lw_all := lw_g (lw_at lw_m1 13 rfl) rfl
theorem q329 : (Jvm.Cond.fieldLinkNest "StruckCounts$State" (63 : Nat) "StruckCounts$Suit" "counts" "Ljava/util/ArrayList;" "StruckCounts") ∈ lw_tbl := lw_at lw_m1 174 rfl
theorem q478 : (Jvm.Cond.instantiable "StruckCounts$State" (13 : Nat)) ∈ lw_all := lw_g (lw_at lw_m2 83 rfl) rfl
theorem q480 : (Jvm.Cond.instanceMethod ({ cls := "StruckCounts$State", name := "<init>", desc := "()V" } : Jvm.MethodName)) ∈ lw_all := lw_g (lw_at lw_m2 85 rfl) rfl
theorem q481 : (Jvm.Cond.code ({ cls := "StruckCounts$State", name := "<init>", desc := "()V" } : Jvm.MethodName) prog_14_method_1_code (1 : Nat) (Option.none : Option Jvm.ClassFile.FieldType)) ∈ lw_all := lw_g (lw_at lw_m2 86 rfl) rfl
theorem q482 : (Jvm.Cond.methodLink "StruckCounts$State" (3 : Nat) ({ cls := "java/lang/Object", name := "<init>", desc := "()V" } : Jvm.MethodName)) ∈ lw_all := lw_g (lw_at lw_m2 87 rfl) rfl
theorem q483 : (Jvm.Cond.fieldLink "StruckCounts$State" (9 : Nat) "StruckCounts$State" "how" "[I") ∈ lw_all := lw_g (lw_at lw_m2 88 rfl) rfl
theorem q485 : (Jvm.Cond.fieldLink "StruckCounts$State" (15 : Nat) "StruckCounts$State" "like" "[I") ∈ lw_all := lw_g (lw_at lw_m2 90 rfl) rfl
theorem q487 : (Jvm.Cond.fieldLink "StruckCounts$State" (18 : Nat) "StruckCounts$State" "worth" "[I") ∈ lw_all := lw_g (lw_at lw_m2 92 rfl) rfl
theorem q489 : (Jvm.Cond.fieldLink "StruckCounts$State" (21 : Nat) "StruckCounts$State" "arose" "[I") ∈ lw_all := lw_g (lw_at lw_m2 94 rfl) rfl
theorem q491 : (Jvm.Cond.fieldLink "StruckCounts$State" (24 : Nat) "StruckCounts$State" "filed" "[I") ∈ lw_all := lw_g (lw_at lw_m2 96 rfl) rfl
theorem q493 : (Jvm.Cond.fieldLink "StruckCounts$State" (27 : Nat) "StruckCounts$State" "says" "[I") ∈ lw_all := lw_g (lw_at lw_m2 98 rfl) rfl
theorem q495 : (Jvm.Cond.fieldLink "StruckCounts$State" (30 : Nat) "StruckCounts$State" "so" "[I") ∈ lw_all := lw_g (lw_at lw_m2 100 rfl) rfl
theorem q497 : (Jvm.Cond.fieldLink "StruckCounts$State" (43 : Nat) "StruckCounts$State" "known" "I") ∈ lw_all := lw_g (lw_at lw_m2 102 rfl) rfl
theorem q499 : (Jvm.Cond.fieldLink "StruckCounts$State" (47 : Nat) "StruckCounts$State" "knownSo" "I") ∈ lw_all := lw_g (lw_at lw_m2 104 rfl) rfl
theorem q501 : (Jvm.Cond.fieldLink "StruckCounts$State" (50 : Nat) "StruckCounts$State" "many" "I") ∈ lw_all := lw_g (lw_at lw_m2 106 rfl) rfl
theorem q503 : (Jvm.Cond.fieldLink "StruckCounts$State" (53 : Nat) "StruckCounts$State" "struck" "I") ∈ lw_all := lw_g (lw_at lw_m2 108 rfl) rfl
theorem q505 : (Jvm.Cond.fieldLink "StruckCounts$State" (56 : Nat) "StruckCounts$State" "day" "I") ∈ lw_all := lw_g (lw_at lw_m2 110 rfl) rfl
theorem q507 : (Jvm.Cond.fieldLink "StruckCounts$State" (59 : Nat) "StruckCounts$State" "isClosed" "Z") ∈ lw_all := lw_g (lw_at lw_m2 112 rfl) rfl
theorem q509 : (Jvm.Cond.laysFinal "StruckCounts$State" "StruckCounts$State" "how" "[I") ∈ lw_all := lw_g (lw_at lw_m2 114 rfl) rfl
theorem q510 : (Jvm.Cond.soleField "StruckCounts$State" "how") ∈ lw_all := lw_g (lw_at lw_m2 115 rfl) rfl
theorem q511 : (Jvm.Cond.laysFinal "StruckCounts$State" "StruckCounts$State" "like" "[I") ∈ lw_all := lw_g (lw_at lw_m2 116 rfl) rfl
theorem q512 : (Jvm.Cond.soleField "StruckCounts$State" "like") ∈ lw_all := lw_g (lw_at lw_m2 117 rfl) rfl
theorem q513 : (Jvm.Cond.laysFinal "StruckCounts$State" "StruckCounts$State" "worth" "[I") ∈ lw_all := lw_g (lw_at lw_m2 118 rfl) rfl
theorem q514 : (Jvm.Cond.soleField "StruckCounts$State" "worth") ∈ lw_all := lw_g (lw_at lw_m2 119 rfl) rfl
theorem q515 : (Jvm.Cond.laysFinal "StruckCounts$State" "StruckCounts$State" "arose" "[I") ∈ lw_all := lw_g (lw_at lw_m2 120 rfl) rfl
theorem q516 : (Jvm.Cond.soleField "StruckCounts$State" "arose") ∈ lw_all := lw_g (lw_at lw_m2 121 rfl) rfl
theorem q517 : (Jvm.Cond.laysFinal "StruckCounts$State" "StruckCounts$State" "filed" "[I") ∈ lw_all := lw_g (lw_at lw_m2 122 rfl) rfl
theorem q518 : (Jvm.Cond.soleField "StruckCounts$State" "filed") ∈ lw_all := lw_g (lw_at lw_m2 123 rfl) rfl
theorem q519 : (Jvm.Cond.laysFinal "StruckCounts$State" "StruckCounts$State" "says" "[I") ∈ lw_all := lw_g (lw_at lw_m2 124 rfl) rfl
theorem q520 : (Jvm.Cond.soleField "StruckCounts$State" "says") ∈ lw_all := lw_g (lw_at lw_m2 125 rfl) rfl
theorem q521 : (Jvm.Cond.laysFinal "StruckCounts$State" "StruckCounts$State" "so" "[I") ∈ lw_all := lw_g (lw_at lw_m2 126 rfl) rfl
theorem q522 : (Jvm.Cond.soleField "StruckCounts$State" "so") ∈ lw_all := lw_g (lw_at lw_m2 127 rfl) rfl
theorem q523 : (Jvm.Cond.lays "StruckCounts$State" "StruckCounts$State" "known" "I") ∈ lw_all := lw_g (lw_at lw_m2 128 rfl) rfl
theorem q524 : (Jvm.Cond.soleField "StruckCounts$State" "known") ∈ lw_all := lw_g (lw_at lw_m2 129 rfl) rfl
theorem q525 : (Jvm.Cond.lays "StruckCounts$State" "StruckCounts$State" "knownSo" "I") ∈ lw_all := lw_g (lw_at lw_m2 130 rfl) rfl
theorem q526 : (Jvm.Cond.soleField "StruckCounts$State" "knownSo") ∈ lw_all := lw_g (lw_at lw_m2 131 rfl) rfl
theorem q527 : (Jvm.Cond.lays "StruckCounts$State" "StruckCounts$State" "many" "I") ∈ lw_all := lw_g (lw_at lw_m2 132 rfl) rfl
theorem q528 : (Jvm.Cond.soleField "StruckCounts$State" "many") ∈ lw_all := lw_g (lw_at lw_m2 133 rfl) rfl
theorem q529 : (Jvm.Cond.lays "StruckCounts$State" "StruckCounts$State" "struck" "I") ∈ lw_all := lw_g (lw_at lw_m2 134 rfl) rfl
theorem q530 : (Jvm.Cond.soleField "StruckCounts$State" "struck") ∈ lw_all := lw_g (lw_at lw_m2 135 rfl) rfl
theorem q531 : (Jvm.Cond.lays "StruckCounts$State" "StruckCounts$State" "day" "I") ∈ lw_all := lw_g (lw_at lw_m2 136 rfl) rfl
theorem q532 : (Jvm.Cond.soleField "StruckCounts$State" "day") ∈ lw_all := lw_g (lw_at lw_m2 137 rfl) rfl
theorem q533 : (Jvm.Cond.lays "StruckCounts$State" "StruckCounts$State" "isClosed" "Z") ∈ lw_all := lw_g (lw_at lw_m2 138 rfl) rfl
theorem q534 : (Jvm.Cond.soleField "StruckCounts$State" "isClosed") ∈ lw_all := lw_g (lw_at lw_m2 139 rfl) rfl
theorem q535 : (Jvm.Cond.superclass "StruckCounts$State" "java/lang/Object") ∈ lw_all := lw_g (lw_at lw_m2 140 rfl) rfl
theorem q538 : (Jvm.Cond.instanceMethod ({ cls := "StruckCounts$State", name := "begins", desc := "(LStruckCounts$Suit;)LStruckCounts$State;" } : Jvm.MethodName)) ∈ lw_all := lw_g (lw_at lw_m2 143 rfl) rfl
theorem q539 : (Jvm.Cond.selects "StruckCounts$State" ({ cls := "StruckCounts$State", name := "begins", desc := "(LStruckCounts$Suit;)LStruckCounts$State;" } : Jvm.MethodName) ({ cls := "StruckCounts$State", name := "begins", desc := "(LStruckCounts$Suit;)LStruckCounts$State;" } : Jvm.MethodName)) ∈ lw_all := lw_g (lw_at lw_m2 144 rfl) rfl
theorem q540 : (Jvm.Cond.code ({ cls := "StruckCounts$State", name := "begins", desc := "(LStruckCounts$Suit;)LStruckCounts$State;" } : Jvm.MethodName) prog_14_method_4_code (4 : Nat) (Option.some (Jvm.ClassFile.FieldType.object "StruckCounts$State"))) ∈ lw_all := lw_g (lw_at lw_m2 145 rfl) rfl
theorem q541 : (Jvm.Cond.methodLink "StruckCounts$State" (69 : Nat) ({ cls := "java/util/ArrayList", name := "size", desc := "()I" } : Jvm.MethodName)) ∈ lw_all := lw_g (lw_at lw_m2 146 rfl) rfl
theorem q542 : (Jvm.Cond.methodLink "StruckCounts$State" (75 : Nat) ({ cls := "java/util/ArrayList", name := "get", desc := "(I)Ljava/lang/Object;" } : Jvm.MethodName)) ∈ lw_all := lw_g (lw_at lw_m2 147 rfl) rfl
theorem q543 : (Jvm.Cond.classLink "StruckCounts$State" (79 : Nat) "StruckCounts$Told") ∈ lw_all := lw_g (lw_at lw_m2 148 rfl) rfl
theorem q544 : (Jvm.Cond.methodLink "StruckCounts$State" (85 : Nat) ({ cls := "StruckCounts$State", name := "lays", desc := "(IIIII)V" } : Jvm.MethodName)) ∈ lw_all := lw_g (lw_at lw_m2 149 rfl) rfl
theorem q545 : (Jvm.Cond.instanceMethod ({ cls := "StruckCounts$State", name := "lays", desc := "(IIIII)V" } : Jvm.MethodName)) ∈ lw_all := lw_g (lw_at lw_m2 150 rfl) rfl
theorem q546 : (Jvm.Cond.selects "StruckCounts$State" ({ cls := "StruckCounts$State", name := "lays", desc := "(IIIII)V" } : Jvm.MethodName) ({ cls := "StruckCounts$State", name := "lays", desc := "(IIIII)V" } : Jvm.MethodName)) ∈ lw_all := lw_g (lw_at lw_m2 151 rfl) rfl
theorem q547 : (Jvm.Cond.code ({ cls := "StruckCounts$State", name := "lays", desc := "(IIIII)V" } : Jvm.MethodName) prog_14_method_5_code (6 : Nat) (Option.none : Option Jvm.ClassFile.FieldType)) ∈ lw_all := lw_g (lw_at lw_m2 152 rfl) rfl
theorem q1162 : (Jvm.Cond.selects "StruckCounts$State" ({ cls := "java/lang/Object", name := "hashCode", desc := "()I" } : Jvm.MethodName) ({ cls := "java/lang/Object", name := "hashCode", desc := "()I" } : Jvm.MethodName)) ∈ lw_all := lw_g (lw_at lw_m5 47 rfl) rfl
theorem q1194 : (Jvm.Cond.selects "StruckCounts$State" ({ cls := "java/lang/Object", name := "equals", desc := "(Ljava/lang/Object;)Z" } : Jvm.MethodName) ({ cls := "java/lang/Object", name := "equals", desc := "(Ljava/lang/Object;)Z" } : Jvm.MethodName)) ∈ lw_all := lw_g (lw_at lw_m5 79 rfl) rfl
theorem q1237 : (Jvm.Cond.selects "StruckCounts$State" ({ cls := "java/lang/Object", name := "getClass", desc := "()Ljava/lang/Class;" } : Jvm.MethodName) ({ cls := "java/lang/Object", name := "getClass", desc := "()Ljava/lang/Class;" } : Jvm.MethodName)) ∈ lw_all := lw_g (lw_at lw_m5 122 rfl) rfl
theorem q1807 : (Jvm.Cond.fieldLinkNest "StruckCounts$State" (81 : Nat) "StruckCounts$Told" "worth" "I" "StruckCounts") ∈ lw_tbl := lw_at lw_m7 212 rfl
theorem q1809 : (Jvm.Cond.fieldLinkNest "StruckCounts$State" (83 : Nat) "StruckCounts$Told" "arose" "I" "StruckCounts") ∈ lw_tbl := lw_at lw_m7 214 rfl
theorem q1818 : (Jvm.Cond.fieldLinkNest "StruckCounts$State" (89 : Nat) "StruckCounts$Told" "says" "I" "StruckCounts") ∈ lw_tbl := lw_at lw_m7 223 rfl
theorem q1820 : (Jvm.Cond.fieldLinkNest "StruckCounts$State" (91 : Nat) "StruckCounts$Told" "so" "I" "StruckCounts") ∈ lw_tbl := lw_at lw_m7 225 rfl
theorem q2059 : (Jvm.Cond.instanceMethod ({ cls := "StruckCounts$State", name := "be", desc := "(LStruckCounts$State;)V" } : Jvm.MethodName)) ∈ lw_all := lw_g (lw_at lw_m8 224 rfl) rfl
theorem q2060 : (Jvm.Cond.selects "StruckCounts$State" ({ cls := "StruckCounts$State", name := "be", desc := "(LStruckCounts$State;)V" } : Jvm.MethodName) ({ cls := "StruckCounts$State", name := "be", desc := "(LStruckCounts$State;)V" } : Jvm.MethodName)) ∈ lw_all := lw_g (lw_at lw_m8 225 rfl) rfl
theorem q2061 : (Jvm.Cond.code ({ cls := "StruckCounts$State", name := "be", desc := "(LStruckCounts$State;)V" } : Jvm.MethodName) prog_14_method_2_code (2 : Nat) (Option.none : Option Jvm.ClassFile.FieldType)) ∈ lw_all := lw_g (lw_at lw_m8 226 rfl) rfl
theorem q2062 : (Jvm.Cond.methodLink "StruckCounts$State" (33 : Nat) ({ cls := "java/lang/System", name := "arraycopy", desc := "(Ljava/lang/Object;ILjava/lang/Object;II)V" } : Jvm.MethodName)) ∈ lw_all := lw_g (lw_at lw_m8 227 rfl) rfl
theorem q2063 : (Jvm.Cond.methodLink "StruckCounts$State" (39 : Nat) ({ cls := "StruckCounts$State", name := "copies", desc := "([I[I)V" } : Jvm.MethodName)) ∈ lw_all := lw_g (lw_at lw_m8 228 rfl) rfl
theorem q2064 : (Jvm.Cond.static ({ cls := "StruckCounts$State", name := "copies", desc := "([I[I)V" } : Jvm.MethodName)) ∈ lw_all := lw_g (lw_at lw_m8 229 rfl) rfl
theorem q2065 : (Jvm.Cond.code ({ cls := "StruckCounts$State", name := "copies", desc := "([I[I)V" } : Jvm.MethodName) prog_14_method_3_code (2 : Nat) (Option.none : Option Jvm.ClassFile.FieldType)) ∈ lw_all := lw_g (lw_at lw_m8 230 rfl) rfl
theorem q2067 : (Jvm.Cond.instanceMethod ({ cls := "StruckCounts$State", name := "knows", desc := "(IZI)V" } : Jvm.MethodName)) ∈ lw_all := lw_g (lw_at lw_m8 232 rfl) rfl
theorem q2068 : (Jvm.Cond.selects "StruckCounts$State" ({ cls := "StruckCounts$State", name := "knows", desc := "(IZI)V" } : Jvm.MethodName) ({ cls := "StruckCounts$State", name := "knows", desc := "(IZI)V" } : Jvm.MethodName)) ∈ lw_all := lw_g (lw_at lw_m8 233 rfl) rfl
theorem q2069 : (Jvm.Cond.code ({ cls := "StruckCounts$State", name := "knows", desc := "(IZI)V" } : Jvm.MethodName) prog_14_method_6_code (4 : Nat) (Option.none : Option Jvm.ClassFile.FieldType)) ∈ lw_all := lw_g (lw_at lw_m8 234 rfl) rfl
theorem q2071 : (Jvm.Cond.instanceMethod ({ cls := "StruckCounts$State", name := "answered", desc := "(I)I" } : Jvm.MethodName)) ∈ lw_all := lw_g (lw_at lw_m8 236 rfl) rfl
theorem q2072 : (Jvm.Cond.selects "StruckCounts$State" ({ cls := "StruckCounts$State", name := "answered", desc := "(I)I" } : Jvm.MethodName) ({ cls := "StruckCounts$State", name := "answered", desc := "(I)I" } : Jvm.MethodName)) ∈ lw_all := lw_g (lw_at lw_m8 237 rfl) rfl
theorem q2073 : (Jvm.Cond.code ({ cls := "StruckCounts$State", name := "answered", desc := "(I)I" } : Jvm.MethodName) prog_14_method_7_code (4 : Nat) (Option.some Jvm.ClassFile.FieldType.int)) ∈ lw_all := lw_g (lw_at lw_m8 238 rfl) rfl
theorem q3078 : (Jvm.Cond.castable "StruckCounts$State" "java/lang/Object") ∈ lw_tbl := lw_at lw_m13 43 rfl
theorem in_X2 : ∀ w ∈ wsX20, w ∈ lw_all := lw_in wsX20 [509, 511, 513, 515, 517, 519, 521, 523, 525, 527, 529, 531, 533] (by decide +kernel) (by decide +kernel)

/-! StruckCounts$Reader -/
set_option maxRecDepth 100000
def RX4 : String := "StruckCounts$Reader"
def TX4 : u_T := fun k => match k with
  | 0 => ("StruckCounts$Reader", "text", "[B", true)
  | 1 => ("StruckCounts$Reader", "size", "I", true)
  | 2 => ("StruckCounts$Reader", "suit", "LStruckCounts$Suit;", false)
  | 3 => ("StruckCounts$Reader", "at", "I", false)
  | 4 => ("StruckCounts$Reader", "from", "I", false)
  | 5 => ("StruckCounts$Reader", "token", "I", false)
  | 6 => ("StruckCounts$Reader", "value", "I", false)
  | 7 => ("StruckCounts$Reader", "open", "I", false)
  | _ => ("StruckCounts$Reader", "word", "Ljava/lang/String;", false)
def tyX4 : Nat → FieldType := fun k => match k with
  | 0 => .array .byte
  | 1 => .int
  | 2 => .object "StruckCounts$Suit"
  | 3 => .int
  | 4 => .int
  | 5 => .int
  | 6 => .int
  | 7 => .int
  | _ => .object "java/lang/String"
abbrev wsX40 : List Cond := u_ws RX4 TX4 9
theorem nmX4 : ∀ a, a < 9 → ∀ b, b < 9 → a ≠ b → (TX4 a).2.1 ≠ (TX4 b).2.1 := by decide +kernel
theorem tyX4_ok : ∀ k, k < 9 → parseFieldDescriptor (TX4 k).2.2.1 = some (tyX4 k) := by decide +kernel
abbrev cX4_init : ByteArray := prog_10_method_1_code
def yX4_init : MethodName := ⟨RX4, "<init>", "([BILStruckCounts$Suit;)V"⟩
def dkwX4_init_1 : List UInt8 := [181, 0, 25, 42, 182, 0, 29, 177]
abbrev dktX4_init_1 : List UInt8 := dkwX4_init_1 ++ []
def dkwX4_init_0 : List UInt8 := [42, 183, 0, 3, 42, 18, 9, 181, 0, 11, 42, 43, 181, 0, 17, 42, 28, 181, 0, 21, 42, 45]
abbrev dktX4_init_0 : List UInt8 := dkwX4_init_0 ++ dktX4_init_1
theorem dksX4_init_0 : cX4_init.data.toList.drop 0 = dktX4_init_0 := by decide +kernel
theorem dksX4_init_1 : cX4_init.data.toList.drop 22 = dktX4_init_1 := dk_seg dksX4_init_0 22 rfl rfl
theorem dX4_init_0 : decode cX4_init 0 = .ok (.aload_n 0, 1) := dk_42 (dk_at dksX4_init_0 0 rfl rfl)
theorem dX4_init_1 : decode cX4_init 1 = .ok (.invokespecial 3, 3) := dk_183 0 3 (dk_at dksX4_init_0 1 rfl rfl)
theorem dX4_init_4 : decode cX4_init 4 = .ok (.aload_n 0, 1) := dk_42 (dk_at dksX4_init_0 4 rfl rfl)
theorem dX4_init_5 : decode cX4_init 5 = .ok (.ldc 9, 2) := dk_18 9 (dk_at dksX4_init_0 5 rfl rfl)
theorem dX4_init_7 : decode cX4_init 7 = .ok (.putfield 11, 3) := dk_181 0 11 (dk_at dksX4_init_0 7 rfl rfl)
theorem dX4_init_10 : decode cX4_init 10 = .ok (.aload_n 0, 1) := dk_42 (dk_at dksX4_init_0 10 rfl rfl)
theorem dX4_init_11 : decode cX4_init 11 = .ok (.aload_n 1, 1) := dk_43 (dk_at dksX4_init_0 11 rfl rfl)
theorem dX4_init_12 : decode cX4_init 12 = .ok (.putfield 17, 3) := dk_181 0 17 (dk_at dksX4_init_0 12 rfl rfl)
theorem dX4_init_15 : decode cX4_init 15 = .ok (.aload_n 0, 1) := dk_42 (dk_at dksX4_init_0 15 rfl rfl)
theorem dX4_init_16 : decode cX4_init 16 = .ok (.iload_n 2, 1) := dk_28 (dk_at dksX4_init_0 16 rfl rfl)
theorem dX4_init_17 : decode cX4_init 17 = .ok (.putfield 21, 3) := dk_181 0 21 (dk_at dksX4_init_0 17 rfl rfl)
theorem dX4_init_20 : decode cX4_init 20 = .ok (.aload_n 0, 1) := dk_42 (dk_at dksX4_init_0 20 rfl rfl)
theorem dX4_init_21 : decode cX4_init 21 = .ok (.aload_n 3, 1) := dk_45 (dk_at dksX4_init_0 21 rfl rfl)
theorem dX4_init_22 : decode cX4_init 22 = .ok (.putfield 25, 3) := dk_181 0 25 (dk_at dksX4_init_1 0 rfl rfl)
theorem dX4_init_25 : decode cX4_init 25 = .ok (.aload_n 0, 1) := dk_42 (dk_at dksX4_init_1 3 rfl rfl)
theorem dX4_init_26 : decode cX4_init 26 = .ok (.invokevirtual 29, 3) := dk_182 0 29 (dk_at dksX4_init_1 4 rfl rfl)
theorem dX4_init_29 : decode cX4_init 29 = .ok (.return_, 1) := dk_177 (dk_at dksX4_init_1 7 rfl rfl)
abbrev cX4_goes : ByteArray := prog_10_method_3_code
def yX4_goes : MethodName := ⟨RX4, "goes", "()V"⟩
def dkwX4_goes_12 : List UInt8 := [6, 167, 0, 4, 7, 181, 0, 45, 42, 89, 180, 0, 32, 4, 96, 181, 0, 32, 177]
abbrev dktX4_goes_12 : List UInt8 := dkwX4_goes_12 ++ []
def dkwX4_goes_11 : List UInt8 := [167, 0, 4, 5, 181, 0, 45, 167, 0, 35, 42, 18, 68, 42, 182, 0, 35, 146, 182, 0, 70, 155, 0, 7]
abbrev dktX4_goes_11 : List UInt8 := dkwX4_goes_11 ++ dktX4_goes_12
def dkwX4_goes_10 : List UInt8 := [96, 181, 0, 32, 167, 255, 193, 42, 42, 180, 0, 32, 42, 180, 0, 39, 100, 6, 164, 0, 7, 7]
abbrev dktX4_goes_10 : List UInt8 := dkwX4_goes_10 ++ dktX4_goes_11
def dkwX4_goes_9 : List UInt8 := [42, 182, 0, 35, 96, 16, 48, 100, 167, 0, 7, 42, 180, 0, 42, 181, 0, 42, 42, 89, 180, 0, 32, 4]
abbrev dktX4_goes_9 : List UInt8 := dkwX4_goes_9 ++ dktX4_goes_10
def dkwX4_goes_8 : List UInt8 := [153, 0, 55, 42, 42, 180, 0, 32, 42, 180, 0, 39, 100, 6, 162, 0, 21, 16, 10, 42, 180, 0, 42, 104]
abbrev dktX4_goes_8 : List UInt8 := dkwX4_goes_8 ++ dktX4_goes_9
def dkwX4_goes_7 : List UInt8 := [182, 0, 35, 16, 48, 16, 57, 184, 0, 48, 153, 0, 94, 42, 182, 0, 35, 16, 48, 16, 57, 184, 0, 48]
abbrev dktX4_goes_7 : List UInt8 := dkwX4_goes_7 ++ dktX4_goes_8
def dkwX4_goes_6 : List UInt8 := [180, 0, 11, 182, 0, 63, 16, 6, 164, 0, 7, 7, 167, 0, 4, 4, 181, 0, 45, 167, 0, 140, 42]
abbrev dktX4_goes_6 : List UInt8 := dkwX4_goes_6 ++ dktX4_goes_7
def dkwX4_goes_5 : List UInt8 := [89, 180, 0, 32, 4, 96, 181, 0, 32, 167, 255, 222, 42, 43, 182, 0, 59, 181, 0, 11, 42, 42]
abbrev dktX4_goes_5 : List UInt8 := dkwX4_goes_5 ++ dktX4_goes_6
def dkwX4_goes_4 : List UInt8 := [182, 0, 35, 16, 97, 16, 122, 184, 0, 48, 153, 0, 26, 43, 42, 182, 0, 35, 146, 182, 0, 55, 87, 42]
abbrev dktX4_goes_4 : List UInt8 := dkwX4_goes_4 ++ dktX4_goes_5
def dkwX4_goes_3 : List UInt8 := [182, 0, 35, 16, 97, 16, 122, 184, 0, 48, 153, 0, 80, 187, 0, 52, 89, 183, 0, 54, 76, 42]
abbrev dktX4_goes_3 : List UInt8 := dkwX4_goes_3 ++ dktX4_goes_4
def dkwX4_goes_2 : List UInt8 := [181, 0, 42, 42, 180, 0, 32, 42, 180, 0, 21, 160, 0, 11, 42, 3, 181, 0, 45, 167, 0, 231, 42]
abbrev dktX4_goes_2 : List UInt8 := dkwX4_goes_2 ++ dktX4_goes_3
def dkwX4_goes_1 : List UInt8 := [96, 181, 0, 32, 167, 255, 228, 42, 42, 180, 0, 32, 181, 0, 39, 42, 18, 9, 181, 0, 11, 42, 3]
abbrev dktX4_goes_1 : List UInt8 := dkwX4_goes_1 ++ dktX4_goes_2
def dkwX4_goes_0 : List UInt8 := [42, 182, 0, 35, 16, 32, 159, 0, 12, 42, 182, 0, 35, 16, 10, 160, 0, 16, 42, 89, 180, 0, 32, 4]
abbrev dktX4_goes_0 : List UInt8 := dkwX4_goes_0 ++ dktX4_goes_1
theorem dksX4_goes_0 : cX4_goes.data.toList.drop 0 = dktX4_goes_0 := by decide +kernel
theorem dksX4_goes_1 : cX4_goes.data.toList.drop 24 = dktX4_goes_1 := dk_seg dksX4_goes_0 24 rfl rfl
theorem dksX4_goes_2 : cX4_goes.data.toList.drop 47 = dktX4_goes_2 := dk_seg dksX4_goes_1 23 rfl rfl
theorem dksX4_goes_3 : cX4_goes.data.toList.drop 70 = dktX4_goes_3 := dk_seg dksX4_goes_2 23 rfl rfl
theorem dksX4_goes_4 : cX4_goes.data.toList.drop 92 = dktX4_goes_4 := dk_seg dksX4_goes_3 22 rfl rfl
theorem dksX4_goes_5 : cX4_goes.data.toList.drop 116 = dktX4_goes_5 := dk_seg dksX4_goes_4 24 rfl rfl
theorem dksX4_goes_6 : cX4_goes.data.toList.drop 138 = dktX4_goes_6 := dk_seg dksX4_goes_5 22 rfl rfl
theorem dksX4_goes_7 : cX4_goes.data.toList.drop 161 = dktX4_goes_7 := dk_seg dksX4_goes_6 23 rfl rfl
theorem dksX4_goes_8 : cX4_goes.data.toList.drop 185 = dktX4_goes_8 := dk_seg dksX4_goes_7 24 rfl rfl
theorem dksX4_goes_9 : cX4_goes.data.toList.drop 209 = dktX4_goes_9 := dk_seg dksX4_goes_8 24 rfl rfl
theorem dksX4_goes_10 : cX4_goes.data.toList.drop 233 = dktX4_goes_10 := dk_seg dksX4_goes_9 24 rfl rfl
theorem dksX4_goes_11 : cX4_goes.data.toList.drop 255 = dktX4_goes_11 := dk_seg dksX4_goes_10 22 rfl rfl
theorem dksX4_goes_12 : cX4_goes.data.toList.drop 279 = dktX4_goes_12 := dk_seg dksX4_goes_11 24 rfl rfl
theorem dX4_goes_0 : decode cX4_goes 0 = .ok (.aload_n 0, 1) := dk_42 (dk_at dksX4_goes_0 0 rfl rfl)
theorem dX4_goes_1 : decode cX4_goes 1 = .ok (.invokevirtual 35, 3) := dk_182 0 35 (dk_at dksX4_goes_0 1 rfl rfl)
theorem dX4_goes_4 : decode cX4_goes 4 = .ok (.bipush 32, 2) := dk_16 32 (dk_at dksX4_goes_0 4 rfl rfl)
theorem dX4_goes_6 : decode cX4_goes 6 = .ok (.if_icmp .eq 12, 3) := dk_159 0 12 (dk_at dksX4_goes_0 6 rfl rfl)
theorem dX4_goes_9 : decode cX4_goes 9 = .ok (.aload_n 0, 1) := dk_42 (dk_at dksX4_goes_0 9 rfl rfl)
theorem dX4_goes_10 : decode cX4_goes 10 = .ok (.invokevirtual 35, 3) := dk_182 0 35 (dk_at dksX4_goes_0 10 rfl rfl)
theorem dX4_goes_13 : decode cX4_goes 13 = .ok (.bipush 10, 2) := dk_16 10 (dk_at dksX4_goes_0 13 rfl rfl)
theorem dX4_goes_15 : decode cX4_goes 15 = .ok (.if_icmp .ne 16, 3) := dk_160 0 16 (dk_at dksX4_goes_0 15 rfl rfl)
theorem dX4_goes_18 : decode cX4_goes 18 = .ok (.aload_n 0, 1) := dk_42 (dk_at dksX4_goes_0 18 rfl rfl)
theorem dX4_goes_19 : decode cX4_goes 19 = .ok (.dup, 1) := dk_89 (dk_at dksX4_goes_0 19 rfl rfl)
theorem dX4_goes_20 : decode cX4_goes 20 = .ok (.getfield 32, 3) := dk_180 0 32 (dk_at dksX4_goes_0 20 rfl rfl)
theorem dX4_goes_23 : decode cX4_goes 23 = .ok (.iconst 1, 1) := dk_4 (dk_at dksX4_goes_0 23 rfl rfl)
theorem dX4_goes_24 : decode cX4_goes 24 = .ok (.iadd, 1) := dk_96 (dk_at dksX4_goes_1 0 rfl rfl)
theorem dX4_goes_25 : decode cX4_goes 25 = .ok (.putfield 32, 3) := dk_181 0 32 (dk_at dksX4_goes_1 1 rfl rfl)
theorem dX4_goes_28 : decode cX4_goes 28 = .ok (.goto (-28), 3) := dk_167 255 228 (dk_at dksX4_goes_1 4 rfl rfl)
theorem dX4_goes_31 : decode cX4_goes 31 = .ok (.aload_n 0, 1) := dk_42 (dk_at dksX4_goes_1 7 rfl rfl)
theorem dX4_goes_32 : decode cX4_goes 32 = .ok (.aload_n 0, 1) := dk_42 (dk_at dksX4_goes_1 8 rfl rfl)
theorem dX4_goes_33 : decode cX4_goes 33 = .ok (.getfield 32, 3) := dk_180 0 32 (dk_at dksX4_goes_1 9 rfl rfl)
theorem dX4_goes_36 : decode cX4_goes 36 = .ok (.putfield 39, 3) := dk_181 0 39 (dk_at dksX4_goes_1 12 rfl rfl)
theorem dX4_goes_39 : decode cX4_goes 39 = .ok (.aload_n 0, 1) := dk_42 (dk_at dksX4_goes_1 15 rfl rfl)
theorem dX4_goes_40 : decode cX4_goes 40 = .ok (.ldc 9, 2) := dk_18 9 (dk_at dksX4_goes_1 16 rfl rfl)
theorem dX4_goes_42 : decode cX4_goes 42 = .ok (.putfield 11, 3) := dk_181 0 11 (dk_at dksX4_goes_1 18 rfl rfl)
theorem dX4_goes_45 : decode cX4_goes 45 = .ok (.aload_n 0, 1) := dk_42 (dk_at dksX4_goes_1 21 rfl rfl)
theorem dX4_goes_46 : decode cX4_goes 46 = .ok (.iconst 0, 1) := dk_3 (dk_at dksX4_goes_1 22 rfl rfl)
theorem dX4_goes_47 : decode cX4_goes 47 = .ok (.putfield 42, 3) := dk_181 0 42 (dk_at dksX4_goes_2 0 rfl rfl)
theorem dX4_goes_50 : decode cX4_goes 50 = .ok (.aload_n 0, 1) := dk_42 (dk_at dksX4_goes_2 3 rfl rfl)
theorem dX4_goes_51 : decode cX4_goes 51 = .ok (.getfield 32, 3) := dk_180 0 32 (dk_at dksX4_goes_2 4 rfl rfl)
theorem dX4_goes_54 : decode cX4_goes 54 = .ok (.aload_n 0, 1) := dk_42 (dk_at dksX4_goes_2 7 rfl rfl)
theorem dX4_goes_55 : decode cX4_goes 55 = .ok (.getfield 21, 3) := dk_180 0 21 (dk_at dksX4_goes_2 8 rfl rfl)
theorem dX4_goes_58 : decode cX4_goes 58 = .ok (.if_icmp .ne 11, 3) := dk_160 0 11 (dk_at dksX4_goes_2 11 rfl rfl)
theorem dX4_goes_61 : decode cX4_goes 61 = .ok (.aload_n 0, 1) := dk_42 (dk_at dksX4_goes_2 14 rfl rfl)
theorem dX4_goes_62 : decode cX4_goes 62 = .ok (.iconst 0, 1) := dk_3 (dk_at dksX4_goes_2 15 rfl rfl)
theorem dX4_goes_63 : decode cX4_goes 63 = .ok (.putfield 45, 3) := dk_181 0 45 (dk_at dksX4_goes_2 16 rfl rfl)
theorem dX4_goes_66 : decode cX4_goes 66 = .ok (.goto 231, 3) := dk_167 0 231 (dk_at dksX4_goes_2 19 rfl rfl)
theorem dX4_goes_69 : decode cX4_goes 69 = .ok (.aload_n 0, 1) := dk_42 (dk_at dksX4_goes_2 22 rfl rfl)
theorem dX4_goes_70 : decode cX4_goes 70 = .ok (.invokevirtual 35, 3) := dk_182 0 35 (dk_at dksX4_goes_3 0 rfl rfl)
theorem dX4_goes_73 : decode cX4_goes 73 = .ok (.bipush 97, 2) := dk_16 97 (dk_at dksX4_goes_3 3 rfl rfl)
theorem dX4_goes_75 : decode cX4_goes 75 = .ok (.bipush 122, 2) := dk_16 122 (dk_at dksX4_goes_3 5 rfl rfl)
theorem dX4_goes_77 : decode cX4_goes 77 = .ok (.invokestatic 48, 3) := dk_184 0 48 (dk_at dksX4_goes_3 7 rfl rfl)
theorem dX4_goes_80 : decode cX4_goes 80 = .ok (.ifCond .eq 80, 3) := dk_153 0 80 (dk_at dksX4_goes_3 10 rfl rfl)
theorem dX4_goes_83 : decode cX4_goes 83 = .ok (.new 52, 3) := dk_187 0 52 (dk_at dksX4_goes_3 13 rfl rfl)
theorem dX4_goes_86 : decode cX4_goes 86 = .ok (.dup, 1) := dk_89 (dk_at dksX4_goes_3 16 rfl rfl)
theorem dX4_goes_87 : decode cX4_goes 87 = .ok (.invokespecial 54, 3) := dk_183 0 54 (dk_at dksX4_goes_3 17 rfl rfl)
theorem dX4_goes_90 : decode cX4_goes 90 = .ok (.astore_n 1, 1) := dk_76 (dk_at dksX4_goes_3 20 rfl rfl)
theorem dX4_goes_91 : decode cX4_goes 91 = .ok (.aload_n 0, 1) := dk_42 (dk_at dksX4_goes_3 21 rfl rfl)
theorem dX4_goes_92 : decode cX4_goes 92 = .ok (.invokevirtual 35, 3) := dk_182 0 35 (dk_at dksX4_goes_4 0 rfl rfl)
theorem dX4_goes_95 : decode cX4_goes 95 = .ok (.bipush 97, 2) := dk_16 97 (dk_at dksX4_goes_4 3 rfl rfl)
theorem dX4_goes_97 : decode cX4_goes 97 = .ok (.bipush 122, 2) := dk_16 122 (dk_at dksX4_goes_4 5 rfl rfl)
theorem dX4_goes_99 : decode cX4_goes 99 = .ok (.invokestatic 48, 3) := dk_184 0 48 (dk_at dksX4_goes_4 7 rfl rfl)
theorem dX4_goes_102 : decode cX4_goes 102 = .ok (.ifCond .eq 26, 3) := dk_153 0 26 (dk_at dksX4_goes_4 10 rfl rfl)
theorem dX4_goes_105 : decode cX4_goes 105 = .ok (.aload_n 1, 1) := dk_43 (dk_at dksX4_goes_4 13 rfl rfl)
theorem dX4_goes_106 : decode cX4_goes 106 = .ok (.aload_n 0, 1) := dk_42 (dk_at dksX4_goes_4 14 rfl rfl)
theorem dX4_goes_107 : decode cX4_goes 107 = .ok (.invokevirtual 35, 3) := dk_182 0 35 (dk_at dksX4_goes_4 15 rfl rfl)
theorem dX4_goes_110 : decode cX4_goes 110 = .ok (.i2c, 1) := dk_146 (dk_at dksX4_goes_4 18 rfl rfl)
theorem dX4_goes_111 : decode cX4_goes 111 = .ok (.invokevirtual 55, 3) := dk_182 0 55 (dk_at dksX4_goes_4 19 rfl rfl)
theorem dX4_goes_114 : decode cX4_goes 114 = .ok (.pop, 1) := dk_87 (dk_at dksX4_goes_4 22 rfl rfl)
theorem dX4_goes_115 : decode cX4_goes 115 = .ok (.aload_n 0, 1) := dk_42 (dk_at dksX4_goes_4 23 rfl rfl)
theorem dX4_goes_116 : decode cX4_goes 116 = .ok (.dup, 1) := dk_89 (dk_at dksX4_goes_5 0 rfl rfl)
theorem dX4_goes_117 : decode cX4_goes 117 = .ok (.getfield 32, 3) := dk_180 0 32 (dk_at dksX4_goes_5 1 rfl rfl)
theorem dX4_goes_120 : decode cX4_goes 120 = .ok (.iconst 1, 1) := dk_4 (dk_at dksX4_goes_5 4 rfl rfl)
theorem dX4_goes_121 : decode cX4_goes 121 = .ok (.iadd, 1) := dk_96 (dk_at dksX4_goes_5 5 rfl rfl)
theorem dX4_goes_122 : decode cX4_goes 122 = .ok (.putfield 32, 3) := dk_181 0 32 (dk_at dksX4_goes_5 6 rfl rfl)
theorem dX4_goes_125 : decode cX4_goes 125 = .ok (.goto (-34), 3) := dk_167 255 222 (dk_at dksX4_goes_5 9 rfl rfl)
theorem dX4_goes_128 : decode cX4_goes 128 = .ok (.aload_n 0, 1) := dk_42 (dk_at dksX4_goes_5 12 rfl rfl)
theorem dX4_goes_129 : decode cX4_goes 129 = .ok (.aload_n 1, 1) := dk_43 (dk_at dksX4_goes_5 13 rfl rfl)
theorem dX4_goes_130 : decode cX4_goes 130 = .ok (.invokevirtual 59, 3) := dk_182 0 59 (dk_at dksX4_goes_5 14 rfl rfl)
theorem dX4_goes_133 : decode cX4_goes 133 = .ok (.putfield 11, 3) := dk_181 0 11 (dk_at dksX4_goes_5 17 rfl rfl)
theorem dX4_goes_136 : decode cX4_goes 136 = .ok (.aload_n 0, 1) := dk_42 (dk_at dksX4_goes_5 20 rfl rfl)
theorem dX4_goes_137 : decode cX4_goes 137 = .ok (.aload_n 0, 1) := dk_42 (dk_at dksX4_goes_5 21 rfl rfl)
theorem dX4_goes_138 : decode cX4_goes 138 = .ok (.getfield 11, 3) := dk_180 0 11 (dk_at dksX4_goes_6 0 rfl rfl)
theorem dX4_goes_141 : decode cX4_goes 141 = .ok (.invokevirtual 63, 3) := dk_182 0 63 (dk_at dksX4_goes_6 3 rfl rfl)
theorem dX4_goes_144 : decode cX4_goes 144 = .ok (.bipush 6, 2) := dk_16 6 (dk_at dksX4_goes_6 6 rfl rfl)
theorem dX4_goes_146 : decode cX4_goes 146 = .ok (.if_icmp .le 7, 3) := dk_164 0 7 (dk_at dksX4_goes_6 8 rfl rfl)
theorem dX4_goes_149 : decode cX4_goes 149 = .ok (.iconst 4, 1) := dk_7 (dk_at dksX4_goes_6 11 rfl rfl)
theorem dX4_goes_150 : decode cX4_goes 150 = .ok (.goto 4, 3) := dk_167 0 4 (dk_at dksX4_goes_6 12 rfl rfl)
theorem dX4_goes_153 : decode cX4_goes 153 = .ok (.iconst 1, 1) := dk_4 (dk_at dksX4_goes_6 15 rfl rfl)
theorem dX4_goes_154 : decode cX4_goes 154 = .ok (.putfield 45, 3) := dk_181 0 45 (dk_at dksX4_goes_6 16 rfl rfl)
theorem dX4_goes_157 : decode cX4_goes 157 = .ok (.goto 140, 3) := dk_167 0 140 (dk_at dksX4_goes_6 19 rfl rfl)
theorem dX4_goes_160 : decode cX4_goes 160 = .ok (.aload_n 0, 1) := dk_42 (dk_at dksX4_goes_6 22 rfl rfl)
theorem dX4_goes_161 : decode cX4_goes 161 = .ok (.invokevirtual 35, 3) := dk_182 0 35 (dk_at dksX4_goes_7 0 rfl rfl)
theorem dX4_goes_164 : decode cX4_goes 164 = .ok (.bipush 48, 2) := dk_16 48 (dk_at dksX4_goes_7 3 rfl rfl)
theorem dX4_goes_166 : decode cX4_goes 166 = .ok (.bipush 57, 2) := dk_16 57 (dk_at dksX4_goes_7 5 rfl rfl)
theorem dX4_goes_168 : decode cX4_goes 168 = .ok (.invokestatic 48, 3) := dk_184 0 48 (dk_at dksX4_goes_7 7 rfl rfl)
theorem dX4_goes_171 : decode cX4_goes 171 = .ok (.ifCond .eq 94, 3) := dk_153 0 94 (dk_at dksX4_goes_7 10 rfl rfl)
theorem dX4_goes_174 : decode cX4_goes 174 = .ok (.aload_n 0, 1) := dk_42 (dk_at dksX4_goes_7 13 rfl rfl)
theorem dX4_goes_175 : decode cX4_goes 175 = .ok (.invokevirtual 35, 3) := dk_182 0 35 (dk_at dksX4_goes_7 14 rfl rfl)
theorem dX4_goes_178 : decode cX4_goes 178 = .ok (.bipush 48, 2) := dk_16 48 (dk_at dksX4_goes_7 17 rfl rfl)
theorem dX4_goes_180 : decode cX4_goes 180 = .ok (.bipush 57, 2) := dk_16 57 (dk_at dksX4_goes_7 19 rfl rfl)
theorem dX4_goes_182 : decode cX4_goes 182 = .ok (.invokestatic 48, 3) := dk_184 0 48 (dk_at dksX4_goes_7 21 rfl rfl)
theorem dX4_goes_185 : decode cX4_goes 185 = .ok (.ifCond .eq 55, 3) := dk_153 0 55 (dk_at dksX4_goes_8 0 rfl rfl)
theorem dX4_goes_188 : decode cX4_goes 188 = .ok (.aload_n 0, 1) := dk_42 (dk_at dksX4_goes_8 3 rfl rfl)
theorem dX4_goes_189 : decode cX4_goes 189 = .ok (.aload_n 0, 1) := dk_42 (dk_at dksX4_goes_8 4 rfl rfl)
theorem dX4_goes_190 : decode cX4_goes 190 = .ok (.getfield 32, 3) := dk_180 0 32 (dk_at dksX4_goes_8 5 rfl rfl)
theorem dX4_goes_193 : decode cX4_goes 193 = .ok (.aload_n 0, 1) := dk_42 (dk_at dksX4_goes_8 8 rfl rfl)
theorem dX4_goes_194 : decode cX4_goes 194 = .ok (.getfield 39, 3) := dk_180 0 39 (dk_at dksX4_goes_8 9 rfl rfl)
theorem dX4_goes_197 : decode cX4_goes 197 = .ok (.isub, 1) := dk_100 (dk_at dksX4_goes_8 12 rfl rfl)
theorem dX4_goes_198 : decode cX4_goes 198 = .ok (.iconst 3, 1) := dk_6 (dk_at dksX4_goes_8 13 rfl rfl)
theorem dX4_goes_199 : decode cX4_goes 199 = .ok (.if_icmp .ge 21, 3) := dk_162 0 21 (dk_at dksX4_goes_8 14 rfl rfl)
theorem dX4_goes_202 : decode cX4_goes 202 = .ok (.bipush 10, 2) := dk_16 10 (dk_at dksX4_goes_8 17 rfl rfl)
theorem dX4_goes_204 : decode cX4_goes 204 = .ok (.aload_n 0, 1) := dk_42 (dk_at dksX4_goes_8 19 rfl rfl)
theorem dX4_goes_205 : decode cX4_goes 205 = .ok (.getfield 42, 3) := dk_180 0 42 (dk_at dksX4_goes_8 20 rfl rfl)
theorem dX4_goes_208 : decode cX4_goes 208 = .ok (.imul, 1) := dk_104 (dk_at dksX4_goes_8 23 rfl rfl)
theorem dX4_goes_209 : decode cX4_goes 209 = .ok (.aload_n 0, 1) := dk_42 (dk_at dksX4_goes_9 0 rfl rfl)
theorem dX4_goes_210 : decode cX4_goes 210 = .ok (.invokevirtual 35, 3) := dk_182 0 35 (dk_at dksX4_goes_9 1 rfl rfl)
theorem dX4_goes_213 : decode cX4_goes 213 = .ok (.iadd, 1) := dk_96 (dk_at dksX4_goes_9 4 rfl rfl)
theorem dX4_goes_214 : decode cX4_goes 214 = .ok (.bipush 48, 2) := dk_16 48 (dk_at dksX4_goes_9 5 rfl rfl)
theorem dX4_goes_216 : decode cX4_goes 216 = .ok (.isub, 1) := dk_100 (dk_at dksX4_goes_9 7 rfl rfl)
theorem dX4_goes_217 : decode cX4_goes 217 = .ok (.goto 7, 3) := dk_167 0 7 (dk_at dksX4_goes_9 8 rfl rfl)
theorem dX4_goes_220 : decode cX4_goes 220 = .ok (.aload_n 0, 1) := dk_42 (dk_at dksX4_goes_9 11 rfl rfl)
theorem dX4_goes_221 : decode cX4_goes 221 = .ok (.getfield 42, 3) := dk_180 0 42 (dk_at dksX4_goes_9 12 rfl rfl)
theorem dX4_goes_224 : decode cX4_goes 224 = .ok (.putfield 42, 3) := dk_181 0 42 (dk_at dksX4_goes_9 15 rfl rfl)
theorem dX4_goes_227 : decode cX4_goes 227 = .ok (.aload_n 0, 1) := dk_42 (dk_at dksX4_goes_9 18 rfl rfl)
theorem dX4_goes_228 : decode cX4_goes 228 = .ok (.dup, 1) := dk_89 (dk_at dksX4_goes_9 19 rfl rfl)
theorem dX4_goes_229 : decode cX4_goes 229 = .ok (.getfield 32, 3) := dk_180 0 32 (dk_at dksX4_goes_9 20 rfl rfl)
theorem dX4_goes_232 : decode cX4_goes 232 = .ok (.iconst 1, 1) := dk_4 (dk_at dksX4_goes_9 23 rfl rfl)
theorem dX4_goes_233 : decode cX4_goes 233 = .ok (.iadd, 1) := dk_96 (dk_at dksX4_goes_10 0 rfl rfl)
theorem dX4_goes_234 : decode cX4_goes 234 = .ok (.putfield 32, 3) := dk_181 0 32 (dk_at dksX4_goes_10 1 rfl rfl)
theorem dX4_goes_237 : decode cX4_goes 237 = .ok (.goto (-63), 3) := dk_167 255 193 (dk_at dksX4_goes_10 4 rfl rfl)
theorem dX4_goes_240 : decode cX4_goes 240 = .ok (.aload_n 0, 1) := dk_42 (dk_at dksX4_goes_10 7 rfl rfl)
theorem dX4_goes_241 : decode cX4_goes 241 = .ok (.aload_n 0, 1) := dk_42 (dk_at dksX4_goes_10 8 rfl rfl)
theorem dX4_goes_242 : decode cX4_goes 242 = .ok (.getfield 32, 3) := dk_180 0 32 (dk_at dksX4_goes_10 9 rfl rfl)
theorem dX4_goes_245 : decode cX4_goes 245 = .ok (.aload_n 0, 1) := dk_42 (dk_at dksX4_goes_10 12 rfl rfl)
theorem dX4_goes_246 : decode cX4_goes 246 = .ok (.getfield 39, 3) := dk_180 0 39 (dk_at dksX4_goes_10 13 rfl rfl)
theorem dX4_goes_249 : decode cX4_goes 249 = .ok (.isub, 1) := dk_100 (dk_at dksX4_goes_10 16 rfl rfl)
theorem dX4_goes_250 : decode cX4_goes 250 = .ok (.iconst 3, 1) := dk_6 (dk_at dksX4_goes_10 17 rfl rfl)
theorem dX4_goes_251 : decode cX4_goes 251 = .ok (.if_icmp .le 7, 3) := dk_164 0 7 (dk_at dksX4_goes_10 18 rfl rfl)
theorem dX4_goes_254 : decode cX4_goes 254 = .ok (.iconst 4, 1) := dk_7 (dk_at dksX4_goes_10 21 rfl rfl)
theorem dX4_goes_255 : decode cX4_goes 255 = .ok (.goto 4, 3) := dk_167 0 4 (dk_at dksX4_goes_11 0 rfl rfl)
theorem dX4_goes_258 : decode cX4_goes 258 = .ok (.iconst 2, 1) := dk_5 (dk_at dksX4_goes_11 3 rfl rfl)
theorem dX4_goes_259 : decode cX4_goes 259 = .ok (.putfield 45, 3) := dk_181 0 45 (dk_at dksX4_goes_11 4 rfl rfl)
theorem dX4_goes_262 : decode cX4_goes 262 = .ok (.goto 35, 3) := dk_167 0 35 (dk_at dksX4_goes_11 7 rfl rfl)
theorem dX4_goes_265 : decode cX4_goes 265 = .ok (.aload_n 0, 1) := dk_42 (dk_at dksX4_goes_11 10 rfl rfl)
theorem dX4_goes_266 : decode cX4_goes 266 = .ok (.ldc 68, 2) := dk_18 68 (dk_at dksX4_goes_11 11 rfl rfl)
theorem dX4_goes_268 : decode cX4_goes 268 = .ok (.aload_n 0, 1) := dk_42 (dk_at dksX4_goes_11 13 rfl rfl)
theorem dX4_goes_269 : decode cX4_goes 269 = .ok (.invokevirtual 35, 3) := dk_182 0 35 (dk_at dksX4_goes_11 14 rfl rfl)
theorem dX4_goes_272 : decode cX4_goes 272 = .ok (.i2c, 1) := dk_146 (dk_at dksX4_goes_11 17 rfl rfl)
theorem dX4_goes_273 : decode cX4_goes 273 = .ok (.invokevirtual 70, 3) := dk_182 0 70 (dk_at dksX4_goes_11 18 rfl rfl)
theorem dX4_goes_276 : decode cX4_goes 276 = .ok (.ifCond .lt 7, 3) := dk_155 0 7 (dk_at dksX4_goes_11 21 rfl rfl)
theorem dX4_goes_279 : decode cX4_goes 279 = .ok (.iconst 3, 1) := dk_6 (dk_at dksX4_goes_12 0 rfl rfl)
theorem dX4_goes_280 : decode cX4_goes 280 = .ok (.goto 4, 3) := dk_167 0 4 (dk_at dksX4_goes_12 1 rfl rfl)
theorem dX4_goes_283 : decode cX4_goes 283 = .ok (.iconst 4, 1) := dk_7 (dk_at dksX4_goes_12 4 rfl rfl)
theorem dX4_goes_284 : decode cX4_goes 284 = .ok (.putfield 45, 3) := dk_181 0 45 (dk_at dksX4_goes_12 5 rfl rfl)
theorem dX4_goes_287 : decode cX4_goes 287 = .ok (.aload_n 0, 1) := dk_42 (dk_at dksX4_goes_12 8 rfl rfl)
theorem dX4_goes_288 : decode cX4_goes 288 = .ok (.dup, 1) := dk_89 (dk_at dksX4_goes_12 9 rfl rfl)
theorem dX4_goes_289 : decode cX4_goes 289 = .ok (.getfield 32, 3) := dk_180 0 32 (dk_at dksX4_goes_12 10 rfl rfl)
theorem dX4_goes_292 : decode cX4_goes 292 = .ok (.iconst 1, 1) := dk_4 (dk_at dksX4_goes_12 13 rfl rfl)
theorem dX4_goes_293 : decode cX4_goes 293 = .ok (.iadd, 1) := dk_96 (dk_at dksX4_goes_12 14 rfl rfl)
theorem dX4_goes_294 : decode cX4_goes 294 = .ok (.putfield 32, 3) := dk_181 0 32 (dk_at dksX4_goes_12 15 rfl rfl)
theorem dX4_goes_297 : decode cX4_goes 297 = .ok (.return_, 1) := dk_177 (dk_at dksX4_goes_12 18 rfl rfl)
abbrev cX4_here : ByteArray := prog_10_method_2_code
def yX4_here : MethodName := ⟨RX4, "here", "()I"⟩
def dkwX4_here_1 : List UInt8 := [167, 0, 4, 2, 172]
abbrev dktX4_here_1 : List UInt8 := dkwX4_here_1 ++ []
def dkwX4_here_0 : List UInt8 := [42, 180, 0, 32, 42, 180, 0, 21, 162, 0, 19, 42, 180, 0, 17, 42, 180, 0, 32, 51, 17, 0, 255, 126]
abbrev dktX4_here_0 : List UInt8 := dkwX4_here_0 ++ dktX4_here_1
theorem dksX4_here_0 : cX4_here.data.toList.drop 0 = dktX4_here_0 := by decide +kernel
theorem dksX4_here_1 : cX4_here.data.toList.drop 24 = dktX4_here_1 := dk_seg dksX4_here_0 24 rfl rfl
theorem dX4_here_0 : decode cX4_here 0 = .ok (.aload_n 0, 1) := dk_42 (dk_at dksX4_here_0 0 rfl rfl)
theorem dX4_here_1 : decode cX4_here 1 = .ok (.getfield 32, 3) := dk_180 0 32 (dk_at dksX4_here_0 1 rfl rfl)
theorem dX4_here_4 : decode cX4_here 4 = .ok (.aload_n 0, 1) := dk_42 (dk_at dksX4_here_0 4 rfl rfl)
theorem dX4_here_5 : decode cX4_here 5 = .ok (.getfield 21, 3) := dk_180 0 21 (dk_at dksX4_here_0 5 rfl rfl)
theorem dX4_here_8 : decode cX4_here 8 = .ok (.if_icmp .ge 19, 3) := dk_162 0 19 (dk_at dksX4_here_0 8 rfl rfl)
theorem dX4_here_11 : decode cX4_here 11 = .ok (.aload_n 0, 1) := dk_42 (dk_at dksX4_here_0 11 rfl rfl)
theorem dX4_here_12 : decode cX4_here 12 = .ok (.getfield 17, 3) := dk_180 0 17 (dk_at dksX4_here_0 12 rfl rfl)
theorem dX4_here_15 : decode cX4_here 15 = .ok (.aload_n 0, 1) := dk_42 (dk_at dksX4_here_0 15 rfl rfl)
theorem dX4_here_16 : decode cX4_here 16 = .ok (.getfield 32, 3) := dk_180 0 32 (dk_at dksX4_here_0 16 rfl rfl)
theorem dX4_here_19 : decode cX4_here 19 = .ok (.baload, 1) := dk_51 (dk_at dksX4_here_0 19 rfl rfl)
theorem dX4_here_20 : decode cX4_here 20 = .ok (.sipush 255, 3) := dk_17 0 255 (dk_at dksX4_here_0 20 rfl rfl)
theorem dX4_here_23 : decode cX4_here 23 = .ok (.iand, 1) := dk_126 (dk_at dksX4_here_0 23 rfl rfl)
theorem dX4_here_24 : decode cX4_here 24 = .ok (.goto 4, 3) := dk_167 0 4 (dk_at dksX4_here_1 0 rfl rfl)
theorem dX4_here_27 : decode cX4_here 27 = .ok (.iconst (-1), 1) := dk_2 (dk_at dksX4_here_1 3 rfl rfl)
theorem dX4_here_28 : decode cX4_here 28 = .ok (.ireturn, 1) := dk_172 (dk_at dksX4_here_1 4 rfl rfl)
abbrev cX4_whole : ByteArray := prog_10_method_21_code
def yX4_whole : MethodName := ⟨RX4, "whole", "()LStruckCounts$Suit;"⟩
def dkwX4_whole_3 : List UInt8 := [180, 0, 25, 182, 0, 249, 176]
abbrev dktX4_whole_3 : List UInt8 := dkwX4_whole_3 ++ []
def dkwX4_whole_2 : List UInt8 := [27, 183, 0, 76, 191, 42, 180, 0, 25, 89, 180, 0, 246, 4, 96, 181, 0, 246, 167, 255, 190, 42]
abbrev dktX4_whole_2 : List UInt8 := dkwX4_whole_2 ++ dktX4_whole_3
def dkwX4_whole_1 : List UInt8 := [16, 59, 182, 0, 201, 28, 153, 0, 23, 42, 180, 0, 25, 182, 0, 243, 154, 0, 13, 187, 0, 74, 89, 8]
abbrev dktX4_whole_1 : List UInt8 := dkwX4_whole_1 ++ dktX4_whole_2
def dkwX4_whole_0 : List UInt8 := [42, 180, 0, 45, 153, 0, 65, 42, 180, 0, 39, 60, 42, 18, 88, 182, 0, 116, 61, 42, 182, 0, 240, 42]
abbrev dktX4_whole_0 : List UInt8 := dkwX4_whole_0 ++ dktX4_whole_1
theorem dksX4_whole_0 : cX4_whole.data.toList.drop 0 = dktX4_whole_0 := by decide +kernel
theorem dksX4_whole_1 : cX4_whole.data.toList.drop 24 = dktX4_whole_1 := dk_seg dksX4_whole_0 24 rfl rfl
theorem dksX4_whole_2 : cX4_whole.data.toList.drop 48 = dktX4_whole_2 := dk_seg dksX4_whole_1 24 rfl rfl
theorem dksX4_whole_3 : cX4_whole.data.toList.drop 70 = dktX4_whole_3 := dk_seg dksX4_whole_2 22 rfl rfl
theorem dX4_whole_0 : decode cX4_whole 0 = .ok (.aload_n 0, 1) := dk_42 (dk_at dksX4_whole_0 0 rfl rfl)
theorem dX4_whole_1 : decode cX4_whole 1 = .ok (.getfield 45, 3) := dk_180 0 45 (dk_at dksX4_whole_0 1 rfl rfl)
theorem dX4_whole_4 : decode cX4_whole 4 = .ok (.ifCond .eq 65, 3) := dk_153 0 65 (dk_at dksX4_whole_0 4 rfl rfl)
theorem dX4_whole_7 : decode cX4_whole 7 = .ok (.aload_n 0, 1) := dk_42 (dk_at dksX4_whole_0 7 rfl rfl)
theorem dX4_whole_8 : decode cX4_whole 8 = .ok (.getfield 39, 3) := dk_180 0 39 (dk_at dksX4_whole_0 8 rfl rfl)
theorem dX4_whole_11 : decode cX4_whole 11 = .ok (.istore_n 1, 1) := dk_60 (dk_at dksX4_whole_0 11 rfl rfl)
theorem dX4_whole_12 : decode cX4_whole 12 = .ok (.aload_n 0, 1) := dk_42 (dk_at dksX4_whole_0 12 rfl rfl)
theorem dX4_whole_13 : decode cX4_whole 13 = .ok (.ldc 88, 2) := dk_18 88 (dk_at dksX4_whole_0 13 rfl rfl)
theorem dX4_whole_15 : decode cX4_whole 15 = .ok (.invokevirtual 116, 3) := dk_182 0 116 (dk_at dksX4_whole_0 15 rfl rfl)
theorem dX4_whole_18 : decode cX4_whole 18 = .ok (.istore_n 2, 1) := dk_61 (dk_at dksX4_whole_0 18 rfl rfl)
theorem dX4_whole_19 : decode cX4_whole 19 = .ok (.aload_n 0, 1) := dk_42 (dk_at dksX4_whole_0 19 rfl rfl)
theorem dX4_whole_20 : decode cX4_whole 20 = .ok (.invokevirtual 240, 3) := dk_182 0 240 (dk_at dksX4_whole_0 20 rfl rfl)
theorem dX4_whole_23 : decode cX4_whole 23 = .ok (.aload_n 0, 1) := dk_42 (dk_at dksX4_whole_0 23 rfl rfl)
theorem dX4_whole_24 : decode cX4_whole 24 = .ok (.bipush 59, 2) := dk_16 59 (dk_at dksX4_whole_1 0 rfl rfl)
theorem dX4_whole_26 : decode cX4_whole 26 = .ok (.invokevirtual 201, 3) := dk_182 0 201 (dk_at dksX4_whole_1 2 rfl rfl)
theorem dX4_whole_29 : decode cX4_whole 29 = .ok (.iload_n 2, 1) := dk_28 (dk_at dksX4_whole_1 5 rfl rfl)
theorem dX4_whole_30 : decode cX4_whole 30 = .ok (.ifCond .eq 23, 3) := dk_153 0 23 (dk_at dksX4_whole_1 6 rfl rfl)
theorem dX4_whole_33 : decode cX4_whole 33 = .ok (.aload_n 0, 1) := dk_42 (dk_at dksX4_whole_1 9 rfl rfl)
theorem dX4_whole_34 : decode cX4_whole 34 = .ok (.getfield 25, 3) := dk_180 0 25 (dk_at dksX4_whole_1 10 rfl rfl)
theorem dX4_whole_37 : decode cX4_whole 37 = .ok (.invokevirtual 243, 3) := dk_182 0 243 (dk_at dksX4_whole_1 13 rfl rfl)
theorem dX4_whole_40 : decode cX4_whole 40 = .ok (.ifCond .ne 13, 3) := dk_154 0 13 (dk_at dksX4_whole_1 16 rfl rfl)
theorem dX4_whole_43 : decode cX4_whole 43 = .ok (.new 74, 3) := dk_187 0 74 (dk_at dksX4_whole_1 19 rfl rfl)
theorem dX4_whole_46 : decode cX4_whole 46 = .ok (.dup, 1) := dk_89 (dk_at dksX4_whole_1 22 rfl rfl)
theorem dX4_whole_47 : decode cX4_whole 47 = .ok (.iconst 5, 1) := dk_8 (dk_at dksX4_whole_1 23 rfl rfl)
theorem dX4_whole_48 : decode cX4_whole 48 = .ok (.iload_n 1, 1) := dk_27 (dk_at dksX4_whole_2 0 rfl rfl)
theorem dX4_whole_49 : decode cX4_whole 49 = .ok (.invokespecial 76, 3) := dk_183 0 76 (dk_at dksX4_whole_2 1 rfl rfl)
theorem dX4_whole_52 : decode cX4_whole 52 = .ok (.athrow, 1) := dk_191 (dk_at dksX4_whole_2 4 rfl rfl)
theorem dX4_whole_53 : decode cX4_whole 53 = .ok (.aload_n 0, 1) := dk_42 (dk_at dksX4_whole_2 5 rfl rfl)
theorem dX4_whole_54 : decode cX4_whole 54 = .ok (.getfield 25, 3) := dk_180 0 25 (dk_at dksX4_whole_2 6 rfl rfl)
theorem dX4_whole_57 : decode cX4_whole 57 = .ok (.dup, 1) := dk_89 (dk_at dksX4_whole_2 9 rfl rfl)
theorem dX4_whole_58 : decode cX4_whole 58 = .ok (.getfield 246, 3) := dk_180 0 246 (dk_at dksX4_whole_2 10 rfl rfl)
theorem dX4_whole_61 : decode cX4_whole 61 = .ok (.iconst 1, 1) := dk_4 (dk_at dksX4_whole_2 13 rfl rfl)
theorem dX4_whole_62 : decode cX4_whole 62 = .ok (.iadd, 1) := dk_96 (dk_at dksX4_whole_2 14 rfl rfl)
theorem dX4_whole_63 : decode cX4_whole 63 = .ok (.putfield 246, 3) := dk_181 0 246 (dk_at dksX4_whole_2 15 rfl rfl)
theorem dX4_whole_66 : decode cX4_whole 66 = .ok (.goto (-66), 3) := dk_167 255 190 (dk_at dksX4_whole_2 18 rfl rfl)
theorem dX4_whole_69 : decode cX4_whole 69 = .ok (.aload_n 0, 1) := dk_42 (dk_at dksX4_whole_2 21 rfl rfl)
theorem dX4_whole_70 : decode cX4_whole 70 = .ok (.getfield 25, 3) := dk_180 0 25 (dk_at dksX4_whole_3 0 rfl rfl)
theorem dX4_whole_73 : decode cX4_whole 73 = .ok (.invokevirtual 249, 3) := dk_182 0 249 (dk_at dksX4_whole_3 3 rfl rfl)
theorem dX4_whole_76 : decode cX4_whole 76 = .ok (.areturn, 1) := dk_176 (dk_at dksX4_whole_3 6 rfl rfl)
abbrev cX4_isWord : ByteArray := prog_10_method_6_code
def yX4_isWord : MethodName := ⟨RX4, "isWord", "(Ljava/lang/String;)Z"⟩
def dkwX4_isWord_1 : List UInt8 := [172]
abbrev dktX4_isWord_1 : List UInt8 := dkwX4_isWord_1 ++ []
def dkwX4_isWord_0 : List UInt8 := [42, 180, 0, 45, 4, 160, 0, 18, 42, 180, 0, 11, 43, 182, 0, 79, 153, 0, 7, 4, 167, 0, 4, 3]
abbrev dktX4_isWord_0 : List UInt8 := dkwX4_isWord_0 ++ dktX4_isWord_1
theorem dksX4_isWord_0 : cX4_isWord.data.toList.drop 0 = dktX4_isWord_0 := by decide +kernel
theorem dksX4_isWord_1 : cX4_isWord.data.toList.drop 24 = dktX4_isWord_1 := dk_seg dksX4_isWord_0 24 rfl rfl
theorem dX4_isWord_0 : decode cX4_isWord 0 = .ok (.aload_n 0, 1) := dk_42 (dk_at dksX4_isWord_0 0 rfl rfl)
theorem dX4_isWord_1 : decode cX4_isWord 1 = .ok (.getfield 45, 3) := dk_180 0 45 (dk_at dksX4_isWord_0 1 rfl rfl)
theorem dX4_isWord_4 : decode cX4_isWord 4 = .ok (.iconst 1, 1) := dk_4 (dk_at dksX4_isWord_0 4 rfl rfl)
theorem dX4_isWord_5 : decode cX4_isWord 5 = .ok (.if_icmp .ne 18, 3) := dk_160 0 18 (dk_at dksX4_isWord_0 5 rfl rfl)
theorem dX4_isWord_8 : decode cX4_isWord 8 = .ok (.aload_n 0, 1) := dk_42 (dk_at dksX4_isWord_0 8 rfl rfl)
theorem dX4_isWord_9 : decode cX4_isWord 9 = .ok (.getfield 11, 3) := dk_180 0 11 (dk_at dksX4_isWord_0 9 rfl rfl)
theorem dX4_isWord_12 : decode cX4_isWord 12 = .ok (.aload_n 1, 1) := dk_43 (dk_at dksX4_isWord_0 12 rfl rfl)
theorem dX4_isWord_13 : decode cX4_isWord 13 = .ok (.invokevirtual 79, 3) := dk_182 0 79 (dk_at dksX4_isWord_0 13 rfl rfl)
theorem dX4_isWord_16 : decode cX4_isWord 16 = .ok (.ifCond .eq 7, 3) := dk_153 0 7 (dk_at dksX4_isWord_0 16 rfl rfl)
theorem dX4_isWord_19 : decode cX4_isWord 19 = .ok (.iconst 1, 1) := dk_4 (dk_at dksX4_isWord_0 19 rfl rfl)
theorem dX4_isWord_20 : decode cX4_isWord 20 = .ok (.goto 4, 3) := dk_167 0 4 (dk_at dksX4_isWord_0 20 rfl rfl)
theorem dX4_isWord_23 : decode cX4_isWord 23 = .ok (.iconst 0, 1) := dk_3 (dk_at dksX4_isWord_0 23 rfl rfl)
theorem dX4_isWord_24 : decode cX4_isWord 24 = .ok (.ireturn, 1) := dk_172 (dk_at dksX4_isWord_1 0 rfl rfl)
abbrev cX4_line : ByteArray := prog_10_method_22_code
def yX4_line : MethodName := ⟨RX4, "line", "()V"⟩
def dkwX4_line_17 : List UInt8 := [180, 0, 25, 42, 4, 17, 3, 231, 182, 0, 215, 181, 1, 24, 167, 0, 9, 42, 3, 4, 182, 0, 112, 177]
abbrev dktX4_line_17 : List UInt8 := dkwX4_line_17 ++ []
def dkwX4_line_16 : List UInt8 := [4, 167, 0, 4, 3, 6, 182, 0, 112, 42, 180, 0, 25, 4, 181, 1, 21, 42, 182, 0, 29, 42]
abbrev dktX4_line_16 : List UInt8 := dkwX4_line_16 ++ dktX4_line_17
def dkwX4_line_15 : List UInt8 := [182, 1, 17, 167, 0, 66, 42, 182, 1, 19, 167, 0, 59, 42, 42, 180, 0, 25, 180, 1, 21, 154, 0, 7]
abbrev dktX4_line_15 : List UInt8 := dkwX4_line_15 ++ dktX4_line_16
def dkwX4_line_14 : List UInt8 := [183, 0, 232, 182, 0, 163, 87, 42, 180, 0, 25, 89, 180, 1, 4, 4, 96, 181, 1, 4, 167, 0, 73, 42]
abbrev dktX4_line_14 : List UInt8 := dkwX4_line_14 ++ dktX4_line_15
def dkwX4_line_13 : List UInt8 := [182, 1, 10, 182, 0, 168, 192, 1, 13, 78, 45, 180, 1, 15, 187, 0, 230, 89, 42, 182, 0, 198]
abbrev dktX4_line_13 : List UInt8 := dkwX4_line_13 ++ dktX4_line_14
def dkwX4_line_12 : List UInt8 := [162, 0, 7, 4, 167, 0, 4, 3, 7, 182, 0, 112, 42, 182, 0, 29, 42, 180, 0, 25, 180, 1, 7, 42]
abbrev dktX4_line_12 : List UInt8 := dkwX4_line_12 ++ dktX4_line_13
def dkwX4_line_11 : List UInt8 := [182, 0, 163, 87, 167, 0, 159, 42, 182, 1, 2, 167, 0, 152, 42, 42, 180, 0, 25, 180, 1, 4, 16, 6]
abbrev dktX4_line_11 : List UInt8 := dkwX4_line_11 ++ dktX4_line_12
def dkwX4_line_10 : List UInt8 := [167, 0, 4, 3, 7, 182, 0, 112, 42, 182, 0, 29, 42, 180, 0, 25, 180, 0, 254, 42, 182, 0, 198]
abbrev dktX4_line_10 : List UInt8 := dkwX4_line_10 ++ dktX4_line_11
def dkwX4_line_9 : List UInt8 := [42, 182, 0, 252, 167, 0, 206, 42, 42, 180, 0, 25, 180, 0, 254, 182, 0, 166, 16, 6, 162, 0, 7, 4]
abbrev dktX4_line_9 : List UInt8 := dkwX4_line_9 ++ dktX4_line_10
def dkwX4_line_8 : List UInt8 := [170, 0, 0, 0, 0, 0, 247, 0, 0, 0, 0, 0, 0, 0, 6, 0, 0, 0, 43, 0, 0, 0, 50, 0, 0, 0, 97, 0, 0, 0, 104, 0, 0, 0, 183, 0, 0, 0, 190, 0, 0, 0, 197]
abbrev dktX4_line_8 : List UInt8 := dkwX4_line_8 ++ dktX4_line_9
def dkwX4_line_7 : List UInt8 := [61, 28]
abbrev dktX4_line_7 : List UInt8 := dkwX4_line_7 ++ dktX4_line_8
def dkwX4_line_6 : List UInt8 := [18, 102, 182, 0, 79, 153, 0, 20, 8, 61, 167, 0, 15, 43, 18, 104, 182, 0, 79, 153, 0, 6, 16, 6]
abbrev dktX4_line_6 : List UInt8 := dkwX4_line_6 ++ dktX4_line_7
def dkwX4_line_5 : List UInt8 := [153, 0, 48, 6, 61, 167, 0, 43, 43, 18, 100, 182, 0, 79, 153, 0, 34, 7, 61, 167, 0, 29, 43]
abbrev dktX4_line_5 : List UInt8 := dkwX4_line_5 ++ dktX4_line_6
def dkwX4_line_4 : List UInt8 := [61, 167, 0, 71, 43, 18, 90, 182, 0, 79, 153, 0, 62, 5, 61, 167, 0, 57, 43, 18, 98, 182, 0, 79]
abbrev dktX4_line_4 : List UInt8 := dkwX4_line_4 ++ dktX4_line_5
def dkwX4_line_3 : List UInt8 := [43, 18, 86, 182, 0, 79, 153, 0, 90, 3, 61, 167, 0, 85, 43, 18, 88, 182, 0, 79, 153, 0, 76, 4]
abbrev dktX4_line_3 : List UInt8 := dkwX4_line_3 ++ dktX4_line_4
def dkwX4_line_2 : List UInt8 := [171, 0, 0, 0, 0, 0, 163, 0, 0, 0, 7, 0, 47, 214, 108, 0, 0, 0, 67, 0, 52, 139, 152, 0, 0, 0, 109, 0, 53, 192, 102, 0, 0, 0, 137, 0, 53, 193, 232, 0, 0, 0, 123, 5, 167, 81, 15, 0, 0, 0, 95, 6, 35, 75, 187, 0, 0, 0, 151, 6, 61, 202, 140, 0, 0, 0, 81]
abbrev dktX4_line_2 : List UInt8 := dkwX4_line_2 ++ dktX4_line_3
def dkwX4_line_1 : List UInt8 := [61, 43, 182, 0, 83]
abbrev dktX4_line_1 : List UInt8 := dkwX4_line_1 ++ dktX4_line_2
def dkwX4_line_0 : List UInt8 := [42, 42, 180, 0, 45, 4, 160, 0, 7, 4, 167, 0, 4, 3, 4, 182, 0, 112, 42, 180, 0, 11, 76, 2]
abbrev dktX4_line_0 : List UInt8 := dkwX4_line_0 ++ dktX4_line_1
theorem dksX4_line_0 : cX4_line.data.toList.drop 0 = dktX4_line_0 := by decide +kernel
theorem dksX4_line_1 : cX4_line.data.toList.drop 24 = dktX4_line_1 := dk_seg dksX4_line_0 24 rfl rfl
theorem dksX4_line_2 : cX4_line.data.toList.drop 29 = dktX4_line_2 := dk_seg dksX4_line_1 5 rfl rfl
theorem dksX4_line_3 : cX4_line.data.toList.drop 96 = dktX4_line_3 := dk_seg dksX4_line_2 67 rfl rfl
theorem dksX4_line_4 : cX4_line.data.toList.drop 120 = dktX4_line_4 := dk_seg dksX4_line_3 24 rfl rfl
theorem dksX4_line_5 : cX4_line.data.toList.drop 144 = dktX4_line_5 := dk_seg dksX4_line_4 24 rfl rfl
theorem dksX4_line_6 : cX4_line.data.toList.drop 167 = dktX4_line_6 := dk_seg dksX4_line_5 23 rfl rfl
theorem dksX4_line_7 : cX4_line.data.toList.drop 191 = dktX4_line_7 := dk_seg dksX4_line_6 24 rfl rfl
theorem dksX4_line_8 : cX4_line.data.toList.drop 193 = dktX4_line_8 := dk_seg dksX4_line_7 2 rfl rfl
theorem dksX4_line_9 : cX4_line.data.toList.drop 236 = dktX4_line_9 := dk_seg dksX4_line_8 43 rfl rfl
theorem dksX4_line_10 : cX4_line.data.toList.drop 260 = dktX4_line_10 := dk_seg dksX4_line_9 24 rfl rfl
theorem dksX4_line_11 : cX4_line.data.toList.drop 283 = dktX4_line_11 := dk_seg dksX4_line_10 23 rfl rfl
theorem dksX4_line_12 : cX4_line.data.toList.drop 307 = dktX4_line_12 := dk_seg dksX4_line_11 24 rfl rfl
theorem dksX4_line_13 : cX4_line.data.toList.drop 331 = dktX4_line_13 := dk_seg dksX4_line_12 24 rfl rfl
theorem dksX4_line_14 : cX4_line.data.toList.drop 353 = dktX4_line_14 := dk_seg dksX4_line_13 22 rfl rfl
theorem dksX4_line_15 : cX4_line.data.toList.drop 377 = dktX4_line_15 := dk_seg dksX4_line_14 24 rfl rfl
theorem dksX4_line_16 : cX4_line.data.toList.drop 401 = dktX4_line_16 := dk_seg dksX4_line_15 24 rfl rfl
theorem dksX4_line_17 : cX4_line.data.toList.drop 423 = dktX4_line_17 := dk_seg dksX4_line_16 22 rfl rfl
theorem dX4_line_0 : decode cX4_line 0 = .ok (.aload_n 0, 1) := dk_42 (dk_at dksX4_line_0 0 rfl rfl)
theorem dX4_line_1 : decode cX4_line 1 = .ok (.aload_n 0, 1) := dk_42 (dk_at dksX4_line_0 1 rfl rfl)
theorem dX4_line_2 : decode cX4_line 2 = .ok (.getfield 45, 3) := dk_180 0 45 (dk_at dksX4_line_0 2 rfl rfl)
theorem dX4_line_5 : decode cX4_line 5 = .ok (.iconst 1, 1) := dk_4 (dk_at dksX4_line_0 5 rfl rfl)
theorem dX4_line_6 : decode cX4_line 6 = .ok (.if_icmp .ne 7, 3) := dk_160 0 7 (dk_at dksX4_line_0 6 rfl rfl)
theorem dX4_line_9 : decode cX4_line 9 = .ok (.iconst 1, 1) := dk_4 (dk_at dksX4_line_0 9 rfl rfl)
theorem dX4_line_10 : decode cX4_line 10 = .ok (.goto 4, 3) := dk_167 0 4 (dk_at dksX4_line_0 10 rfl rfl)
theorem dX4_line_13 : decode cX4_line 13 = .ok (.iconst 0, 1) := dk_3 (dk_at dksX4_line_0 13 rfl rfl)
theorem dX4_line_14 : decode cX4_line 14 = .ok (.iconst 1, 1) := dk_4 (dk_at dksX4_line_0 14 rfl rfl)
theorem dX4_line_15 : decode cX4_line 15 = .ok (.invokevirtual 112, 3) := dk_182 0 112 (dk_at dksX4_line_0 15 rfl rfl)
theorem dX4_line_18 : decode cX4_line 18 = .ok (.aload_n 0, 1) := dk_42 (dk_at dksX4_line_0 18 rfl rfl)
theorem dX4_line_19 : decode cX4_line 19 = .ok (.getfield 11, 3) := dk_180 0 11 (dk_at dksX4_line_0 19 rfl rfl)
theorem dX4_line_22 : decode cX4_line 22 = .ok (.astore_n 1, 1) := dk_76 (dk_at dksX4_line_0 22 rfl rfl)
theorem dX4_line_23 : decode cX4_line 23 = .ok (.iconst (-1), 1) := dk_2 (dk_at dksX4_line_0 23 rfl rfl)
theorem dX4_line_24 : decode cX4_line 24 = .ok (.istore_n 2, 1) := dk_61 (dk_at dksX4_line_1 0 rfl rfl)
theorem dX4_line_25 : decode cX4_line 25 = .ok (.aload_n 1, 1) := dk_43 (dk_at dksX4_line_1 1 rfl rfl)
theorem dX4_line_26 : decode cX4_line 26 = .ok (.invokevirtual 83, 3) := dk_182 0 83 (dk_at dksX4_line_1 2 rfl rfl)
theorem dX4_line_29 : decode cX4_line 29 = .ok (.lookupswitch 163 #[(3135084, 67), (3443608, 109), (3522662, 137), (3523048, 123), (94851343, 95), (102976443, 151), (104712844, 81)], 67) := by decide +kernel
theorem dX4_line_96 : decode cX4_line 96 = .ok (.aload_n 1, 1) := dk_43 (dk_at dksX4_line_3 0 rfl rfl)
theorem dX4_line_97 : decode cX4_line 97 = .ok (.ldc 86, 2) := dk_18 86 (dk_at dksX4_line_3 1 rfl rfl)
theorem dX4_line_99 : decode cX4_line 99 = .ok (.invokevirtual 79, 3) := dk_182 0 79 (dk_at dksX4_line_3 3 rfl rfl)
theorem dX4_line_102 : decode cX4_line 102 = .ok (.ifCond .eq 90, 3) := dk_153 0 90 (dk_at dksX4_line_3 6 rfl rfl)
theorem dX4_line_105 : decode cX4_line 105 = .ok (.iconst 0, 1) := dk_3 (dk_at dksX4_line_3 9 rfl rfl)
theorem dX4_line_106 : decode cX4_line 106 = .ok (.istore_n 2, 1) := dk_61 (dk_at dksX4_line_3 10 rfl rfl)
theorem dX4_line_107 : decode cX4_line 107 = .ok (.goto 85, 3) := dk_167 0 85 (dk_at dksX4_line_3 11 rfl rfl)
theorem dX4_line_110 : decode cX4_line 110 = .ok (.aload_n 1, 1) := dk_43 (dk_at dksX4_line_3 14 rfl rfl)
theorem dX4_line_111 : decode cX4_line 111 = .ok (.ldc 88, 2) := dk_18 88 (dk_at dksX4_line_3 15 rfl rfl)
theorem dX4_line_113 : decode cX4_line 113 = .ok (.invokevirtual 79, 3) := dk_182 0 79 (dk_at dksX4_line_3 17 rfl rfl)
theorem dX4_line_116 : decode cX4_line 116 = .ok (.ifCond .eq 76, 3) := dk_153 0 76 (dk_at dksX4_line_3 20 rfl rfl)
theorem dX4_line_119 : decode cX4_line 119 = .ok (.iconst 1, 1) := dk_4 (dk_at dksX4_line_3 23 rfl rfl)
theorem dX4_line_120 : decode cX4_line 120 = .ok (.istore_n 2, 1) := dk_61 (dk_at dksX4_line_4 0 rfl rfl)
theorem dX4_line_121 : decode cX4_line 121 = .ok (.goto 71, 3) := dk_167 0 71 (dk_at dksX4_line_4 1 rfl rfl)
theorem dX4_line_124 : decode cX4_line 124 = .ok (.aload_n 1, 1) := dk_43 (dk_at dksX4_line_4 4 rfl rfl)
theorem dX4_line_125 : decode cX4_line 125 = .ok (.ldc 90, 2) := dk_18 90 (dk_at dksX4_line_4 5 rfl rfl)
theorem dX4_line_127 : decode cX4_line 127 = .ok (.invokevirtual 79, 3) := dk_182 0 79 (dk_at dksX4_line_4 7 rfl rfl)
theorem dX4_line_130 : decode cX4_line 130 = .ok (.ifCond .eq 62, 3) := dk_153 0 62 (dk_at dksX4_line_4 10 rfl rfl)
theorem dX4_line_133 : decode cX4_line 133 = .ok (.iconst 2, 1) := dk_5 (dk_at dksX4_line_4 13 rfl rfl)
theorem dX4_line_134 : decode cX4_line 134 = .ok (.istore_n 2, 1) := dk_61 (dk_at dksX4_line_4 14 rfl rfl)
theorem dX4_line_135 : decode cX4_line 135 = .ok (.goto 57, 3) := dk_167 0 57 (dk_at dksX4_line_4 15 rfl rfl)
theorem dX4_line_138 : decode cX4_line 138 = .ok (.aload_n 1, 1) := dk_43 (dk_at dksX4_line_4 18 rfl rfl)
theorem dX4_line_139 : decode cX4_line 139 = .ok (.ldc 98, 2) := dk_18 98 (dk_at dksX4_line_4 19 rfl rfl)
theorem dX4_line_141 : decode cX4_line 141 = .ok (.invokevirtual 79, 3) := dk_182 0 79 (dk_at dksX4_line_4 21 rfl rfl)
theorem dX4_line_144 : decode cX4_line 144 = .ok (.ifCond .eq 48, 3) := dk_153 0 48 (dk_at dksX4_line_5 0 rfl rfl)
theorem dX4_line_147 : decode cX4_line 147 = .ok (.iconst 3, 1) := dk_6 (dk_at dksX4_line_5 3 rfl rfl)
theorem dX4_line_148 : decode cX4_line 148 = .ok (.istore_n 2, 1) := dk_61 (dk_at dksX4_line_5 4 rfl rfl)
theorem dX4_line_149 : decode cX4_line 149 = .ok (.goto 43, 3) := dk_167 0 43 (dk_at dksX4_line_5 5 rfl rfl)
theorem dX4_line_152 : decode cX4_line 152 = .ok (.aload_n 1, 1) := dk_43 (dk_at dksX4_line_5 8 rfl rfl)
theorem dX4_line_153 : decode cX4_line 153 = .ok (.ldc 100, 2) := dk_18 100 (dk_at dksX4_line_5 9 rfl rfl)
theorem dX4_line_155 : decode cX4_line 155 = .ok (.invokevirtual 79, 3) := dk_182 0 79 (dk_at dksX4_line_5 11 rfl rfl)
theorem dX4_line_158 : decode cX4_line 158 = .ok (.ifCond .eq 34, 3) := dk_153 0 34 (dk_at dksX4_line_5 14 rfl rfl)
theorem dX4_line_161 : decode cX4_line 161 = .ok (.iconst 4, 1) := dk_7 (dk_at dksX4_line_5 17 rfl rfl)
theorem dX4_line_162 : decode cX4_line 162 = .ok (.istore_n 2, 1) := dk_61 (dk_at dksX4_line_5 18 rfl rfl)
theorem dX4_line_163 : decode cX4_line 163 = .ok (.goto 29, 3) := dk_167 0 29 (dk_at dksX4_line_5 19 rfl rfl)
theorem dX4_line_166 : decode cX4_line 166 = .ok (.aload_n 1, 1) := dk_43 (dk_at dksX4_line_5 22 rfl rfl)
theorem dX4_line_167 : decode cX4_line 167 = .ok (.ldc 102, 2) := dk_18 102 (dk_at dksX4_line_6 0 rfl rfl)
theorem dX4_line_169 : decode cX4_line 169 = .ok (.invokevirtual 79, 3) := dk_182 0 79 (dk_at dksX4_line_6 2 rfl rfl)
theorem dX4_line_172 : decode cX4_line 172 = .ok (.ifCond .eq 20, 3) := dk_153 0 20 (dk_at dksX4_line_6 5 rfl rfl)
theorem dX4_line_175 : decode cX4_line 175 = .ok (.iconst 5, 1) := dk_8 (dk_at dksX4_line_6 8 rfl rfl)
theorem dX4_line_176 : decode cX4_line 176 = .ok (.istore_n 2, 1) := dk_61 (dk_at dksX4_line_6 9 rfl rfl)
theorem dX4_line_177 : decode cX4_line 177 = .ok (.goto 15, 3) := dk_167 0 15 (dk_at dksX4_line_6 10 rfl rfl)
theorem dX4_line_180 : decode cX4_line 180 = .ok (.aload_n 1, 1) := dk_43 (dk_at dksX4_line_6 13 rfl rfl)
theorem dX4_line_181 : decode cX4_line 181 = .ok (.ldc 104, 2) := dk_18 104 (dk_at dksX4_line_6 14 rfl rfl)
theorem dX4_line_183 : decode cX4_line 183 = .ok (.invokevirtual 79, 3) := dk_182 0 79 (dk_at dksX4_line_6 16 rfl rfl)
theorem dX4_line_186 : decode cX4_line 186 = .ok (.ifCond .eq 6, 3) := dk_153 0 6 (dk_at dksX4_line_6 19 rfl rfl)
theorem dX4_line_189 : decode cX4_line 189 = .ok (.bipush 6, 2) := dk_16 6 (dk_at dksX4_line_6 22 rfl rfl)
theorem dX4_line_191 : decode cX4_line 191 = .ok (.istore_n 2, 1) := dk_61 (dk_at dksX4_line_7 0 rfl rfl)
theorem dX4_line_192 : decode cX4_line 192 = .ok (.iload_n 2, 1) := dk_28 (dk_at dksX4_line_7 1 rfl rfl)
theorem dX4_line_193 : decode cX4_line 193 = .ok (.tableswitch 247 0 6 #[43, 50, 97, 104, 183, 190, 197], 43) := by decide +kernel
theorem dX4_line_236 : decode cX4_line 236 = .ok (.aload_n 0, 1) := dk_42 (dk_at dksX4_line_9 0 rfl rfl)
theorem dX4_line_237 : decode cX4_line 237 = .ok (.invokevirtual 252, 3) := dk_182 0 252 (dk_at dksX4_line_9 1 rfl rfl)
theorem dX4_line_240 : decode cX4_line 240 = .ok (.goto 206, 3) := dk_167 0 206 (dk_at dksX4_line_9 4 rfl rfl)
theorem dX4_line_243 : decode cX4_line 243 = .ok (.aload_n 0, 1) := dk_42 (dk_at dksX4_line_9 7 rfl rfl)
theorem dX4_line_244 : decode cX4_line 244 = .ok (.aload_n 0, 1) := dk_42 (dk_at dksX4_line_9 8 rfl rfl)
theorem dX4_line_245 : decode cX4_line 245 = .ok (.getfield 25, 3) := dk_180 0 25 (dk_at dksX4_line_9 9 rfl rfl)
theorem dX4_line_248 : decode cX4_line 248 = .ok (.getfield 254, 3) := dk_180 0 254 (dk_at dksX4_line_9 12 rfl rfl)
theorem dX4_line_251 : decode cX4_line 251 = .ok (.invokevirtual 166, 3) := dk_182 0 166 (dk_at dksX4_line_9 15 rfl rfl)
theorem dX4_line_254 : decode cX4_line 254 = .ok (.bipush 6, 2) := dk_16 6 (dk_at dksX4_line_9 18 rfl rfl)
theorem dX4_line_256 : decode cX4_line 256 = .ok (.if_icmp .ge 7, 3) := dk_162 0 7 (dk_at dksX4_line_9 20 rfl rfl)
theorem dX4_line_259 : decode cX4_line 259 = .ok (.iconst 1, 1) := dk_4 (dk_at dksX4_line_9 23 rfl rfl)
theorem dX4_line_260 : decode cX4_line 260 = .ok (.goto 4, 3) := dk_167 0 4 (dk_at dksX4_line_10 0 rfl rfl)
theorem dX4_line_263 : decode cX4_line 263 = .ok (.iconst 0, 1) := dk_3 (dk_at dksX4_line_10 3 rfl rfl)
theorem dX4_line_264 : decode cX4_line 264 = .ok (.iconst 4, 1) := dk_7 (dk_at dksX4_line_10 4 rfl rfl)
theorem dX4_line_265 : decode cX4_line 265 = .ok (.invokevirtual 112, 3) := dk_182 0 112 (dk_at dksX4_line_10 5 rfl rfl)
theorem dX4_line_268 : decode cX4_line 268 = .ok (.aload_n 0, 1) := dk_42 (dk_at dksX4_line_10 8 rfl rfl)
theorem dX4_line_269 : decode cX4_line 269 = .ok (.invokevirtual 29, 3) := dk_182 0 29 (dk_at dksX4_line_10 9 rfl rfl)
theorem dX4_line_272 : decode cX4_line 272 = .ok (.aload_n 0, 1) := dk_42 (dk_at dksX4_line_10 12 rfl rfl)
theorem dX4_line_273 : decode cX4_line 273 = .ok (.getfield 25, 3) := dk_180 0 25 (dk_at dksX4_line_10 13 rfl rfl)
theorem dX4_line_276 : decode cX4_line 276 = .ok (.getfield 254, 3) := dk_180 0 254 (dk_at dksX4_line_10 16 rfl rfl)
theorem dX4_line_279 : decode cX4_line 279 = .ok (.aload_n 0, 1) := dk_42 (dk_at dksX4_line_10 19 rfl rfl)
theorem dX4_line_280 : decode cX4_line 280 = .ok (.invokevirtual 198, 3) := dk_182 0 198 (dk_at dksX4_line_10 20 rfl rfl)
theorem dX4_line_283 : decode cX4_line 283 = .ok (.invokevirtual 163, 3) := dk_182 0 163 (dk_at dksX4_line_11 0 rfl rfl)
theorem dX4_line_286 : decode cX4_line 286 = .ok (.pop, 1) := dk_87 (dk_at dksX4_line_11 3 rfl rfl)
theorem dX4_line_287 : decode cX4_line 287 = .ok (.goto 159, 3) := dk_167 0 159 (dk_at dksX4_line_11 4 rfl rfl)
theorem dX4_line_290 : decode cX4_line 290 = .ok (.aload_n 0, 1) := dk_42 (dk_at dksX4_line_11 7 rfl rfl)
theorem dX4_line_291 : decode cX4_line 291 = .ok (.invokevirtual 258, 3) := dk_182 1 2 (dk_at dksX4_line_11 8 rfl rfl)
theorem dX4_line_294 : decode cX4_line 294 = .ok (.goto 152, 3) := dk_167 0 152 (dk_at dksX4_line_11 11 rfl rfl)
theorem dX4_line_297 : decode cX4_line 297 = .ok (.aload_n 0, 1) := dk_42 (dk_at dksX4_line_11 14 rfl rfl)
theorem dX4_line_298 : decode cX4_line 298 = .ok (.aload_n 0, 1) := dk_42 (dk_at dksX4_line_11 15 rfl rfl)
theorem dX4_line_299 : decode cX4_line 299 = .ok (.getfield 25, 3) := dk_180 0 25 (dk_at dksX4_line_11 16 rfl rfl)
theorem dX4_line_302 : decode cX4_line 302 = .ok (.getfield 260, 3) := dk_180 1 4 (dk_at dksX4_line_11 19 rfl rfl)
theorem dX4_line_305 : decode cX4_line 305 = .ok (.bipush 6, 2) := dk_16 6 (dk_at dksX4_line_11 22 rfl rfl)
theorem dX4_line_307 : decode cX4_line 307 = .ok (.if_icmp .ge 7, 3) := dk_162 0 7 (dk_at dksX4_line_12 0 rfl rfl)
theorem dX4_line_310 : decode cX4_line 310 = .ok (.iconst 1, 1) := dk_4 (dk_at dksX4_line_12 3 rfl rfl)
theorem dX4_line_311 : decode cX4_line 311 = .ok (.goto 4, 3) := dk_167 0 4 (dk_at dksX4_line_12 4 rfl rfl)
theorem dX4_line_314 : decode cX4_line 314 = .ok (.iconst 0, 1) := dk_3 (dk_at dksX4_line_12 7 rfl rfl)
theorem dX4_line_315 : decode cX4_line 315 = .ok (.iconst 4, 1) := dk_7 (dk_at dksX4_line_12 8 rfl rfl)
theorem dX4_line_316 : decode cX4_line 316 = .ok (.invokevirtual 112, 3) := dk_182 0 112 (dk_at dksX4_line_12 9 rfl rfl)
theorem dX4_line_319 : decode cX4_line 319 = .ok (.aload_n 0, 1) := dk_42 (dk_at dksX4_line_12 12 rfl rfl)
theorem dX4_line_320 : decode cX4_line 320 = .ok (.invokevirtual 29, 3) := dk_182 0 29 (dk_at dksX4_line_12 13 rfl rfl)
theorem dX4_line_323 : decode cX4_line 323 = .ok (.aload_n 0, 1) := dk_42 (dk_at dksX4_line_12 16 rfl rfl)
theorem dX4_line_324 : decode cX4_line 324 = .ok (.getfield 25, 3) := dk_180 0 25 (dk_at dksX4_line_12 17 rfl rfl)
theorem dX4_line_327 : decode cX4_line 327 = .ok (.getfield 263, 3) := dk_180 1 7 (dk_at dksX4_line_12 20 rfl rfl)
theorem dX4_line_330 : decode cX4_line 330 = .ok (.aload_n 0, 1) := dk_42 (dk_at dksX4_line_12 23 rfl rfl)
theorem dX4_line_331 : decode cX4_line 331 = .ok (.invokevirtual 266, 3) := dk_182 1 10 (dk_at dksX4_line_13 0 rfl rfl)
theorem dX4_line_334 : decode cX4_line 334 = .ok (.invokevirtual 168, 3) := dk_182 0 168 (dk_at dksX4_line_13 3 rfl rfl)
theorem dX4_line_337 : decode cX4_line 337 = .ok (.checkcast 269, 3) := dk_192 1 13 (dk_at dksX4_line_13 6 rfl rfl)
theorem dX4_line_340 : decode cX4_line 340 = .ok (.astore_n 3, 1) := dk_78 (dk_at dksX4_line_13 9 rfl rfl)
theorem dX4_line_341 : decode cX4_line 341 = .ok (.aload_n 3, 1) := dk_45 (dk_at dksX4_line_13 10 rfl rfl)
theorem dX4_line_342 : decode cX4_line 342 = .ok (.getfield 271, 3) := dk_180 1 15 (dk_at dksX4_line_13 11 rfl rfl)
theorem dX4_line_345 : decode cX4_line 345 = .ok (.new 230, 3) := dk_187 0 230 (dk_at dksX4_line_13 14 rfl rfl)
theorem dX4_line_348 : decode cX4_line 348 = .ok (.dup, 1) := dk_89 (dk_at dksX4_line_13 17 rfl rfl)
theorem dX4_line_349 : decode cX4_line 349 = .ok (.aload_n 0, 1) := dk_42 (dk_at dksX4_line_13 18 rfl rfl)
theorem dX4_line_350 : decode cX4_line 350 = .ok (.invokevirtual 198, 3) := dk_182 0 198 (dk_at dksX4_line_13 19 rfl rfl)
theorem dX4_line_353 : decode cX4_line 353 = .ok (.invokespecial 232, 3) := dk_183 0 232 (dk_at dksX4_line_14 0 rfl rfl)
theorem dX4_line_356 : decode cX4_line 356 = .ok (.invokevirtual 163, 3) := dk_182 0 163 (dk_at dksX4_line_14 3 rfl rfl)
theorem dX4_line_359 : decode cX4_line 359 = .ok (.pop, 1) := dk_87 (dk_at dksX4_line_14 6 rfl rfl)
theorem dX4_line_360 : decode cX4_line 360 = .ok (.aload_n 0, 1) := dk_42 (dk_at dksX4_line_14 7 rfl rfl)
theorem dX4_line_361 : decode cX4_line 361 = .ok (.getfield 25, 3) := dk_180 0 25 (dk_at dksX4_line_14 8 rfl rfl)
theorem dX4_line_364 : decode cX4_line 364 = .ok (.dup, 1) := dk_89 (dk_at dksX4_line_14 11 rfl rfl)
theorem dX4_line_365 : decode cX4_line 365 = .ok (.getfield 260, 3) := dk_180 1 4 (dk_at dksX4_line_14 12 rfl rfl)
theorem dX4_line_368 : decode cX4_line 368 = .ok (.iconst 1, 1) := dk_4 (dk_at dksX4_line_14 15 rfl rfl)
theorem dX4_line_369 : decode cX4_line 369 = .ok (.iadd, 1) := dk_96 (dk_at dksX4_line_14 16 rfl rfl)
theorem dX4_line_370 : decode cX4_line 370 = .ok (.putfield 260, 3) := dk_181 1 4 (dk_at dksX4_line_14 17 rfl rfl)
theorem dX4_line_373 : decode cX4_line 373 = .ok (.goto 73, 3) := dk_167 0 73 (dk_at dksX4_line_14 20 rfl rfl)
theorem dX4_line_376 : decode cX4_line 376 = .ok (.aload_n 0, 1) := dk_42 (dk_at dksX4_line_14 23 rfl rfl)
theorem dX4_line_377 : decode cX4_line 377 = .ok (.invokevirtual 273, 3) := dk_182 1 17 (dk_at dksX4_line_15 0 rfl rfl)
theorem dX4_line_380 : decode cX4_line 380 = .ok (.goto 66, 3) := dk_167 0 66 (dk_at dksX4_line_15 3 rfl rfl)
theorem dX4_line_383 : decode cX4_line 383 = .ok (.aload_n 0, 1) := dk_42 (dk_at dksX4_line_15 6 rfl rfl)
theorem dX4_line_384 : decode cX4_line 384 = .ok (.invokevirtual 275, 3) := dk_182 1 19 (dk_at dksX4_line_15 7 rfl rfl)
theorem dX4_line_387 : decode cX4_line 387 = .ok (.goto 59, 3) := dk_167 0 59 (dk_at dksX4_line_15 10 rfl rfl)
theorem dX4_line_390 : decode cX4_line 390 = .ok (.aload_n 0, 1) := dk_42 (dk_at dksX4_line_15 13 rfl rfl)
theorem dX4_line_391 : decode cX4_line 391 = .ok (.aload_n 0, 1) := dk_42 (dk_at dksX4_line_15 14 rfl rfl)
theorem dX4_line_392 : decode cX4_line 392 = .ok (.getfield 25, 3) := dk_180 0 25 (dk_at dksX4_line_15 15 rfl rfl)
theorem dX4_line_395 : decode cX4_line 395 = .ok (.getfield 277, 3) := dk_180 1 21 (dk_at dksX4_line_15 18 rfl rfl)
theorem dX4_line_398 : decode cX4_line 398 = .ok (.ifCond .ne 7, 3) := dk_154 0 7 (dk_at dksX4_line_15 21 rfl rfl)
theorem dX4_line_401 : decode cX4_line 401 = .ok (.iconst 1, 1) := dk_4 (dk_at dksX4_line_16 0 rfl rfl)
theorem dX4_line_402 : decode cX4_line 402 = .ok (.goto 4, 3) := dk_167 0 4 (dk_at dksX4_line_16 1 rfl rfl)
theorem dX4_line_405 : decode cX4_line 405 = .ok (.iconst 0, 1) := dk_3 (dk_at dksX4_line_16 4 rfl rfl)
theorem dX4_line_406 : decode cX4_line 406 = .ok (.iconst 3, 1) := dk_6 (dk_at dksX4_line_16 5 rfl rfl)
theorem dX4_line_407 : decode cX4_line 407 = .ok (.invokevirtual 112, 3) := dk_182 0 112 (dk_at dksX4_line_16 6 rfl rfl)
theorem dX4_line_410 : decode cX4_line 410 = .ok (.aload_n 0, 1) := dk_42 (dk_at dksX4_line_16 9 rfl rfl)
theorem dX4_line_411 : decode cX4_line 411 = .ok (.getfield 25, 3) := dk_180 0 25 (dk_at dksX4_line_16 10 rfl rfl)
theorem dX4_line_414 : decode cX4_line 414 = .ok (.iconst 1, 1) := dk_4 (dk_at dksX4_line_16 13 rfl rfl)
theorem dX4_line_415 : decode cX4_line 415 = .ok (.putfield 277, 3) := dk_181 1 21 (dk_at dksX4_line_16 14 rfl rfl)
theorem dX4_line_418 : decode cX4_line 418 = .ok (.aload_n 0, 1) := dk_42 (dk_at dksX4_line_16 17 rfl rfl)
theorem dX4_line_419 : decode cX4_line 419 = .ok (.invokevirtual 29, 3) := dk_182 0 29 (dk_at dksX4_line_16 18 rfl rfl)
theorem dX4_line_422 : decode cX4_line 422 = .ok (.aload_n 0, 1) := dk_42 (dk_at dksX4_line_16 21 rfl rfl)
theorem dX4_line_423 : decode cX4_line 423 = .ok (.getfield 25, 3) := dk_180 0 25 (dk_at dksX4_line_17 0 rfl rfl)
theorem dX4_line_426 : decode cX4_line 426 = .ok (.aload_n 0, 1) := dk_42 (dk_at dksX4_line_17 3 rfl rfl)
theorem dX4_line_427 : decode cX4_line 427 = .ok (.iconst 1, 1) := dk_4 (dk_at dksX4_line_17 4 rfl rfl)
theorem dX4_line_428 : decode cX4_line 428 = .ok (.sipush 999, 3) := dk_17 3 231 (dk_at dksX4_line_17 5 rfl rfl)
theorem dX4_line_431 : decode cX4_line 431 = .ok (.invokevirtual 215, 3) := dk_182 0 215 (dk_at dksX4_line_17 8 rfl rfl)
theorem dX4_line_434 : decode cX4_line 434 = .ok (.putfield 280, 3) := dk_181 1 24 (dk_at dksX4_line_17 11 rfl rfl)
theorem dX4_line_437 : decode cX4_line 437 = .ok (.goto 9, 3) := dk_167 0 9 (dk_at dksX4_line_17 14 rfl rfl)
theorem dX4_line_440 : decode cX4_line 440 = .ok (.aload_n 0, 1) := dk_42 (dk_at dksX4_line_17 17 rfl rfl)
theorem dX4_line_441 : decode cX4_line 441 = .ok (.iconst 0, 1) := dk_3 (dk_at dksX4_line_17 18 rfl rfl)
theorem dX4_line_442 : decode cX4_line 442 = .ok (.iconst 1, 1) := dk_4 (dk_at dksX4_line_17 19 rfl rfl)
theorem dX4_line_443 : decode cX4_line 443 = .ok (.invokevirtual 112, 3) := dk_182 0 112 (dk_at dksX4_line_17 20 rfl rfl)
theorem dX4_line_446 : decode cX4_line 446 = .ok (.return_, 1) := dk_177 (dk_at dksX4_line_17 23 rfl rfl)
abbrev cX4_must : ByteArray := prog_10_method_4_code
def yX4_must : MethodName := ⟨RX4, "must", "(ZI)V"⟩
def dkwX4_must_0 : List UInt8 := [27, 154, 0, 16, 187, 0, 74, 89, 28, 42, 180, 0, 39, 183, 0, 76, 191, 177]
abbrev dktX4_must_0 : List UInt8 := dkwX4_must_0 ++ []
theorem dksX4_must_0 : cX4_must.data.toList.drop 0 = dktX4_must_0 := by decide +kernel
theorem dX4_must_0 : decode cX4_must 0 = .ok (.iload_n 1, 1) := dk_27 (dk_at dksX4_must_0 0 rfl rfl)
theorem dX4_must_1 : decode cX4_must 1 = .ok (.ifCond .ne 16, 3) := dk_154 0 16 (dk_at dksX4_must_0 1 rfl rfl)
theorem dX4_must_4 : decode cX4_must 4 = .ok (.new 74, 3) := dk_187 0 74 (dk_at dksX4_must_0 4 rfl rfl)
theorem dX4_must_7 : decode cX4_must 7 = .ok (.dup, 1) := dk_89 (dk_at dksX4_must_0 7 rfl rfl)
theorem dX4_must_8 : decode cX4_must 8 = .ok (.iload_n 2, 1) := dk_28 (dk_at dksX4_must_0 8 rfl rfl)
theorem dX4_must_9 : decode cX4_must 9 = .ok (.aload_n 0, 1) := dk_42 (dk_at dksX4_must_0 9 rfl rfl)
theorem dX4_must_10 : decode cX4_must 10 = .ok (.getfield 39, 3) := dk_180 0 39 (dk_at dksX4_must_0 10 rfl rfl)
theorem dX4_must_13 : decode cX4_must 13 = .ok (.invokespecial 76, 3) := dk_183 0 76 (dk_at dksX4_must_0 13 rfl rfl)
theorem dX4_must_16 : decode cX4_must 16 = .ok (.athrow, 1) := dk_191 (dk_at dksX4_must_0 16 rfl rfl)
theorem dX4_must_17 : decode cX4_must 17 = .ok (.return_, 1) := dk_177 (dk_at dksX4_must_0 17 rfl rfl)
abbrev cX4_fact : ByteArray := prog_10_method_24_code
def yX4_fact : MethodName := ⟨RX4, "fact", "()V"⟩
def dkwX4_fact_3 : List UInt8 := [8, 79, 42, 180, 0, 25, 89, 180, 0, 233, 4, 96, 181, 0, 233, 177]
abbrev dktX4_fact_3 : List UInt8 := dkwX4_fact_3 ++ []
def dkwX4_fact_2 : List UInt8 := [180, 0, 25, 180, 0, 233, 42, 180, 0, 45, 5, 160, 0, 13, 42, 4, 16, 9, 182, 0, 215, 167, 0, 4]
abbrev dktX4_fact_2 : List UInt8 := dkwX4_fact_2 ++ dktX4_fact_3
def dkwX4_fact_1 : List UInt8 := [182, 0, 29, 42, 4, 42, 180, 0, 25, 180, 0, 233, 182, 1, 26, 42, 180, 0, 25, 180, 1, 28, 42]
abbrev dktX4_fact_1 : List UInt8 := dkwX4_fact_1 ++ dktX4_fact_2
def dkwX4_fact_0 : List UInt8 := [42, 42, 180, 0, 25, 180, 0, 233, 16, 8, 162, 0, 7, 4, 167, 0, 4, 3, 7, 182, 0, 112, 42]
abbrev dktX4_fact_0 : List UInt8 := dkwX4_fact_0 ++ dktX4_fact_1
theorem dksX4_fact_0 : cX4_fact.data.toList.drop 0 = dktX4_fact_0 := by decide +kernel
theorem dksX4_fact_1 : cX4_fact.data.toList.drop 23 = dktX4_fact_1 := dk_seg dksX4_fact_0 23 rfl rfl
theorem dksX4_fact_2 : cX4_fact.data.toList.drop 46 = dktX4_fact_2 := dk_seg dksX4_fact_1 23 rfl rfl
theorem dksX4_fact_3 : cX4_fact.data.toList.drop 70 = dktX4_fact_3 := dk_seg dksX4_fact_2 24 rfl rfl
theorem dX4_fact_0 : decode cX4_fact 0 = .ok (.aload_n 0, 1) := dk_42 (dk_at dksX4_fact_0 0 rfl rfl)
theorem dX4_fact_1 : decode cX4_fact 1 = .ok (.aload_n 0, 1) := dk_42 (dk_at dksX4_fact_0 1 rfl rfl)
theorem dX4_fact_2 : decode cX4_fact 2 = .ok (.getfield 25, 3) := dk_180 0 25 (dk_at dksX4_fact_0 2 rfl rfl)
theorem dX4_fact_5 : decode cX4_fact 5 = .ok (.getfield 233, 3) := dk_180 0 233 (dk_at dksX4_fact_0 5 rfl rfl)
theorem dX4_fact_8 : decode cX4_fact 8 = .ok (.bipush 8, 2) := dk_16 8 (dk_at dksX4_fact_0 8 rfl rfl)
theorem dX4_fact_10 : decode cX4_fact 10 = .ok (.if_icmp .ge 7, 3) := dk_162 0 7 (dk_at dksX4_fact_0 10 rfl rfl)
theorem dX4_fact_13 : decode cX4_fact 13 = .ok (.iconst 1, 1) := dk_4 (dk_at dksX4_fact_0 13 rfl rfl)
theorem dX4_fact_14 : decode cX4_fact 14 = .ok (.goto 4, 3) := dk_167 0 4 (dk_at dksX4_fact_0 14 rfl rfl)
theorem dX4_fact_17 : decode cX4_fact 17 = .ok (.iconst 0, 1) := dk_3 (dk_at dksX4_fact_0 17 rfl rfl)
theorem dX4_fact_18 : decode cX4_fact 18 = .ok (.iconst 4, 1) := dk_7 (dk_at dksX4_fact_0 18 rfl rfl)
theorem dX4_fact_19 : decode cX4_fact 19 = .ok (.invokevirtual 112, 3) := dk_182 0 112 (dk_at dksX4_fact_0 19 rfl rfl)
theorem dX4_fact_22 : decode cX4_fact 22 = .ok (.aload_n 0, 1) := dk_42 (dk_at dksX4_fact_0 22 rfl rfl)
theorem dX4_fact_23 : decode cX4_fact 23 = .ok (.invokevirtual 29, 3) := dk_182 0 29 (dk_at dksX4_fact_1 0 rfl rfl)
theorem dX4_fact_26 : decode cX4_fact 26 = .ok (.aload_n 0, 1) := dk_42 (dk_at dksX4_fact_1 3 rfl rfl)
theorem dX4_fact_27 : decode cX4_fact 27 = .ok (.iconst 1, 1) := dk_4 (dk_at dksX4_fact_1 4 rfl rfl)
theorem dX4_fact_28 : decode cX4_fact 28 = .ok (.aload_n 0, 1) := dk_42 (dk_at dksX4_fact_1 5 rfl rfl)
theorem dX4_fact_29 : decode cX4_fact 29 = .ok (.getfield 25, 3) := dk_180 0 25 (dk_at dksX4_fact_1 6 rfl rfl)
theorem dX4_fact_32 : decode cX4_fact 32 = .ok (.getfield 233, 3) := dk_180 0 233 (dk_at dksX4_fact_1 9 rfl rfl)
theorem dX4_fact_35 : decode cX4_fact 35 = .ok (.invokevirtual 282, 3) := dk_182 1 26 (dk_at dksX4_fact_1 12 rfl rfl)
theorem dX4_fact_38 : decode cX4_fact 38 = .ok (.aload_n 0, 1) := dk_42 (dk_at dksX4_fact_1 15 rfl rfl)
theorem dX4_fact_39 : decode cX4_fact 39 = .ok (.getfield 25, 3) := dk_180 0 25 (dk_at dksX4_fact_1 16 rfl rfl)
theorem dX4_fact_42 : decode cX4_fact 42 = .ok (.getfield 284, 3) := dk_180 1 28 (dk_at dksX4_fact_1 19 rfl rfl)
theorem dX4_fact_45 : decode cX4_fact 45 = .ok (.aload_n 0, 1) := dk_42 (dk_at dksX4_fact_1 22 rfl rfl)
theorem dX4_fact_46 : decode cX4_fact 46 = .ok (.getfield 25, 3) := dk_180 0 25 (dk_at dksX4_fact_2 0 rfl rfl)
theorem dX4_fact_49 : decode cX4_fact 49 = .ok (.getfield 233, 3) := dk_180 0 233 (dk_at dksX4_fact_2 3 rfl rfl)
theorem dX4_fact_52 : decode cX4_fact 52 = .ok (.aload_n 0, 1) := dk_42 (dk_at dksX4_fact_2 6 rfl rfl)
theorem dX4_fact_53 : decode cX4_fact 53 = .ok (.getfield 45, 3) := dk_180 0 45 (dk_at dksX4_fact_2 7 rfl rfl)
theorem dX4_fact_56 : decode cX4_fact 56 = .ok (.iconst 2, 1) := dk_5 (dk_at dksX4_fact_2 10 rfl rfl)
theorem dX4_fact_57 : decode cX4_fact 57 = .ok (.if_icmp .ne 13, 3) := dk_160 0 13 (dk_at dksX4_fact_2 11 rfl rfl)
theorem dX4_fact_60 : decode cX4_fact 60 = .ok (.aload_n 0, 1) := dk_42 (dk_at dksX4_fact_2 14 rfl rfl)
theorem dX4_fact_61 : decode cX4_fact 61 = .ok (.iconst 1, 1) := dk_4 (dk_at dksX4_fact_2 15 rfl rfl)
theorem dX4_fact_62 : decode cX4_fact 62 = .ok (.bipush 9, 2) := dk_16 9 (dk_at dksX4_fact_2 16 rfl rfl)
theorem dX4_fact_64 : decode cX4_fact 64 = .ok (.invokevirtual 215, 3) := dk_182 0 215 (dk_at dksX4_fact_2 18 rfl rfl)
theorem dX4_fact_67 : decode cX4_fact 67 = .ok (.goto 4, 3) := dk_167 0 4 (dk_at dksX4_fact_2 21 rfl rfl)
theorem dX4_fact_70 : decode cX4_fact 70 = .ok (.iconst 5, 1) := dk_8 (dk_at dksX4_fact_3 0 rfl rfl)
theorem dX4_fact_71 : decode cX4_fact 71 = .ok (.iastore, 1) := dk_79 (dk_at dksX4_fact_3 1 rfl rfl)
theorem dX4_fact_72 : decode cX4_fact 72 = .ok (.aload_n 0, 1) := dk_42 (dk_at dksX4_fact_3 2 rfl rfl)
theorem dX4_fact_73 : decode cX4_fact 73 = .ok (.getfield 25, 3) := dk_180 0 25 (dk_at dksX4_fact_3 3 rfl rfl)
theorem dX4_fact_76 : decode cX4_fact 76 = .ok (.dup, 1) := dk_89 (dk_at dksX4_fact_3 6 rfl rfl)
theorem dX4_fact_77 : decode cX4_fact 77 = .ok (.getfield 233, 3) := dk_180 0 233 (dk_at dksX4_fact_3 7 rfl rfl)
theorem dX4_fact_80 : decode cX4_fact 80 = .ok (.iconst 1, 1) := dk_4 (dk_at dksX4_fact_3 10 rfl rfl)
theorem dX4_fact_81 : decode cX4_fact 81 = .ok (.iadd, 1) := dk_96 (dk_at dksX4_fact_3 11 rfl rfl)
theorem dX4_fact_82 : decode cX4_fact 82 = .ok (.putfield 233, 3) := dk_181 0 233 (dk_at dksX4_fact_3 12 rfl rfl)
theorem dX4_fact_85 : decode cX4_fact 85 = .ok (.return_, 1) := dk_177 (dk_at dksX4_fact_3 15 rfl rfl)
abbrev cX4_names : ByteArray := prog_10_method_11_code
def yX4_names : MethodName := ⟨RX4, "names", "(ZI)V"⟩
def dkwX4_names_2 : List UInt8 := [187, 0, 135, 89, 27, 28, 183, 0, 137, 182, 0, 139, 87, 42, 182, 0, 29, 177]
abbrev dktX4_names_2 : List UInt8 := dkwX4_names_2 ++ []
def dkwX4_names_1 : List UInt8 := [154, 0, 7, 4, 167, 0, 4, 3, 6, 182, 0, 112, 42, 180, 0, 25, 180, 0, 124, 42, 180, 0, 11]
abbrev dktX4_names_1 : List UInt8 := dkwX4_names_1 ++ dktX4_names_2
def dkwX4_names_0 : List UInt8 := [42, 42, 182, 0, 120, 4, 182, 0, 112, 42, 42, 180, 0, 25, 180, 0, 124, 42, 180, 0, 11, 182, 0, 130]
abbrev dktX4_names_0 : List UInt8 := dkwX4_names_0 ++ dktX4_names_1
theorem dksX4_names_0 : cX4_names.data.toList.drop 0 = dktX4_names_0 := by decide +kernel
theorem dksX4_names_1 : cX4_names.data.toList.drop 24 = dktX4_names_1 := dk_seg dksX4_names_0 24 rfl rfl
theorem dksX4_names_2 : cX4_names.data.toList.drop 47 = dktX4_names_2 := dk_seg dksX4_names_1 23 rfl rfl
theorem dX4_names_0 : decode cX4_names 0 = .ok (.aload_n 0, 1) := dk_42 (dk_at dksX4_names_0 0 rfl rfl)
theorem dX4_names_1 : decode cX4_names 1 = .ok (.aload_n 0, 1) := dk_42 (dk_at dksX4_names_0 1 rfl rfl)
theorem dX4_names_2 : decode cX4_names 2 = .ok (.invokevirtual 120, 3) := dk_182 0 120 (dk_at dksX4_names_0 2 rfl rfl)
theorem dX4_names_5 : decode cX4_names 5 = .ok (.iconst 1, 1) := dk_4 (dk_at dksX4_names_0 5 rfl rfl)
theorem dX4_names_6 : decode cX4_names 6 = .ok (.invokevirtual 112, 3) := dk_182 0 112 (dk_at dksX4_names_0 6 rfl rfl)
theorem dX4_names_9 : decode cX4_names 9 = .ok (.aload_n 0, 1) := dk_42 (dk_at dksX4_names_0 9 rfl rfl)
theorem dX4_names_10 : decode cX4_names 10 = .ok (.aload_n 0, 1) := dk_42 (dk_at dksX4_names_0 10 rfl rfl)
theorem dX4_names_11 : decode cX4_names 11 = .ok (.getfield 25, 3) := dk_180 0 25 (dk_at dksX4_names_0 11 rfl rfl)
theorem dX4_names_14 : decode cX4_names 14 = .ok (.getfield 124, 3) := dk_180 0 124 (dk_at dksX4_names_0 14 rfl rfl)
theorem dX4_names_17 : decode cX4_names 17 = .ok (.aload_n 0, 1) := dk_42 (dk_at dksX4_names_0 17 rfl rfl)
theorem dX4_names_18 : decode cX4_names 18 = .ok (.getfield 11, 3) := dk_180 0 11 (dk_at dksX4_names_0 18 rfl rfl)
theorem dX4_names_21 : decode cX4_names 21 = .ok (.invokevirtual 130, 3) := dk_182 0 130 (dk_at dksX4_names_0 21 rfl rfl)
theorem dX4_names_24 : decode cX4_names 24 = .ok (.ifCond .ne 7, 3) := dk_154 0 7 (dk_at dksX4_names_1 0 rfl rfl)
theorem dX4_names_27 : decode cX4_names 27 = .ok (.iconst 1, 1) := dk_4 (dk_at dksX4_names_1 3 rfl rfl)
theorem dX4_names_28 : decode cX4_names 28 = .ok (.goto 4, 3) := dk_167 0 4 (dk_at dksX4_names_1 4 rfl rfl)
theorem dX4_names_31 : decode cX4_names 31 = .ok (.iconst 0, 1) := dk_3 (dk_at dksX4_names_1 7 rfl rfl)
theorem dX4_names_32 : decode cX4_names 32 = .ok (.iconst 3, 1) := dk_6 (dk_at dksX4_names_1 8 rfl rfl)
theorem dX4_names_33 : decode cX4_names 33 = .ok (.invokevirtual 112, 3) := dk_182 0 112 (dk_at dksX4_names_1 9 rfl rfl)
theorem dX4_names_36 : decode cX4_names 36 = .ok (.aload_n 0, 1) := dk_42 (dk_at dksX4_names_1 12 rfl rfl)
theorem dX4_names_37 : decode cX4_names 37 = .ok (.getfield 25, 3) := dk_180 0 25 (dk_at dksX4_names_1 13 rfl rfl)
theorem dX4_names_40 : decode cX4_names 40 = .ok (.getfield 124, 3) := dk_180 0 124 (dk_at dksX4_names_1 16 rfl rfl)
theorem dX4_names_43 : decode cX4_names 43 = .ok (.aload_n 0, 1) := dk_42 (dk_at dksX4_names_1 19 rfl rfl)
theorem dX4_names_44 : decode cX4_names 44 = .ok (.getfield 11, 3) := dk_180 0 11 (dk_at dksX4_names_1 20 rfl rfl)
theorem dX4_names_47 : decode cX4_names 47 = .ok (.new 135, 3) := dk_187 0 135 (dk_at dksX4_names_2 0 rfl rfl)
theorem dX4_names_50 : decode cX4_names 50 = .ok (.dup, 1) := dk_89 (dk_at dksX4_names_2 3 rfl rfl)
theorem dX4_names_51 : decode cX4_names 51 = .ok (.iload_n 1, 1) := dk_27 (dk_at dksX4_names_2 4 rfl rfl)
theorem dX4_names_52 : decode cX4_names 52 = .ok (.iload_n 2, 1) := dk_28 (dk_at dksX4_names_2 5 rfl rfl)
theorem dX4_names_53 : decode cX4_names 53 = .ok (.invokespecial 137, 3) := dk_183 0 137 (dk_at dksX4_names_2 6 rfl rfl)
theorem dX4_names_56 : decode cX4_names 56 = .ok (.invokevirtual 139, 3) := dk_182 0 139 (dk_at dksX4_names_2 9 rfl rfl)
theorem dX4_names_59 : decode cX4_names 59 = .ok (.pop, 1) := dk_87 (dk_at dksX4_names_2 12 rfl rfl)
theorem dX4_names_60 : decode cX4_names 60 = .ok (.aload_n 0, 1) := dk_42 (dk_at dksX4_names_2 13 rfl rfl)
theorem dX4_names_61 : decode cX4_names 61 = .ok (.invokevirtual 29, 3) := dk_182 0 29 (dk_at dksX4_names_2 14 rfl rfl)
theorem dX4_names_64 : decode cX4_names 64 = .ok (.return_, 1) := dk_177 (dk_at dksX4_names_2 17 rfl rfl)
abbrev cX4_isName : ByteArray := prog_10_method_7_code
def yX4_isName : MethodName := ⟨RX4, "isName", "()Z"⟩
def dkwX4_isName_10 : List UInt8 := [3, 172, 4, 172]
abbrev dktX4_isName_10 : List UInt8 := dkwX4_isName_10 ++ []
def dkwX4_isName_9 : List UInt8 := [170, 0, 0, 0, 0, 0, 61, 0, 0, 0, 0, 0, 0, 0, 10, 0, 0, 0, 59, 0, 0, 0, 59, 0, 0, 0, 59, 0, 0, 0, 59, 0, 0, 0, 59, 0, 0, 0, 59, 0, 0, 0, 59, 0, 0, 0, 59, 0, 0, 0, 59, 0, 0, 0, 59, 0, 0, 0, 59]
abbrev dktX4_isName_9 : List UInt8 := dkwX4_isName_9 ++ dktX4_isName_10
def dkwX4_isName_8 : List UInt8 := [167, 0, 15, 43, 18, 106, 182, 0, 79, 153, 0, 6, 16, 10, 61, 28]
abbrev dktX4_isName_8 : List UInt8 := dkwX4_isName_8 ++ dktX4_isName_9
def dkwX4_isName_7 : List UInt8 := [182, 0, 79, 153, 0, 36, 16, 8, 61, 167, 0, 30, 43, 18, 104, 182, 0, 79, 153, 0, 21, 16, 9, 61]
abbrev dktX4_isName_7 : List UInt8 := dkwX4_isName_7 ++ dktX4_isName_8
def dkwX4_isName_6 : List UInt8 := [61, 167, 0, 60, 43, 18, 100, 182, 0, 79, 153, 0, 51, 16, 7, 61, 167, 0, 45, 43, 18, 102]
abbrev dktX4_isName_6 : List UInt8 := dkwX4_isName_6 ++ dktX4_isName_7
def dkwX4_isName_5 : List UInt8 := [18, 96, 182, 0, 79, 153, 0, 80, 8, 61, 167, 0, 75, 43, 18, 98, 182, 0, 79, 153, 0, 66, 16, 6]
abbrev dktX4_isName_5 : List UInt8 := dkwX4_isName_5 ++ dktX4_isName_6
def dkwX4_isName_4 : List UInt8 := [153, 0, 108, 6, 61, 167, 0, 103, 43, 18, 94, 182, 0, 79, 153, 0, 94, 7, 61, 167, 0, 89, 43]
abbrev dktX4_isName_4 : List UInt8 := dkwX4_isName_4 ++ dktX4_isName_5
def dkwX4_isName_3 : List UInt8 := [61, 167, 0, 131, 43, 18, 90, 182, 0, 79, 153, 0, 122, 5, 61, 167, 0, 117, 43, 18, 92, 182, 0, 79]
abbrev dktX4_isName_3 : List UInt8 := dkwX4_isName_3 ++ dktX4_isName_4
def dkwX4_isName_2 : List UInt8 := [43, 18, 86, 182, 0, 79, 153, 0, 150, 3, 61, 167, 0, 145, 43, 18, 88, 182, 0, 79, 153, 0, 136, 4]
abbrev dktX4_isName_2 : List UInt8 := dkwX4_isName_2 ++ dktX4_isName_3
def dkwX4_isName_1 : List UInt8 := [171, 0, 0, 0, 0, 0, 255, 0, 0, 0, 11, 0, 0, 13, 215, 0, 0, 0, 243, 0, 47, 214, 108, 0, 0, 0, 99, 0, 52, 139, 152, 0, 0, 0, 183, 0, 53, 192, 102, 0, 0, 0, 213, 0, 53, 193, 232, 0, 0, 0, 198, 5, 140, 105, 48, 0, 0, 0, 155, 5, 167, 81, 15, 0, 0, 0, 127, 6, 35, 75, 187, 0, 0, 0, 228, 6, 61, 138, 157, 0, 0, 0, 169, 6, 61, 202, 140, 0, 0, 0, 113, 6, 193, 28, 142, 0, 0, 0, 141]
abbrev dktX4_isName_1 : List UInt8 := dkwX4_isName_1 ++ dktX4_isName_2
def dkwX4_isName_0 : List UInt8 := [42, 180, 0, 45, 4, 159, 0, 5, 3, 172, 42, 180, 0, 11, 76, 2, 61, 43, 182, 0, 83]
abbrev dktX4_isName_0 : List UInt8 := dkwX4_isName_0 ++ dktX4_isName_1
theorem dksX4_isName_0 : cX4_isName.data.toList.drop 0 = dktX4_isName_0 := by decide +kernel
theorem dksX4_isName_1 : cX4_isName.data.toList.drop 21 = dktX4_isName_1 := dk_seg dksX4_isName_0 21 rfl rfl
theorem dksX4_isName_2 : cX4_isName.data.toList.drop 120 = dktX4_isName_2 := dk_seg dksX4_isName_1 99 rfl rfl
theorem dksX4_isName_3 : cX4_isName.data.toList.drop 144 = dktX4_isName_3 := dk_seg dksX4_isName_2 24 rfl rfl
theorem dksX4_isName_4 : cX4_isName.data.toList.drop 168 = dktX4_isName_4 := dk_seg dksX4_isName_3 24 rfl rfl
theorem dksX4_isName_5 : cX4_isName.data.toList.drop 191 = dktX4_isName_5 := dk_seg dksX4_isName_4 23 rfl rfl
theorem dksX4_isName_6 : cX4_isName.data.toList.drop 215 = dktX4_isName_6 := dk_seg dksX4_isName_5 24 rfl rfl
theorem dksX4_isName_7 : cX4_isName.data.toList.drop 237 = dktX4_isName_7 := dk_seg dksX4_isName_6 22 rfl rfl
theorem dksX4_isName_8 : cX4_isName.data.toList.drop 261 = dktX4_isName_8 := dk_seg dksX4_isName_7 24 rfl rfl
theorem dksX4_isName_9 : cX4_isName.data.toList.drop 277 = dktX4_isName_9 := dk_seg dksX4_isName_8 16 rfl rfl
theorem dksX4_isName_10 : cX4_isName.data.toList.drop 336 = dktX4_isName_10 := dk_seg dksX4_isName_9 59 rfl rfl
theorem dX4_isName_0 : decode cX4_isName 0 = .ok (.aload_n 0, 1) := dk_42 (dk_at dksX4_isName_0 0 rfl rfl)
theorem dX4_isName_1 : decode cX4_isName 1 = .ok (.getfield 45, 3) := dk_180 0 45 (dk_at dksX4_isName_0 1 rfl rfl)
theorem dX4_isName_4 : decode cX4_isName 4 = .ok (.iconst 1, 1) := dk_4 (dk_at dksX4_isName_0 4 rfl rfl)
theorem dX4_isName_5 : decode cX4_isName 5 = .ok (.if_icmp .eq 5, 3) := dk_159 0 5 (dk_at dksX4_isName_0 5 rfl rfl)
theorem dX4_isName_8 : decode cX4_isName 8 = .ok (.iconst 0, 1) := dk_3 (dk_at dksX4_isName_0 8 rfl rfl)
theorem dX4_isName_9 : decode cX4_isName 9 = .ok (.ireturn, 1) := dk_172 (dk_at dksX4_isName_0 9 rfl rfl)
theorem dX4_isName_10 : decode cX4_isName 10 = .ok (.aload_n 0, 1) := dk_42 (dk_at dksX4_isName_0 10 rfl rfl)
theorem dX4_isName_11 : decode cX4_isName 11 = .ok (.getfield 11, 3) := dk_180 0 11 (dk_at dksX4_isName_0 11 rfl rfl)
theorem dX4_isName_14 : decode cX4_isName 14 = .ok (.astore_n 1, 1) := dk_76 (dk_at dksX4_isName_0 14 rfl rfl)
theorem dX4_isName_15 : decode cX4_isName 15 = .ok (.iconst (-1), 1) := dk_2 (dk_at dksX4_isName_0 15 rfl rfl)
theorem dX4_isName_16 : decode cX4_isName 16 = .ok (.istore_n 2, 1) := dk_61 (dk_at dksX4_isName_0 16 rfl rfl)
theorem dX4_isName_17 : decode cX4_isName 17 = .ok (.aload_n 1, 1) := dk_43 (dk_at dksX4_isName_0 17 rfl rfl)
theorem dX4_isName_18 : decode cX4_isName 18 = .ok (.invokevirtual 83, 3) := dk_182 0 83 (dk_at dksX4_isName_0 18 rfl rfl)
theorem dX4_isName_21 : decode cX4_isName 21 = .ok (.lookupswitch 255 #[(3543, 243), (3135084, 99), (3443608, 183), (3522662, 213), (3523048, 198), (93088048, 155), (94851343, 127), (102976443, 228), (104696477, 169), (104712844, 113), (113319054, 141)], 99) := by decide +kernel
theorem dX4_isName_120 : decode cX4_isName 120 = .ok (.aload_n 1, 1) := dk_43 (dk_at dksX4_isName_2 0 rfl rfl)
theorem dX4_isName_121 : decode cX4_isName 121 = .ok (.ldc 86, 2) := dk_18 86 (dk_at dksX4_isName_2 1 rfl rfl)
theorem dX4_isName_123 : decode cX4_isName 123 = .ok (.invokevirtual 79, 3) := dk_182 0 79 (dk_at dksX4_isName_2 3 rfl rfl)
theorem dX4_isName_126 : decode cX4_isName 126 = .ok (.ifCond .eq 150, 3) := dk_153 0 150 (dk_at dksX4_isName_2 6 rfl rfl)
theorem dX4_isName_129 : decode cX4_isName 129 = .ok (.iconst 0, 1) := dk_3 (dk_at dksX4_isName_2 9 rfl rfl)
theorem dX4_isName_130 : decode cX4_isName 130 = .ok (.istore_n 2, 1) := dk_61 (dk_at dksX4_isName_2 10 rfl rfl)
theorem dX4_isName_131 : decode cX4_isName 131 = .ok (.goto 145, 3) := dk_167 0 145 (dk_at dksX4_isName_2 11 rfl rfl)
theorem dX4_isName_134 : decode cX4_isName 134 = .ok (.aload_n 1, 1) := dk_43 (dk_at dksX4_isName_2 14 rfl rfl)
theorem dX4_isName_135 : decode cX4_isName 135 = .ok (.ldc 88, 2) := dk_18 88 (dk_at dksX4_isName_2 15 rfl rfl)
theorem dX4_isName_137 : decode cX4_isName 137 = .ok (.invokevirtual 79, 3) := dk_182 0 79 (dk_at dksX4_isName_2 17 rfl rfl)
theorem dX4_isName_140 : decode cX4_isName 140 = .ok (.ifCond .eq 136, 3) := dk_153 0 136 (dk_at dksX4_isName_2 20 rfl rfl)
theorem dX4_isName_143 : decode cX4_isName 143 = .ok (.iconst 1, 1) := dk_4 (dk_at dksX4_isName_2 23 rfl rfl)
theorem dX4_isName_144 : decode cX4_isName 144 = .ok (.istore_n 2, 1) := dk_61 (dk_at dksX4_isName_3 0 rfl rfl)
theorem dX4_isName_145 : decode cX4_isName 145 = .ok (.goto 131, 3) := dk_167 0 131 (dk_at dksX4_isName_3 1 rfl rfl)
theorem dX4_isName_148 : decode cX4_isName 148 = .ok (.aload_n 1, 1) := dk_43 (dk_at dksX4_isName_3 4 rfl rfl)
theorem dX4_isName_149 : decode cX4_isName 149 = .ok (.ldc 90, 2) := dk_18 90 (dk_at dksX4_isName_3 5 rfl rfl)
theorem dX4_isName_151 : decode cX4_isName 151 = .ok (.invokevirtual 79, 3) := dk_182 0 79 (dk_at dksX4_isName_3 7 rfl rfl)
theorem dX4_isName_154 : decode cX4_isName 154 = .ok (.ifCond .eq 122, 3) := dk_153 0 122 (dk_at dksX4_isName_3 10 rfl rfl)
theorem dX4_isName_157 : decode cX4_isName 157 = .ok (.iconst 2, 1) := dk_5 (dk_at dksX4_isName_3 13 rfl rfl)
theorem dX4_isName_158 : decode cX4_isName 158 = .ok (.istore_n 2, 1) := dk_61 (dk_at dksX4_isName_3 14 rfl rfl)
theorem dX4_isName_159 : decode cX4_isName 159 = .ok (.goto 117, 3) := dk_167 0 117 (dk_at dksX4_isName_3 15 rfl rfl)
theorem dX4_isName_162 : decode cX4_isName 162 = .ok (.aload_n 1, 1) := dk_43 (dk_at dksX4_isName_3 18 rfl rfl)
theorem dX4_isName_163 : decode cX4_isName 163 = .ok (.ldc 92, 2) := dk_18 92 (dk_at dksX4_isName_3 19 rfl rfl)
theorem dX4_isName_165 : decode cX4_isName 165 = .ok (.invokevirtual 79, 3) := dk_182 0 79 (dk_at dksX4_isName_3 21 rfl rfl)
theorem dX4_isName_168 : decode cX4_isName 168 = .ok (.ifCond .eq 108, 3) := dk_153 0 108 (dk_at dksX4_isName_4 0 rfl rfl)
theorem dX4_isName_171 : decode cX4_isName 171 = .ok (.iconst 3, 1) := dk_6 (dk_at dksX4_isName_4 3 rfl rfl)
theorem dX4_isName_172 : decode cX4_isName 172 = .ok (.istore_n 2, 1) := dk_61 (dk_at dksX4_isName_4 4 rfl rfl)
theorem dX4_isName_173 : decode cX4_isName 173 = .ok (.goto 103, 3) := dk_167 0 103 (dk_at dksX4_isName_4 5 rfl rfl)
theorem dX4_isName_176 : decode cX4_isName 176 = .ok (.aload_n 1, 1) := dk_43 (dk_at dksX4_isName_4 8 rfl rfl)
theorem dX4_isName_177 : decode cX4_isName 177 = .ok (.ldc 94, 2) := dk_18 94 (dk_at dksX4_isName_4 9 rfl rfl)
theorem dX4_isName_179 : decode cX4_isName 179 = .ok (.invokevirtual 79, 3) := dk_182 0 79 (dk_at dksX4_isName_4 11 rfl rfl)
theorem dX4_isName_182 : decode cX4_isName 182 = .ok (.ifCond .eq 94, 3) := dk_153 0 94 (dk_at dksX4_isName_4 14 rfl rfl)
theorem dX4_isName_185 : decode cX4_isName 185 = .ok (.iconst 4, 1) := dk_7 (dk_at dksX4_isName_4 17 rfl rfl)
theorem dX4_isName_186 : decode cX4_isName 186 = .ok (.istore_n 2, 1) := dk_61 (dk_at dksX4_isName_4 18 rfl rfl)
theorem dX4_isName_187 : decode cX4_isName 187 = .ok (.goto 89, 3) := dk_167 0 89 (dk_at dksX4_isName_4 19 rfl rfl)
theorem dX4_isName_190 : decode cX4_isName 190 = .ok (.aload_n 1, 1) := dk_43 (dk_at dksX4_isName_4 22 rfl rfl)
theorem dX4_isName_191 : decode cX4_isName 191 = .ok (.ldc 96, 2) := dk_18 96 (dk_at dksX4_isName_5 0 rfl rfl)
theorem dX4_isName_193 : decode cX4_isName 193 = .ok (.invokevirtual 79, 3) := dk_182 0 79 (dk_at dksX4_isName_5 2 rfl rfl)
theorem dX4_isName_196 : decode cX4_isName 196 = .ok (.ifCond .eq 80, 3) := dk_153 0 80 (dk_at dksX4_isName_5 5 rfl rfl)
theorem dX4_isName_199 : decode cX4_isName 199 = .ok (.iconst 5, 1) := dk_8 (dk_at dksX4_isName_5 8 rfl rfl)
theorem dX4_isName_200 : decode cX4_isName 200 = .ok (.istore_n 2, 1) := dk_61 (dk_at dksX4_isName_5 9 rfl rfl)
theorem dX4_isName_201 : decode cX4_isName 201 = .ok (.goto 75, 3) := dk_167 0 75 (dk_at dksX4_isName_5 10 rfl rfl)
theorem dX4_isName_204 : decode cX4_isName 204 = .ok (.aload_n 1, 1) := dk_43 (dk_at dksX4_isName_5 13 rfl rfl)
theorem dX4_isName_205 : decode cX4_isName 205 = .ok (.ldc 98, 2) := dk_18 98 (dk_at dksX4_isName_5 14 rfl rfl)
theorem dX4_isName_207 : decode cX4_isName 207 = .ok (.invokevirtual 79, 3) := dk_182 0 79 (dk_at dksX4_isName_5 16 rfl rfl)
theorem dX4_isName_210 : decode cX4_isName 210 = .ok (.ifCond .eq 66, 3) := dk_153 0 66 (dk_at dksX4_isName_5 19 rfl rfl)
theorem dX4_isName_213 : decode cX4_isName 213 = .ok (.bipush 6, 2) := dk_16 6 (dk_at dksX4_isName_5 22 rfl rfl)
theorem dX4_isName_215 : decode cX4_isName 215 = .ok (.istore_n 2, 1) := dk_61 (dk_at dksX4_isName_6 0 rfl rfl)
theorem dX4_isName_216 : decode cX4_isName 216 = .ok (.goto 60, 3) := dk_167 0 60 (dk_at dksX4_isName_6 1 rfl rfl)
theorem dX4_isName_219 : decode cX4_isName 219 = .ok (.aload_n 1, 1) := dk_43 (dk_at dksX4_isName_6 4 rfl rfl)
theorem dX4_isName_220 : decode cX4_isName 220 = .ok (.ldc 100, 2) := dk_18 100 (dk_at dksX4_isName_6 5 rfl rfl)
theorem dX4_isName_222 : decode cX4_isName 222 = .ok (.invokevirtual 79, 3) := dk_182 0 79 (dk_at dksX4_isName_6 7 rfl rfl)
theorem dX4_isName_225 : decode cX4_isName 225 = .ok (.ifCond .eq 51, 3) := dk_153 0 51 (dk_at dksX4_isName_6 10 rfl rfl)
theorem dX4_isName_228 : decode cX4_isName 228 = .ok (.bipush 7, 2) := dk_16 7 (dk_at dksX4_isName_6 13 rfl rfl)
theorem dX4_isName_230 : decode cX4_isName 230 = .ok (.istore_n 2, 1) := dk_61 (dk_at dksX4_isName_6 15 rfl rfl)
theorem dX4_isName_231 : decode cX4_isName 231 = .ok (.goto 45, 3) := dk_167 0 45 (dk_at dksX4_isName_6 16 rfl rfl)
theorem dX4_isName_234 : decode cX4_isName 234 = .ok (.aload_n 1, 1) := dk_43 (dk_at dksX4_isName_6 19 rfl rfl)
theorem dX4_isName_235 : decode cX4_isName 235 = .ok (.ldc 102, 2) := dk_18 102 (dk_at dksX4_isName_6 20 rfl rfl)
theorem dX4_isName_237 : decode cX4_isName 237 = .ok (.invokevirtual 79, 3) := dk_182 0 79 (dk_at dksX4_isName_7 0 rfl rfl)
theorem dX4_isName_240 : decode cX4_isName 240 = .ok (.ifCond .eq 36, 3) := dk_153 0 36 (dk_at dksX4_isName_7 3 rfl rfl)
theorem dX4_isName_243 : decode cX4_isName 243 = .ok (.bipush 8, 2) := dk_16 8 (dk_at dksX4_isName_7 6 rfl rfl)
theorem dX4_isName_245 : decode cX4_isName 245 = .ok (.istore_n 2, 1) := dk_61 (dk_at dksX4_isName_7 8 rfl rfl)
theorem dX4_isName_246 : decode cX4_isName 246 = .ok (.goto 30, 3) := dk_167 0 30 (dk_at dksX4_isName_7 9 rfl rfl)
theorem dX4_isName_249 : decode cX4_isName 249 = .ok (.aload_n 1, 1) := dk_43 (dk_at dksX4_isName_7 12 rfl rfl)
theorem dX4_isName_250 : decode cX4_isName 250 = .ok (.ldc 104, 2) := dk_18 104 (dk_at dksX4_isName_7 13 rfl rfl)
theorem dX4_isName_252 : decode cX4_isName 252 = .ok (.invokevirtual 79, 3) := dk_182 0 79 (dk_at dksX4_isName_7 15 rfl rfl)
theorem dX4_isName_255 : decode cX4_isName 255 = .ok (.ifCond .eq 21, 3) := dk_153 0 21 (dk_at dksX4_isName_7 18 rfl rfl)
theorem dX4_isName_258 : decode cX4_isName 258 = .ok (.bipush 9, 2) := dk_16 9 (dk_at dksX4_isName_7 21 rfl rfl)
theorem dX4_isName_260 : decode cX4_isName 260 = .ok (.istore_n 2, 1) := dk_61 (dk_at dksX4_isName_7 23 rfl rfl)
theorem dX4_isName_261 : decode cX4_isName 261 = .ok (.goto 15, 3) := dk_167 0 15 (dk_at dksX4_isName_8 0 rfl rfl)
theorem dX4_isName_264 : decode cX4_isName 264 = .ok (.aload_n 1, 1) := dk_43 (dk_at dksX4_isName_8 3 rfl rfl)
theorem dX4_isName_265 : decode cX4_isName 265 = .ok (.ldc 106, 2) := dk_18 106 (dk_at dksX4_isName_8 4 rfl rfl)
theorem dX4_isName_267 : decode cX4_isName 267 = .ok (.invokevirtual 79, 3) := dk_182 0 79 (dk_at dksX4_isName_8 6 rfl rfl)
theorem dX4_isName_270 : decode cX4_isName 270 = .ok (.ifCond .eq 6, 3) := dk_153 0 6 (dk_at dksX4_isName_8 9 rfl rfl)
theorem dX4_isName_273 : decode cX4_isName 273 = .ok (.bipush 10, 2) := dk_16 10 (dk_at dksX4_isName_8 12 rfl rfl)
theorem dX4_isName_275 : decode cX4_isName 275 = .ok (.istore_n 2, 1) := dk_61 (dk_at dksX4_isName_8 14 rfl rfl)
theorem dX4_isName_276 : decode cX4_isName 276 = .ok (.iload_n 2, 1) := dk_28 (dk_at dksX4_isName_8 15 rfl rfl)
theorem dX4_isName_277 : decode cX4_isName 277 = .ok (.tableswitch 61 0 10 #[59, 59, 59, 59, 59, 59, 59, 59, 59, 59, 59], 59) := by decide +kernel
theorem dX4_isName_336 : decode cX4_isName 336 = .ok (.iconst 0, 1) := dk_3 (dk_at dksX4_isName_10 0 rfl rfl)
theorem dX4_isName_337 : decode cX4_isName 337 = .ok (.ireturn, 1) := dk_172 (dk_at dksX4_isName_10 1 rfl rfl)
theorem dX4_isName_338 : decode cX4_isName 338 = .ok (.iconst 1, 1) := dk_4 (dk_at dksX4_isName_10 2 rfl rfl)
theorem dX4_isName_339 : decode cX4_isName 339 = .ok (.ireturn, 1) := dk_172 (dk_at dksX4_isName_10 3 rfl rfl)
abbrev cX4_number : ByteArray := prog_10_method_10_code
def yX4_number : MethodName := ⟨RX4, "number", "(II)I"⟩
def dkwX4_number_1 : List UInt8 := [28, 184, 0, 48, 5, 182, 0, 112, 42, 180, 0, 42, 62, 42, 182, 0, 29, 29, 172]
abbrev dktX4_number_1 : List UInt8 := dkwX4_number_1 ++ []
def dkwX4_number_0 : List UInt8 := [42, 42, 180, 0, 45, 5, 160, 0, 7, 4, 167, 0, 4, 3, 4, 182, 0, 112, 42, 42, 180, 0, 42, 27]
abbrev dktX4_number_0 : List UInt8 := dkwX4_number_0 ++ dktX4_number_1
theorem dksX4_number_0 : cX4_number.data.toList.drop 0 = dktX4_number_0 := by decide +kernel
theorem dksX4_number_1 : cX4_number.data.toList.drop 24 = dktX4_number_1 := dk_seg dksX4_number_0 24 rfl rfl
theorem dX4_number_0 : decode cX4_number 0 = .ok (.aload_n 0, 1) := dk_42 (dk_at dksX4_number_0 0 rfl rfl)
theorem dX4_number_1 : decode cX4_number 1 = .ok (.aload_n 0, 1) := dk_42 (dk_at dksX4_number_0 1 rfl rfl)
theorem dX4_number_2 : decode cX4_number 2 = .ok (.getfield 45, 3) := dk_180 0 45 (dk_at dksX4_number_0 2 rfl rfl)
theorem dX4_number_5 : decode cX4_number 5 = .ok (.iconst 2, 1) := dk_5 (dk_at dksX4_number_0 5 rfl rfl)
theorem dX4_number_6 : decode cX4_number 6 = .ok (.if_icmp .ne 7, 3) := dk_160 0 7 (dk_at dksX4_number_0 6 rfl rfl)
theorem dX4_number_9 : decode cX4_number 9 = .ok (.iconst 1, 1) := dk_4 (dk_at dksX4_number_0 9 rfl rfl)
theorem dX4_number_10 : decode cX4_number 10 = .ok (.goto 4, 3) := dk_167 0 4 (dk_at dksX4_number_0 10 rfl rfl)
theorem dX4_number_13 : decode cX4_number 13 = .ok (.iconst 0, 1) := dk_3 (dk_at dksX4_number_0 13 rfl rfl)
theorem dX4_number_14 : decode cX4_number 14 = .ok (.iconst 1, 1) := dk_4 (dk_at dksX4_number_0 14 rfl rfl)
theorem dX4_number_15 : decode cX4_number 15 = .ok (.invokevirtual 112, 3) := dk_182 0 112 (dk_at dksX4_number_0 15 rfl rfl)
theorem dX4_number_18 : decode cX4_number 18 = .ok (.aload_n 0, 1) := dk_42 (dk_at dksX4_number_0 18 rfl rfl)
theorem dX4_number_19 : decode cX4_number 19 = .ok (.aload_n 0, 1) := dk_42 (dk_at dksX4_number_0 19 rfl rfl)
theorem dX4_number_20 : decode cX4_number 20 = .ok (.getfield 42, 3) := dk_180 0 42 (dk_at dksX4_number_0 20 rfl rfl)
theorem dX4_number_23 : decode cX4_number 23 = .ok (.iload_n 1, 1) := dk_27 (dk_at dksX4_number_0 23 rfl rfl)
theorem dX4_number_24 : decode cX4_number 24 = .ok (.iload_n 2, 1) := dk_28 (dk_at dksX4_number_1 0 rfl rfl)
theorem dX4_number_25 : decode cX4_number 25 = .ok (.invokestatic 48, 3) := dk_184 0 48 (dk_at dksX4_number_1 1 rfl rfl)
theorem dX4_number_28 : decode cX4_number 28 = .ok (.iconst 2, 1) := dk_5 (dk_at dksX4_number_1 4 rfl rfl)
theorem dX4_number_29 : decode cX4_number 29 = .ok (.invokevirtual 112, 3) := dk_182 0 112 (dk_at dksX4_number_1 5 rfl rfl)
theorem dX4_number_32 : decode cX4_number 32 = .ok (.aload_n 0, 1) := dk_42 (dk_at dksX4_number_1 8 rfl rfl)
theorem dX4_number_33 : decode cX4_number 33 = .ok (.getfield 42, 3) := dk_180 0 42 (dk_at dksX4_number_1 9 rfl rfl)
theorem dX4_number_36 : decode cX4_number 36 = .ok (.istore_n 3, 1) := dk_62 (dk_at dksX4_number_1 12 rfl rfl)
theorem dX4_number_37 : decode cX4_number 37 = .ok (.aload_n 0, 1) := dk_42 (dk_at dksX4_number_1 13 rfl rfl)
theorem dX4_number_38 : decode cX4_number 38 = .ok (.invokevirtual 29, 3) := dk_182 0 29 (dk_at dksX4_number_1 14 rfl rfl)
theorem dX4_number_41 : decode cX4_number 41 = .ok (.iload_n 3, 1) := dk_29 (dk_at dksX4_number_1 17 rfl rfl)
theorem dX4_number_42 : decode cX4_number 42 = .ok (.ireturn, 1) := dk_172 (dk_at dksX4_number_1 18 rfl rfl)
abbrev cX4_any : ByteArray := prog_10_method_14_code
def yX4_any : MethodName := ⟨RX4, "any", "()LStruckCounts$Expr;"⟩
def dkwX4_any_2 : List UInt8 := [160, 0, 14, 43, 3, 182, 0, 168, 192, 0, 171, 167, 0, 11, 187, 0, 173, 89, 43, 183, 0, 175, 176]
abbrev dktX4_any_2 : List UInt8 := dkwX4_any_2 ++ []
def dkwX4_any_1 : List UInt8 := [153, 0, 19, 42, 182, 0, 29, 43, 42, 182, 0, 159, 182, 0, 163, 87, 167, 255, 234, 43, 182, 0, 166, 4]
abbrev dktX4_any_1 : List UInt8 := dkwX4_any_1 ++ dktX4_any_2
def dkwX4_any_0 : List UInt8 := [187, 0, 154, 89, 5, 183, 0, 156, 76, 43, 42, 182, 0, 159, 182, 0, 163, 87, 42, 16, 124, 182, 0, 108]
abbrev dktX4_any_0 : List UInt8 := dkwX4_any_0 ++ dktX4_any_1
theorem dksX4_any_0 : cX4_any.data.toList.drop 0 = dktX4_any_0 := by decide +kernel
theorem dksX4_any_1 : cX4_any.data.toList.drop 24 = dktX4_any_1 := dk_seg dksX4_any_0 24 rfl rfl
theorem dksX4_any_2 : cX4_any.data.toList.drop 48 = dktX4_any_2 := dk_seg dksX4_any_1 24 rfl rfl
theorem dX4_any_0 : decode cX4_any 0 = .ok (.new 154, 3) := dk_187 0 154 (dk_at dksX4_any_0 0 rfl rfl)
theorem dX4_any_3 : decode cX4_any 3 = .ok (.dup, 1) := dk_89 (dk_at dksX4_any_0 3 rfl rfl)
theorem dX4_any_4 : decode cX4_any 4 = .ok (.iconst 2, 1) := dk_5 (dk_at dksX4_any_0 4 rfl rfl)
theorem dX4_any_5 : decode cX4_any 5 = .ok (.invokespecial 156, 3) := dk_183 0 156 (dk_at dksX4_any_0 5 rfl rfl)
theorem dX4_any_8 : decode cX4_any 8 = .ok (.astore_n 1, 1) := dk_76 (dk_at dksX4_any_0 8 rfl rfl)
theorem dX4_any_9 : decode cX4_any 9 = .ok (.aload_n 1, 1) := dk_43 (dk_at dksX4_any_0 9 rfl rfl)
theorem dX4_any_10 : decode cX4_any 10 = .ok (.aload_n 0, 1) := dk_42 (dk_at dksX4_any_0 10 rfl rfl)
theorem dX4_any_11 : decode cX4_any 11 = .ok (.invokevirtual 159, 3) := dk_182 0 159 (dk_at dksX4_any_0 11 rfl rfl)
theorem dX4_any_14 : decode cX4_any 14 = .ok (.invokevirtual 163, 3) := dk_182 0 163 (dk_at dksX4_any_0 14 rfl rfl)
theorem dX4_any_17 : decode cX4_any 17 = .ok (.pop, 1) := dk_87 (dk_at dksX4_any_0 17 rfl rfl)
theorem dX4_any_18 : decode cX4_any 18 = .ok (.aload_n 0, 1) := dk_42 (dk_at dksX4_any_0 18 rfl rfl)
theorem dX4_any_19 : decode cX4_any 19 = .ok (.bipush 124, 2) := dk_16 124 (dk_at dksX4_any_0 19 rfl rfl)
theorem dX4_any_21 : decode cX4_any 21 = .ok (.invokevirtual 108, 3) := dk_182 0 108 (dk_at dksX4_any_0 21 rfl rfl)
theorem dX4_any_24 : decode cX4_any 24 = .ok (.ifCond .eq 19, 3) := dk_153 0 19 (dk_at dksX4_any_1 0 rfl rfl)
theorem dX4_any_27 : decode cX4_any 27 = .ok (.aload_n 0, 1) := dk_42 (dk_at dksX4_any_1 3 rfl rfl)
theorem dX4_any_28 : decode cX4_any 28 = .ok (.invokevirtual 29, 3) := dk_182 0 29 (dk_at dksX4_any_1 4 rfl rfl)
theorem dX4_any_31 : decode cX4_any 31 = .ok (.aload_n 1, 1) := dk_43 (dk_at dksX4_any_1 7 rfl rfl)
theorem dX4_any_32 : decode cX4_any 32 = .ok (.aload_n 0, 1) := dk_42 (dk_at dksX4_any_1 8 rfl rfl)
theorem dX4_any_33 : decode cX4_any 33 = .ok (.invokevirtual 159, 3) := dk_182 0 159 (dk_at dksX4_any_1 9 rfl rfl)
theorem dX4_any_36 : decode cX4_any 36 = .ok (.invokevirtual 163, 3) := dk_182 0 163 (dk_at dksX4_any_1 12 rfl rfl)
theorem dX4_any_39 : decode cX4_any 39 = .ok (.pop, 1) := dk_87 (dk_at dksX4_any_1 15 rfl rfl)
theorem dX4_any_40 : decode cX4_any 40 = .ok (.goto (-22), 3) := dk_167 255 234 (dk_at dksX4_any_1 16 rfl rfl)
theorem dX4_any_43 : decode cX4_any 43 = .ok (.aload_n 1, 1) := dk_43 (dk_at dksX4_any_1 19 rfl rfl)
theorem dX4_any_44 : decode cX4_any 44 = .ok (.invokevirtual 166, 3) := dk_182 0 166 (dk_at dksX4_any_1 20 rfl rfl)
theorem dX4_any_47 : decode cX4_any 47 = .ok (.iconst 1, 1) := dk_4 (dk_at dksX4_any_1 23 rfl rfl)
theorem dX4_any_48 : decode cX4_any 48 = .ok (.if_icmp .ne 14, 3) := dk_160 0 14 (dk_at dksX4_any_2 0 rfl rfl)
theorem dX4_any_51 : decode cX4_any 51 = .ok (.aload_n 1, 1) := dk_43 (dk_at dksX4_any_2 3 rfl rfl)
theorem dX4_any_52 : decode cX4_any 52 = .ok (.iconst 0, 1) := dk_3 (dk_at dksX4_any_2 4 rfl rfl)
theorem dX4_any_53 : decode cX4_any 53 = .ok (.invokevirtual 168, 3) := dk_182 0 168 (dk_at dksX4_any_2 5 rfl rfl)
theorem dX4_any_56 : decode cX4_any 56 = .ok (.checkcast 171, 3) := dk_192 0 171 (dk_at dksX4_any_2 8 rfl rfl)
theorem dX4_any_59 : decode cX4_any 59 = .ok (.goto 11, 3) := dk_167 0 11 (dk_at dksX4_any_2 11 rfl rfl)
theorem dX4_any_62 : decode cX4_any 62 = .ok (.new 173, 3) := dk_187 0 173 (dk_at dksX4_any_2 14 rfl rfl)
theorem dX4_any_65 : decode cX4_any 65 = .ok (.dup, 1) := dk_89 (dk_at dksX4_any_2 17 rfl rfl)
theorem dX4_any_66 : decode cX4_any 66 = .ok (.aload_n 1, 1) := dk_43 (dk_at dksX4_any_2 18 rfl rfl)
theorem dX4_any_67 : decode cX4_any 67 = .ok (.invokespecial 175, 3) := dk_183 0 175 (dk_at dksX4_any_2 19 rfl rfl)
theorem dX4_any_70 : decode cX4_any 70 = .ok (.areturn, 1) := dk_176 (dk_at dksX4_any_2 22 rfl rfl)
abbrev cX4_all : ByteArray := prog_10_method_15_code
def yX4_all : MethodName := ⟨RX4, "all", "()LStruckCounts$Expr;"⟩
def dkwX4_all_2 : List UInt8 := [160, 0, 14, 43, 3, 182, 0, 168, 192, 0, 171, 167, 0, 11, 187, 0, 181, 89, 43, 183, 0, 183, 176]
abbrev dktX4_all_2 : List UInt8 := dkwX4_all_2 ++ []
def dkwX4_all_1 : List UInt8 := [153, 0, 19, 42, 182, 0, 29, 43, 42, 182, 0, 178, 182, 0, 163, 87, 167, 255, 234, 43, 182, 0, 166, 4]
abbrev dktX4_all_1 : List UInt8 := dkwX4_all_1 ++ dktX4_all_2
def dkwX4_all_0 : List UInt8 := [187, 0, 154, 89, 5, 183, 0, 156, 76, 43, 42, 182, 0, 178, 182, 0, 163, 87, 42, 16, 38, 182, 0, 108]
abbrev dktX4_all_0 : List UInt8 := dkwX4_all_0 ++ dktX4_all_1
theorem dksX4_all_0 : cX4_all.data.toList.drop 0 = dktX4_all_0 := by decide +kernel
theorem dksX4_all_1 : cX4_all.data.toList.drop 24 = dktX4_all_1 := dk_seg dksX4_all_0 24 rfl rfl
theorem dksX4_all_2 : cX4_all.data.toList.drop 48 = dktX4_all_2 := dk_seg dksX4_all_1 24 rfl rfl
theorem dX4_all_0 : decode cX4_all 0 = .ok (.new 154, 3) := dk_187 0 154 (dk_at dksX4_all_0 0 rfl rfl)
theorem dX4_all_3 : decode cX4_all 3 = .ok (.dup, 1) := dk_89 (dk_at dksX4_all_0 3 rfl rfl)
theorem dX4_all_4 : decode cX4_all 4 = .ok (.iconst 2, 1) := dk_5 (dk_at dksX4_all_0 4 rfl rfl)
theorem dX4_all_5 : decode cX4_all 5 = .ok (.invokespecial 156, 3) := dk_183 0 156 (dk_at dksX4_all_0 5 rfl rfl)
theorem dX4_all_8 : decode cX4_all 8 = .ok (.astore_n 1, 1) := dk_76 (dk_at dksX4_all_0 8 rfl rfl)
theorem dX4_all_9 : decode cX4_all 9 = .ok (.aload_n 1, 1) := dk_43 (dk_at dksX4_all_0 9 rfl rfl)
theorem dX4_all_10 : decode cX4_all 10 = .ok (.aload_n 0, 1) := dk_42 (dk_at dksX4_all_0 10 rfl rfl)
theorem dX4_all_11 : decode cX4_all 11 = .ok (.invokevirtual 178, 3) := dk_182 0 178 (dk_at dksX4_all_0 11 rfl rfl)
theorem dX4_all_14 : decode cX4_all 14 = .ok (.invokevirtual 163, 3) := dk_182 0 163 (dk_at dksX4_all_0 14 rfl rfl)
theorem dX4_all_17 : decode cX4_all 17 = .ok (.pop, 1) := dk_87 (dk_at dksX4_all_0 17 rfl rfl)
theorem dX4_all_18 : decode cX4_all 18 = .ok (.aload_n 0, 1) := dk_42 (dk_at dksX4_all_0 18 rfl rfl)
theorem dX4_all_19 : decode cX4_all 19 = .ok (.bipush 38, 2) := dk_16 38 (dk_at dksX4_all_0 19 rfl rfl)
theorem dX4_all_21 : decode cX4_all 21 = .ok (.invokevirtual 108, 3) := dk_182 0 108 (dk_at dksX4_all_0 21 rfl rfl)
theorem dX4_all_24 : decode cX4_all 24 = .ok (.ifCond .eq 19, 3) := dk_153 0 19 (dk_at dksX4_all_1 0 rfl rfl)
theorem dX4_all_27 : decode cX4_all 27 = .ok (.aload_n 0, 1) := dk_42 (dk_at dksX4_all_1 3 rfl rfl)
theorem dX4_all_28 : decode cX4_all 28 = .ok (.invokevirtual 29, 3) := dk_182 0 29 (dk_at dksX4_all_1 4 rfl rfl)
theorem dX4_all_31 : decode cX4_all 31 = .ok (.aload_n 1, 1) := dk_43 (dk_at dksX4_all_1 7 rfl rfl)
theorem dX4_all_32 : decode cX4_all 32 = .ok (.aload_n 0, 1) := dk_42 (dk_at dksX4_all_1 8 rfl rfl)
theorem dX4_all_33 : decode cX4_all 33 = .ok (.invokevirtual 178, 3) := dk_182 0 178 (dk_at dksX4_all_1 9 rfl rfl)
theorem dX4_all_36 : decode cX4_all 36 = .ok (.invokevirtual 163, 3) := dk_182 0 163 (dk_at dksX4_all_1 12 rfl rfl)
theorem dX4_all_39 : decode cX4_all 39 = .ok (.pop, 1) := dk_87 (dk_at dksX4_all_1 15 rfl rfl)
theorem dX4_all_40 : decode cX4_all 40 = .ok (.goto (-22), 3) := dk_167 255 234 (dk_at dksX4_all_1 16 rfl rfl)
theorem dX4_all_43 : decode cX4_all 43 = .ok (.aload_n 1, 1) := dk_43 (dk_at dksX4_all_1 19 rfl rfl)
theorem dX4_all_44 : decode cX4_all 44 = .ok (.invokevirtual 166, 3) := dk_182 0 166 (dk_at dksX4_all_1 20 rfl rfl)
theorem dX4_all_47 : decode cX4_all 47 = .ok (.iconst 1, 1) := dk_4 (dk_at dksX4_all_1 23 rfl rfl)
theorem dX4_all_48 : decode cX4_all 48 = .ok (.if_icmp .ne 14, 3) := dk_160 0 14 (dk_at dksX4_all_2 0 rfl rfl)
theorem dX4_all_51 : decode cX4_all 51 = .ok (.aload_n 1, 1) := dk_43 (dk_at dksX4_all_2 3 rfl rfl)
theorem dX4_all_52 : decode cX4_all 52 = .ok (.iconst 0, 1) := dk_3 (dk_at dksX4_all_2 4 rfl rfl)
theorem dX4_all_53 : decode cX4_all 53 = .ok (.invokevirtual 168, 3) := dk_182 0 168 (dk_at dksX4_all_2 5 rfl rfl)
theorem dX4_all_56 : decode cX4_all 56 = .ok (.checkcast 171, 3) := dk_192 0 171 (dk_at dksX4_all_2 8 rfl rfl)
theorem dX4_all_59 : decode cX4_all 59 = .ok (.goto 11, 3) := dk_167 0 11 (dk_at dksX4_all_2 11 rfl rfl)
theorem dX4_all_62 : decode cX4_all 62 = .ok (.new 181, 3) := dk_187 0 181 (dk_at dksX4_all_2 14 rfl rfl)
theorem dX4_all_65 : decode cX4_all 65 = .ok (.dup, 1) := dk_89 (dk_at dksX4_all_2 17 rfl rfl)
theorem dX4_all_66 : decode cX4_all 66 = .ok (.aload_n 1, 1) := dk_43 (dk_at dksX4_all_2 18 rfl rfl)
theorem dX4_all_67 : decode cX4_all 67 = .ok (.invokespecial 183, 3) := dk_183 0 183 (dk_at dksX4_all_2 19 rfl rfl)
theorem dX4_all_70 : decode cX4_all 70 = .ok (.areturn, 1) := dk_176 (dk_at dksX4_all_2 22 rfl rfl)
abbrev cX4_one : ByteArray := prog_10_method_17_code
def yX4_one : MethodName := ⟨RX4, "one", "()LStruckCounts$Expr;"⟩
def dkwX4_one_4 : List UInt8 := [42, 4, 182, 0, 208, 60, 42, 182, 0, 29, 187, 0, 212, 89, 27, 183, 0, 214, 176]
abbrev dktX4_one_4 : List UInt8 := dkwX4_one_4 ++ []
def dkwX4_one_3 : List UInt8 := [89, 180, 0, 184, 4, 100, 181, 0, 184, 43, 176, 42, 180, 0, 45, 5, 160, 0, 8, 42, 182, 0, 205, 176]
abbrev dktX4_one_3 : List UInt8 := dkwX4_one_3 ++ dktX4_one_4
def dkwX4_one_2 : List UInt8 := [16, 40, 182, 0, 108, 153, 0, 30, 42, 182, 0, 190, 42, 182, 0, 198, 76, 42, 16, 41, 182, 0, 201, 42]
abbrev dktX4_one_2 : List UInt8 := dkwX4_one_2 ++ dktX4_one_3
def dkwX4_one_1 : List UInt8 := [182, 0, 178, 76, 42, 89, 180, 0, 184, 4, 100, 181, 0, 184, 187, 0, 193, 89, 43, 183, 0, 195, 176, 42]
abbrev dktX4_one_1 : List UInt8 := dkwX4_one_1 ++ dktX4_one_2
def dkwX4_one_0 : List UInt8 := [42, 42, 182, 0, 187, 4, 182, 0, 112, 42, 16, 33, 182, 0, 108, 153, 0, 31, 42, 182, 0, 190, 42]
abbrev dktX4_one_0 : List UInt8 := dkwX4_one_0 ++ dktX4_one_1
theorem dksX4_one_0 : cX4_one.data.toList.drop 0 = dktX4_one_0 := by decide +kernel
theorem dksX4_one_1 : cX4_one.data.toList.drop 23 = dktX4_one_1 := dk_seg dksX4_one_0 23 rfl rfl
theorem dksX4_one_2 : cX4_one.data.toList.drop 47 = dktX4_one_2 := dk_seg dksX4_one_1 24 rfl rfl
theorem dksX4_one_3 : cX4_one.data.toList.drop 71 = dktX4_one_3 := dk_seg dksX4_one_2 24 rfl rfl
theorem dksX4_one_4 : cX4_one.data.toList.drop 95 = dktX4_one_4 := dk_seg dksX4_one_3 24 rfl rfl
theorem dX4_one_0 : decode cX4_one 0 = .ok (.aload_n 0, 1) := dk_42 (dk_at dksX4_one_0 0 rfl rfl)
theorem dX4_one_1 : decode cX4_one 1 = .ok (.aload_n 0, 1) := dk_42 (dk_at dksX4_one_0 1 rfl rfl)
theorem dX4_one_2 : decode cX4_one 2 = .ok (.invokevirtual 187, 3) := dk_182 0 187 (dk_at dksX4_one_0 2 rfl rfl)
theorem dX4_one_5 : decode cX4_one 5 = .ok (.iconst 1, 1) := dk_4 (dk_at dksX4_one_0 5 rfl rfl)
theorem dX4_one_6 : decode cX4_one 6 = .ok (.invokevirtual 112, 3) := dk_182 0 112 (dk_at dksX4_one_0 6 rfl rfl)
theorem dX4_one_9 : decode cX4_one 9 = .ok (.aload_n 0, 1) := dk_42 (dk_at dksX4_one_0 9 rfl rfl)
theorem dX4_one_10 : decode cX4_one 10 = .ok (.bipush 33, 2) := dk_16 33 (dk_at dksX4_one_0 10 rfl rfl)
theorem dX4_one_12 : decode cX4_one 12 = .ok (.invokevirtual 108, 3) := dk_182 0 108 (dk_at dksX4_one_0 12 rfl rfl)
theorem dX4_one_15 : decode cX4_one 15 = .ok (.ifCond .eq 31, 3) := dk_153 0 31 (dk_at dksX4_one_0 15 rfl rfl)
theorem dX4_one_18 : decode cX4_one 18 = .ok (.aload_n 0, 1) := dk_42 (dk_at dksX4_one_0 18 rfl rfl)
theorem dX4_one_19 : decode cX4_one 19 = .ok (.invokevirtual 190, 3) := dk_182 0 190 (dk_at dksX4_one_0 19 rfl rfl)
theorem dX4_one_22 : decode cX4_one 22 = .ok (.aload_n 0, 1) := dk_42 (dk_at dksX4_one_0 22 rfl rfl)
theorem dX4_one_23 : decode cX4_one 23 = .ok (.invokevirtual 178, 3) := dk_182 0 178 (dk_at dksX4_one_1 0 rfl rfl)
theorem dX4_one_26 : decode cX4_one 26 = .ok (.astore_n 1, 1) := dk_76 (dk_at dksX4_one_1 3 rfl rfl)
theorem dX4_one_27 : decode cX4_one 27 = .ok (.aload_n 0, 1) := dk_42 (dk_at dksX4_one_1 4 rfl rfl)
theorem dX4_one_28 : decode cX4_one 28 = .ok (.dup, 1) := dk_89 (dk_at dksX4_one_1 5 rfl rfl)
theorem dX4_one_29 : decode cX4_one 29 = .ok (.getfield 184, 3) := dk_180 0 184 (dk_at dksX4_one_1 6 rfl rfl)
theorem dX4_one_32 : decode cX4_one 32 = .ok (.iconst 1, 1) := dk_4 (dk_at dksX4_one_1 9 rfl rfl)
theorem dX4_one_33 : decode cX4_one 33 = .ok (.isub, 1) := dk_100 (dk_at dksX4_one_1 10 rfl rfl)
theorem dX4_one_34 : decode cX4_one 34 = .ok (.putfield 184, 3) := dk_181 0 184 (dk_at dksX4_one_1 11 rfl rfl)
theorem dX4_one_37 : decode cX4_one 37 = .ok (.new 193, 3) := dk_187 0 193 (dk_at dksX4_one_1 14 rfl rfl)
theorem dX4_one_40 : decode cX4_one 40 = .ok (.dup, 1) := dk_89 (dk_at dksX4_one_1 17 rfl rfl)
theorem dX4_one_41 : decode cX4_one 41 = .ok (.aload_n 1, 1) := dk_43 (dk_at dksX4_one_1 18 rfl rfl)
theorem dX4_one_42 : decode cX4_one 42 = .ok (.invokespecial 195, 3) := dk_183 0 195 (dk_at dksX4_one_1 19 rfl rfl)
theorem dX4_one_45 : decode cX4_one 45 = .ok (.areturn, 1) := dk_176 (dk_at dksX4_one_1 22 rfl rfl)
theorem dX4_one_46 : decode cX4_one 46 = .ok (.aload_n 0, 1) := dk_42 (dk_at dksX4_one_1 23 rfl rfl)
theorem dX4_one_47 : decode cX4_one 47 = .ok (.bipush 40, 2) := dk_16 40 (dk_at dksX4_one_2 0 rfl rfl)
theorem dX4_one_49 : decode cX4_one 49 = .ok (.invokevirtual 108, 3) := dk_182 0 108 (dk_at dksX4_one_2 2 rfl rfl)
theorem dX4_one_52 : decode cX4_one 52 = .ok (.ifCond .eq 30, 3) := dk_153 0 30 (dk_at dksX4_one_2 5 rfl rfl)
theorem dX4_one_55 : decode cX4_one 55 = .ok (.aload_n 0, 1) := dk_42 (dk_at dksX4_one_2 8 rfl rfl)
theorem dX4_one_56 : decode cX4_one 56 = .ok (.invokevirtual 190, 3) := dk_182 0 190 (dk_at dksX4_one_2 9 rfl rfl)
theorem dX4_one_59 : decode cX4_one 59 = .ok (.aload_n 0, 1) := dk_42 (dk_at dksX4_one_2 12 rfl rfl)
theorem dX4_one_60 : decode cX4_one 60 = .ok (.invokevirtual 198, 3) := dk_182 0 198 (dk_at dksX4_one_2 13 rfl rfl)
theorem dX4_one_63 : decode cX4_one 63 = .ok (.astore_n 1, 1) := dk_76 (dk_at dksX4_one_2 16 rfl rfl)
theorem dX4_one_64 : decode cX4_one 64 = .ok (.aload_n 0, 1) := dk_42 (dk_at dksX4_one_2 17 rfl rfl)
theorem dX4_one_65 : decode cX4_one 65 = .ok (.bipush 41, 2) := dk_16 41 (dk_at dksX4_one_2 18 rfl rfl)
theorem dX4_one_67 : decode cX4_one 67 = .ok (.invokevirtual 201, 3) := dk_182 0 201 (dk_at dksX4_one_2 20 rfl rfl)
theorem dX4_one_70 : decode cX4_one 70 = .ok (.aload_n 0, 1) := dk_42 (dk_at dksX4_one_2 23 rfl rfl)
theorem dX4_one_71 : decode cX4_one 71 = .ok (.dup, 1) := dk_89 (dk_at dksX4_one_3 0 rfl rfl)
theorem dX4_one_72 : decode cX4_one 72 = .ok (.getfield 184, 3) := dk_180 0 184 (dk_at dksX4_one_3 1 rfl rfl)
theorem dX4_one_75 : decode cX4_one 75 = .ok (.iconst 1, 1) := dk_4 (dk_at dksX4_one_3 4 rfl rfl)
theorem dX4_one_76 : decode cX4_one 76 = .ok (.isub, 1) := dk_100 (dk_at dksX4_one_3 5 rfl rfl)
theorem dX4_one_77 : decode cX4_one 77 = .ok (.putfield 184, 3) := dk_181 0 184 (dk_at dksX4_one_3 6 rfl rfl)
theorem dX4_one_80 : decode cX4_one 80 = .ok (.aload_n 1, 1) := dk_43 (dk_at dksX4_one_3 9 rfl rfl)
theorem dX4_one_81 : decode cX4_one 81 = .ok (.areturn, 1) := dk_176 (dk_at dksX4_one_3 10 rfl rfl)
theorem dX4_one_82 : decode cX4_one 82 = .ok (.aload_n 0, 1) := dk_42 (dk_at dksX4_one_3 11 rfl rfl)
theorem dX4_one_83 : decode cX4_one 83 = .ok (.getfield 45, 3) := dk_180 0 45 (dk_at dksX4_one_3 12 rfl rfl)
theorem dX4_one_86 : decode cX4_one 86 = .ok (.iconst 2, 1) := dk_5 (dk_at dksX4_one_3 15 rfl rfl)
theorem dX4_one_87 : decode cX4_one 87 = .ok (.if_icmp .ne 8, 3) := dk_160 0 8 (dk_at dksX4_one_3 16 rfl rfl)
theorem dX4_one_90 : decode cX4_one 90 = .ok (.aload_n 0, 1) := dk_42 (dk_at dksX4_one_3 19 rfl rfl)
theorem dX4_one_91 : decode cX4_one 91 = .ok (.invokevirtual 205, 3) := dk_182 0 205 (dk_at dksX4_one_3 20 rfl rfl)
theorem dX4_one_94 : decode cX4_one 94 = .ok (.areturn, 1) := dk_176 (dk_at dksX4_one_3 23 rfl rfl)
theorem dX4_one_95 : decode cX4_one 95 = .ok (.aload_n 0, 1) := dk_42 (dk_at dksX4_one_4 0 rfl rfl)
theorem dX4_one_96 : decode cX4_one 96 = .ok (.iconst 1, 1) := dk_4 (dk_at dksX4_one_4 1 rfl rfl)
theorem dX4_one_97 : decode cX4_one 97 = .ok (.invokevirtual 208, 3) := dk_182 0 208 (dk_at dksX4_one_4 2 rfl rfl)
theorem dX4_one_100 : decode cX4_one 100 = .ok (.istore_n 1, 1) := dk_60 (dk_at dksX4_one_4 5 rfl rfl)
theorem dX4_one_101 : decode cX4_one 101 = .ok (.aload_n 0, 1) := dk_42 (dk_at dksX4_one_4 6 rfl rfl)
theorem dX4_one_102 : decode cX4_one 102 = .ok (.invokevirtual 29, 3) := dk_182 0 29 (dk_at dksX4_one_4 7 rfl rfl)
theorem dX4_one_105 : decode cX4_one 105 = .ok (.new 212, 3) := dk_187 0 212 (dk_at dksX4_one_4 10 rfl rfl)
theorem dX4_one_108 : decode cX4_one 108 = .ok (.dup, 1) := dk_89 (dk_at dksX4_one_4 13 rfl rfl)
theorem dX4_one_109 : decode cX4_one 109 = .ok (.iload_n 1, 1) := dk_27 (dk_at dksX4_one_4 14 rfl rfl)
theorem dX4_one_110 : decode cX4_one 110 = .ok (.invokespecial 214, 3) := dk_183 0 214 (dk_at dksX4_one_4 15 rfl rfl)
theorem dX4_one_113 : decode cX4_one 113 = .ok (.areturn, 1) := dk_176 (dk_at dksX4_one_4 18 rfl rfl)
abbrev cX4_begins : ByteArray := prog_10_method_13_code
def yX4_begins : MethodName := ⟨RX4, "begins", "()Z"⟩
def dkwX4_begins_1 : List UInt8 := [159, 0, 10, 42, 182, 0, 120, 153, 0, 7, 4, 167, 0, 4, 3, 172]
abbrev dktX4_begins_1 : List UInt8 := dkwX4_begins_1 ++ []
def dkwX4_begins_0 : List UInt8 := [42, 16, 33, 182, 0, 108, 154, 0, 27, 42, 16, 40, 182, 0, 108, 154, 0, 18, 42, 180, 0, 45, 5]
abbrev dktX4_begins_0 : List UInt8 := dkwX4_begins_0 ++ dktX4_begins_1
theorem dksX4_begins_0 : cX4_begins.data.toList.drop 0 = dktX4_begins_0 := by decide +kernel
theorem dksX4_begins_1 : cX4_begins.data.toList.drop 23 = dktX4_begins_1 := dk_seg dksX4_begins_0 23 rfl rfl
theorem dX4_begins_0 : decode cX4_begins 0 = .ok (.aload_n 0, 1) := dk_42 (dk_at dksX4_begins_0 0 rfl rfl)
theorem dX4_begins_1 : decode cX4_begins 1 = .ok (.bipush 33, 2) := dk_16 33 (dk_at dksX4_begins_0 1 rfl rfl)
theorem dX4_begins_3 : decode cX4_begins 3 = .ok (.invokevirtual 108, 3) := dk_182 0 108 (dk_at dksX4_begins_0 3 rfl rfl)
theorem dX4_begins_6 : decode cX4_begins 6 = .ok (.ifCond .ne 27, 3) := dk_154 0 27 (dk_at dksX4_begins_0 6 rfl rfl)
theorem dX4_begins_9 : decode cX4_begins 9 = .ok (.aload_n 0, 1) := dk_42 (dk_at dksX4_begins_0 9 rfl rfl)
theorem dX4_begins_10 : decode cX4_begins 10 = .ok (.bipush 40, 2) := dk_16 40 (dk_at dksX4_begins_0 10 rfl rfl)
theorem dX4_begins_12 : decode cX4_begins 12 = .ok (.invokevirtual 108, 3) := dk_182 0 108 (dk_at dksX4_begins_0 12 rfl rfl)
theorem dX4_begins_15 : decode cX4_begins 15 = .ok (.ifCond .ne 18, 3) := dk_154 0 18 (dk_at dksX4_begins_0 15 rfl rfl)
theorem dX4_begins_18 : decode cX4_begins 18 = .ok (.aload_n 0, 1) := dk_42 (dk_at dksX4_begins_0 18 rfl rfl)
theorem dX4_begins_19 : decode cX4_begins 19 = .ok (.getfield 45, 3) := dk_180 0 45 (dk_at dksX4_begins_0 19 rfl rfl)
theorem dX4_begins_22 : decode cX4_begins 22 = .ok (.iconst 2, 1) := dk_5 (dk_at dksX4_begins_0 22 rfl rfl)
theorem dX4_begins_23 : decode cX4_begins 23 = .ok (.if_icmp .eq 10, 3) := dk_159 0 10 (dk_at dksX4_begins_1 0 rfl rfl)
theorem dX4_begins_26 : decode cX4_begins 26 = .ok (.aload_n 0, 1) := dk_42 (dk_at dksX4_begins_1 3 rfl rfl)
theorem dX4_begins_27 : decode cX4_begins 27 = .ok (.invokevirtual 120, 3) := dk_182 0 120 (dk_at dksX4_begins_1 4 rfl rfl)
theorem dX4_begins_30 : decode cX4_begins 30 = .ok (.ifCond .eq 7, 3) := dk_153 0 7 (dk_at dksX4_begins_1 7 rfl rfl)
theorem dX4_begins_33 : decode cX4_begins 33 = .ok (.iconst 1, 1) := dk_4 (dk_at dksX4_begins_1 10 rfl rfl)
theorem dX4_begins_34 : decode cX4_begins 34 = .ok (.goto 4, 3) := dk_167 0 4 (dk_at dksX4_begins_1 11 rfl rfl)
theorem dX4_begins_37 : decode cX4_begins 37 = .ok (.iconst 0, 1) := dk_3 (dk_at dksX4_begins_1 14 rfl rfl)
theorem dX4_begins_38 : decode cX4_begins 38 = .ok (.ireturn, 1) := dk_172 (dk_at dksX4_begins_1 15 rfl rfl)
abbrev cX4_isSign : ByteArray := prog_10_method_5_code
def yX4_isSign : MethodName := ⟨RX4, "isSign", "(C)Z"⟩
def dkwX4_isSign_1 : List UInt8 := [160, 0, 7, 4, 167, 0, 4, 3, 172]
abbrev dktX4_isSign_1 : List UInt8 := dkwX4_isSign_1 ++ []
def dkwX4_isSign_0 : List UInt8 := [42, 180, 0, 45, 6, 160, 0, 24, 42, 180, 0, 17, 42, 180, 0, 39, 51, 17, 0, 255, 126, 27]
abbrev dktX4_isSign_0 : List UInt8 := dkwX4_isSign_0 ++ dktX4_isSign_1
theorem dksX4_isSign_0 : cX4_isSign.data.toList.drop 0 = dktX4_isSign_0 := by decide +kernel
theorem dksX4_isSign_1 : cX4_isSign.data.toList.drop 22 = dktX4_isSign_1 := dk_seg dksX4_isSign_0 22 rfl rfl
theorem dX4_isSign_0 : decode cX4_isSign 0 = .ok (.aload_n 0, 1) := dk_42 (dk_at dksX4_isSign_0 0 rfl rfl)
theorem dX4_isSign_1 : decode cX4_isSign 1 = .ok (.getfield 45, 3) := dk_180 0 45 (dk_at dksX4_isSign_0 1 rfl rfl)
theorem dX4_isSign_4 : decode cX4_isSign 4 = .ok (.iconst 3, 1) := dk_6 (dk_at dksX4_isSign_0 4 rfl rfl)
theorem dX4_isSign_5 : decode cX4_isSign 5 = .ok (.if_icmp .ne 24, 3) := dk_160 0 24 (dk_at dksX4_isSign_0 5 rfl rfl)
theorem dX4_isSign_8 : decode cX4_isSign 8 = .ok (.aload_n 0, 1) := dk_42 (dk_at dksX4_isSign_0 8 rfl rfl)
theorem dX4_isSign_9 : decode cX4_isSign 9 = .ok (.getfield 17, 3) := dk_180 0 17 (dk_at dksX4_isSign_0 9 rfl rfl)
theorem dX4_isSign_12 : decode cX4_isSign 12 = .ok (.aload_n 0, 1) := dk_42 (dk_at dksX4_isSign_0 12 rfl rfl)
theorem dX4_isSign_13 : decode cX4_isSign 13 = .ok (.getfield 39, 3) := dk_180 0 39 (dk_at dksX4_isSign_0 13 rfl rfl)
theorem dX4_isSign_16 : decode cX4_isSign 16 = .ok (.baload, 1) := dk_51 (dk_at dksX4_isSign_0 16 rfl rfl)
theorem dX4_isSign_17 : decode cX4_isSign 17 = .ok (.sipush 255, 3) := dk_17 0 255 (dk_at dksX4_isSign_0 17 rfl rfl)
theorem dX4_isSign_20 : decode cX4_isSign 20 = .ok (.iand, 1) := dk_126 (dk_at dksX4_isSign_0 20 rfl rfl)
theorem dX4_isSign_21 : decode cX4_isSign 21 = .ok (.iload_n 1, 1) := dk_27 (dk_at dksX4_isSign_0 21 rfl rfl)
theorem dX4_isSign_22 : decode cX4_isSign 22 = .ok (.if_icmp .ne 7, 3) := dk_160 0 7 (dk_at dksX4_isSign_1 0 rfl rfl)
theorem dX4_isSign_25 : decode cX4_isSign 25 = .ok (.iconst 1, 1) := dk_4 (dk_at dksX4_isSign_1 3 rfl rfl)
theorem dX4_isSign_26 : decode cX4_isSign 26 = .ok (.goto 4, 3) := dk_167 0 4 (dk_at dksX4_isSign_1 4 rfl rfl)
theorem dX4_isSign_29 : decode cX4_isSign 29 = .ok (.iconst 0, 1) := dk_3 (dk_at dksX4_isSign_1 7 rfl rfl)
theorem dX4_isSign_30 : decode cX4_isSign 30 = .ok (.ireturn, 1) := dk_172 (dk_at dksX4_isSign_1 8 rfl rfl)
abbrev cX4_opens : ByteArray := prog_10_method_16_code
def yX4_opens : MethodName := ⟨RX4, "opens", "()V"⟩
def dkwX4_opens_1 : List UInt8 := [96, 181, 0, 184, 42, 182, 0, 29, 177]
abbrev dktX4_opens_1 : List UInt8 := dkwX4_opens_1 ++ []
def dkwX4_opens_0 : List UInt8 := [42, 42, 180, 0, 184, 8, 162, 0, 7, 4, 167, 0, 4, 3, 7, 182, 0, 112, 42, 89, 180, 0, 184, 4]
abbrev dktX4_opens_0 : List UInt8 := dkwX4_opens_0 ++ dktX4_opens_1
theorem dksX4_opens_0 : cX4_opens.data.toList.drop 0 = dktX4_opens_0 := by decide +kernel
theorem dksX4_opens_1 : cX4_opens.data.toList.drop 24 = dktX4_opens_1 := dk_seg dksX4_opens_0 24 rfl rfl
theorem dX4_opens_0 : decode cX4_opens 0 = .ok (.aload_n 0, 1) := dk_42 (dk_at dksX4_opens_0 0 rfl rfl)
theorem dX4_opens_1 : decode cX4_opens 1 = .ok (.aload_n 0, 1) := dk_42 (dk_at dksX4_opens_0 1 rfl rfl)
theorem dX4_opens_2 : decode cX4_opens 2 = .ok (.getfield 184, 3) := dk_180 0 184 (dk_at dksX4_opens_0 2 rfl rfl)
theorem dX4_opens_5 : decode cX4_opens 5 = .ok (.iconst 5, 1) := dk_8 (dk_at dksX4_opens_0 5 rfl rfl)
theorem dX4_opens_6 : decode cX4_opens 6 = .ok (.if_icmp .ge 7, 3) := dk_162 0 7 (dk_at dksX4_opens_0 6 rfl rfl)
theorem dX4_opens_9 : decode cX4_opens 9 = .ok (.iconst 1, 1) := dk_4 (dk_at dksX4_opens_0 9 rfl rfl)
theorem dX4_opens_10 : decode cX4_opens 10 = .ok (.goto 4, 3) := dk_167 0 4 (dk_at dksX4_opens_0 10 rfl rfl)
theorem dX4_opens_13 : decode cX4_opens 13 = .ok (.iconst 0, 1) := dk_3 (dk_at dksX4_opens_0 13 rfl rfl)
theorem dX4_opens_14 : decode cX4_opens 14 = .ok (.iconst 4, 1) := dk_7 (dk_at dksX4_opens_0 14 rfl rfl)
theorem dX4_opens_15 : decode cX4_opens 15 = .ok (.invokevirtual 112, 3) := dk_182 0 112 (dk_at dksX4_opens_0 15 rfl rfl)
theorem dX4_opens_18 : decode cX4_opens 18 = .ok (.aload_n 0, 1) := dk_42 (dk_at dksX4_opens_0 18 rfl rfl)
theorem dX4_opens_19 : decode cX4_opens 19 = .ok (.dup, 1) := dk_89 (dk_at dksX4_opens_0 19 rfl rfl)
theorem dX4_opens_20 : decode cX4_opens 20 = .ok (.getfield 184, 3) := dk_180 0 184 (dk_at dksX4_opens_0 20 rfl rfl)
theorem dX4_opens_23 : decode cX4_opens 23 = .ok (.iconst 1, 1) := dk_4 (dk_at dksX4_opens_0 23 rfl rfl)
theorem dX4_opens_24 : decode cX4_opens 24 = .ok (.iadd, 1) := dk_96 (dk_at dksX4_opens_1 0 rfl rfl)
theorem dX4_opens_25 : decode cX4_opens 25 = .ok (.putfield 184, 3) := dk_181 0 184 (dk_at dksX4_opens_1 1 rfl rfl)
theorem dX4_opens_28 : decode cX4_opens 28 = .ok (.aload_n 0, 1) := dk_42 (dk_at dksX4_opens_1 4 rfl rfl)
theorem dX4_opens_29 : decode cX4_opens 29 = .ok (.invokevirtual 29, 3) := dk_182 0 29 (dk_at dksX4_opens_1 5 rfl rfl)
theorem dX4_opens_32 : decode cX4_opens 32 = .ok (.return_, 1) := dk_177 (dk_at dksX4_opens_1 8 rfl rfl)
abbrev cX4_sign : ByteArray := prog_10_method_8_code
def yX4_sign : MethodName := ⟨RX4, "sign", "(C)V"⟩
def dkwX4_sign_0 : List UInt8 := [42, 42, 27, 182, 0, 108, 4, 182, 0, 112, 42, 182, 0, 29, 177]
abbrev dktX4_sign_0 : List UInt8 := dkwX4_sign_0 ++ []
theorem dksX4_sign_0 : cX4_sign.data.toList.drop 0 = dktX4_sign_0 := by decide +kernel
theorem dX4_sign_0 : decode cX4_sign 0 = .ok (.aload_n 0, 1) := dk_42 (dk_at dksX4_sign_0 0 rfl rfl)
theorem dX4_sign_1 : decode cX4_sign 1 = .ok (.aload_n 0, 1) := dk_42 (dk_at dksX4_sign_0 1 rfl rfl)
theorem dX4_sign_2 : decode cX4_sign 2 = .ok (.iload_n 1, 1) := dk_27 (dk_at dksX4_sign_0 2 rfl rfl)
theorem dX4_sign_3 : decode cX4_sign 3 = .ok (.invokevirtual 108, 3) := dk_182 0 108 (dk_at dksX4_sign_0 3 rfl rfl)
theorem dX4_sign_6 : decode cX4_sign 6 = .ok (.iconst 1, 1) := dk_4 (dk_at dksX4_sign_0 6 rfl rfl)
theorem dX4_sign_7 : decode cX4_sign 7 = .ok (.invokevirtual 112, 3) := dk_182 0 112 (dk_at dksX4_sign_0 7 rfl rfl)
theorem dX4_sign_10 : decode cX4_sign 10 = .ok (.aload_n 0, 1) := dk_42 (dk_at dksX4_sign_0 10 rfl rfl)
theorem dX4_sign_11 : decode cX4_sign 11 = .ok (.invokevirtual 29, 3) := dk_182 0 29 (dk_at dksX4_sign_0 11 rfl rfl)
theorem dX4_sign_14 : decode cX4_sign 14 = .ok (.return_, 1) := dk_177 (dk_at dksX4_sign_0 14 rfl rfl)
abbrev cX4_many : ByteArray := prog_10_method_18_code
def yX4_many : MethodName := ⟨RX4, "many", "()LStruckCounts$Expr;"⟩
def dkwX4_many_4 : List UInt8 := [180, 0, 184, 4, 100, 181, 0, 184, 187, 0, 225, 89, 27, 44, 183, 0, 227, 176]
abbrev dktX4_many_4 : List UInt8 := dkwX4_many_4 ++ []
def dkwX4_many_3 : List UInt8 := [182, 0, 222, 44, 42, 182, 0, 198, 182, 0, 163, 87, 167, 255, 221, 42, 16, 41, 182, 0, 201, 42, 89]
abbrev dktX4_many_3 : List UInt8 := dkwX4_many_3 ++ dktX4_many_4
def dkwX4_many_2 : List UInt8 := [87, 42, 16, 44, 182, 0, 108, 153, 0, 32, 42, 182, 0, 29, 44, 182, 0, 166, 16, 6, 160, 0, 7, 42]
abbrev dktX4_many_2 : List UInt8 := dkwX4_many_2 ++ dktX4_many_3
def dkwX4_many_1 : List UInt8 := [182, 0, 112, 42, 182, 0, 190, 187, 0, 154, 89, 7, 183, 0, 156, 77, 44, 42, 182, 0, 198, 182, 0, 163]
abbrev dktX4_many_1 : List UInt8 := dkwX4_many_1 ++ dktX4_many_2
def dkwX4_many_0 : List UInt8 := [42, 3, 16, 6, 182, 0, 215, 60, 42, 18, 106, 182, 0, 218, 42, 42, 16, 40, 182, 0, 108, 4]
abbrev dktX4_many_0 : List UInt8 := dkwX4_many_0 ++ dktX4_many_1
theorem dksX4_many_0 : cX4_many.data.toList.drop 0 = dktX4_many_0 := by decide +kernel
theorem dksX4_many_1 : cX4_many.data.toList.drop 22 = dktX4_many_1 := dk_seg dksX4_many_0 22 rfl rfl
theorem dksX4_many_2 : cX4_many.data.toList.drop 46 = dktX4_many_2 := dk_seg dksX4_many_1 24 rfl rfl
theorem dksX4_many_3 : cX4_many.data.toList.drop 70 = dktX4_many_3 := dk_seg dksX4_many_2 24 rfl rfl
theorem dksX4_many_4 : cX4_many.data.toList.drop 93 = dktX4_many_4 := dk_seg dksX4_many_3 23 rfl rfl
theorem dX4_many_0 : decode cX4_many 0 = .ok (.aload_n 0, 1) := dk_42 (dk_at dksX4_many_0 0 rfl rfl)
theorem dX4_many_1 : decode cX4_many 1 = .ok (.iconst 0, 1) := dk_3 (dk_at dksX4_many_0 1 rfl rfl)
theorem dX4_many_2 : decode cX4_many 2 = .ok (.bipush 6, 2) := dk_16 6 (dk_at dksX4_many_0 2 rfl rfl)
theorem dX4_many_4 : decode cX4_many 4 = .ok (.invokevirtual 215, 3) := dk_182 0 215 (dk_at dksX4_many_0 4 rfl rfl)
theorem dX4_many_7 : decode cX4_many 7 = .ok (.istore_n 1, 1) := dk_60 (dk_at dksX4_many_0 7 rfl rfl)
theorem dX4_many_8 : decode cX4_many 8 = .ok (.aload_n 0, 1) := dk_42 (dk_at dksX4_many_0 8 rfl rfl)
theorem dX4_many_9 : decode cX4_many 9 = .ok (.ldc 106, 2) := dk_18 106 (dk_at dksX4_many_0 9 rfl rfl)
theorem dX4_many_11 : decode cX4_many 11 = .ok (.invokevirtual 218, 3) := dk_182 0 218 (dk_at dksX4_many_0 11 rfl rfl)
theorem dX4_many_14 : decode cX4_many 14 = .ok (.aload_n 0, 1) := dk_42 (dk_at dksX4_many_0 14 rfl rfl)
theorem dX4_many_15 : decode cX4_many 15 = .ok (.aload_n 0, 1) := dk_42 (dk_at dksX4_many_0 15 rfl rfl)
theorem dX4_many_16 : decode cX4_many 16 = .ok (.bipush 40, 2) := dk_16 40 (dk_at dksX4_many_0 16 rfl rfl)
theorem dX4_many_18 : decode cX4_many 18 = .ok (.invokevirtual 108, 3) := dk_182 0 108 (dk_at dksX4_many_0 18 rfl rfl)
theorem dX4_many_21 : decode cX4_many 21 = .ok (.iconst 1, 1) := dk_4 (dk_at dksX4_many_0 21 rfl rfl)
theorem dX4_many_22 : decode cX4_many 22 = .ok (.invokevirtual 112, 3) := dk_182 0 112 (dk_at dksX4_many_1 0 rfl rfl)
theorem dX4_many_25 : decode cX4_many 25 = .ok (.aload_n 0, 1) := dk_42 (dk_at dksX4_many_1 3 rfl rfl)
theorem dX4_many_26 : decode cX4_many 26 = .ok (.invokevirtual 190, 3) := dk_182 0 190 (dk_at dksX4_many_1 4 rfl rfl)
theorem dX4_many_29 : decode cX4_many 29 = .ok (.new 154, 3) := dk_187 0 154 (dk_at dksX4_many_1 7 rfl rfl)
theorem dX4_many_32 : decode cX4_many 32 = .ok (.dup, 1) := dk_89 (dk_at dksX4_many_1 10 rfl rfl)
theorem dX4_many_33 : decode cX4_many 33 = .ok (.iconst 4, 1) := dk_7 (dk_at dksX4_many_1 11 rfl rfl)
theorem dX4_many_34 : decode cX4_many 34 = .ok (.invokespecial 156, 3) := dk_183 0 156 (dk_at dksX4_many_1 12 rfl rfl)
theorem dX4_many_37 : decode cX4_many 37 = .ok (.astore_n 2, 1) := dk_77 (dk_at dksX4_many_1 15 rfl rfl)
theorem dX4_many_38 : decode cX4_many 38 = .ok (.aload_n 2, 1) := dk_44 (dk_at dksX4_many_1 16 rfl rfl)
theorem dX4_many_39 : decode cX4_many 39 = .ok (.aload_n 0, 1) := dk_42 (dk_at dksX4_many_1 17 rfl rfl)
theorem dX4_many_40 : decode cX4_many 40 = .ok (.invokevirtual 198, 3) := dk_182 0 198 (dk_at dksX4_many_1 18 rfl rfl)
theorem dX4_many_43 : decode cX4_many 43 = .ok (.invokevirtual 163, 3) := dk_182 0 163 (dk_at dksX4_many_1 21 rfl rfl)
theorem dX4_many_46 : decode cX4_many 46 = .ok (.pop, 1) := dk_87 (dk_at dksX4_many_2 0 rfl rfl)
theorem dX4_many_47 : decode cX4_many 47 = .ok (.aload_n 0, 1) := dk_42 (dk_at dksX4_many_2 1 rfl rfl)
theorem dX4_many_48 : decode cX4_many 48 = .ok (.bipush 44, 2) := dk_16 44 (dk_at dksX4_many_2 2 rfl rfl)
theorem dX4_many_50 : decode cX4_many 50 = .ok (.invokevirtual 108, 3) := dk_182 0 108 (dk_at dksX4_many_2 4 rfl rfl)
theorem dX4_many_53 : decode cX4_many 53 = .ok (.ifCond .eq 32, 3) := dk_153 0 32 (dk_at dksX4_many_2 7 rfl rfl)
theorem dX4_many_56 : decode cX4_many 56 = .ok (.aload_n 0, 1) := dk_42 (dk_at dksX4_many_2 10 rfl rfl)
theorem dX4_many_57 : decode cX4_many 57 = .ok (.invokevirtual 29, 3) := dk_182 0 29 (dk_at dksX4_many_2 11 rfl rfl)
theorem dX4_many_60 : decode cX4_many 60 = .ok (.aload_n 2, 1) := dk_44 (dk_at dksX4_many_2 14 rfl rfl)
theorem dX4_many_61 : decode cX4_many 61 = .ok (.invokevirtual 166, 3) := dk_182 0 166 (dk_at dksX4_many_2 15 rfl rfl)
theorem dX4_many_64 : decode cX4_many 64 = .ok (.bipush 6, 2) := dk_16 6 (dk_at dksX4_many_2 18 rfl rfl)
theorem dX4_many_66 : decode cX4_many 66 = .ok (.if_icmp .ne 7, 3) := dk_160 0 7 (dk_at dksX4_many_2 20 rfl rfl)
theorem dX4_many_69 : decode cX4_many 69 = .ok (.aload_n 0, 1) := dk_42 (dk_at dksX4_many_2 23 rfl rfl)
theorem dX4_many_70 : decode cX4_many 70 = .ok (.invokevirtual 222, 3) := dk_182 0 222 (dk_at dksX4_many_3 0 rfl rfl)
theorem dX4_many_73 : decode cX4_many 73 = .ok (.aload_n 2, 1) := dk_44 (dk_at dksX4_many_3 3 rfl rfl)
theorem dX4_many_74 : decode cX4_many 74 = .ok (.aload_n 0, 1) := dk_42 (dk_at dksX4_many_3 4 rfl rfl)
theorem dX4_many_75 : decode cX4_many 75 = .ok (.invokevirtual 198, 3) := dk_182 0 198 (dk_at dksX4_many_3 5 rfl rfl)
theorem dX4_many_78 : decode cX4_many 78 = .ok (.invokevirtual 163, 3) := dk_182 0 163 (dk_at dksX4_many_3 8 rfl rfl)
theorem dX4_many_81 : decode cX4_many 81 = .ok (.pop, 1) := dk_87 (dk_at dksX4_many_3 11 rfl rfl)
theorem dX4_many_82 : decode cX4_many 82 = .ok (.goto (-35), 3) := dk_167 255 221 (dk_at dksX4_many_3 12 rfl rfl)
theorem dX4_many_85 : decode cX4_many 85 = .ok (.aload_n 0, 1) := dk_42 (dk_at dksX4_many_3 15 rfl rfl)
theorem dX4_many_86 : decode cX4_many 86 = .ok (.bipush 41, 2) := dk_16 41 (dk_at dksX4_many_3 16 rfl rfl)
theorem dX4_many_88 : decode cX4_many 88 = .ok (.invokevirtual 201, 3) := dk_182 0 201 (dk_at dksX4_many_3 18 rfl rfl)
theorem dX4_many_91 : decode cX4_many 91 = .ok (.aload_n 0, 1) := dk_42 (dk_at dksX4_many_3 21 rfl rfl)
theorem dX4_many_92 : decode cX4_many 92 = .ok (.dup, 1) := dk_89 (dk_at dksX4_many_3 22 rfl rfl)
theorem dX4_many_93 : decode cX4_many 93 = .ok (.getfield 184, 3) := dk_180 0 184 (dk_at dksX4_many_4 0 rfl rfl)
theorem dX4_many_96 : decode cX4_many 96 = .ok (.iconst 1, 1) := dk_4 (dk_at dksX4_many_4 3 rfl rfl)
theorem dX4_many_97 : decode cX4_many 97 = .ok (.isub, 1) := dk_100 (dk_at dksX4_many_4 4 rfl rfl)
theorem dX4_many_98 : decode cX4_many 98 = .ok (.putfield 184, 3) := dk_181 0 184 (dk_at dksX4_many_4 5 rfl rfl)
theorem dX4_many_101 : decode cX4_many 101 = .ok (.new 225, 3) := dk_187 0 225 (dk_at dksX4_many_4 8 rfl rfl)
theorem dX4_many_104 : decode cX4_many 104 = .ok (.dup, 1) := dk_89 (dk_at dksX4_many_4 11 rfl rfl)
theorem dX4_many_105 : decode cX4_many 105 = .ok (.iload_n 1, 1) := dk_27 (dk_at dksX4_many_4 12 rfl rfl)
theorem dX4_many_106 : decode cX4_many 106 = .ok (.aload_n 2, 1) := dk_44 (dk_at dksX4_many_4 13 rfl rfl)
theorem dX4_many_107 : decode cX4_many 107 = .ok (.invokespecial 227, 3) := dk_183 0 227 (dk_at dksX4_many_4 14 rfl rfl)
theorem dX4_many_110 : decode cX4_many 110 = .ok (.areturn, 1) := dk_176 (dk_at dksX4_many_4 17 rfl rfl)
abbrev cX4_takes : ByteArray := prog_10_method_9_code
def yX4_takes : MethodName := ⟨RX4, "takes", "(Ljava/lang/String;)V"⟩
def dkwX4_takes_0 : List UInt8 := [42, 42, 43, 182, 0, 116, 4, 182, 0, 112, 42, 182, 0, 29, 177]
abbrev dktX4_takes_0 : List UInt8 := dkwX4_takes_0 ++ []
theorem dksX4_takes_0 : cX4_takes.data.toList.drop 0 = dktX4_takes_0 := by decide +kernel
theorem dX4_takes_0 : decode cX4_takes 0 = .ok (.aload_n 0, 1) := dk_42 (dk_at dksX4_takes_0 0 rfl rfl)
theorem dX4_takes_1 : decode cX4_takes 1 = .ok (.aload_n 0, 1) := dk_42 (dk_at dksX4_takes_0 1 rfl rfl)
theorem dX4_takes_2 : decode cX4_takes 2 = .ok (.aload_n 1, 1) := dk_43 (dk_at dksX4_takes_0 2 rfl rfl)
theorem dX4_takes_3 : decode cX4_takes 3 = .ok (.invokevirtual 116, 3) := dk_182 0 116 (dk_at dksX4_takes_0 3 rfl rfl)
theorem dX4_takes_6 : decode cX4_takes 6 = .ok (.iconst 1, 1) := dk_4 (dk_at dksX4_takes_0 6 rfl rfl)
theorem dX4_takes_7 : decode cX4_takes 7 = .ok (.invokevirtual 112, 3) := dk_182 0 112 (dk_at dksX4_takes_0 7 rfl rfl)
theorem dX4_takes_10 : decode cX4_takes 10 = .ok (.aload_n 0, 1) := dk_42 (dk_at dksX4_takes_0 10 rfl rfl)
theorem dX4_takes_11 : decode cX4_takes 11 = .ok (.invokevirtual 29, 3) := dk_182 0 29 (dk_at dksX4_takes_0 11 rfl rfl)
theorem dX4_takes_14 : decode cX4_takes 14 = .ok (.return_, 1) := dk_177 (dk_at dksX4_takes_0 14 rfl rfl)
abbrev cX4_tooMany : ByteArray := prog_10_method_19_code
def yX4_tooMany : MethodName := ⟨RX4, "tooMany", "()V"⟩
def dkwX4_tooMany_2 : List UInt8 := [182, 0, 208, 87, 42, 3, 7, 182, 0, 112, 177]
abbrev dktX4_tooMany_2 : List UInt8 := dkwX4_tooMany_2 ++ []
def dkwX4_tooMany_1 : List UInt8 := [163, 0, 7, 4, 167, 0, 4, 3, 5, 182, 0, 112, 42, 180, 0, 45, 4, 160, 0, 9, 42, 4]
abbrev dktX4_tooMany_1 : List UInt8 := dkwX4_tooMany_1 ++ dktX4_tooMany_2
def dkwX4_tooMany_0 : List UInt8 := [42, 42, 182, 0, 187, 4, 182, 0, 112, 42, 42, 180, 0, 45, 5, 160, 0, 12, 42, 180, 0, 42, 16, 6]
abbrev dktX4_tooMany_0 : List UInt8 := dkwX4_tooMany_0 ++ dktX4_tooMany_1
theorem dksX4_tooMany_0 : cX4_tooMany.data.toList.drop 0 = dktX4_tooMany_0 := by decide +kernel
theorem dksX4_tooMany_1 : cX4_tooMany.data.toList.drop 24 = dktX4_tooMany_1 := dk_seg dksX4_tooMany_0 24 rfl rfl
theorem dksX4_tooMany_2 : cX4_tooMany.data.toList.drop 46 = dktX4_tooMany_2 := dk_seg dksX4_tooMany_1 22 rfl rfl
theorem dX4_tooMany_0 : decode cX4_tooMany 0 = .ok (.aload_n 0, 1) := dk_42 (dk_at dksX4_tooMany_0 0 rfl rfl)
theorem dX4_tooMany_1 : decode cX4_tooMany 1 = .ok (.aload_n 0, 1) := dk_42 (dk_at dksX4_tooMany_0 1 rfl rfl)
theorem dX4_tooMany_2 : decode cX4_tooMany 2 = .ok (.invokevirtual 187, 3) := dk_182 0 187 (dk_at dksX4_tooMany_0 2 rfl rfl)
theorem dX4_tooMany_5 : decode cX4_tooMany 5 = .ok (.iconst 1, 1) := dk_4 (dk_at dksX4_tooMany_0 5 rfl rfl)
theorem dX4_tooMany_6 : decode cX4_tooMany 6 = .ok (.invokevirtual 112, 3) := dk_182 0 112 (dk_at dksX4_tooMany_0 6 rfl rfl)
theorem dX4_tooMany_9 : decode cX4_tooMany 9 = .ok (.aload_n 0, 1) := dk_42 (dk_at dksX4_tooMany_0 9 rfl rfl)
theorem dX4_tooMany_10 : decode cX4_tooMany 10 = .ok (.aload_n 0, 1) := dk_42 (dk_at dksX4_tooMany_0 10 rfl rfl)
theorem dX4_tooMany_11 : decode cX4_tooMany 11 = .ok (.getfield 45, 3) := dk_180 0 45 (dk_at dksX4_tooMany_0 11 rfl rfl)
theorem dX4_tooMany_14 : decode cX4_tooMany 14 = .ok (.iconst 2, 1) := dk_5 (dk_at dksX4_tooMany_0 14 rfl rfl)
theorem dX4_tooMany_15 : decode cX4_tooMany 15 = .ok (.if_icmp .ne 12, 3) := dk_160 0 12 (dk_at dksX4_tooMany_0 15 rfl rfl)
theorem dX4_tooMany_18 : decode cX4_tooMany 18 = .ok (.aload_n 0, 1) := dk_42 (dk_at dksX4_tooMany_0 18 rfl rfl)
theorem dX4_tooMany_19 : decode cX4_tooMany 19 = .ok (.getfield 42, 3) := dk_180 0 42 (dk_at dksX4_tooMany_0 19 rfl rfl)
theorem dX4_tooMany_22 : decode cX4_tooMany 22 = .ok (.bipush 6, 2) := dk_16 6 (dk_at dksX4_tooMany_0 22 rfl rfl)
theorem dX4_tooMany_24 : decode cX4_tooMany 24 = .ok (.if_icmp .gt 7, 3) := dk_163 0 7 (dk_at dksX4_tooMany_1 0 rfl rfl)
theorem dX4_tooMany_27 : decode cX4_tooMany 27 = .ok (.iconst 1, 1) := dk_4 (dk_at dksX4_tooMany_1 3 rfl rfl)
theorem dX4_tooMany_28 : decode cX4_tooMany 28 = .ok (.goto 4, 3) := dk_167 0 4 (dk_at dksX4_tooMany_1 4 rfl rfl)
theorem dX4_tooMany_31 : decode cX4_tooMany 31 = .ok (.iconst 0, 1) := dk_3 (dk_at dksX4_tooMany_1 7 rfl rfl)
theorem dX4_tooMany_32 : decode cX4_tooMany 32 = .ok (.iconst 2, 1) := dk_5 (dk_at dksX4_tooMany_1 8 rfl rfl)
theorem dX4_tooMany_33 : decode cX4_tooMany 33 = .ok (.invokevirtual 112, 3) := dk_182 0 112 (dk_at dksX4_tooMany_1 9 rfl rfl)
theorem dX4_tooMany_36 : decode cX4_tooMany 36 = .ok (.aload_n 0, 1) := dk_42 (dk_at dksX4_tooMany_1 12 rfl rfl)
theorem dX4_tooMany_37 : decode cX4_tooMany 37 = .ok (.getfield 45, 3) := dk_180 0 45 (dk_at dksX4_tooMany_1 13 rfl rfl)
theorem dX4_tooMany_40 : decode cX4_tooMany 40 = .ok (.iconst 1, 1) := dk_4 (dk_at dksX4_tooMany_1 16 rfl rfl)
theorem dX4_tooMany_41 : decode cX4_tooMany 41 = .ok (.if_icmp .ne 9, 3) := dk_160 0 9 (dk_at dksX4_tooMany_1 17 rfl rfl)
theorem dX4_tooMany_44 : decode cX4_tooMany 44 = .ok (.aload_n 0, 1) := dk_42 (dk_at dksX4_tooMany_1 20 rfl rfl)
theorem dX4_tooMany_45 : decode cX4_tooMany 45 = .ok (.iconst 1, 1) := dk_4 (dk_at dksX4_tooMany_1 21 rfl rfl)
theorem dX4_tooMany_46 : decode cX4_tooMany 46 = .ok (.invokevirtual 208, 3) := dk_182 0 208 (dk_at dksX4_tooMany_2 0 rfl rfl)
theorem dX4_tooMany_49 : decode cX4_tooMany 49 = .ok (.pop, 1) := dk_87 (dk_at dksX4_tooMany_2 3 rfl rfl)
theorem dX4_tooMany_50 : decode cX4_tooMany 50 = .ok (.aload_n 0, 1) := dk_42 (dk_at dksX4_tooMany_2 4 rfl rfl)
theorem dX4_tooMany_51 : decode cX4_tooMany 51 = .ok (.iconst 0, 1) := dk_3 (dk_at dksX4_tooMany_2 5 rfl rfl)
theorem dX4_tooMany_52 : decode cX4_tooMany 52 = .ok (.iconst 4, 1) := dk_7 (dk_at dksX4_tooMany_2 6 rfl rfl)
theorem dX4_tooMany_53 : decode cX4_tooMany 53 = .ok (.invokevirtual 112, 3) := dk_182 0 112 (dk_at dksX4_tooMany_2 7 rfl rfl)
theorem dX4_tooMany_56 : decode cX4_tooMany 56 = .ok (.return_, 1) := dk_177 (dk_at dksX4_tooMany_2 10 rfl rfl)
abbrev cX4_told : ByteArray := prog_10_method_12_code
def yX4_told : MethodName := ⟨RX4, "told", "(Z)I"⟩
def dkwX4_told_2 : List UInt8 := [182, 0, 112, 44, 180, 0, 151, 172]
abbrev dktX4_told_2 : List UInt8 := dkwX4_told_2 ++ []
def dkwX4_told_1 : List UInt8 := [192, 0, 135, 77, 42, 44, 198, 0, 15, 44, 180, 0, 147, 27, 160, 0, 7, 4, 167, 0, 4, 3, 6]
abbrev dktX4_told_1 : List UInt8 := dkwX4_told_1 ++ dktX4_told_2
def dkwX4_told_0 : List UInt8 := [42, 42, 182, 0, 120, 4, 182, 0, 112, 42, 180, 0, 25, 180, 0, 124, 42, 180, 0, 11, 182, 0, 143]
abbrev dktX4_told_0 : List UInt8 := dkwX4_told_0 ++ dktX4_told_1
theorem dksX4_told_0 : cX4_told.data.toList.drop 0 = dktX4_told_0 := by decide +kernel
theorem dksX4_told_1 : cX4_told.data.toList.drop 23 = dktX4_told_1 := dk_seg dksX4_told_0 23 rfl rfl
theorem dksX4_told_2 : cX4_told.data.toList.drop 46 = dktX4_told_2 := dk_seg dksX4_told_1 23 rfl rfl
theorem dX4_told_0 : decode cX4_told 0 = .ok (.aload_n 0, 1) := dk_42 (dk_at dksX4_told_0 0 rfl rfl)
theorem dX4_told_1 : decode cX4_told 1 = .ok (.aload_n 0, 1) := dk_42 (dk_at dksX4_told_0 1 rfl rfl)
theorem dX4_told_2 : decode cX4_told 2 = .ok (.invokevirtual 120, 3) := dk_182 0 120 (dk_at dksX4_told_0 2 rfl rfl)
theorem dX4_told_5 : decode cX4_told 5 = .ok (.iconst 1, 1) := dk_4 (dk_at dksX4_told_0 5 rfl rfl)
theorem dX4_told_6 : decode cX4_told 6 = .ok (.invokevirtual 112, 3) := dk_182 0 112 (dk_at dksX4_told_0 6 rfl rfl)
theorem dX4_told_9 : decode cX4_told 9 = .ok (.aload_n 0, 1) := dk_42 (dk_at dksX4_told_0 9 rfl rfl)
theorem dX4_told_10 : decode cX4_told 10 = .ok (.getfield 25, 3) := dk_180 0 25 (dk_at dksX4_told_0 10 rfl rfl)
theorem dX4_told_13 : decode cX4_told 13 = .ok (.getfield 124, 3) := dk_180 0 124 (dk_at dksX4_told_0 13 rfl rfl)
theorem dX4_told_16 : decode cX4_told 16 = .ok (.aload_n 0, 1) := dk_42 (dk_at dksX4_told_0 16 rfl rfl)
theorem dX4_told_17 : decode cX4_told 17 = .ok (.getfield 11, 3) := dk_180 0 11 (dk_at dksX4_told_0 17 rfl rfl)
theorem dX4_told_20 : decode cX4_told 20 = .ok (.invokevirtual 143, 3) := dk_182 0 143 (dk_at dksX4_told_0 20 rfl rfl)
theorem dX4_told_23 : decode cX4_told 23 = .ok (.checkcast 135, 3) := dk_192 0 135 (dk_at dksX4_told_1 0 rfl rfl)
theorem dX4_told_26 : decode cX4_told 26 = .ok (.astore_n 2, 1) := dk_77 (dk_at dksX4_told_1 3 rfl rfl)
theorem dX4_told_27 : decode cX4_told 27 = .ok (.aload_n 0, 1) := dk_42 (dk_at dksX4_told_1 4 rfl rfl)
theorem dX4_told_28 : decode cX4_told 28 = .ok (.aload_n 2, 1) := dk_44 (dk_at dksX4_told_1 5 rfl rfl)
theorem dX4_told_29 : decode cX4_told 29 = .ok (.ifnull 15, 3) := dk_198 0 15 (dk_at dksX4_told_1 6 rfl rfl)
theorem dX4_told_32 : decode cX4_told 32 = .ok (.aload_n 2, 1) := dk_44 (dk_at dksX4_told_1 9 rfl rfl)
theorem dX4_told_33 : decode cX4_told 33 = .ok (.getfield 147, 3) := dk_180 0 147 (dk_at dksX4_told_1 10 rfl rfl)
theorem dX4_told_36 : decode cX4_told 36 = .ok (.iload_n 1, 1) := dk_27 (dk_at dksX4_told_1 13 rfl rfl)
theorem dX4_told_37 : decode cX4_told 37 = .ok (.if_icmp .ne 7, 3) := dk_160 0 7 (dk_at dksX4_told_1 14 rfl rfl)
theorem dX4_told_40 : decode cX4_told 40 = .ok (.iconst 1, 1) := dk_4 (dk_at dksX4_told_1 17 rfl rfl)
theorem dX4_told_41 : decode cX4_told 41 = .ok (.goto 4, 3) := dk_167 0 4 (dk_at dksX4_told_1 18 rfl rfl)
theorem dX4_told_44 : decode cX4_told 44 = .ok (.iconst 0, 1) := dk_3 (dk_at dksX4_told_1 21 rfl rfl)
theorem dX4_told_45 : decode cX4_told 45 = .ok (.iconst 3, 1) := dk_6 (dk_at dksX4_told_1 22 rfl rfl)
theorem dX4_told_46 : decode cX4_told 46 = .ok (.invokevirtual 112, 3) := dk_182 0 112 (dk_at dksX4_told_2 0 rfl rfl)
theorem dX4_told_49 : decode cX4_told 49 = .ok (.aload_n 2, 1) := dk_44 (dk_at dksX4_told_2 3 rfl rfl)
theorem dX4_told_50 : decode cX4_told 50 = .ok (.getfield 151, 3) := dk_180 0 151 (dk_at dksX4_told_2 4 rfl rfl)
theorem dX4_told_53 : decode cX4_told 53 = .ok (.ireturn, 1) := dk_172 (dk_at dksX4_told_2 7 rfl rfl)
abbrev cX4_count : ByteArray := prog_10_method_25_code
def yX4_count : MethodName := ⟨RX4, "count", "()V"⟩
def dkwX4_count_6 : List UInt8 := [182, 0, 163, 87, 167, 255, 203, 42, 180, 0, 25, 180, 1, 7, 44, 182, 0, 163, 87, 177]
abbrev dktX4_count_6 : List UInt8 := dkwX4_count_6 ++ []
def dkwX4_count_5 : List UInt8 := [3, 7, 182, 0, 112, 42, 182, 0, 29, 44, 180, 1, 33, 187, 0, 230, 89, 42, 182, 0, 198, 183, 0, 232]
abbrev dktX4_count_5 : List UInt8 := dkwX4_count_5 ++ dktX4_count_6
def dkwX4_count_4 : List UInt8 := [18, 96, 182, 0, 116, 153, 0, 50, 42, 44, 180, 1, 33, 182, 0, 166, 7, 162, 0, 7, 4, 167, 0, 4]
abbrev dktX4_count_4 : List UInt8 := dkwX4_count_4 ++ dktX4_count_5
def dkwX4_count_3 : List UInt8 := [3, 17, 3, 231, 182, 0, 215, 183, 1, 32, 77, 42, 42, 18, 96, 182, 0, 116, 4, 182, 0, 112, 42]
abbrev dktX4_count_3 : List UInt8 := dkwX4_count_3 ++ dktX4_count_4
def dkwX4_count_2 : List UInt8 := [182, 0, 218, 42, 3, 17, 3, 231, 182, 0, 215, 60, 42, 18, 94, 182, 0, 218, 187, 1, 13, 89, 27, 42]
abbrev dktX4_count_2 : List UInt8 := dkwX4_count_2 ++ dktX4_count_3
def dkwX4_count_1 : List UInt8 := [42, 182, 0, 29, 42, 3, 42, 180, 0, 25, 180, 1, 7, 182, 0, 166, 182, 1, 26, 42, 18, 92]
abbrev dktX4_count_1 : List UInt8 := dkwX4_count_1 ++ dktX4_count_2
def dkwX4_count_0 : List UInt8 := [42, 42, 180, 0, 25, 180, 1, 7, 182, 0, 166, 8, 162, 0, 7, 4, 167, 0, 4, 3, 7, 182, 0, 112]
abbrev dktX4_count_0 : List UInt8 := dkwX4_count_0 ++ dktX4_count_1
theorem dksX4_count_0 : cX4_count.data.toList.drop 0 = dktX4_count_0 := by decide +kernel
theorem dksX4_count_1 : cX4_count.data.toList.drop 24 = dktX4_count_1 := dk_seg dksX4_count_0 24 rfl rfl
theorem dksX4_count_2 : cX4_count.data.toList.drop 46 = dktX4_count_2 := dk_seg dksX4_count_1 22 rfl rfl
theorem dksX4_count_3 : cX4_count.data.toList.drop 70 = dktX4_count_3 := dk_seg dksX4_count_2 24 rfl rfl
theorem dksX4_count_4 : cX4_count.data.toList.drop 93 = dktX4_count_4 := dk_seg dksX4_count_3 23 rfl rfl
theorem dksX4_count_5 : cX4_count.data.toList.drop 117 = dktX4_count_5 := dk_seg dksX4_count_4 24 rfl rfl
theorem dksX4_count_6 : cX4_count.data.toList.drop 141 = dktX4_count_6 := dk_seg dksX4_count_5 24 rfl rfl
theorem dX4_count_0 : decode cX4_count 0 = .ok (.aload_n 0, 1) := dk_42 (dk_at dksX4_count_0 0 rfl rfl)
theorem dX4_count_1 : decode cX4_count 1 = .ok (.aload_n 0, 1) := dk_42 (dk_at dksX4_count_0 1 rfl rfl)
theorem dX4_count_2 : decode cX4_count 2 = .ok (.getfield 25, 3) := dk_180 0 25 (dk_at dksX4_count_0 2 rfl rfl)
theorem dX4_count_5 : decode cX4_count 5 = .ok (.getfield 263, 3) := dk_180 1 7 (dk_at dksX4_count_0 5 rfl rfl)
theorem dX4_count_8 : decode cX4_count 8 = .ok (.invokevirtual 166, 3) := dk_182 0 166 (dk_at dksX4_count_0 8 rfl rfl)
theorem dX4_count_11 : decode cX4_count 11 = .ok (.iconst 5, 1) := dk_8 (dk_at dksX4_count_0 11 rfl rfl)
theorem dX4_count_12 : decode cX4_count 12 = .ok (.if_icmp .ge 7, 3) := dk_162 0 7 (dk_at dksX4_count_0 12 rfl rfl)
theorem dX4_count_15 : decode cX4_count 15 = .ok (.iconst 1, 1) := dk_4 (dk_at dksX4_count_0 15 rfl rfl)
theorem dX4_count_16 : decode cX4_count 16 = .ok (.goto 4, 3) := dk_167 0 4 (dk_at dksX4_count_0 16 rfl rfl)
theorem dX4_count_19 : decode cX4_count 19 = .ok (.iconst 0, 1) := dk_3 (dk_at dksX4_count_0 19 rfl rfl)
theorem dX4_count_20 : decode cX4_count 20 = .ok (.iconst 4, 1) := dk_7 (dk_at dksX4_count_0 20 rfl rfl)
theorem dX4_count_21 : decode cX4_count 21 = .ok (.invokevirtual 112, 3) := dk_182 0 112 (dk_at dksX4_count_0 21 rfl rfl)
theorem dX4_count_24 : decode cX4_count 24 = .ok (.aload_n 0, 1) := dk_42 (dk_at dksX4_count_1 0 rfl rfl)
theorem dX4_count_25 : decode cX4_count 25 = .ok (.invokevirtual 29, 3) := dk_182 0 29 (dk_at dksX4_count_1 1 rfl rfl)
theorem dX4_count_28 : decode cX4_count 28 = .ok (.aload_n 0, 1) := dk_42 (dk_at dksX4_count_1 4 rfl rfl)
theorem dX4_count_29 : decode cX4_count 29 = .ok (.iconst 0, 1) := dk_3 (dk_at dksX4_count_1 5 rfl rfl)
theorem dX4_count_30 : decode cX4_count 30 = .ok (.aload_n 0, 1) := dk_42 (dk_at dksX4_count_1 6 rfl rfl)
theorem dX4_count_31 : decode cX4_count 31 = .ok (.getfield 25, 3) := dk_180 0 25 (dk_at dksX4_count_1 7 rfl rfl)
theorem dX4_count_34 : decode cX4_count 34 = .ok (.getfield 263, 3) := dk_180 1 7 (dk_at dksX4_count_1 10 rfl rfl)
theorem dX4_count_37 : decode cX4_count 37 = .ok (.invokevirtual 166, 3) := dk_182 0 166 (dk_at dksX4_count_1 13 rfl rfl)
theorem dX4_count_40 : decode cX4_count 40 = .ok (.invokevirtual 282, 3) := dk_182 1 26 (dk_at dksX4_count_1 16 rfl rfl)
theorem dX4_count_43 : decode cX4_count 43 = .ok (.aload_n 0, 1) := dk_42 (dk_at dksX4_count_1 19 rfl rfl)
theorem dX4_count_44 : decode cX4_count 44 = .ok (.ldc 92, 2) := dk_18 92 (dk_at dksX4_count_1 20 rfl rfl)
theorem dX4_count_46 : decode cX4_count 46 = .ok (.invokevirtual 218, 3) := dk_182 0 218 (dk_at dksX4_count_2 0 rfl rfl)
theorem dX4_count_49 : decode cX4_count 49 = .ok (.aload_n 0, 1) := dk_42 (dk_at dksX4_count_2 3 rfl rfl)
theorem dX4_count_50 : decode cX4_count 50 = .ok (.iconst 0, 1) := dk_3 (dk_at dksX4_count_2 4 rfl rfl)
theorem dX4_count_51 : decode cX4_count 51 = .ok (.sipush 999, 3) := dk_17 3 231 (dk_at dksX4_count_2 5 rfl rfl)
theorem dX4_count_54 : decode cX4_count 54 = .ok (.invokevirtual 215, 3) := dk_182 0 215 (dk_at dksX4_count_2 8 rfl rfl)
theorem dX4_count_57 : decode cX4_count 57 = .ok (.istore_n 1, 1) := dk_60 (dk_at dksX4_count_2 11 rfl rfl)
theorem dX4_count_58 : decode cX4_count 58 = .ok (.aload_n 0, 1) := dk_42 (dk_at dksX4_count_2 12 rfl rfl)
theorem dX4_count_59 : decode cX4_count 59 = .ok (.ldc 94, 2) := dk_18 94 (dk_at dksX4_count_2 13 rfl rfl)
theorem dX4_count_61 : decode cX4_count 61 = .ok (.invokevirtual 218, 3) := dk_182 0 218 (dk_at dksX4_count_2 15 rfl rfl)
theorem dX4_count_64 : decode cX4_count 64 = .ok (.new 269, 3) := dk_187 1 13 (dk_at dksX4_count_2 18 rfl rfl)
theorem dX4_count_67 : decode cX4_count 67 = .ok (.dup, 1) := dk_89 (dk_at dksX4_count_2 21 rfl rfl)
theorem dX4_count_68 : decode cX4_count 68 = .ok (.iload_n 1, 1) := dk_27 (dk_at dksX4_count_2 22 rfl rfl)
theorem dX4_count_69 : decode cX4_count 69 = .ok (.aload_n 0, 1) := dk_42 (dk_at dksX4_count_2 23 rfl rfl)
theorem dX4_count_70 : decode cX4_count 70 = .ok (.iconst 0, 1) := dk_3 (dk_at dksX4_count_3 0 rfl rfl)
theorem dX4_count_71 : decode cX4_count 71 = .ok (.sipush 999, 3) := dk_17 3 231 (dk_at dksX4_count_3 1 rfl rfl)
theorem dX4_count_74 : decode cX4_count 74 = .ok (.invokevirtual 215, 3) := dk_182 0 215 (dk_at dksX4_count_3 4 rfl rfl)
theorem dX4_count_77 : decode cX4_count 77 = .ok (.invokespecial 288, 3) := dk_183 1 32 (dk_at dksX4_count_3 7 rfl rfl)
theorem dX4_count_80 : decode cX4_count 80 = .ok (.astore_n 2, 1) := dk_77 (dk_at dksX4_count_3 10 rfl rfl)
theorem dX4_count_81 : decode cX4_count 81 = .ok (.aload_n 0, 1) := dk_42 (dk_at dksX4_count_3 11 rfl rfl)
theorem dX4_count_82 : decode cX4_count 82 = .ok (.aload_n 0, 1) := dk_42 (dk_at dksX4_count_3 12 rfl rfl)
theorem dX4_count_83 : decode cX4_count 83 = .ok (.ldc 96, 2) := dk_18 96 (dk_at dksX4_count_3 13 rfl rfl)
theorem dX4_count_85 : decode cX4_count 85 = .ok (.invokevirtual 116, 3) := dk_182 0 116 (dk_at dksX4_count_3 15 rfl rfl)
theorem dX4_count_88 : decode cX4_count 88 = .ok (.iconst 1, 1) := dk_4 (dk_at dksX4_count_3 18 rfl rfl)
theorem dX4_count_89 : decode cX4_count 89 = .ok (.invokevirtual 112, 3) := dk_182 0 112 (dk_at dksX4_count_3 19 rfl rfl)
theorem dX4_count_92 : decode cX4_count 92 = .ok (.aload_n 0, 1) := dk_42 (dk_at dksX4_count_3 22 rfl rfl)
theorem dX4_count_93 : decode cX4_count 93 = .ok (.ldc 96, 2) := dk_18 96 (dk_at dksX4_count_4 0 rfl rfl)
theorem dX4_count_95 : decode cX4_count 95 = .ok (.invokevirtual 116, 3) := dk_182 0 116 (dk_at dksX4_count_4 2 rfl rfl)
theorem dX4_count_98 : decode cX4_count 98 = .ok (.ifCond .eq 50, 3) := dk_153 0 50 (dk_at dksX4_count_4 5 rfl rfl)
theorem dX4_count_101 : decode cX4_count 101 = .ok (.aload_n 0, 1) := dk_42 (dk_at dksX4_count_4 8 rfl rfl)
theorem dX4_count_102 : decode cX4_count 102 = .ok (.aload_n 2, 1) := dk_44 (dk_at dksX4_count_4 9 rfl rfl)
theorem dX4_count_103 : decode cX4_count 103 = .ok (.getfield 289, 3) := dk_180 1 33 (dk_at dksX4_count_4 10 rfl rfl)
theorem dX4_count_106 : decode cX4_count 106 = .ok (.invokevirtual 166, 3) := dk_182 0 166 (dk_at dksX4_count_4 13 rfl rfl)
theorem dX4_count_109 : decode cX4_count 109 = .ok (.iconst 4, 1) := dk_7 (dk_at dksX4_count_4 16 rfl rfl)
theorem dX4_count_110 : decode cX4_count 110 = .ok (.if_icmp .ge 7, 3) := dk_162 0 7 (dk_at dksX4_count_4 17 rfl rfl)
theorem dX4_count_113 : decode cX4_count 113 = .ok (.iconst 1, 1) := dk_4 (dk_at dksX4_count_4 20 rfl rfl)
theorem dX4_count_114 : decode cX4_count 114 = .ok (.goto 4, 3) := dk_167 0 4 (dk_at dksX4_count_4 21 rfl rfl)
theorem dX4_count_117 : decode cX4_count 117 = .ok (.iconst 0, 1) := dk_3 (dk_at dksX4_count_5 0 rfl rfl)
theorem dX4_count_118 : decode cX4_count 118 = .ok (.iconst 4, 1) := dk_7 (dk_at dksX4_count_5 1 rfl rfl)
theorem dX4_count_119 : decode cX4_count 119 = .ok (.invokevirtual 112, 3) := dk_182 0 112 (dk_at dksX4_count_5 2 rfl rfl)
theorem dX4_count_122 : decode cX4_count 122 = .ok (.aload_n 0, 1) := dk_42 (dk_at dksX4_count_5 5 rfl rfl)
theorem dX4_count_123 : decode cX4_count 123 = .ok (.invokevirtual 29, 3) := dk_182 0 29 (dk_at dksX4_count_5 6 rfl rfl)
theorem dX4_count_126 : decode cX4_count 126 = .ok (.aload_n 2, 1) := dk_44 (dk_at dksX4_count_5 9 rfl rfl)
theorem dX4_count_127 : decode cX4_count 127 = .ok (.getfield 289, 3) := dk_180 1 33 (dk_at dksX4_count_5 10 rfl rfl)
theorem dX4_count_130 : decode cX4_count 130 = .ok (.new 230, 3) := dk_187 0 230 (dk_at dksX4_count_5 13 rfl rfl)
theorem dX4_count_133 : decode cX4_count 133 = .ok (.dup, 1) := dk_89 (dk_at dksX4_count_5 16 rfl rfl)
theorem dX4_count_134 : decode cX4_count 134 = .ok (.aload_n 0, 1) := dk_42 (dk_at dksX4_count_5 17 rfl rfl)
theorem dX4_count_135 : decode cX4_count 135 = .ok (.invokevirtual 198, 3) := dk_182 0 198 (dk_at dksX4_count_5 18 rfl rfl)
theorem dX4_count_138 : decode cX4_count 138 = .ok (.invokespecial 232, 3) := dk_183 0 232 (dk_at dksX4_count_5 21 rfl rfl)
theorem dX4_count_141 : decode cX4_count 141 = .ok (.invokevirtual 163, 3) := dk_182 0 163 (dk_at dksX4_count_6 0 rfl rfl)
theorem dX4_count_144 : decode cX4_count 144 = .ok (.pop, 1) := dk_87 (dk_at dksX4_count_6 3 rfl rfl)
theorem dX4_count_145 : decode cX4_count 145 = .ok (.goto (-53), 3) := dk_167 255 203 (dk_at dksX4_count_6 4 rfl rfl)
theorem dX4_count_148 : decode cX4_count 148 = .ok (.aload_n 0, 1) := dk_42 (dk_at dksX4_count_6 7 rfl rfl)
theorem dX4_count_149 : decode cX4_count 149 = .ok (.getfield 25, 3) := dk_180 0 25 (dk_at dksX4_count_6 8 rfl rfl)
theorem dX4_count_152 : decode cX4_count 152 = .ok (.getfield 263, 3) := dk_180 1 7 (dk_at dksX4_count_6 11 rfl rfl)
theorem dX4_count_155 : decode cX4_count 155 = .ok (.aload_n 2, 1) := dk_44 (dk_at dksX4_count_6 14 rfl rfl)
theorem dX4_count_156 : decode cX4_count 156 = .ok (.invokevirtual 163, 3) := dk_182 0 163 (dk_at dksX4_count_6 15 rfl rfl)
theorem dX4_count_159 : decode cX4_count 159 = .ok (.pop, 1) := dk_87 (dk_at dksX4_count_6 18 rfl rfl)
theorem dX4_count_160 : decode cX4_count 160 = .ok (.return_, 1) := dk_177 (dk_at dksX4_count_6 19 rfl rfl)
abbrev cX4_counted : ByteArray := prog_10_method_23_code
def yX4_counted : MethodName := ⟨RX4, "counted", "()I"⟩
def dkwX4_counted_0 : List UInt8 := [42, 3, 182, 0, 208, 60, 42, 182, 0, 29, 27, 172]
abbrev dktX4_counted_0 : List UInt8 := dkwX4_counted_0 ++ []
theorem dksX4_counted_0 : cX4_counted.data.toList.drop 0 = dktX4_counted_0 := by decide +kernel
theorem dX4_counted_0 : decode cX4_counted 0 = .ok (.aload_n 0, 1) := dk_42 (dk_at dksX4_counted_0 0 rfl rfl)
theorem dX4_counted_1 : decode cX4_counted 1 = .ok (.iconst 0, 1) := dk_3 (dk_at dksX4_counted_0 1 rfl rfl)
theorem dX4_counted_2 : decode cX4_counted 2 = .ok (.invokevirtual 208, 3) := dk_182 0 208 (dk_at dksX4_counted_0 2 rfl rfl)
theorem dX4_counted_5 : decode cX4_counted 5 = .ok (.istore_n 1, 1) := dk_60 (dk_at dksX4_counted_0 5 rfl rfl)
theorem dX4_counted_6 : decode cX4_counted 6 = .ok (.aload_n 0, 1) := dk_42 (dk_at dksX4_counted_0 6 rfl rfl)
theorem dX4_counted_7 : decode cX4_counted 7 = .ok (.invokevirtual 29, 3) := dk_182 0 29 (dk_at dksX4_counted_0 7 rfl rfl)
theorem dX4_counted_10 : decode cX4_counted 10 = .ok (.iload_n 1, 1) := dk_27 (dk_at dksX4_counted_0 10 rfl rfl)
theorem dX4_counted_11 : decode cX4_counted 11 = .ok (.ireturn, 1) := dk_172 (dk_at dksX4_counted_0 11 rfl rfl)
abbrev cX4_says : ByteArray := prog_10_method_26_code
def yX4_says : MethodName := ⟨RX4, "says", "()V"⟩
def dkwX4_says_4 : List UInt8 := [4, 29, 120, 128, 181, 1, 42, 177]
abbrev dktX4_says_4 : List UInt8 := dkwX4_says_4 ++ []
def dkwX4_says_3 : List UInt8 := [89, 180, 1, 36, 4, 29, 120, 128, 181, 1, 36, 43, 89, 180, 1, 42, 28, 153, 0, 7, 3, 167, 0, 6]
abbrev dktX4_says_3 : List UInt8 := dkwX4_says_3 ++ dktX4_says_4
def dkwX4_says_2 : List UInt8 := [180, 1, 36, 29, 184, 1, 38, 154, 0, 7, 4, 167, 0, 4, 3, 6, 182, 0, 112, 42, 182, 0, 29, 43]
abbrev dktX4_says_2 : List UInt8 := dkwX4_says_2 ++ dktX4_says_3
def dkwX4_says_1 : List UInt8 := [16, 33, 182, 0, 108, 61, 28, 153, 0, 7, 42, 182, 0, 29, 42, 4, 182, 0, 208, 62, 42, 43]
abbrev dktX4_says_1 : List UInt8 := dkwX4_says_1 ++ dktX4_says_2
def dkwX4_says_0 : List UInt8 := [42, 182, 0, 29, 42, 180, 0, 25, 180, 1, 7, 42, 182, 1, 10, 182, 0, 168, 192, 1, 13, 76, 42]
abbrev dktX4_says_0 : List UInt8 := dkwX4_says_0 ++ dktX4_says_1
theorem dksX4_says_0 : cX4_says.data.toList.drop 0 = dktX4_says_0 := by decide +kernel
theorem dksX4_says_1 : cX4_says.data.toList.drop 23 = dktX4_says_1 := dk_seg dksX4_says_0 23 rfl rfl
theorem dksX4_says_2 : cX4_says.data.toList.drop 45 = dktX4_says_2 := dk_seg dksX4_says_1 22 rfl rfl
theorem dksX4_says_3 : cX4_says.data.toList.drop 69 = dktX4_says_3 := dk_seg dksX4_says_2 24 rfl rfl
theorem dksX4_says_4 : cX4_says.data.toList.drop 93 = dktX4_says_4 := dk_seg dksX4_says_3 24 rfl rfl
theorem dX4_says_0 : decode cX4_says 0 = .ok (.aload_n 0, 1) := dk_42 (dk_at dksX4_says_0 0 rfl rfl)
theorem dX4_says_1 : decode cX4_says 1 = .ok (.invokevirtual 29, 3) := dk_182 0 29 (dk_at dksX4_says_0 1 rfl rfl)
theorem dX4_says_4 : decode cX4_says 4 = .ok (.aload_n 0, 1) := dk_42 (dk_at dksX4_says_0 4 rfl rfl)
theorem dX4_says_5 : decode cX4_says 5 = .ok (.getfield 25, 3) := dk_180 0 25 (dk_at dksX4_says_0 5 rfl rfl)
theorem dX4_says_8 : decode cX4_says 8 = .ok (.getfield 263, 3) := dk_180 1 7 (dk_at dksX4_says_0 8 rfl rfl)
theorem dX4_says_11 : decode cX4_says 11 = .ok (.aload_n 0, 1) := dk_42 (dk_at dksX4_says_0 11 rfl rfl)
theorem dX4_says_12 : decode cX4_says 12 = .ok (.invokevirtual 266, 3) := dk_182 1 10 (dk_at dksX4_says_0 12 rfl rfl)
theorem dX4_says_15 : decode cX4_says 15 = .ok (.invokevirtual 168, 3) := dk_182 0 168 (dk_at dksX4_says_0 15 rfl rfl)
theorem dX4_says_18 : decode cX4_says 18 = .ok (.checkcast 269, 3) := dk_192 1 13 (dk_at dksX4_says_0 18 rfl rfl)
theorem dX4_says_21 : decode cX4_says 21 = .ok (.astore_n 1, 1) := dk_76 (dk_at dksX4_says_0 21 rfl rfl)
theorem dX4_says_22 : decode cX4_says 22 = .ok (.aload_n 0, 1) := dk_42 (dk_at dksX4_says_0 22 rfl rfl)
theorem dX4_says_23 : decode cX4_says 23 = .ok (.bipush 33, 2) := dk_16 33 (dk_at dksX4_says_1 0 rfl rfl)
theorem dX4_says_25 : decode cX4_says 25 = .ok (.invokevirtual 108, 3) := dk_182 0 108 (dk_at dksX4_says_1 2 rfl rfl)
theorem dX4_says_28 : decode cX4_says 28 = .ok (.istore_n 2, 1) := dk_61 (dk_at dksX4_says_1 5 rfl rfl)
theorem dX4_says_29 : decode cX4_says 29 = .ok (.iload_n 2, 1) := dk_28 (dk_at dksX4_says_1 6 rfl rfl)
theorem dX4_says_30 : decode cX4_says 30 = .ok (.ifCond .eq 7, 3) := dk_153 0 7 (dk_at dksX4_says_1 7 rfl rfl)
theorem dX4_says_33 : decode cX4_says 33 = .ok (.aload_n 0, 1) := dk_42 (dk_at dksX4_says_1 10 rfl rfl)
theorem dX4_says_34 : decode cX4_says 34 = .ok (.invokevirtual 29, 3) := dk_182 0 29 (dk_at dksX4_says_1 11 rfl rfl)
theorem dX4_says_37 : decode cX4_says 37 = .ok (.aload_n 0, 1) := dk_42 (dk_at dksX4_says_1 14 rfl rfl)
theorem dX4_says_38 : decode cX4_says 38 = .ok (.iconst 1, 1) := dk_4 (dk_at dksX4_says_1 15 rfl rfl)
theorem dX4_says_39 : decode cX4_says 39 = .ok (.invokevirtual 208, 3) := dk_182 0 208 (dk_at dksX4_says_1 16 rfl rfl)
theorem dX4_says_42 : decode cX4_says 42 = .ok (.istore_n 3, 1) := dk_62 (dk_at dksX4_says_1 19 rfl rfl)
theorem dX4_says_43 : decode cX4_says 43 = .ok (.aload_n 0, 1) := dk_42 (dk_at dksX4_says_1 20 rfl rfl)
theorem dX4_says_44 : decode cX4_says 44 = .ok (.aload_n 1, 1) := dk_43 (dk_at dksX4_says_1 21 rfl rfl)
theorem dX4_says_45 : decode cX4_says 45 = .ok (.getfield 292, 3) := dk_180 1 36 (dk_at dksX4_says_2 0 rfl rfl)
theorem dX4_says_48 : decode cX4_says 48 = .ok (.iload_n 3, 1) := dk_29 (dk_at dksX4_says_2 3 rfl rfl)
theorem dX4_says_49 : decode cX4_says 49 = .ok (.invokestatic 294, 3) := dk_184 1 38 (dk_at dksX4_says_2 4 rfl rfl)
theorem dX4_says_52 : decode cX4_says 52 = .ok (.ifCond .ne 7, 3) := dk_154 0 7 (dk_at dksX4_says_2 7 rfl rfl)
theorem dX4_says_55 : decode cX4_says 55 = .ok (.iconst 1, 1) := dk_4 (dk_at dksX4_says_2 10 rfl rfl)
theorem dX4_says_56 : decode cX4_says 56 = .ok (.goto 4, 3) := dk_167 0 4 (dk_at dksX4_says_2 11 rfl rfl)
theorem dX4_says_59 : decode cX4_says 59 = .ok (.iconst 0, 1) := dk_3 (dk_at dksX4_says_2 14 rfl rfl)
theorem dX4_says_60 : decode cX4_says 60 = .ok (.iconst 3, 1) := dk_6 (dk_at dksX4_says_2 15 rfl rfl)
theorem dX4_says_61 : decode cX4_says 61 = .ok (.invokevirtual 112, 3) := dk_182 0 112 (dk_at dksX4_says_2 16 rfl rfl)
theorem dX4_says_64 : decode cX4_says 64 = .ok (.aload_n 0, 1) := dk_42 (dk_at dksX4_says_2 19 rfl rfl)
theorem dX4_says_65 : decode cX4_says 65 = .ok (.invokevirtual 29, 3) := dk_182 0 29 (dk_at dksX4_says_2 20 rfl rfl)
theorem dX4_says_68 : decode cX4_says 68 = .ok (.aload_n 1, 1) := dk_43 (dk_at dksX4_says_2 23 rfl rfl)
theorem dX4_says_69 : decode cX4_says 69 = .ok (.dup, 1) := dk_89 (dk_at dksX4_says_3 0 rfl rfl)
theorem dX4_says_70 : decode cX4_says 70 = .ok (.getfield 292, 3) := dk_180 1 36 (dk_at dksX4_says_3 1 rfl rfl)
theorem dX4_says_73 : decode cX4_says 73 = .ok (.iconst 1, 1) := dk_4 (dk_at dksX4_says_3 4 rfl rfl)
theorem dX4_says_74 : decode cX4_says 74 = .ok (.iload_n 3, 1) := dk_29 (dk_at dksX4_says_3 5 rfl rfl)
theorem dX4_says_75 : decode cX4_says 75 = .ok (.ishl, 1) := dk_120 (dk_at dksX4_says_3 6 rfl rfl)
theorem dX4_says_76 : decode cX4_says 76 = .ok (.ior, 1) := dk_128 (dk_at dksX4_says_3 7 rfl rfl)
theorem dX4_says_77 : decode cX4_says 77 = .ok (.putfield 292, 3) := dk_181 1 36 (dk_at dksX4_says_3 8 rfl rfl)
theorem dX4_says_80 : decode cX4_says 80 = .ok (.aload_n 1, 1) := dk_43 (dk_at dksX4_says_3 11 rfl rfl)
theorem dX4_says_81 : decode cX4_says 81 = .ok (.dup, 1) := dk_89 (dk_at dksX4_says_3 12 rfl rfl)
theorem dX4_says_82 : decode cX4_says 82 = .ok (.getfield 298, 3) := dk_180 1 42 (dk_at dksX4_says_3 13 rfl rfl)
theorem dX4_says_85 : decode cX4_says 85 = .ok (.iload_n 2, 1) := dk_28 (dk_at dksX4_says_3 16 rfl rfl)
theorem dX4_says_86 : decode cX4_says 86 = .ok (.ifCond .eq 7, 3) := dk_153 0 7 (dk_at dksX4_says_3 17 rfl rfl)
theorem dX4_says_89 : decode cX4_says 89 = .ok (.iconst 0, 1) := dk_3 (dk_at dksX4_says_3 20 rfl rfl)
theorem dX4_says_90 : decode cX4_says 90 = .ok (.goto 6, 3) := dk_167 0 6 (dk_at dksX4_says_3 21 rfl rfl)
theorem dX4_says_93 : decode cX4_says 93 = .ok (.iconst 1, 1) := dk_4 (dk_at dksX4_says_4 0 rfl rfl)
theorem dX4_says_94 : decode cX4_says 94 = .ok (.iload_n 3, 1) := dk_29 (dk_at dksX4_says_4 1 rfl rfl)
theorem dX4_says_95 : decode cX4_says 95 = .ok (.ishl, 1) := dk_120 (dk_at dksX4_says_4 2 rfl rfl)
theorem dX4_says_96 : decode cX4_says 96 = .ok (.ior, 1) := dk_128 (dk_at dksX4_says_4 3 rfl rfl)
theorem dX4_says_97 : decode cX4_says 97 = .ok (.putfield 298, 3) := dk_181 1 42 (dk_at dksX4_says_4 4 rfl rfl)
theorem dX4_says_100 : decode cX4_says 100 = .ok (.return_, 1) := dk_177 (dk_at dksX4_says_4 7 rfl rfl)
abbrev cX4_same : ByteArray := prog_10_method_27_code
def yX4_same : MethodName := ⟨RX4, "same", "()V"⟩
def dkwX4_same_3 : List UInt8 := [28, 183, 1, 51, 182, 1, 57, 87, 177]
abbrev dktX4_same_3 : List UInt8 := dkwX4_same_3 ++ []
def dkwX4_same_2 : List UInt8 := [167, 0, 4, 3, 6, 182, 0, 112, 42, 182, 0, 29, 42, 180, 0, 25, 180, 1, 45, 187, 1, 49, 89, 27]
abbrev dktX4_same_2 : List UInt8 := dkwX4_same_2 ++ dktX4_same_3
def dkwX4_same_1 : List UInt8 := [180, 0, 25, 180, 1, 45, 187, 1, 49, 89, 27, 28, 183, 1, 51, 182, 1, 52, 154, 0, 7, 4]
abbrev dktX4_same_1 : List UInt8 := dkwX4_same_1 ++ dktX4_same_2
def dkwX4_same_0 : List UInt8 := [42, 182, 0, 29, 42, 182, 1, 10, 60, 42, 3, 182, 0, 208, 61, 42, 27, 28, 159, 0, 29, 42]
abbrev dktX4_same_0 : List UInt8 := dkwX4_same_0 ++ dktX4_same_1
theorem dksX4_same_0 : cX4_same.data.toList.drop 0 = dktX4_same_0 := by decide +kernel
theorem dksX4_same_1 : cX4_same.data.toList.drop 22 = dktX4_same_1 := dk_seg dksX4_same_0 22 rfl rfl
theorem dksX4_same_2 : cX4_same.data.toList.drop 44 = dktX4_same_2 := dk_seg dksX4_same_1 22 rfl rfl
theorem dksX4_same_3 : cX4_same.data.toList.drop 68 = dktX4_same_3 := dk_seg dksX4_same_2 24 rfl rfl
theorem dX4_same_0 : decode cX4_same 0 = .ok (.aload_n 0, 1) := dk_42 (dk_at dksX4_same_0 0 rfl rfl)
theorem dX4_same_1 : decode cX4_same 1 = .ok (.invokevirtual 29, 3) := dk_182 0 29 (dk_at dksX4_same_0 1 rfl rfl)
theorem dX4_same_4 : decode cX4_same 4 = .ok (.aload_n 0, 1) := dk_42 (dk_at dksX4_same_0 4 rfl rfl)
theorem dX4_same_5 : decode cX4_same 5 = .ok (.invokevirtual 266, 3) := dk_182 1 10 (dk_at dksX4_same_0 5 rfl rfl)
theorem dX4_same_8 : decode cX4_same 8 = .ok (.istore_n 1, 1) := dk_60 (dk_at dksX4_same_0 8 rfl rfl)
theorem dX4_same_9 : decode cX4_same 9 = .ok (.aload_n 0, 1) := dk_42 (dk_at dksX4_same_0 9 rfl rfl)
theorem dX4_same_10 : decode cX4_same 10 = .ok (.iconst 0, 1) := dk_3 (dk_at dksX4_same_0 10 rfl rfl)
theorem dX4_same_11 : decode cX4_same 11 = .ok (.invokevirtual 208, 3) := dk_182 0 208 (dk_at dksX4_same_0 11 rfl rfl)
theorem dX4_same_14 : decode cX4_same 14 = .ok (.istore_n 2, 1) := dk_61 (dk_at dksX4_same_0 14 rfl rfl)
theorem dX4_same_15 : decode cX4_same 15 = .ok (.aload_n 0, 1) := dk_42 (dk_at dksX4_same_0 15 rfl rfl)
theorem dX4_same_16 : decode cX4_same 16 = .ok (.iload_n 1, 1) := dk_27 (dk_at dksX4_same_0 16 rfl rfl)
theorem dX4_same_17 : decode cX4_same 17 = .ok (.iload_n 2, 1) := dk_28 (dk_at dksX4_same_0 17 rfl rfl)
theorem dX4_same_18 : decode cX4_same 18 = .ok (.if_icmp .eq 29, 3) := dk_159 0 29 (dk_at dksX4_same_0 18 rfl rfl)
theorem dX4_same_21 : decode cX4_same 21 = .ok (.aload_n 0, 1) := dk_42 (dk_at dksX4_same_0 21 rfl rfl)
theorem dX4_same_22 : decode cX4_same 22 = .ok (.getfield 25, 3) := dk_180 0 25 (dk_at dksX4_same_1 0 rfl rfl)
theorem dX4_same_25 : decode cX4_same 25 = .ok (.getfield 301, 3) := dk_180 1 45 (dk_at dksX4_same_1 3 rfl rfl)
theorem dX4_same_28 : decode cX4_same 28 = .ok (.new 305, 3) := dk_187 1 49 (dk_at dksX4_same_1 6 rfl rfl)
theorem dX4_same_31 : decode cX4_same 31 = .ok (.dup, 1) := dk_89 (dk_at dksX4_same_1 9 rfl rfl)
theorem dX4_same_32 : decode cX4_same 32 = .ok (.iload_n 1, 1) := dk_27 (dk_at dksX4_same_1 10 rfl rfl)
theorem dX4_same_33 : decode cX4_same 33 = .ok (.iload_n 2, 1) := dk_28 (dk_at dksX4_same_1 11 rfl rfl)
theorem dX4_same_34 : decode cX4_same 34 = .ok (.invokespecial 307, 3) := dk_183 1 51 (dk_at dksX4_same_1 12 rfl rfl)
theorem dX4_same_37 : decode cX4_same 37 = .ok (.invokevirtual 308, 3) := dk_182 1 52 (dk_at dksX4_same_1 15 rfl rfl)
theorem dX4_same_40 : decode cX4_same 40 = .ok (.ifCond .ne 7, 3) := dk_154 0 7 (dk_at dksX4_same_1 18 rfl rfl)
theorem dX4_same_43 : decode cX4_same 43 = .ok (.iconst 1, 1) := dk_4 (dk_at dksX4_same_1 21 rfl rfl)
theorem dX4_same_44 : decode cX4_same 44 = .ok (.goto 4, 3) := dk_167 0 4 (dk_at dksX4_same_2 0 rfl rfl)
theorem dX4_same_47 : decode cX4_same 47 = .ok (.iconst 0, 1) := dk_3 (dk_at dksX4_same_2 3 rfl rfl)
theorem dX4_same_48 : decode cX4_same 48 = .ok (.iconst 3, 1) := dk_6 (dk_at dksX4_same_2 4 rfl rfl)
theorem dX4_same_49 : decode cX4_same 49 = .ok (.invokevirtual 112, 3) := dk_182 0 112 (dk_at dksX4_same_2 5 rfl rfl)
theorem dX4_same_52 : decode cX4_same 52 = .ok (.aload_n 0, 1) := dk_42 (dk_at dksX4_same_2 8 rfl rfl)
theorem dX4_same_53 : decode cX4_same 53 = .ok (.invokevirtual 29, 3) := dk_182 0 29 (dk_at dksX4_same_2 9 rfl rfl)
theorem dX4_same_56 : decode cX4_same 56 = .ok (.aload_n 0, 1) := dk_42 (dk_at dksX4_same_2 12 rfl rfl)
theorem dX4_same_57 : decode cX4_same 57 = .ok (.getfield 25, 3) := dk_180 0 25 (dk_at dksX4_same_2 13 rfl rfl)
theorem dX4_same_60 : decode cX4_same 60 = .ok (.getfield 301, 3) := dk_180 1 45 (dk_at dksX4_same_2 16 rfl rfl)
theorem dX4_same_63 : decode cX4_same 63 = .ok (.new 305, 3) := dk_187 1 49 (dk_at dksX4_same_2 19 rfl rfl)
theorem dX4_same_66 : decode cX4_same 66 = .ok (.dup, 1) := dk_89 (dk_at dksX4_same_2 22 rfl rfl)
theorem dX4_same_67 : decode cX4_same 67 = .ok (.iload_n 1, 1) := dk_27 (dk_at dksX4_same_2 23 rfl rfl)
theorem dX4_same_68 : decode cX4_same 68 = .ok (.iload_n 2, 1) := dk_28 (dk_at dksX4_same_3 0 rfl rfl)
theorem dX4_same_69 : decode cX4_same 69 = .ok (.invokespecial 307, 3) := dk_183 1 51 (dk_at dksX4_same_3 1 rfl rfl)
theorem dX4_same_72 : decode cX4_same 72 = .ok (.invokevirtual 313, 3) := dk_182 1 57 (dk_at dksX4_same_3 4 rfl rfl)
theorem dX4_same_75 : decode cX4_same 75 = .ok (.pop, 1) := dk_87 (dk_at dksX4_same_3 7 rfl rfl)
theorem dX4_same_76 : decode cX4_same 76 = .ok (.return_, 1) := dk_177 (dk_at dksX4_same_3 8 rfl rfl)
abbrev cX4_asked : ByteArray := prog_10_method_20_code
def yX4_asked : MethodName := ⟨RX4, "asked", "()LStruckCounts$Rule;"⟩
def dkwX4_asked_1 : List UInt8 := [187, 0, 230, 89, 43, 183, 0, 232, 42, 180, 0, 25, 180, 0, 233, 182, 0, 236, 176]
abbrev dktX4_asked_1 : List UInt8 := dkwX4_asked_1 ++ []
def dkwX4_asked_0 : List UInt8 := [42, 182, 0, 198, 76, 42, 42, 180, 0, 45, 154, 0, 7, 4, 167, 0, 4, 3, 4, 182, 0, 112]
abbrev dktX4_asked_0 : List UInt8 := dkwX4_asked_0 ++ dktX4_asked_1
theorem dksX4_asked_0 : cX4_asked.data.toList.drop 0 = dktX4_asked_0 := by decide +kernel
theorem dksX4_asked_1 : cX4_asked.data.toList.drop 22 = dktX4_asked_1 := dk_seg dksX4_asked_0 22 rfl rfl
theorem dX4_asked_0 : decode cX4_asked 0 = .ok (.aload_n 0, 1) := dk_42 (dk_at dksX4_asked_0 0 rfl rfl)
theorem dX4_asked_1 : decode cX4_asked 1 = .ok (.invokevirtual 198, 3) := dk_182 0 198 (dk_at dksX4_asked_0 1 rfl rfl)
theorem dX4_asked_4 : decode cX4_asked 4 = .ok (.astore_n 1, 1) := dk_76 (dk_at dksX4_asked_0 4 rfl rfl)
theorem dX4_asked_5 : decode cX4_asked 5 = .ok (.aload_n 0, 1) := dk_42 (dk_at dksX4_asked_0 5 rfl rfl)
theorem dX4_asked_6 : decode cX4_asked 6 = .ok (.aload_n 0, 1) := dk_42 (dk_at dksX4_asked_0 6 rfl rfl)
theorem dX4_asked_7 : decode cX4_asked 7 = .ok (.getfield 45, 3) := dk_180 0 45 (dk_at dksX4_asked_0 7 rfl rfl)
theorem dX4_asked_10 : decode cX4_asked 10 = .ok (.ifCond .ne 7, 3) := dk_154 0 7 (dk_at dksX4_asked_0 10 rfl rfl)
theorem dX4_asked_13 : decode cX4_asked 13 = .ok (.iconst 1, 1) := dk_4 (dk_at dksX4_asked_0 13 rfl rfl)
theorem dX4_asked_14 : decode cX4_asked 14 = .ok (.goto 4, 3) := dk_167 0 4 (dk_at dksX4_asked_0 14 rfl rfl)
theorem dX4_asked_17 : decode cX4_asked 17 = .ok (.iconst 0, 1) := dk_3 (dk_at dksX4_asked_0 17 rfl rfl)
theorem dX4_asked_18 : decode cX4_asked 18 = .ok (.iconst 1, 1) := dk_4 (dk_at dksX4_asked_0 18 rfl rfl)
theorem dX4_asked_19 : decode cX4_asked 19 = .ok (.invokevirtual 112, 3) := dk_182 0 112 (dk_at dksX4_asked_0 19 rfl rfl)
theorem dX4_asked_22 : decode cX4_asked 22 = .ok (.new 230, 3) := dk_187 0 230 (dk_at dksX4_asked_1 0 rfl rfl)
theorem dX4_asked_25 : decode cX4_asked 25 = .ok (.dup, 1) := dk_89 (dk_at dksX4_asked_1 3 rfl rfl)
theorem dX4_asked_26 : decode cX4_asked 26 = .ok (.aload_n 1, 1) := dk_43 (dk_at dksX4_asked_1 4 rfl rfl)
theorem dX4_asked_27 : decode cX4_asked 27 = .ok (.invokespecial 232, 3) := dk_183 0 232 (dk_at dksX4_asked_1 5 rfl rfl)
theorem dX4_asked_30 : decode cX4_asked 30 = .ok (.aload_n 0, 1) := dk_42 (dk_at dksX4_asked_1 8 rfl rfl)
theorem dX4_asked_31 : decode cX4_asked 31 = .ok (.getfield 25, 3) := dk_180 0 25 (dk_at dksX4_asked_1 9 rfl rfl)
theorem dX4_asked_34 : decode cX4_asked 34 = .ok (.getfield 233, 3) := dk_180 0 233 (dk_at dksX4_asked_1 12 rfl rfl)
theorem dX4_asked_37 : decode cX4_asked 37 = .ok (.invokevirtual 236, 3) := dk_182 0 236 (dk_at dksX4_asked_1 15 rfl rfl)
theorem dX4_asked_40 : decode cX4_asked 40 = .ok (.areturn, 1) := dk_176 (dk_at dksX4_asked_1 18 rfl rfl)
theorem q173 : (Jvm.Cond.initialized "StruckCounts$Reader") ∈ lw_all := lw_g (lw_at lw_m1 18 rfl) rfl
theorem q324 : (Jvm.Cond.fieldLinkNest "StruckCounts$Reader" (124 : Nat) "StruckCounts$Suit" "names" "Ljava/util/LinkedHashMap;" "StruckCounts") ∈ lw_tbl := lw_at lw_m1 169 rfl
theorem q326 : (Jvm.Cond.fieldLinkNest "StruckCounts$Reader" (301 : Nat) "StruckCounts$Suit" "couples" "Ljava/util/HashSet;" "StruckCounts") ∈ lw_tbl := lw_at lw_m1 171 rfl
theorem q331 : (Jvm.Cond.fieldLinkNest "StruckCounts$Reader" (263 : Nat) "StruckCounts$Suit" "counts" "Ljava/util/ArrayList;" "StruckCounts") ∈ lw_tbl := lw_at lw_m1 176 rfl
theorem q333 : (Jvm.Cond.fieldLinkNest "StruckCounts$Reader" (254 : Nat) "StruckCounts$Suit" "nevers" "Ljava/util/ArrayList;" "StruckCounts") ∈ lw_tbl := lw_at lw_m1 178 rfl
theorem q335 : (Jvm.Cond.fieldLinkNest "StruckCounts$Reader" (284 : Nat) "StruckCounts$Suit" "odds" "[I" "StruckCounts") ∈ lw_tbl := lw_at lw_m1 180 rfl
theorem q339 : (Jvm.Cond.fieldLinkNest "StruckCounts$Reader" (233 : Nat) "StruckCounts$Suit" "facts" "I" "StruckCounts") ∈ lw_tbl := lw_at lw_m1 184 rfl
theorem q340 : (Jvm.Cond.fieldLinkNest "StruckCounts$Reader" (260 : Nat) "StruckCounts$Suit" "pleas" "I" "StruckCounts") ∈ lw_tbl := lw_at lw_m1 185 rfl
theorem q342 : (Jvm.Cond.fieldLinkNest "StruckCounts$Reader" (246 : Nat) "StruckCounts$Suit" "lines" "I" "StruckCounts") ∈ lw_tbl := lw_at lw_m1 187 rfl
theorem q344 : (Jvm.Cond.fieldLinkNest "StruckCounts$Reader" (280 : Nat) "StruckCounts$Suit" "limit" "I" "StruckCounts") ∈ lw_tbl := lw_at lw_m1 189 rfl
theorem q346 : (Jvm.Cond.fieldLinkNest "StruckCounts$Reader" (277 : Nat) "StruckCounts$Suit" "hasLimit" "Z" "StruckCounts") ∈ lw_tbl := lw_at lw_m1 191 rfl
theorem q665 : (Jvm.Cond.instantiable "StruckCounts$Reader" (9 : Nat)) ∈ lw_all := lw_g (lw_at lw_m3 30 rfl) rfl
theorem q667 : (Jvm.Cond.instanceMethod ({ cls := "StruckCounts$Reader", name := "<init>", desc := "([BILStruckCounts$Suit;)V" } : Jvm.MethodName)) ∈ lw_all := lw_g (lw_at lw_m3 32 rfl) rfl
theorem q668 : (Jvm.Cond.code ({ cls := "StruckCounts$Reader", name := "<init>", desc := "([BILStruckCounts$Suit;)V" } : Jvm.MethodName) prog_10_method_1_code (4 : Nat) (Option.none : Option Jvm.ClassFile.FieldType)) ∈ lw_all := lw_g (lw_at lw_m3 33 rfl) rfl
theorem q669 : (Jvm.Cond.methodLink "StruckCounts$Reader" (3 : Nat) ({ cls := "java/lang/Object", name := "<init>", desc := "()V" } : Jvm.MethodName)) ∈ lw_all := lw_g (lw_at lw_m3 34 rfl) rfl
theorem q670 : (Jvm.Cond.stringRef "StruckCounts$Reader" (9 : Nat) "") ∈ lw_tbl := lw_at lw_m3 35 rfl
theorem q671 : (Jvm.Cond.methodLink "StruckCounts$Reader" (29 : Nat) ({ cls := "StruckCounts$Reader", name := "goes", desc := "()V" } : Jvm.MethodName)) ∈ lw_all := lw_g (lw_at lw_m3 36 rfl) rfl
theorem q672 : (Jvm.Cond.privateMethod ({ cls := "StruckCounts$Reader", name := "goes", desc := "()V" } : Jvm.MethodName)) ∈ lw_tbl := lw_at lw_m3 37 rfl
theorem q673 : (Jvm.Cond.instanceMethod ({ cls := "StruckCounts$Reader", name := "goes", desc := "()V" } : Jvm.MethodName)) ∈ lw_all := lw_g (lw_at lw_m3 38 rfl) rfl
theorem q674 : (Jvm.Cond.code ({ cls := "StruckCounts$Reader", name := "goes", desc := "()V" } : Jvm.MethodName) prog_10_method_3_code (2 : Nat) (Option.none : Option Jvm.ClassFile.FieldType)) ∈ lw_all := lw_g (lw_at lw_m3 39 rfl) rfl
theorem q675 : (Jvm.Cond.methodLink "StruckCounts$Reader" (35 : Nat) ({ cls := "StruckCounts$Reader", name := "here", desc := "()I" } : Jvm.MethodName)) ∈ lw_all := lw_g (lw_at lw_m3 40 rfl) rfl
theorem q676 : (Jvm.Cond.privateMethod ({ cls := "StruckCounts$Reader", name := "here", desc := "()I" } : Jvm.MethodName)) ∈ lw_tbl := lw_at lw_m3 41 rfl
theorem q677 : (Jvm.Cond.instanceMethod ({ cls := "StruckCounts$Reader", name := "here", desc := "()I" } : Jvm.MethodName)) ∈ lw_all := lw_g (lw_at lw_m3 42 rfl) rfl
theorem q678 : (Jvm.Cond.code ({ cls := "StruckCounts$Reader", name := "here", desc := "()I" } : Jvm.MethodName) prog_10_method_2_code (1 : Nat) (Option.some Jvm.ClassFile.FieldType.int)) ∈ lw_all := lw_g (lw_at lw_m3 43 rfl) rfl
theorem q679 : (Jvm.Cond.methodLinkNest "StruckCounts$Reader" (48 : Nat) ({ cls := "StruckCounts", name := "in", desc := "(III)Z" } : Jvm.MethodName) "StruckCounts") ∈ lw_tbl := lw_at lw_m3 44 rfl
theorem q680 : (Jvm.Cond.classLink "StruckCounts$Reader" (52 : Nat) "java/lang/StringBuilder") ∈ lw_all := lw_g (lw_at lw_m3 45 rfl) rfl
theorem q682 : (Jvm.Cond.methodLink "StruckCounts$Reader" (54 : Nat) ({ cls := "java/lang/StringBuilder", name := "<init>", desc := "()V" } : Jvm.MethodName)) ∈ lw_all := lw_g (lw_at lw_m3 47 rfl) rfl
theorem q711 : (Jvm.Cond.methodLink "StruckCounts$Reader" (55 : Nat) ({ cls := "java/lang/StringBuilder", name := "append", desc := "(C)Ljava/lang/StringBuilder;" } : Jvm.MethodName)) ∈ lw_all := lw_g (lw_at lw_m3 76 rfl) rfl
theorem q804 : (Jvm.Cond.methodLink "StruckCounts$Reader" (59 : Nat) ({ cls := "java/lang/StringBuilder", name := "toString", desc := "()Ljava/lang/String;" } : Jvm.MethodName)) ∈ lw_all := lw_g (lw_at lw_m3 169 rfl) rfl
theorem q867 : (Jvm.Cond.methodLink "StruckCounts$Reader" (63 : Nat) ({ cls := "java/lang/String", name := "length", desc := "()I" } : Jvm.MethodName)) ∈ lw_all := lw_g (lw_at lw_m3 232 rfl) rfl
theorem q875 : (Jvm.Cond.stringRef "StruckCounts$Reader" (68 : Nat) "!&|(),;") ∈ lw_tbl := lw_at lw_m4 0 rfl
theorem q876 : (Jvm.Cond.methodLink "StruckCounts$Reader" (70 : Nat) ({ cls := "java/lang/String", name := "indexOf", desc := "(I)I" } : Jvm.MethodName)) ∈ lw_all := lw_g (lw_at lw_m4 1 rfl) rfl
theorem q935 : (Jvm.Cond.fieldLink "StruckCounts$Reader" (17 : Nat) "StruckCounts$Reader" "text" "[B") ∈ lw_all := lw_g (lw_at lw_m4 60 rfl) rfl
theorem q936 : (Jvm.Cond.fieldLink "StruckCounts$Reader" (21 : Nat) "StruckCounts$Reader" "size" "I") ∈ lw_all := lw_g (lw_at lw_m4 61 rfl) rfl
theorem q937 : (Jvm.Cond.fieldLink "StruckCounts$Reader" (25 : Nat) "StruckCounts$Reader" "suit" "LStruckCounts$Suit;") ∈ lw_all := lw_g (lw_at lw_m4 62 rfl) rfl
theorem q938 : (Jvm.Cond.fieldLink "StruckCounts$Reader" (32 : Nat) "StruckCounts$Reader" "at" "I") ∈ lw_all := lw_g (lw_at lw_m4 63 rfl) rfl
theorem q939 : (Jvm.Cond.fieldLink "StruckCounts$Reader" (39 : Nat) "StruckCounts$Reader" "from" "I") ∈ lw_all := lw_g (lw_at lw_m4 64 rfl) rfl
theorem q940 : (Jvm.Cond.fieldLink "StruckCounts$Reader" (45 : Nat) "StruckCounts$Reader" "token" "I") ∈ lw_all := lw_g (lw_at lw_m4 65 rfl) rfl
theorem q941 : (Jvm.Cond.fieldLink "StruckCounts$Reader" (42 : Nat) "StruckCounts$Reader" "value" "I") ∈ lw_all := lw_g (lw_at lw_m4 66 rfl) rfl
theorem q942 : (Jvm.Cond.fieldLink "StruckCounts$Reader" (184 : Nat) "StruckCounts$Reader" "open" "I") ∈ lw_all := lw_g (lw_at lw_m4 67 rfl) rfl
theorem q943 : (Jvm.Cond.fieldLink "StruckCounts$Reader" (11 : Nat) "StruckCounts$Reader" "word" "Ljava/lang/String;") ∈ lw_all := lw_g (lw_at lw_m4 68 rfl) rfl
theorem q944 : (Jvm.Cond.laysFinal "StruckCounts$Reader" "StruckCounts$Reader" "text" "[B") ∈ lw_all := lw_g (lw_at lw_m4 69 rfl) rfl
theorem q945 : (Jvm.Cond.soleField "StruckCounts$Reader" "text") ∈ lw_all := lw_g (lw_at lw_m4 70 rfl) rfl
theorem q946 : (Jvm.Cond.laysFinal "StruckCounts$Reader" "StruckCounts$Reader" "size" "I") ∈ lw_all := lw_g (lw_at lw_m4 71 rfl) rfl
theorem q947 : (Jvm.Cond.soleField "StruckCounts$Reader" "size") ∈ lw_all := lw_g (lw_at lw_m4 72 rfl) rfl
theorem q948 : (Jvm.Cond.lays "StruckCounts$Reader" "StruckCounts$Reader" "suit" "LStruckCounts$Suit;") ∈ lw_all := lw_g (lw_at lw_m4 73 rfl) rfl
theorem q949 : (Jvm.Cond.soleField "StruckCounts$Reader" "suit") ∈ lw_all := lw_g (lw_at lw_m4 74 rfl) rfl
theorem q950 : (Jvm.Cond.lays "StruckCounts$Reader" "StruckCounts$Reader" "at" "I") ∈ lw_all := lw_g (lw_at lw_m4 75 rfl) rfl
theorem q951 : (Jvm.Cond.soleField "StruckCounts$Reader" "at") ∈ lw_all := lw_g (lw_at lw_m4 76 rfl) rfl
theorem q952 : (Jvm.Cond.lays "StruckCounts$Reader" "StruckCounts$Reader" "from" "I") ∈ lw_all := lw_g (lw_at lw_m4 77 rfl) rfl
theorem q953 : (Jvm.Cond.soleField "StruckCounts$Reader" "from") ∈ lw_all := lw_g (lw_at lw_m4 78 rfl) rfl
theorem q954 : (Jvm.Cond.lays "StruckCounts$Reader" "StruckCounts$Reader" "token" "I") ∈ lw_all := lw_g (lw_at lw_m4 79 rfl) rfl
theorem q955 : (Jvm.Cond.soleField "StruckCounts$Reader" "token") ∈ lw_all := lw_g (lw_at lw_m4 80 rfl) rfl
theorem q956 : (Jvm.Cond.lays "StruckCounts$Reader" "StruckCounts$Reader" "value" "I") ∈ lw_all := lw_g (lw_at lw_m4 81 rfl) rfl
theorem q957 : (Jvm.Cond.soleField "StruckCounts$Reader" "value") ∈ lw_all := lw_g (lw_at lw_m4 82 rfl) rfl
theorem q958 : (Jvm.Cond.lays "StruckCounts$Reader" "StruckCounts$Reader" "open" "I") ∈ lw_all := lw_g (lw_at lw_m4 83 rfl) rfl
theorem q959 : (Jvm.Cond.soleField "StruckCounts$Reader" "open") ∈ lw_all := lw_g (lw_at lw_m4 84 rfl) rfl
theorem q960 : (Jvm.Cond.lays "StruckCounts$Reader" "StruckCounts$Reader" "word" "Ljava/lang/String;") ∈ lw_all := lw_g (lw_at lw_m4 85 rfl) rfl
theorem q961 : (Jvm.Cond.soleField "StruckCounts$Reader" "word") ∈ lw_all := lw_g (lw_at lw_m4 86 rfl) rfl
theorem q962 : (Jvm.Cond.superclass "StruckCounts$Reader" "java/lang/Object") ∈ lw_all := lw_g (lw_at lw_m4 87 rfl) rfl
theorem q964 : (Jvm.Cond.instanceMethod ({ cls := "StruckCounts$Reader", name := "whole", desc := "()LStruckCounts$Suit;" } : Jvm.MethodName)) ∈ lw_all := lw_g (lw_at lw_m4 89 rfl) rfl
theorem q965 : (Jvm.Cond.selects "StruckCounts$Reader" ({ cls := "StruckCounts$Reader", name := "whole", desc := "()LStruckCounts$Suit;" } : Jvm.MethodName) ({ cls := "StruckCounts$Reader", name := "whole", desc := "()LStruckCounts$Suit;" } : Jvm.MethodName)) ∈ lw_all := lw_g (lw_at lw_m4 90 rfl) rfl
theorem q966 : (Jvm.Cond.code ({ cls := "StruckCounts$Reader", name := "whole", desc := "()LStruckCounts$Suit;" } : Jvm.MethodName) prog_10_method_21_code (3 : Nat) (Option.some (Jvm.ClassFile.FieldType.object "StruckCounts$Suit"))) ∈ lw_all := lw_g (lw_at lw_m4 91 rfl) rfl
theorem q967 : (Jvm.Cond.stringRef "StruckCounts$Reader" (88 : Nat) "never") ∈ lw_tbl := lw_at lw_m4 92 rfl
theorem q968 : (Jvm.Cond.methodLink "StruckCounts$Reader" (116 : Nat) ({ cls := "StruckCounts$Reader", name := "isWord", desc := "(Ljava/lang/String;)Z" } : Jvm.MethodName)) ∈ lw_all := lw_g (lw_at lw_m4 93 rfl) rfl
theorem q969 : (Jvm.Cond.privateMethod ({ cls := "StruckCounts$Reader", name := "isWord", desc := "(Ljava/lang/String;)Z" } : Jvm.MethodName)) ∈ lw_tbl := lw_at lw_m4 94 rfl
theorem q970 : (Jvm.Cond.instanceMethod ({ cls := "StruckCounts$Reader", name := "isWord", desc := "(Ljava/lang/String;)Z" } : Jvm.MethodName)) ∈ lw_all := lw_g (lw_at lw_m4 95 rfl) rfl
theorem q971 : (Jvm.Cond.code ({ cls := "StruckCounts$Reader", name := "isWord", desc := "(Ljava/lang/String;)Z" } : Jvm.MethodName) prog_10_method_6_code (2 : Nat) (Option.some Jvm.ClassFile.FieldType.boolean)) ∈ lw_all := lw_g (lw_at lw_m4 96 rfl) rfl
theorem q972 : (Jvm.Cond.methodLink "StruckCounts$Reader" (79 : Nat) ({ cls := "java/lang/String", name := "equals", desc := "(Ljava/lang/Object;)Z" } : Jvm.MethodName)) ∈ lw_all := lw_g (lw_at lw_m4 97 rfl) rfl
theorem q980 : (Jvm.Cond.methodLink "StruckCounts$Reader" (240 : Nat) ({ cls := "StruckCounts$Reader", name := "line", desc := "()V" } : Jvm.MethodName)) ∈ lw_all := lw_g (lw_at lw_m4 105 rfl) rfl
theorem q981 : (Jvm.Cond.privateMethod ({ cls := "StruckCounts$Reader", name := "line", desc := "()V" } : Jvm.MethodName)) ∈ lw_tbl := lw_at lw_m4 106 rfl
theorem q982 : (Jvm.Cond.instanceMethod ({ cls := "StruckCounts$Reader", name := "line", desc := "()V" } : Jvm.MethodName)) ∈ lw_all := lw_g (lw_at lw_m4 107 rfl) rfl
theorem q983 : (Jvm.Cond.code ({ cls := "StruckCounts$Reader", name := "line", desc := "()V" } : Jvm.MethodName) prog_10_method_22_code (4 : Nat) (Option.none : Option Jvm.ClassFile.FieldType)) ∈ lw_all := lw_g (lw_at lw_m4 108 rfl) rfl
theorem q984 : (Jvm.Cond.methodLink "StruckCounts$Reader" (112 : Nat) ({ cls := "StruckCounts$Reader", name := "must", desc := "(ZI)V" } : Jvm.MethodName)) ∈ lw_all := lw_g (lw_at lw_m4 109 rfl) rfl
theorem q985 : (Jvm.Cond.privateMethod ({ cls := "StruckCounts$Reader", name := "must", desc := "(ZI)V" } : Jvm.MethodName)) ∈ lw_tbl := lw_at lw_m4 110 rfl
theorem q986 : (Jvm.Cond.instanceMethod ({ cls := "StruckCounts$Reader", name := "must", desc := "(ZI)V" } : Jvm.MethodName)) ∈ lw_all := lw_g (lw_at lw_m4 111 rfl) rfl
theorem q987 : (Jvm.Cond.code ({ cls := "StruckCounts$Reader", name := "must", desc := "(ZI)V" } : Jvm.MethodName) prog_10_method_4_code (3 : Nat) (Option.none : Option Jvm.ClassFile.FieldType)) ∈ lw_all := lw_g (lw_at lw_m4 112 rfl) rfl
theorem q988 : (Jvm.Cond.classLink "StruckCounts$Reader" (74 : Nat) "StruckCounts$Fault") ∈ lw_all := lw_g (lw_at lw_m4 113 rfl) rfl
theorem q1026 : (Jvm.Cond.methodLink "StruckCounts$Reader" (76 : Nat) ({ cls := "StruckCounts$Fault", name := "<init>", desc := "(II)V" } : Jvm.MethodName)) ∈ lw_all := lw_g (lw_at lw_m4 151 rfl) rfl
theorem q1056 : (Jvm.Cond.methodLink "StruckCounts$Reader" (83 : Nat) ({ cls := "java/lang/String", name := "hashCode", desc := "()I" } : Jvm.MethodName)) ∈ lw_all := lw_g (lw_at lw_m4 181 rfl) rfl
theorem q1105 : (Jvm.Cond.stringRef "StruckCounts$Reader" (86 : Nat) "fact") ∈ lw_tbl := lw_at lw_m4 230 rfl
theorem q1106 : (Jvm.Cond.stringRef "StruckCounts$Reader" (90 : Nat) "count") ∈ lw_tbl := lw_at lw_m4 231 rfl
theorem q1107 : (Jvm.Cond.stringRef "StruckCounts$Reader" (98 : Nat) "plea") ∈ lw_tbl := lw_at lw_m4 232 rfl
theorem q1108 : (Jvm.Cond.stringRef "StruckCounts$Reader" (100 : Nat) "says") ∈ lw_tbl := lw_at lw_m4 233 rfl
theorem q1109 : (Jvm.Cond.stringRef "StruckCounts$Reader" (102 : Nat) "same") ∈ lw_tbl := lw_at lw_m4 234 rfl
theorem q1110 : (Jvm.Cond.stringRef "StruckCounts$Reader" (104 : Nat) "limit") ∈ lw_tbl := lw_at lw_m4 235 rfl
theorem q1111 : (Jvm.Cond.methodLink "StruckCounts$Reader" (252 : Nat) ({ cls := "StruckCounts$Reader", name := "fact", desc := "()V" } : Jvm.MethodName)) ∈ lw_all := lw_g (lw_at lw_m4 236 rfl) rfl
theorem q1112 : (Jvm.Cond.privateMethod ({ cls := "StruckCounts$Reader", name := "fact", desc := "()V" } : Jvm.MethodName)) ∈ lw_tbl := lw_at lw_m4 237 rfl
theorem q1113 : (Jvm.Cond.instanceMethod ({ cls := "StruckCounts$Reader", name := "fact", desc := "()V" } : Jvm.MethodName)) ∈ lw_all := lw_g (lw_at lw_m4 238 rfl) rfl
theorem q1114 : (Jvm.Cond.code ({ cls := "StruckCounts$Reader", name := "fact", desc := "()V" } : Jvm.MethodName) prog_10_method_24_code (1 : Nat) (Option.none : Option Jvm.ClassFile.FieldType)) ∈ lw_all := lw_g (lw_at lw_m4 239 rfl) rfl
theorem q1115 : (Jvm.Cond.methodLink "StruckCounts$Reader" (282 : Nat) ({ cls := "StruckCounts$Reader", name := "names", desc := "(ZI)V" } : Jvm.MethodName)) ∈ lw_all := lw_g (lw_at lw_m5 0 rfl) rfl
theorem q1116 : (Jvm.Cond.privateMethod ({ cls := "StruckCounts$Reader", name := "names", desc := "(ZI)V" } : Jvm.MethodName)) ∈ lw_tbl := lw_at lw_m5 1 rfl
theorem q1117 : (Jvm.Cond.instanceMethod ({ cls := "StruckCounts$Reader", name := "names", desc := "(ZI)V" } : Jvm.MethodName)) ∈ lw_all := lw_g (lw_at lw_m5 2 rfl) rfl
theorem q1118 : (Jvm.Cond.code ({ cls := "StruckCounts$Reader", name := "names", desc := "(ZI)V" } : Jvm.MethodName) prog_10_method_11_code (3 : Nat) (Option.none : Option Jvm.ClassFile.FieldType)) ∈ lw_all := lw_g (lw_at lw_m5 3 rfl) rfl
theorem q1119 : (Jvm.Cond.methodLink "StruckCounts$Reader" (120 : Nat) ({ cls := "StruckCounts$Reader", name := "isName", desc := "()Z" } : Jvm.MethodName)) ∈ lw_all := lw_g (lw_at lw_m5 4 rfl) rfl
theorem q1120 : (Jvm.Cond.privateMethod ({ cls := "StruckCounts$Reader", name := "isName", desc := "()Z" } : Jvm.MethodName)) ∈ lw_tbl := lw_at lw_m5 5 rfl
theorem q1121 : (Jvm.Cond.instanceMethod ({ cls := "StruckCounts$Reader", name := "isName", desc := "()Z" } : Jvm.MethodName)) ∈ lw_all := lw_g (lw_at lw_m5 6 rfl) rfl
theorem q1122 : (Jvm.Cond.code ({ cls := "StruckCounts$Reader", name := "isName", desc := "()Z" } : Jvm.MethodName) prog_10_method_7_code (3 : Nat) (Option.some Jvm.ClassFile.FieldType.boolean)) ∈ lw_all := lw_g (lw_at lw_m5 7 rfl) rfl
theorem q1123 : (Jvm.Cond.stringRef "StruckCounts$Reader" (92 : Nat) "worth") ∈ lw_tbl := lw_at lw_m5 8 rfl
theorem q1124 : (Jvm.Cond.stringRef "StruckCounts$Reader" (94 : Nat) "arose") ∈ lw_tbl := lw_at lw_m5 9 rfl
theorem q1125 : (Jvm.Cond.stringRef "StruckCounts$Reader" (96 : Nat) "needs") ∈ lw_tbl := lw_at lw_m5 10 rfl
theorem q1126 : (Jvm.Cond.stringRef "StruckCounts$Reader" (106 : Nat) "of") ∈ lw_tbl := lw_at lw_m5 11 rfl
theorem q1127 : (Jvm.Cond.methodLink "StruckCounts$Reader" (130 : Nat) ({ cls := "java/util/LinkedHashMap", name := "containsKey", desc := "(Ljava/lang/Object;)Z" } : Jvm.MethodName)) ∈ lw_all := lw_g (lw_at lw_m5 12 rfl) rfl
theorem q1158 : (Jvm.Cond.selects "StruckCounts$Reader" ({ cls := "java/lang/Object", name := "hashCode", desc := "()I" } : Jvm.MethodName) ({ cls := "java/lang/Object", name := "hashCode", desc := "()I" } : Jvm.MethodName)) ∈ lw_all := lw_g (lw_at lw_m5 43 rfl) rfl
theorem q1190 : (Jvm.Cond.selects "StruckCounts$Reader" ({ cls := "java/lang/Object", name := "equals", desc := "(Ljava/lang/Object;)Z" } : Jvm.MethodName) ({ cls := "java/lang/Object", name := "equals", desc := "(Ljava/lang/Object;)Z" } : Jvm.MethodName)) ∈ lw_all := lw_g (lw_at lw_m5 75 rfl) rfl
theorem q1233 : (Jvm.Cond.selects "StruckCounts$Reader" ({ cls := "java/lang/Object", name := "getClass", desc := "()Ljava/lang/Class;" } : Jvm.MethodName) ({ cls := "java/lang/Object", name := "getClass", desc := "()Ljava/lang/Class;" } : Jvm.MethodName)) ∈ lw_all := lw_g (lw_at lw_m5 118 rfl) rfl
theorem q1435 : (Jvm.Cond.classLink "StruckCounts$Reader" (135 : Nat) "StruckCounts$Owner") ∈ lw_all := lw_g (lw_at lw_m6 80 rfl) rfl
theorem q1437 : (Jvm.Cond.methodLink "StruckCounts$Reader" (137 : Nat) ({ cls := "StruckCounts$Owner", name := "<init>", desc := "(ZI)V" } : Jvm.MethodName)) ∈ lw_all := lw_g (lw_at lw_m6 82 rfl) rfl
theorem q1442 : (Jvm.Cond.fieldLinkNest "StruckCounts$Reader" (147 : Nat) "StruckCounts$Owner" "isFact" "Z" "StruckCounts") ∈ lw_tbl := lw_at lw_m6 87 rfl
theorem q1444 : (Jvm.Cond.fieldLinkNest "StruckCounts$Reader" (151 : Nat) "StruckCounts$Owner" "number" "I" "StruckCounts") ∈ lw_tbl := lw_at lw_m6 89 rfl
theorem q1450 : (Jvm.Cond.methodLink "StruckCounts$Reader" (139 : Nat) ({ cls := "java/util/LinkedHashMap", name := "put", desc := "(Ljava/lang/Object;Ljava/lang/Object;)Ljava/lang/Object;" } : Jvm.MethodName)) ∈ lw_all := lw_g (lw_at lw_m6 95 rfl) rfl
theorem q1654 : (Jvm.Cond.methodLink "StruckCounts$Reader" (215 : Nat) ({ cls := "StruckCounts$Reader", name := "number", desc := "(II)I" } : Jvm.MethodName)) ∈ lw_all := lw_g (lw_at lw_m7 59 rfl) rfl
theorem q1655 : (Jvm.Cond.privateMethod ({ cls := "StruckCounts$Reader", name := "number", desc := "(II)I" } : Jvm.MethodName)) ∈ lw_tbl := lw_at lw_m7 60 rfl
theorem q1656 : (Jvm.Cond.instanceMethod ({ cls := "StruckCounts$Reader", name := "number", desc := "(II)I" } : Jvm.MethodName)) ∈ lw_all := lw_g (lw_at lw_m7 61 rfl) rfl
theorem q1657 : (Jvm.Cond.code ({ cls := "StruckCounts$Reader", name := "number", desc := "(II)I" } : Jvm.MethodName) prog_10_method_10_code (4 : Nat) (Option.some Jvm.ClassFile.FieldType.int)) ∈ lw_all := lw_g (lw_at lw_m7 62 rfl) rfl
theorem q1658 : (Jvm.Cond.methodLink "StruckCounts$Reader" (166 : Nat) ({ cls := "java/util/ArrayList", name := "size", desc := "()I" } : Jvm.MethodName)) ∈ lw_all := lw_g (lw_at lw_m7 63 rfl) rfl
theorem q1659 : (Jvm.Cond.methodLink "StruckCounts$Reader" (198 : Nat) ({ cls := "StruckCounts$Reader", name := "any", desc := "()LStruckCounts$Expr;" } : Jvm.MethodName)) ∈ lw_all := lw_g (lw_at lw_m7 64 rfl) rfl
theorem q1660 : (Jvm.Cond.privateMethod ({ cls := "StruckCounts$Reader", name := "any", desc := "()LStruckCounts$Expr;" } : Jvm.MethodName)) ∈ lw_tbl := lw_at lw_m7 65 rfl
theorem q1661 : (Jvm.Cond.instanceMethod ({ cls := "StruckCounts$Reader", name := "any", desc := "()LStruckCounts$Expr;" } : Jvm.MethodName)) ∈ lw_all := lw_g (lw_at lw_m7 66 rfl) rfl
theorem q1662 : (Jvm.Cond.code ({ cls := "StruckCounts$Reader", name := "any", desc := "()LStruckCounts$Expr;" } : Jvm.MethodName) prog_10_method_14_code (2 : Nat) (Option.some (Jvm.ClassFile.FieldType.object "StruckCounts$Expr"))) ∈ lw_all := lw_g (lw_at lw_m7 67 rfl) rfl
theorem q1663 : (Jvm.Cond.classLink "StruckCounts$Reader" (154 : Nat) "java/util/ArrayList") ∈ lw_all := lw_g (lw_at lw_m7 68 rfl) rfl
theorem q1664 : (Jvm.Cond.methodLink "StruckCounts$Reader" (156 : Nat) ({ cls := "java/util/ArrayList", name := "<init>", desc := "(I)V" } : Jvm.MethodName)) ∈ lw_all := lw_g (lw_at lw_m7 69 rfl) rfl
theorem q1665 : (Jvm.Cond.methodLink "StruckCounts$Reader" (159 : Nat) ({ cls := "StruckCounts$Reader", name := "all", desc := "()LStruckCounts$Expr;" } : Jvm.MethodName)) ∈ lw_all := lw_g (lw_at lw_m7 70 rfl) rfl
theorem q1666 : (Jvm.Cond.privateMethod ({ cls := "StruckCounts$Reader", name := "all", desc := "()LStruckCounts$Expr;" } : Jvm.MethodName)) ∈ lw_tbl := lw_at lw_m7 71 rfl
theorem q1667 : (Jvm.Cond.instanceMethod ({ cls := "StruckCounts$Reader", name := "all", desc := "()LStruckCounts$Expr;" } : Jvm.MethodName)) ∈ lw_all := lw_g (lw_at lw_m7 72 rfl) rfl
theorem q1668 : (Jvm.Cond.code ({ cls := "StruckCounts$Reader", name := "all", desc := "()LStruckCounts$Expr;" } : Jvm.MethodName) prog_10_method_15_code (2 : Nat) (Option.some (Jvm.ClassFile.FieldType.object "StruckCounts$Expr"))) ∈ lw_all := lw_g (lw_at lw_m7 73 rfl) rfl
theorem q1669 : (Jvm.Cond.methodLink "StruckCounts$Reader" (178 : Nat) ({ cls := "StruckCounts$Reader", name := "one", desc := "()LStruckCounts$Expr;" } : Jvm.MethodName)) ∈ lw_all := lw_g (lw_at lw_m7 74 rfl) rfl
theorem q1670 : (Jvm.Cond.privateMethod ({ cls := "StruckCounts$Reader", name := "one", desc := "()LStruckCounts$Expr;" } : Jvm.MethodName)) ∈ lw_tbl := lw_at lw_m7 75 rfl
theorem q1671 : (Jvm.Cond.instanceMethod ({ cls := "StruckCounts$Reader", name := "one", desc := "()LStruckCounts$Expr;" } : Jvm.MethodName)) ∈ lw_all := lw_g (lw_at lw_m7 76 rfl) rfl
theorem q1672 : (Jvm.Cond.code ({ cls := "StruckCounts$Reader", name := "one", desc := "()LStruckCounts$Expr;" } : Jvm.MethodName) prog_10_method_17_code (2 : Nat) (Option.some (Jvm.ClassFile.FieldType.object "StruckCounts$Expr"))) ∈ lw_all := lw_g (lw_at lw_m7 77 rfl) rfl
theorem q1673 : (Jvm.Cond.methodLink "StruckCounts$Reader" (187 : Nat) ({ cls := "StruckCounts$Reader", name := "begins", desc := "()Z" } : Jvm.MethodName)) ∈ lw_all := lw_g (lw_at lw_m7 78 rfl) rfl
theorem q1674 : (Jvm.Cond.privateMethod ({ cls := "StruckCounts$Reader", name := "begins", desc := "()Z" } : Jvm.MethodName)) ∈ lw_tbl := lw_at lw_m7 79 rfl
theorem q1675 : (Jvm.Cond.instanceMethod ({ cls := "StruckCounts$Reader", name := "begins", desc := "()Z" } : Jvm.MethodName)) ∈ lw_all := lw_g (lw_at lw_m7 80 rfl) rfl
theorem q1676 : (Jvm.Cond.code ({ cls := "StruckCounts$Reader", name := "begins", desc := "()Z" } : Jvm.MethodName) prog_10_method_13_code (1 : Nat) (Option.some Jvm.ClassFile.FieldType.boolean)) ∈ lw_all := lw_g (lw_at lw_m7 81 rfl) rfl
theorem q1677 : (Jvm.Cond.methodLink "StruckCounts$Reader" (108 : Nat) ({ cls := "StruckCounts$Reader", name := "isSign", desc := "(C)Z" } : Jvm.MethodName)) ∈ lw_all := lw_g (lw_at lw_m7 82 rfl) rfl
theorem q1678 : (Jvm.Cond.privateMethod ({ cls := "StruckCounts$Reader", name := "isSign", desc := "(C)Z" } : Jvm.MethodName)) ∈ lw_tbl := lw_at lw_m7 83 rfl
theorem q1679 : (Jvm.Cond.instanceMethod ({ cls := "StruckCounts$Reader", name := "isSign", desc := "(C)Z" } : Jvm.MethodName)) ∈ lw_all := lw_g (lw_at lw_m7 84 rfl) rfl
theorem q1680 : (Jvm.Cond.code ({ cls := "StruckCounts$Reader", name := "isSign", desc := "(C)Z" } : Jvm.MethodName) prog_10_method_5_code (2 : Nat) (Option.some Jvm.ClassFile.FieldType.boolean)) ∈ lw_all := lw_g (lw_at lw_m7 85 rfl) rfl
theorem q1681 : (Jvm.Cond.methodLink "StruckCounts$Reader" (190 : Nat) ({ cls := "StruckCounts$Reader", name := "opens", desc := "()V" } : Jvm.MethodName)) ∈ lw_all := lw_g (lw_at lw_m7 86 rfl) rfl
theorem q1682 : (Jvm.Cond.privateMethod ({ cls := "StruckCounts$Reader", name := "opens", desc := "()V" } : Jvm.MethodName)) ∈ lw_tbl := lw_at lw_m7 87 rfl
theorem q1683 : (Jvm.Cond.instanceMethod ({ cls := "StruckCounts$Reader", name := "opens", desc := "()V" } : Jvm.MethodName)) ∈ lw_all := lw_g (lw_at lw_m7 88 rfl) rfl
theorem q1684 : (Jvm.Cond.code ({ cls := "StruckCounts$Reader", name := "opens", desc := "()V" } : Jvm.MethodName) prog_10_method_16_code (1 : Nat) (Option.none : Option Jvm.ClassFile.FieldType)) ∈ lw_all := lw_g (lw_at lw_m7 89 rfl) rfl
theorem q1685 : (Jvm.Cond.classLink "StruckCounts$Reader" (193 : Nat) "StruckCounts$Not") ∈ lw_all := lw_g (lw_at lw_m7 90 rfl) rfl
theorem q1687 : (Jvm.Cond.methodLink "StruckCounts$Reader" (195 : Nat) ({ cls := "StruckCounts$Not", name := "<init>", desc := "(LStruckCounts$Expr;)V" } : Jvm.MethodName)) ∈ lw_all := lw_g (lw_at lw_m7 92 rfl) rfl
theorem q1695 : (Jvm.Cond.methodLink "StruckCounts$Reader" (201 : Nat) ({ cls := "StruckCounts$Reader", name := "sign", desc := "(C)V" } : Jvm.MethodName)) ∈ lw_all := lw_g (lw_at lw_m7 100 rfl) rfl
theorem q1696 : (Jvm.Cond.privateMethod ({ cls := "StruckCounts$Reader", name := "sign", desc := "(C)V" } : Jvm.MethodName)) ∈ lw_tbl := lw_at lw_m7 101 rfl
theorem q1697 : (Jvm.Cond.instanceMethod ({ cls := "StruckCounts$Reader", name := "sign", desc := "(C)V" } : Jvm.MethodName)) ∈ lw_all := lw_g (lw_at lw_m7 102 rfl) rfl
theorem q1698 : (Jvm.Cond.code ({ cls := "StruckCounts$Reader", name := "sign", desc := "(C)V" } : Jvm.MethodName) prog_10_method_8_code (2 : Nat) (Option.none : Option Jvm.ClassFile.FieldType)) ∈ lw_all := lw_g (lw_at lw_m7 103 rfl) rfl
theorem q1699 : (Jvm.Cond.methodLink "StruckCounts$Reader" (205 : Nat) ({ cls := "StruckCounts$Reader", name := "many", desc := "()LStruckCounts$Expr;" } : Jvm.MethodName)) ∈ lw_all := lw_g (lw_at lw_m7 104 rfl) rfl
theorem q1700 : (Jvm.Cond.privateMethod ({ cls := "StruckCounts$Reader", name := "many", desc := "()LStruckCounts$Expr;" } : Jvm.MethodName)) ∈ lw_tbl := lw_at lw_m7 105 rfl
theorem q1701 : (Jvm.Cond.instanceMethod ({ cls := "StruckCounts$Reader", name := "many", desc := "()LStruckCounts$Expr;" } : Jvm.MethodName)) ∈ lw_all := lw_g (lw_at lw_m7 106 rfl) rfl
theorem q1702 : (Jvm.Cond.code ({ cls := "StruckCounts$Reader", name := "many", desc := "()LStruckCounts$Expr;" } : Jvm.MethodName) prog_10_method_18_code (3 : Nat) (Option.some (Jvm.ClassFile.FieldType.object "StruckCounts$Expr"))) ∈ lw_all := lw_g (lw_at lw_m7 107 rfl) rfl
theorem q1703 : (Jvm.Cond.methodLink "StruckCounts$Reader" (218 : Nat) ({ cls := "StruckCounts$Reader", name := "takes", desc := "(Ljava/lang/String;)V" } : Jvm.MethodName)) ∈ lw_all := lw_g (lw_at lw_m7 108 rfl) rfl
theorem q1704 : (Jvm.Cond.privateMethod ({ cls := "StruckCounts$Reader", name := "takes", desc := "(Ljava/lang/String;)V" } : Jvm.MethodName)) ∈ lw_tbl := lw_at lw_m7 109 rfl
theorem q1705 : (Jvm.Cond.instanceMethod ({ cls := "StruckCounts$Reader", name := "takes", desc := "(Ljava/lang/String;)V" } : Jvm.MethodName)) ∈ lw_all := lw_g (lw_at lw_m7 110 rfl) rfl
theorem q1706 : (Jvm.Cond.code ({ cls := "StruckCounts$Reader", name := "takes", desc := "(Ljava/lang/String;)V" } : Jvm.MethodName) prog_10_method_9_code (2 : Nat) (Option.none : Option Jvm.ClassFile.FieldType)) ∈ lw_all := lw_g (lw_at lw_m7 111 rfl) rfl
theorem q1707 : (Jvm.Cond.methodLink "StruckCounts$Reader" (163 : Nat) ({ cls := "java/util/ArrayList", name := "add", desc := "(Ljava/lang/Object;)Z" } : Jvm.MethodName)) ∈ lw_all := lw_g (lw_at lw_m7 112 rfl) rfl
theorem q1736 : (Jvm.Cond.methodLink "StruckCounts$Reader" (222 : Nat) ({ cls := "StruckCounts$Reader", name := "tooMany", desc := "()V" } : Jvm.MethodName)) ∈ lw_all := lw_g (lw_at lw_m7 141 rfl) rfl
theorem q1737 : (Jvm.Cond.privateMethod ({ cls := "StruckCounts$Reader", name := "tooMany", desc := "()V" } : Jvm.MethodName)) ∈ lw_tbl := lw_at lw_m7 142 rfl
theorem q1738 : (Jvm.Cond.instanceMethod ({ cls := "StruckCounts$Reader", name := "tooMany", desc := "()V" } : Jvm.MethodName)) ∈ lw_all := lw_g (lw_at lw_m7 143 rfl) rfl
theorem q1739 : (Jvm.Cond.code ({ cls := "StruckCounts$Reader", name := "tooMany", desc := "()V" } : Jvm.MethodName) prog_10_method_19_code (1 : Nat) (Option.none : Option Jvm.ClassFile.FieldType)) ∈ lw_all := lw_g (lw_at lw_m7 144 rfl) rfl
theorem q1740 : (Jvm.Cond.methodLink "StruckCounts$Reader" (208 : Nat) ({ cls := "StruckCounts$Reader", name := "told", desc := "(Z)I" } : Jvm.MethodName)) ∈ lw_all := lw_g (lw_at lw_m7 145 rfl) rfl
theorem q1741 : (Jvm.Cond.privateMethod ({ cls := "StruckCounts$Reader", name := "told", desc := "(Z)I" } : Jvm.MethodName)) ∈ lw_tbl := lw_at lw_m7 146 rfl
theorem q1742 : (Jvm.Cond.instanceMethod ({ cls := "StruckCounts$Reader", name := "told", desc := "(Z)I" } : Jvm.MethodName)) ∈ lw_all := lw_g (lw_at lw_m7 147 rfl) rfl
theorem q1743 : (Jvm.Cond.code ({ cls := "StruckCounts$Reader", name := "told", desc := "(Z)I" } : Jvm.MethodName) prog_10_method_12_code (3 : Nat) (Option.some Jvm.ClassFile.FieldType.int)) ∈ lw_all := lw_g (lw_at lw_m7 148 rfl) rfl
theorem q1744 : (Jvm.Cond.methodLink "StruckCounts$Reader" (143 : Nat) ({ cls := "java/util/LinkedHashMap", name := "get", desc := "(Ljava/lang/Object;)Ljava/lang/Object;" } : Jvm.MethodName)) ∈ lw_all := lw_g (lw_at lw_m7 149 rfl) rfl
theorem q1753 : (Jvm.Cond.classLink "StruckCounts$Reader" (225 : Nat) "StruckCounts$SoMany") ∈ lw_all := lw_g (lw_at lw_m7 158 rfl) rfl
theorem q1755 : (Jvm.Cond.methodLink "StruckCounts$Reader" (227 : Nat) ({ cls := "StruckCounts$SoMany", name := "<init>", desc := "(ILjava/util/ArrayList;)V" } : Jvm.MethodName)) ∈ lw_all := lw_g (lw_at lw_m7 160 rfl) rfl
theorem q1769 : (Jvm.Cond.classLink "StruckCounts$Reader" (212 : Nat) "StruckCounts$Fact") ∈ lw_all := lw_g (lw_at lw_m7 174 rfl) rfl
theorem q1771 : (Jvm.Cond.methodLink "StruckCounts$Reader" (214 : Nat) ({ cls := "StruckCounts$Fact", name := "<init>", desc := "(I)V" } : Jvm.MethodName)) ∈ lw_all := lw_g (lw_at lw_m7 176 rfl) rfl
theorem q1779 : (Jvm.Cond.methodLink "StruckCounts$Reader" (168 : Nat) ({ cls := "java/util/ArrayList", name := "get", desc := "(I)Ljava/lang/Object;" } : Jvm.MethodName)) ∈ lw_all := lw_g (lw_at lw_m7 184 rfl) rfl
theorem q1780 : (Jvm.Cond.classLink "StruckCounts$Reader" (171 : Nat) "StruckCounts$Expr") ∈ lw_all := lw_g (lw_at lw_m7 185 rfl) rfl
theorem q1781 : (Jvm.Cond.classLink "StruckCounts$Reader" (181 : Nat) "StruckCounts$All") ∈ lw_all := lw_g (lw_at lw_m7 186 rfl) rfl
theorem q1783 : (Jvm.Cond.methodLink "StruckCounts$Reader" (183 : Nat) ({ cls := "StruckCounts$All", name := "<init>", desc := "(Ljava/util/ArrayList;)V" } : Jvm.MethodName)) ∈ lw_all := lw_g (lw_at lw_m7 188 rfl) rfl
theorem q1789 : (Jvm.Cond.classLink "StruckCounts$Reader" (173 : Nat) "StruckCounts$Some") ∈ lw_all := lw_g (lw_at lw_m7 194 rfl) rfl
theorem q1791 : (Jvm.Cond.methodLink "StruckCounts$Reader" (175 : Nat) ({ cls := "StruckCounts$Some", name := "<init>", desc := "(Ljava/util/ArrayList;)V" } : Jvm.MethodName)) ∈ lw_all := lw_g (lw_at lw_m7 196 rfl) rfl
theorem q1794 : (Jvm.Cond.methodLink "StruckCounts$Reader" (258 : Nat) ({ cls := "StruckCounts$Reader", name := "count", desc := "()V" } : Jvm.MethodName)) ∈ lw_all := lw_g (lw_at lw_m7 199 rfl) rfl
theorem q1795 : (Jvm.Cond.privateMethod ({ cls := "StruckCounts$Reader", name := "count", desc := "()V" } : Jvm.MethodName)) ∈ lw_tbl := lw_at lw_m7 200 rfl
theorem q1796 : (Jvm.Cond.instanceMethod ({ cls := "StruckCounts$Reader", name := "count", desc := "()V" } : Jvm.MethodName)) ∈ lw_all := lw_g (lw_at lw_m7 201 rfl) rfl
theorem q1797 : (Jvm.Cond.code ({ cls := "StruckCounts$Reader", name := "count", desc := "()V" } : Jvm.MethodName) prog_10_method_25_code (3 : Nat) (Option.none : Option Jvm.ClassFile.FieldType)) ∈ lw_all := lw_g (lw_at lw_m7 202 rfl) rfl
theorem q1798 : (Jvm.Cond.classLink "StruckCounts$Reader" (269 : Nat) "StruckCounts$Told") ∈ lw_all := lw_g (lw_at lw_m7 203 rfl) rfl
theorem q1800 : (Jvm.Cond.methodLink "StruckCounts$Reader" (288 : Nat) ({ cls := "StruckCounts$Told", name := "<init>", desc := "(II)V" } : Jvm.MethodName)) ∈ lw_all := lw_g (lw_at lw_m7 205 rfl) rfl
theorem q1813 : (Jvm.Cond.fieldLinkNest "StruckCounts$Reader" (289 : Nat) "StruckCounts$Told" "elements" "Ljava/util/ArrayList;" "StruckCounts") ∈ lw_tbl := lw_at lw_m7 218 rfl
theorem q1817 : (Jvm.Cond.fieldLinkNest "StruckCounts$Reader" (271 : Nat) "StruckCounts$Told" "pleas" "Ljava/util/ArrayList;" "StruckCounts") ∈ lw_tbl := lw_at lw_m7 222 rfl
theorem q1819 : (Jvm.Cond.fieldLinkNest "StruckCounts$Reader" (292 : Nat) "StruckCounts$Told" "says" "I" "StruckCounts") ∈ lw_tbl := lw_at lw_m7 224 rfl
theorem q1821 : (Jvm.Cond.fieldLinkNest "StruckCounts$Reader" (298 : Nat) "StruckCounts$Told" "so" "I" "StruckCounts") ∈ lw_tbl := lw_at lw_m7 226 rfl
theorem q1835 : (Jvm.Cond.classLink "StruckCounts$Reader" (230 : Nat) "StruckCounts$Rule") ∈ lw_all := lw_g (lw_at lw_m8 0 rfl) rfl
theorem q1837 : (Jvm.Cond.methodLink "StruckCounts$Reader" (232 : Nat) ({ cls := "StruckCounts$Rule", name := "<init>", desc := "(LStruckCounts$Expr;)V" } : Jvm.MethodName)) ∈ lw_all := lw_g (lw_at lw_m8 2 rfl) rfl
theorem q1850 : (Jvm.Cond.methodLink "StruckCounts$Reader" (266 : Nat) ({ cls := "StruckCounts$Reader", name := "counted", desc := "()I" } : Jvm.MethodName)) ∈ lw_all := lw_g (lw_at lw_m8 15 rfl) rfl
theorem q1851 : (Jvm.Cond.privateMethod ({ cls := "StruckCounts$Reader", name := "counted", desc := "()I" } : Jvm.MethodName)) ∈ lw_tbl := lw_at lw_m8 16 rfl
theorem q1852 : (Jvm.Cond.instanceMethod ({ cls := "StruckCounts$Reader", name := "counted", desc := "()I" } : Jvm.MethodName)) ∈ lw_all := lw_g (lw_at lw_m8 17 rfl) rfl
theorem q1853 : (Jvm.Cond.code ({ cls := "StruckCounts$Reader", name := "counted", desc := "()I" } : Jvm.MethodName) prog_10_method_23_code (2 : Nat) (Option.some Jvm.ClassFile.FieldType.int)) ∈ lw_all := lw_g (lw_at lw_m8 18 rfl) rfl
theorem q1854 : (Jvm.Cond.methodLink "StruckCounts$Reader" (273 : Nat) ({ cls := "StruckCounts$Reader", name := "says", desc := "()V" } : Jvm.MethodName)) ∈ lw_all := lw_g (lw_at lw_m8 19 rfl) rfl
theorem q1855 : (Jvm.Cond.privateMethod ({ cls := "StruckCounts$Reader", name := "says", desc := "()V" } : Jvm.MethodName)) ∈ lw_tbl := lw_at lw_m8 20 rfl
theorem q1856 : (Jvm.Cond.instanceMethod ({ cls := "StruckCounts$Reader", name := "says", desc := "()V" } : Jvm.MethodName)) ∈ lw_all := lw_g (lw_at lw_m8 21 rfl) rfl
theorem q1857 : (Jvm.Cond.code ({ cls := "StruckCounts$Reader", name := "says", desc := "()V" } : Jvm.MethodName) prog_10_method_26_code (4 : Nat) (Option.none : Option Jvm.ClassFile.FieldType)) ∈ lw_all := lw_g (lw_at lw_m8 22 rfl) rfl
theorem q1858 : (Jvm.Cond.methodLinkNest "StruckCounts$Reader" (294 : Nat) ({ cls := "StruckCounts", name := "has", desc := "(II)Z" } : Jvm.MethodName) "StruckCounts") ∈ lw_tbl := lw_at lw_m8 23 rfl
theorem q1859 : (Jvm.Cond.methodLink "StruckCounts$Reader" (275 : Nat) ({ cls := "StruckCounts$Reader", name := "same", desc := "()V" } : Jvm.MethodName)) ∈ lw_all := lw_g (lw_at lw_m8 24 rfl) rfl
theorem q1860 : (Jvm.Cond.privateMethod ({ cls := "StruckCounts$Reader", name := "same", desc := "()V" } : Jvm.MethodName)) ∈ lw_tbl := lw_at lw_m8 25 rfl
theorem q1861 : (Jvm.Cond.instanceMethod ({ cls := "StruckCounts$Reader", name := "same", desc := "()V" } : Jvm.MethodName)) ∈ lw_all := lw_g (lw_at lw_m8 26 rfl) rfl
theorem q1862 : (Jvm.Cond.code ({ cls := "StruckCounts$Reader", name := "same", desc := "()V" } : Jvm.MethodName) prog_10_method_27_code (3 : Nat) (Option.none : Option Jvm.ClassFile.FieldType)) ∈ lw_all := lw_g (lw_at lw_m8 27 rfl) rfl
theorem q1863 : (Jvm.Cond.classLink "StruckCounts$Reader" (305 : Nat) "StruckCounts$Couple") ∈ lw_all := lw_g (lw_at lw_m8 28 rfl) rfl
theorem q1865 : (Jvm.Cond.methodLink "StruckCounts$Reader" (307 : Nat) ({ cls := "StruckCounts$Couple", name := "<init>", desc := "(II)V" } : Jvm.MethodName)) ∈ lw_all := lw_g (lw_at lw_m8 30 rfl) rfl
theorem q1876 : (Jvm.Cond.methodLink "StruckCounts$Reader" (308 : Nat) ({ cls := "java/util/HashSet", name := "contains", desc := "(Ljava/lang/Object;)Z" } : Jvm.MethodName)) ∈ lw_all := lw_g (lw_at lw_m8 41 rfl) rfl
theorem q1881 : (Jvm.Cond.methodLink "StruckCounts$Reader" (313 : Nat) ({ cls := "java/util/HashSet", name := "add", desc := "(Ljava/lang/Object;)Z" } : Jvm.MethodName)) ∈ lw_all := lw_g (lw_at lw_m8 46 rfl) rfl
theorem q1888 : (Jvm.Cond.methodLink "StruckCounts$Reader" (243 : Nat) ({ cls := "StruckCounts$Suit", name := "hasWorld", desc := "()Z" } : Jvm.MethodName)) ∈ lw_all := lw_g (lw_at lw_m8 53 rfl) rfl
theorem q1892 : (Jvm.Cond.methodLink "StruckCounts$Reader" (249 : Nat) ({ cls := "StruckCounts$Suit", name := "laid", desc := "()LStruckCounts$Suit;" } : Jvm.MethodName)) ∈ lw_all := lw_g (lw_at lw_m8 57 rfl) rfl
theorem q2351 : (Jvm.Cond.instanceMethod ({ cls := "StruckCounts$Reader", name := "asked", desc := "()LStruckCounts$Rule;" } : Jvm.MethodName)) ∈ lw_all := lw_g (lw_at lw_m10 36 rfl) rfl
theorem q2352 : (Jvm.Cond.selects "StruckCounts$Reader" ({ cls := "StruckCounts$Reader", name := "asked", desc := "()LStruckCounts$Rule;" } : Jvm.MethodName) ({ cls := "StruckCounts$Reader", name := "asked", desc := "()LStruckCounts$Rule;" } : Jvm.MethodName)) ∈ lw_all := lw_g (lw_at lw_m10 37 rfl) rfl
theorem q2353 : (Jvm.Cond.code ({ cls := "StruckCounts$Reader", name := "asked", desc := "()LStruckCounts$Rule;" } : Jvm.MethodName) prog_10_method_20_code (2 : Nat) (Option.some (Jvm.ClassFile.FieldType.object "StruckCounts$Rule"))) ∈ lw_all := lw_g (lw_at lw_m10 38 rfl) rfl
theorem q2354 : (Jvm.Cond.methodLink "StruckCounts$Reader" (236 : Nat) ({ cls := "StruckCounts$Rule", name := "laid", desc := "(I)LStruckCounts$Rule;" } : Jvm.MethodName)) ∈ lw_all := lw_g (lw_at lw_m10 39 rfl) rfl
theorem q3088 : (Jvm.Cond.castable "StruckCounts$Reader" "java/lang/Object") ∈ lw_tbl := lw_at lw_m13 53 rfl
theorem in_X4 : ∀ w ∈ wsX40, w ∈ lw_all := lw_in wsX40 [944, 946, 948, 950, 952, 954, 956, 958, 960] (by decide +kernel) (by decide +kernel)

/-! StruckCounts$Fault -/
set_option maxRecDepth 100000
def RX5 : String := "StruckCounts$Fault"
def TX5 : u_T := fun k => match k with
  | 0 => ("java/lang/Throwable", "cause", "Ljava/lang/Throwable;", false)
  | 1 => ("java/lang/Throwable", "stackTrace", "[Ljava/lang/StackTraceElement;", false)
  | 2 => ("java/lang/Throwable", "suppressedExceptions", "Ljava/util/List;", false)
  | 3 => ("java/lang/Throwable", "detailMessage", "Ljava/lang/String;", false)
  | 4 => ("java/lang/Throwable", "backtrace", "Ljava/lang/Object;", false)
  | 5 => ("java/lang/Throwable", "depth", "I", false)
  | 6 => ("StruckCounts$Fault", "kind", "I", true)
  | _ => ("StruckCounts$Fault", "place", "I", true)
def tyX5 : Nat → FieldType := fun k => match k with
  | 0 => .object "java/lang/Throwable"
  | 1 => .array (.object "java/lang/StackTraceElement")
  | 2 => .object "java/util/List"
  | 3 => .object "java/lang/String"
  | 4 => .object "java/lang/Object"
  | 5 => .int
  | 6 => .int
  | _ => .int
abbrev wsX50 : List Cond := u_ws RX5 TX5 8
theorem nmX5 : ∀ a, a < 8 → ∀ b, b < 8 → a ≠ b → (TX5 a).2.1 ≠ (TX5 b).2.1 := by decide +kernel
theorem tyX5_ok : ∀ k, k < 8 → parseFieldDescriptor (TX5 k).2.2.1 = some (tyX5 k) := by decide +kernel
abbrev cX5_init : ByteArray := prog_6_method_1_code
def yX5_init : MethodName := ⟨RX5, "<init>", "(II)V"⟩
def dkwX5_init_0 : List UInt8 := [42, 1, 1, 3, 3, 183, 0, 1, 42, 27, 181, 0, 7, 42, 28, 181, 0, 13, 177]
abbrev dktX5_init_0 : List UInt8 := dkwX5_init_0 ++ []
theorem dksX5_init_0 : cX5_init.data.toList.drop 0 = dktX5_init_0 := by decide +kernel
theorem dX5_init_0 : decode cX5_init 0 = .ok (.aload_n 0, 1) := dk_42 (dk_at dksX5_init_0 0 rfl rfl)
theorem dX5_init_1 : decode cX5_init 1 = .ok (.aconst_null, 1) := dk_1 (dk_at dksX5_init_0 1 rfl rfl)
theorem dX5_init_2 : decode cX5_init 2 = .ok (.aconst_null, 1) := dk_1 (dk_at dksX5_init_0 2 rfl rfl)
theorem dX5_init_3 : decode cX5_init 3 = .ok (.iconst 0, 1) := dk_3 (dk_at dksX5_init_0 3 rfl rfl)
theorem dX5_init_4 : decode cX5_init 4 = .ok (.iconst 0, 1) := dk_3 (dk_at dksX5_init_0 4 rfl rfl)
theorem dX5_init_5 : decode cX5_init 5 = .ok (.invokespecial 1, 3) := dk_183 0 1 (dk_at dksX5_init_0 5 rfl rfl)
theorem dX5_init_8 : decode cX5_init 8 = .ok (.aload_n 0, 1) := dk_42 (dk_at dksX5_init_0 8 rfl rfl)
theorem dX5_init_9 : decode cX5_init 9 = .ok (.iload_n 1, 1) := dk_27 (dk_at dksX5_init_0 9 rfl rfl)
theorem dX5_init_10 : decode cX5_init 10 = .ok (.putfield 7, 3) := dk_181 0 7 (dk_at dksX5_init_0 10 rfl rfl)
theorem dX5_init_13 : decode cX5_init 13 = .ok (.aload_n 0, 1) := dk_42 (dk_at dksX5_init_0 13 rfl rfl)
theorem dX5_init_14 : decode cX5_init 14 = .ok (.iload_n 2, 1) := dk_28 (dk_at dksX5_init_0 14 rfl rfl)
theorem dX5_init_15 : decode cX5_init 15 = .ok (.putfield 13, 3) := dk_181 0 13 (dk_at dksX5_init_0 15 rfl rfl)
theorem dX5_init_18 : decode cX5_init 18 = .ok (.return_, 1) := dk_177 (dk_at dksX5_init_0 18 rfl rfl)
theorem q186 : (Jvm.Cond.initialized "StruckCounts$Fault") ∈ lw_all := lw_g (lw_at lw_m1 31 rfl) rfl
theorem q989 : (Jvm.Cond.instantiable "StruckCounts$Fault" (8 : Nat)) ∈ lw_all := lw_g (lw_at lw_m4 114 rfl) rfl
theorem q990 : (Jvm.Cond.castable "StruckCounts$Fault" "StruckCounts$Fault") ∈ lw_tbl := lw_at lw_m4 115 rfl
theorem q995 : (Jvm.Cond.selects "StruckCounts$Fault" ({ cls := "java/lang/Throwable", name := "fillInStackTrace", desc := "(I)Ljava/lang/Throwable;" } : Jvm.MethodName) ({ cls := "java/lang/Throwable", name := "fillInStackTrace", desc := "(I)Ljava/lang/Throwable;" } : Jvm.MethodName)) ∈ lw_all := lw_g (lw_at lw_m4 120 rfl) rfl
theorem q996 : (Jvm.Cond.selects "StruckCounts$Fault" ({ cls := "java/lang/Throwable", name := "fillInStackTrace", desc := "()Ljava/lang/Throwable;" } : Jvm.MethodName) ({ cls := "java/lang/Throwable", name := "fillInStackTrace", desc := "()Ljava/lang/Throwable;" } : Jvm.MethodName)) ∈ lw_all := lw_g (lw_at lw_m4 121 rfl) rfl
theorem q997 : (Jvm.Cond.lays "StruckCounts$Fault" "java/lang/Throwable" "cause" "Ljava/lang/Throwable;") ∈ lw_all := lw_g (lw_at lw_m4 122 rfl) rfl
theorem q999 : (Jvm.Cond.lays "StruckCounts$Fault" "java/lang/Throwable" "stackTrace" "[Ljava/lang/StackTraceElement;") ∈ lw_all := lw_g (lw_at lw_m4 124 rfl) rfl
theorem q1001 : (Jvm.Cond.lays "StruckCounts$Fault" "java/lang/Throwable" "suppressedExceptions" "Ljava/util/List;") ∈ lw_all := lw_g (lw_at lw_m4 126 rfl) rfl
theorem q1003 : (Jvm.Cond.lays "StruckCounts$Fault" "java/lang/Throwable" "detailMessage" "Ljava/lang/String;") ∈ lw_all := lw_g (lw_at lw_m4 128 rfl) rfl
theorem q1005 : (Jvm.Cond.lays "StruckCounts$Fault" "java/lang/Throwable" "backtrace" "Ljava/lang/Object;") ∈ lw_all := lw_g (lw_at lw_m4 130 rfl) rfl
theorem q1027 : (Jvm.Cond.instanceMethod ({ cls := "StruckCounts$Fault", name := "<init>", desc := "(II)V" } : Jvm.MethodName)) ∈ lw_all := lw_g (lw_at lw_m4 152 rfl) rfl
theorem q1028 : (Jvm.Cond.code ({ cls := "StruckCounts$Fault", name := "<init>", desc := "(II)V" } : Jvm.MethodName) prog_6_method_1_code (3 : Nat) (Option.none : Option Jvm.ClassFile.FieldType)) ∈ lw_all := lw_g (lw_at lw_m4 153 rfl) rfl
theorem q1029 : (Jvm.Cond.methodLink "StruckCounts$Fault" (1 : Nat) ({ cls := "java/lang/Exception", name := "<init>", desc := "(Ljava/lang/String;Ljava/lang/Throwable;ZZ)V" } : Jvm.MethodName)) ∈ lw_all := lw_g (lw_at lw_m4 154 rfl) rfl
theorem q1035 : (Jvm.Cond.fieldLink "StruckCounts$Fault" (7 : Nat) "StruckCounts$Fault" "kind" "I") ∈ lw_all := lw_g (lw_at lw_m4 160 rfl) rfl
theorem q1037 : (Jvm.Cond.fieldLink "StruckCounts$Fault" (13 : Nat) "StruckCounts$Fault" "place" "I") ∈ lw_all := lw_g (lw_at lw_m4 162 rfl) rfl
theorem q1044 : (Jvm.Cond.laysFinal "StruckCounts$Fault" "StruckCounts$Fault" "kind" "I") ∈ lw_all := lw_g (lw_at lw_m4 169 rfl) rfl
theorem q1045 : (Jvm.Cond.soleField "StruckCounts$Fault" "kind") ∈ lw_all := lw_g (lw_at lw_m4 170 rfl) rfl
theorem q1046 : (Jvm.Cond.laysFinal "StruckCounts$Fault" "StruckCounts$Fault" "place" "I") ∈ lw_all := lw_g (lw_at lw_m4 171 rfl) rfl
theorem q1047 : (Jvm.Cond.soleField "StruckCounts$Fault" "place") ∈ lw_all := lw_g (lw_at lw_m4 172 rfl) rfl
theorem q1052 : (Jvm.Cond.lays "StruckCounts$Fault" "java/lang/Throwable" "depth" "I") ∈ lw_all := lw_g (lw_at lw_m4 177 rfl) rfl
theorem q1055 : (Jvm.Cond.superclass "StruckCounts$Fault" "java/lang/Exception") ∈ lw_all := lw_g (lw_at lw_m4 180 rfl) rfl
theorem q1152 : (Jvm.Cond.selects "StruckCounts$Fault" ({ cls := "java/lang/Object", name := "hashCode", desc := "()I" } : Jvm.MethodName) ({ cls := "java/lang/Object", name := "hashCode", desc := "()I" } : Jvm.MethodName)) ∈ lw_all := lw_g (lw_at lw_m5 37 rfl) rfl
theorem q1183 : (Jvm.Cond.selects "StruckCounts$Fault" ({ cls := "java/lang/Object", name := "equals", desc := "(Ljava/lang/Object;)Z" } : Jvm.MethodName) ({ cls := "java/lang/Object", name := "equals", desc := "(Ljava/lang/Object;)Z" } : Jvm.MethodName)) ∈ lw_all := lw_g (lw_at lw_m5 68 rfl) rfl
theorem q1229 : (Jvm.Cond.selects "StruckCounts$Fault" ({ cls := "java/lang/Object", name := "getClass", desc := "()Ljava/lang/Class;" } : Jvm.MethodName) ({ cls := "java/lang/Object", name := "getClass", desc := "()Ljava/lang/Class;" } : Jvm.MethodName)) ∈ lw_all := lw_g (lw_at lw_m5 114 rfl) rfl
theorem q3091 : (Jvm.Cond.castable "StruckCounts$Fault" "java/lang/Object") ∈ lw_tbl := lw_at lw_m13 56 rfl
theorem in_X5 : ∀ w ∈ wsX50, w ∈ lw_all := lw_in wsX50 [997, 999, 1001, 1003, 1005, 1052, 1044, 1046] (by decide +kernel) (by decide +kernel)

/-! StruckCounts$Owner -/
set_option maxRecDepth 100000
def RX6 : String := "StruckCounts$Owner"
def TX6 : u_T := fun k => match k with
  | 0 => ("StruckCounts$Owner", "isFact", "Z", true)
  | _ => ("StruckCounts$Owner", "number", "I", true)
def tyX6 : Nat → FieldType := fun k => match k with
  | 0 => .boolean
  | _ => .int
abbrev wsX60 : List Cond := u_ws RX6 TX6 2
theorem nmX6 : ∀ a, a < 2 → ∀ b, b < 2 → a ≠ b → (TX6 a).2.1 ≠ (TX6 b).2.1 := by decide +kernel
theorem tyX6_ok : ∀ k, k < 2 → parseFieldDescriptor (TX6 k).2.2.1 = some (tyX6 k) := by decide +kernel
abbrev cX6_init : ByteArray := prog_9_method_1_code
def yX6_init : MethodName := ⟨RX6, "<init>", "(ZI)V"⟩
def dkwX6_init_0 : List UInt8 := [42, 183, 0, 1, 42, 27, 181, 0, 7, 42, 28, 181, 0, 13, 177]
abbrev dktX6_init_0 : List UInt8 := dkwX6_init_0 ++ []
theorem dksX6_init_0 : cX6_init.data.toList.drop 0 = dktX6_init_0 := by decide +kernel
theorem dX6_init_0 : decode cX6_init 0 = .ok (.aload_n 0, 1) := dk_42 (dk_at dksX6_init_0 0 rfl rfl)
theorem dX6_init_1 : decode cX6_init 1 = .ok (.invokespecial 1, 3) := dk_183 0 1 (dk_at dksX6_init_0 1 rfl rfl)
theorem dX6_init_4 : decode cX6_init 4 = .ok (.aload_n 0, 1) := dk_42 (dk_at dksX6_init_0 4 rfl rfl)
theorem dX6_init_5 : decode cX6_init 5 = .ok (.iload_n 1, 1) := dk_27 (dk_at dksX6_init_0 5 rfl rfl)
theorem dX6_init_6 : decode cX6_init 6 = .ok (.putfield 7, 3) := dk_181 0 7 (dk_at dksX6_init_0 6 rfl rfl)
theorem dX6_init_9 : decode cX6_init 9 = .ok (.aload_n 0, 1) := dk_42 (dk_at dksX6_init_0 9 rfl rfl)
theorem dX6_init_10 : decode cX6_init 10 = .ok (.iload_n 2, 1) := dk_28 (dk_at dksX6_init_0 10 rfl rfl)
theorem dX6_init_11 : decode cX6_init 11 = .ok (.putfield 13, 3) := dk_181 0 13 (dk_at dksX6_init_0 11 rfl rfl)
theorem dX6_init_14 : decode cX6_init 14 = .ok (.return_, 1) := dk_177 (dk_at dksX6_init_0 14 rfl rfl)
theorem q190 : (Jvm.Cond.initialized "StruckCounts$Owner") ∈ lw_all := lw_g (lw_at lw_m1 35 rfl) rfl
theorem q1157 : (Jvm.Cond.selects "StruckCounts$Owner" ({ cls := "java/lang/Object", name := "hashCode", desc := "()I" } : Jvm.MethodName) ({ cls := "java/lang/Object", name := "hashCode", desc := "()I" } : Jvm.MethodName)) ∈ lw_all := lw_g (lw_at lw_m5 42 rfl) rfl
theorem q1189 : (Jvm.Cond.selects "StruckCounts$Owner" ({ cls := "java/lang/Object", name := "equals", desc := "(Ljava/lang/Object;)Z" } : Jvm.MethodName) ({ cls := "java/lang/Object", name := "equals", desc := "(Ljava/lang/Object;)Z" } : Jvm.MethodName)) ∈ lw_all := lw_g (lw_at lw_m5 74 rfl) rfl
theorem q1232 : (Jvm.Cond.selects "StruckCounts$Owner" ({ cls := "java/lang/Object", name := "getClass", desc := "()Ljava/lang/Class;" } : Jvm.MethodName) ({ cls := "java/lang/Object", name := "getClass", desc := "()Ljava/lang/Class;" } : Jvm.MethodName)) ∈ lw_all := lw_g (lw_at lw_m5 117 rfl) rfl
theorem q1436 : (Jvm.Cond.instantiable "StruckCounts$Owner" (2 : Nat)) ∈ lw_all := lw_g (lw_at lw_m6 81 rfl) rfl
theorem q1438 : (Jvm.Cond.instanceMethod ({ cls := "StruckCounts$Owner", name := "<init>", desc := "(ZI)V" } : Jvm.MethodName)) ∈ lw_all := lw_g (lw_at lw_m6 83 rfl) rfl
theorem q1439 : (Jvm.Cond.code ({ cls := "StruckCounts$Owner", name := "<init>", desc := "(ZI)V" } : Jvm.MethodName) prog_9_method_1_code (3 : Nat) (Option.none : Option Jvm.ClassFile.FieldType)) ∈ lw_all := lw_g (lw_at lw_m6 84 rfl) rfl
theorem q1440 : (Jvm.Cond.methodLink "StruckCounts$Owner" (1 : Nat) ({ cls := "java/lang/Object", name := "<init>", desc := "()V" } : Jvm.MethodName)) ∈ lw_all := lw_g (lw_at lw_m6 85 rfl) rfl
theorem q1441 : (Jvm.Cond.fieldLink "StruckCounts$Owner" (7 : Nat) "StruckCounts$Owner" "isFact" "Z") ∈ lw_all := lw_g (lw_at lw_m6 86 rfl) rfl
theorem q1443 : (Jvm.Cond.fieldLink "StruckCounts$Owner" (13 : Nat) "StruckCounts$Owner" "number" "I") ∈ lw_all := lw_g (lw_at lw_m6 88 rfl) rfl
theorem q1445 : (Jvm.Cond.laysFinal "StruckCounts$Owner" "StruckCounts$Owner" "isFact" "Z") ∈ lw_all := lw_g (lw_at lw_m6 90 rfl) rfl
theorem q1446 : (Jvm.Cond.soleField "StruckCounts$Owner" "isFact") ∈ lw_all := lw_g (lw_at lw_m6 91 rfl) rfl
theorem q1447 : (Jvm.Cond.laysFinal "StruckCounts$Owner" "StruckCounts$Owner" "number" "I") ∈ lw_all := lw_g (lw_at lw_m6 92 rfl) rfl
theorem q1448 : (Jvm.Cond.soleField "StruckCounts$Owner" "number") ∈ lw_all := lw_g (lw_at lw_m6 93 rfl) rfl
theorem q1449 : (Jvm.Cond.superclass "StruckCounts$Owner" "java/lang/Object") ∈ lw_all := lw_g (lw_at lw_m6 94 rfl) rfl
theorem q3094 : (Jvm.Cond.castable "StruckCounts$Owner" "java/lang/Object") ∈ lw_tbl := lw_at lw_m13 59 rfl
theorem in_X6 : ∀ w ∈ wsX60, w ∈ lw_all := lw_in wsX60 [1445, 1447] (by decide +kernel) (by decide +kernel)

/-! StruckCounts$Not -/
set_option maxRecDepth 100000
def RX7 : String := "StruckCounts$Not"
def TX7 : u_T := fun k => match k with
  | _ => ("StruckCounts$Not", "its", "LStruckCounts$Expr;", true)
def tyX7 : Nat → FieldType := fun k => match k with
  | _ => .object "StruckCounts$Expr"
abbrev wsX70 : List Cond := u_ws RX7 TX7 1
theorem nmX7 : ∀ a, a < 1 → ∀ b, b < 1 → a ≠ b → (TX7 a).2.1 ≠ (TX7 b).2.1 := by decide +kernel
theorem tyX7_ok : ∀ k, k < 1 → parseFieldDescriptor (TX7 k).2.2.1 = some (tyX7 k) := by decide +kernel
abbrev cX7_holds : ByteArray := prog_7_method_2_code
def yX7_holds : MethodName := ⟨RX7, "holds", "(I)Z"⟩
def dkwX7_holds_0 : List UInt8 := [42, 180, 0, 7, 27, 185, 0, 13, 2, 0, 154, 0, 7, 4, 167, 0, 4, 3, 172]
abbrev dktX7_holds_0 : List UInt8 := dkwX7_holds_0 ++ []
theorem dksX7_holds_0 : cX7_holds.data.toList.drop 0 = dktX7_holds_0 := by decide +kernel
theorem dX7_holds_0 : decode cX7_holds 0 = .ok (.aload_n 0, 1) := dk_42 (dk_at dksX7_holds_0 0 rfl rfl)
theorem dX7_holds_1 : decode cX7_holds 1 = .ok (.getfield 7, 3) := dk_180 0 7 (dk_at dksX7_holds_0 1 rfl rfl)
theorem dX7_holds_4 : decode cX7_holds 4 = .ok (.iload_n 1, 1) := dk_27 (dk_at dksX7_holds_0 4 rfl rfl)
theorem dX7_holds_5 : decode cX7_holds 5 = .ok (.invokeinterface 13 2, 5) := by decide +kernel
theorem dX7_holds_10 : decode cX7_holds 10 = .ok (.ifCond .ne 7, 3) := dk_154 0 7 (dk_at dksX7_holds_0 10 rfl rfl)
theorem dX7_holds_13 : decode cX7_holds 13 = .ok (.iconst 1, 1) := dk_4 (dk_at dksX7_holds_0 13 rfl rfl)
theorem dX7_holds_14 : decode cX7_holds 14 = .ok (.goto 4, 3) := dk_167 0 4 (dk_at dksX7_holds_0 14 rfl rfl)
theorem dX7_holds_17 : decode cX7_holds 17 = .ok (.iconst 0, 1) := dk_3 (dk_at dksX7_holds_0 17 rfl rfl)
theorem dX7_holds_18 : decode cX7_holds 18 = .ok (.ireturn, 1) := dk_172 (dk_at dksX7_holds_0 18 rfl rfl)
abbrev cX7_init : ByteArray := prog_7_method_1_code
def yX7_init : MethodName := ⟨RX7, "<init>", "(LStruckCounts$Expr;)V"⟩
def dkwX7_init_0 : List UInt8 := [42, 183, 0, 1, 42, 43, 181, 0, 7, 177]
abbrev dktX7_init_0 : List UInt8 := dkwX7_init_0 ++ []
theorem dksX7_init_0 : cX7_init.data.toList.drop 0 = dktX7_init_0 := by decide +kernel
theorem dX7_init_0 : decode cX7_init 0 = .ok (.aload_n 0, 1) := dk_42 (dk_at dksX7_init_0 0 rfl rfl)
theorem dX7_init_1 : decode cX7_init 1 = .ok (.invokespecial 1, 3) := dk_183 0 1 (dk_at dksX7_init_0 1 rfl rfl)
theorem dX7_init_4 : decode cX7_init 4 = .ok (.aload_n 0, 1) := dk_42 (dk_at dksX7_init_0 4 rfl rfl)
theorem dX7_init_5 : decode cX7_init 5 = .ok (.aload_n 1, 1) := dk_43 (dk_at dksX7_init_0 5 rfl rfl)
theorem dX7_init_6 : decode cX7_init 6 = .ok (.putfield 7, 3) := dk_181 0 7 (dk_at dksX7_init_0 6 rfl rfl)
theorem dX7_init_9 : decode cX7_init 9 = .ok (.return_, 1) := dk_177 (dk_at dksX7_init_0 9 rfl rfl)
abbrev cX7_seen : ByteArray := prog_7_method_3_code
def yX7_seen : MethodName := ⟨RX7, "seen", "(II)I"⟩
def dkwX7_seen_0 : List UInt8 := [42, 180, 0, 7, 27, 28, 185, 0, 19, 3, 0, 184, 0, 23, 172]
abbrev dktX7_seen_0 : List UInt8 := dkwX7_seen_0 ++ []
theorem dksX7_seen_0 : cX7_seen.data.toList.drop 0 = dktX7_seen_0 := by decide +kernel
theorem dX7_seen_0 : decode cX7_seen 0 = .ok (.aload_n 0, 1) := dk_42 (dk_at dksX7_seen_0 0 rfl rfl)
theorem dX7_seen_1 : decode cX7_seen 1 = .ok (.getfield 7, 3) := dk_180 0 7 (dk_at dksX7_seen_0 1 rfl rfl)
theorem dX7_seen_4 : decode cX7_seen 4 = .ok (.iload_n 1, 1) := dk_27 (dk_at dksX7_seen_0 4 rfl rfl)
theorem dX7_seen_5 : decode cX7_seen 5 = .ok (.iload_n 2, 1) := dk_28 (dk_at dksX7_seen_0 5 rfl rfl)
theorem dX7_seen_6 : decode cX7_seen 6 = .ok (.invokeinterface 19 3, 5) := by decide +kernel
theorem dX7_seen_11 : decode cX7_seen 11 = .ok (.invokestatic 23, 3) := dk_184 0 23 (dk_at dksX7_seen_0 11 rfl rfl)
theorem dX7_seen_14 : decode cX7_seen 14 = .ok (.ireturn, 1) := dk_172 (dk_at dksX7_seen_0 14 rfl rfl)
theorem q194 : (Jvm.Cond.initialized "StruckCounts$Not") ∈ lw_all := lw_g (lw_at lw_m1 39 rfl) rfl
theorem q433 : (Jvm.Cond.castable "StruckCounts$Not" "StruckCounts$Expr") ∈ lw_tbl := lw_at lw_m2 38 rfl
theorem q434 : (Jvm.Cond.selects "StruckCounts$Not" ({ cls := "StruckCounts$Expr", name := "holds", desc := "(I)Z" } : Jvm.MethodName) ({ cls := "StruckCounts$Not", name := "holds", desc := "(I)Z" } : Jvm.MethodName)) ∈ lw_all := lw_g (lw_at lw_m2 39 rfl) rfl
theorem q435 : (Jvm.Cond.unhidden "StruckCounts$Not" "holds" "(I)Z") ∈ lw_tbl := lw_at lw_m2 40 rfl
theorem q436 : (Jvm.Cond.instanceMethod ({ cls := "StruckCounts$Not", name := "holds", desc := "(I)Z" } : Jvm.MethodName)) ∈ lw_all := lw_g (lw_at lw_m2 41 rfl) rfl
theorem q437 : (Jvm.Cond.publicMethod ({ cls := "StruckCounts$Not", name := "holds", desc := "(I)Z" } : Jvm.MethodName)) ∈ lw_tbl := lw_at lw_m2 42 rfl
theorem q438 : (Jvm.Cond.code ({ cls := "StruckCounts$Not", name := "holds", desc := "(I)Z" } : Jvm.MethodName) prog_7_method_2_code (2 : Nat) (Option.some Jvm.ClassFile.FieldType.boolean)) ∈ lw_all := lw_g (lw_at lw_m2 43 rfl) rfl
theorem q439 : (Jvm.Cond.interfaceEntry "StruckCounts$Not" (13 : Nat)) ∈ lw_tbl := lw_at lw_m2 44 rfl
theorem q440 : (Jvm.Cond.methodLink "StruckCounts$Not" (13 : Nat) ({ cls := "StruckCounts$Expr", name := "holds", desc := "(I)Z" } : Jvm.MethodName)) ∈ lw_all := lw_g (lw_at lw_m2 45 rfl) rfl
theorem q1153 : (Jvm.Cond.selects "StruckCounts$Not" ({ cls := "java/lang/Object", name := "hashCode", desc := "()I" } : Jvm.MethodName) ({ cls := "java/lang/Object", name := "hashCode", desc := "()I" } : Jvm.MethodName)) ∈ lw_all := lw_g (lw_at lw_m5 38 rfl) rfl
theorem q1184 : (Jvm.Cond.selects "StruckCounts$Not" ({ cls := "java/lang/Object", name := "equals", desc := "(Ljava/lang/Object;)Z" } : Jvm.MethodName) ({ cls := "java/lang/Object", name := "equals", desc := "(Ljava/lang/Object;)Z" } : Jvm.MethodName)) ∈ lw_all := lw_g (lw_at lw_m5 69 rfl) rfl
theorem q1230 : (Jvm.Cond.selects "StruckCounts$Not" ({ cls := "java/lang/Object", name := "getClass", desc := "()Ljava/lang/Class;" } : Jvm.MethodName) ({ cls := "java/lang/Object", name := "getClass", desc := "()Ljava/lang/Class;" } : Jvm.MethodName)) ∈ lw_all := lw_g (lw_at lw_m5 115 rfl) rfl
theorem q1686 : (Jvm.Cond.instantiable "StruckCounts$Not" (1 : Nat)) ∈ lw_all := lw_g (lw_at lw_m7 91 rfl) rfl
theorem q1688 : (Jvm.Cond.instanceMethod ({ cls := "StruckCounts$Not", name := "<init>", desc := "(LStruckCounts$Expr;)V" } : Jvm.MethodName)) ∈ lw_all := lw_g (lw_at lw_m7 93 rfl) rfl
theorem q1689 : (Jvm.Cond.code ({ cls := "StruckCounts$Not", name := "<init>", desc := "(LStruckCounts$Expr;)V" } : Jvm.MethodName) prog_7_method_1_code (2 : Nat) (Option.none : Option Jvm.ClassFile.FieldType)) ∈ lw_all := lw_g (lw_at lw_m7 94 rfl) rfl
theorem q1690 : (Jvm.Cond.methodLink "StruckCounts$Not" (1 : Nat) ({ cls := "java/lang/Object", name := "<init>", desc := "()V" } : Jvm.MethodName)) ∈ lw_all := lw_g (lw_at lw_m7 95 rfl) rfl
theorem q1691 : (Jvm.Cond.fieldLink "StruckCounts$Not" (7 : Nat) "StruckCounts$Not" "its" "LStruckCounts$Expr;") ∈ lw_all := lw_g (lw_at lw_m7 96 rfl) rfl
theorem q1692 : (Jvm.Cond.laysFinal "StruckCounts$Not" "StruckCounts$Not" "its" "LStruckCounts$Expr;") ∈ lw_all := lw_g (lw_at lw_m7 97 rfl) rfl
theorem q1693 : (Jvm.Cond.soleField "StruckCounts$Not" "its") ∈ lw_all := lw_g (lw_at lw_m7 98 rfl) rfl
theorem q1694 : (Jvm.Cond.superclass "StruckCounts$Not" "java/lang/Object") ∈ lw_all := lw_g (lw_at lw_m7 99 rfl) rfl
theorem q2014 : (Jvm.Cond.selects "StruckCounts$Not" ({ cls := "StruckCounts$Expr", name := "seen", desc := "(II)I" } : Jvm.MethodName) ({ cls := "StruckCounts$Not", name := "seen", desc := "(II)I" } : Jvm.MethodName)) ∈ lw_all := lw_g (lw_at lw_m8 179 rfl) rfl
theorem q2015 : (Jvm.Cond.unhidden "StruckCounts$Not" "seen" "(II)I") ∈ lw_tbl := lw_at lw_m8 180 rfl
theorem q2016 : (Jvm.Cond.instanceMethod ({ cls := "StruckCounts$Not", name := "seen", desc := "(II)I" } : Jvm.MethodName)) ∈ lw_all := lw_g (lw_at lw_m8 181 rfl) rfl
theorem q2017 : (Jvm.Cond.publicMethod ({ cls := "StruckCounts$Not", name := "seen", desc := "(II)I" } : Jvm.MethodName)) ∈ lw_tbl := lw_at lw_m8 182 rfl
theorem q2018 : (Jvm.Cond.code ({ cls := "StruckCounts$Not", name := "seen", desc := "(II)I" } : Jvm.MethodName) prog_7_method_3_code (3 : Nat) (Option.some Jvm.ClassFile.FieldType.int)) ∈ lw_all := lw_g (lw_at lw_m8 183 rfl) rfl
theorem q2019 : (Jvm.Cond.interfaceEntry "StruckCounts$Not" (19 : Nat)) ∈ lw_tbl := lw_at lw_m8 184 rfl
theorem q2020 : (Jvm.Cond.methodLink "StruckCounts$Not" (19 : Nat) ({ cls := "StruckCounts$Expr", name := "seen", desc := "(II)I" } : Jvm.MethodName)) ∈ lw_all := lw_g (lw_at lw_m8 185 rfl) rfl
theorem q2025 : (Jvm.Cond.methodLink "StruckCounts$Not" (23 : Nat) ({ cls := "StruckCounts$Expr", name := "turned", desc := "(I)I" } : Jvm.MethodName)) ∈ lw_all := lw_g (lw_at lw_m8 190 rfl) rfl
theorem q2039 : (Jvm.Cond.unhidden "StruckCounts$Not" "mayBeSeen" "(II)Z") ∈ lw_tbl := lw_at lw_m8 204 rfl
theorem q3097 : (Jvm.Cond.castable "StruckCounts$Not" "java/lang/Object") ∈ lw_tbl := lw_at lw_m13 62 rfl
theorem in_X7 : ∀ w ∈ wsX70, w ∈ lw_all := lw_in wsX70 [1692] (by decide +kernel) (by decide +kernel)

/-! StruckCounts$Some -/
set_option maxRecDepth 100000
def RX8 : String := "StruckCounts$Some"
def TX8 : u_T := fun k => match k with
  | _ => ("StruckCounts$Some", "parts", "Ljava/util/ArrayList;", true)
def tyX8 : Nat → FieldType := fun k => match k with
  | _ => .object "java/util/ArrayList"
abbrev wsX80 : List Cond := u_ws RX8 TX8 1
theorem nmX8 : ∀ a, a < 1 → ∀ b, b < 1 → a ≠ b → (TX8 a).2.1 ≠ (TX8 b).2.1 := by decide +kernel
theorem tyX8_ok : ∀ k, k < 1 → parseFieldDescriptor (TX8 k).2.2.1 = some (tyX8 k) := by decide +kernel
abbrev cX8_holds : ByteArray := prog_13_method_4_code
def yX8_holds : MethodName := ⟨RX8, "holds", "(I)Z"⟩
def dkwX8_holds_2 : List UInt8 := [182, 0, 31, 161, 0, 7, 4, 167, 0, 4, 3, 172]
abbrev dktX8_holds_2 : List UInt8 := dkwX8_holds_2 ++ []
def dkwX8_holds_1 : List UInt8 := [192, 0, 25, 27, 185, 0, 27, 2, 0, 153, 0, 6, 132, 2, 1, 132, 3, 1, 167, 255, 219, 28, 42]
abbrev dktX8_holds_1 : List UInt8 := dkwX8_holds_1 ++ dktX8_holds_2
def dkwX8_holds_0 : List UInt8 := [3, 61, 3, 62, 29, 42, 180, 0, 9, 182, 0, 15, 162, 0, 32, 42, 180, 0, 9, 29, 182, 0, 21]
abbrev dktX8_holds_0 : List UInt8 := dkwX8_holds_0 ++ dktX8_holds_1
theorem dksX8_holds_0 : cX8_holds.data.toList.drop 0 = dktX8_holds_0 := by decide +kernel
theorem dksX8_holds_1 : cX8_holds.data.toList.drop 23 = dktX8_holds_1 := dk_seg dksX8_holds_0 23 rfl rfl
theorem dksX8_holds_2 : cX8_holds.data.toList.drop 46 = dktX8_holds_2 := dk_seg dksX8_holds_1 23 rfl rfl
theorem dX8_holds_0 : decode cX8_holds 0 = .ok (.iconst 0, 1) := dk_3 (dk_at dksX8_holds_0 0 rfl rfl)
theorem dX8_holds_1 : decode cX8_holds 1 = .ok (.istore_n 2, 1) := dk_61 (dk_at dksX8_holds_0 1 rfl rfl)
theorem dX8_holds_2 : decode cX8_holds 2 = .ok (.iconst 0, 1) := dk_3 (dk_at dksX8_holds_0 2 rfl rfl)
theorem dX8_holds_3 : decode cX8_holds 3 = .ok (.istore_n 3, 1) := dk_62 (dk_at dksX8_holds_0 3 rfl rfl)
theorem dX8_holds_4 : decode cX8_holds 4 = .ok (.iload_n 3, 1) := dk_29 (dk_at dksX8_holds_0 4 rfl rfl)
theorem dX8_holds_5 : decode cX8_holds 5 = .ok (.aload_n 0, 1) := dk_42 (dk_at dksX8_holds_0 5 rfl rfl)
theorem dX8_holds_6 : decode cX8_holds 6 = .ok (.getfield 9, 3) := dk_180 0 9 (dk_at dksX8_holds_0 6 rfl rfl)
theorem dX8_holds_9 : decode cX8_holds 9 = .ok (.invokevirtual 15, 3) := dk_182 0 15 (dk_at dksX8_holds_0 9 rfl rfl)
theorem dX8_holds_12 : decode cX8_holds 12 = .ok (.if_icmp .ge 32, 3) := dk_162 0 32 (dk_at dksX8_holds_0 12 rfl rfl)
theorem dX8_holds_15 : decode cX8_holds 15 = .ok (.aload_n 0, 1) := dk_42 (dk_at dksX8_holds_0 15 rfl rfl)
theorem dX8_holds_16 : decode cX8_holds 16 = .ok (.getfield 9, 3) := dk_180 0 9 (dk_at dksX8_holds_0 16 rfl rfl)
theorem dX8_holds_19 : decode cX8_holds 19 = .ok (.iload_n 3, 1) := dk_29 (dk_at dksX8_holds_0 19 rfl rfl)
theorem dX8_holds_20 : decode cX8_holds 20 = .ok (.invokevirtual 21, 3) := dk_182 0 21 (dk_at dksX8_holds_0 20 rfl rfl)
theorem dX8_holds_23 : decode cX8_holds 23 = .ok (.checkcast 25, 3) := dk_192 0 25 (dk_at dksX8_holds_1 0 rfl rfl)
theorem dX8_holds_26 : decode cX8_holds 26 = .ok (.iload_n 1, 1) := dk_27 (dk_at dksX8_holds_1 3 rfl rfl)
theorem dX8_holds_27 : decode cX8_holds 27 = .ok (.invokeinterface 27 2, 5) := by decide +kernel
theorem dX8_holds_32 : decode cX8_holds 32 = .ok (.ifCond .eq 6, 3) := dk_153 0 6 (dk_at dksX8_holds_1 9 rfl rfl)
theorem dX8_holds_35 : decode cX8_holds 35 = .ok (.iinc 2 1, 3) := dk_132 2 1 (dk_at dksX8_holds_1 12 rfl rfl)
theorem dX8_holds_38 : decode cX8_holds 38 = .ok (.iinc 3 1, 3) := dk_132 3 1 (dk_at dksX8_holds_1 15 rfl rfl)
theorem dX8_holds_41 : decode cX8_holds 41 = .ok (.goto (-37), 3) := dk_167 255 219 (dk_at dksX8_holds_1 18 rfl rfl)
theorem dX8_holds_44 : decode cX8_holds 44 = .ok (.iload_n 2, 1) := dk_28 (dk_at dksX8_holds_1 21 rfl rfl)
theorem dX8_holds_45 : decode cX8_holds 45 = .ok (.aload_n 0, 1) := dk_42 (dk_at dksX8_holds_1 22 rfl rfl)
theorem dX8_holds_46 : decode cX8_holds 46 = .ok (.invokevirtual 31, 3) := dk_182 0 31 (dk_at dksX8_holds_2 0 rfl rfl)
theorem dX8_holds_49 : decode cX8_holds 49 = .ok (.if_icmp .lt 7, 3) := dk_161 0 7 (dk_at dksX8_holds_2 3 rfl rfl)
theorem dX8_holds_52 : decode cX8_holds 52 = .ok (.iconst 1, 1) := dk_4 (dk_at dksX8_holds_2 6 rfl rfl)
theorem dX8_holds_53 : decode cX8_holds 53 = .ok (.goto 4, 3) := dk_167 0 4 (dk_at dksX8_holds_2 7 rfl rfl)
theorem dX8_holds_56 : decode cX8_holds 56 = .ok (.iconst 0, 1) := dk_3 (dk_at dksX8_holds_2 10 rfl rfl)
theorem dX8_holds_57 : decode cX8_holds 57 = .ok (.ireturn, 1) := dk_172 (dk_at dksX8_holds_2 11 rfl rfl)
abbrev cX8_size : ByteArray := prog_13_method_2_code
def yX8_size : MethodName := ⟨RX8, "size", "()I"⟩
def dkwX8_size_0 : List UInt8 := [42, 180, 0, 9, 182, 0, 15, 172]
abbrev dktX8_size_0 : List UInt8 := dkwX8_size_0 ++ []
theorem dksX8_size_0 : cX8_size.data.toList.drop 0 = dktX8_size_0 := by decide +kernel
theorem dX8_size_0 : decode cX8_size 0 = .ok (.aload_n 0, 1) := dk_42 (dk_at dksX8_size_0 0 rfl rfl)
theorem dX8_size_1 : decode cX8_size 1 = .ok (.getfield 9, 3) := dk_180 0 9 (dk_at dksX8_size_0 1 rfl rfl)
theorem dX8_size_4 : decode cX8_size 4 = .ok (.invokevirtual 15, 3) := dk_182 0 15 (dk_at dksX8_size_0 4 rfl rfl)
theorem dX8_size_7 : decode cX8_size 7 = .ok (.ireturn, 1) := dk_172 (dk_at dksX8_size_0 7 rfl rfl)
abbrev cX8_due : ByteArray := prog_13_method_3_code
def yX8_due : MethodName := ⟨RX8, "due", "()I"⟩
theorem dX8_due_0 : decode cX8_due 0 = .ok (.iconst 1, 1) := by decide +kernel
theorem dX8_due_1 : decode cX8_due 1 = .ok (.ireturn, 1) := by decide +kernel
abbrev cX8_init : ByteArray := prog_13_method_1_code
def yX8_init : MethodName := ⟨RX8, "<init>", "(Ljava/util/ArrayList;)V"⟩
def dkwX8_init_0 : List UInt8 := [42, 183, 0, 3, 42, 43, 181, 0, 9, 177]
abbrev dktX8_init_0 : List UInt8 := dkwX8_init_0 ++ []
theorem dksX8_init_0 : cX8_init.data.toList.drop 0 = dktX8_init_0 := by decide +kernel
theorem dX8_init_0 : decode cX8_init 0 = .ok (.aload_n 0, 1) := dk_42 (dk_at dksX8_init_0 0 rfl rfl)
theorem dX8_init_1 : decode cX8_init 1 = .ok (.invokespecial 3, 3) := dk_183 0 3 (dk_at dksX8_init_0 1 rfl rfl)
theorem dX8_init_4 : decode cX8_init 4 = .ok (.aload_n 0, 1) := dk_42 (dk_at dksX8_init_0 4 rfl rfl)
theorem dX8_init_5 : decode cX8_init 5 = .ok (.aload_n 1, 1) := dk_43 (dk_at dksX8_init_0 5 rfl rfl)
theorem dX8_init_6 : decode cX8_init 6 = .ok (.putfield 9, 3) := dk_181 0 9 (dk_at dksX8_init_0 6 rfl rfl)
theorem dX8_init_9 : decode cX8_init 9 = .ok (.return_, 1) := dk_177 (dk_at dksX8_init_0 9 rfl rfl)
abbrev cX8_seen : ByteArray := prog_13_method_5_code
def yX8_seen : MethodName := ⟨RX8, "seen", "(II)I"⟩
def dkwX8_seen_4 : List UInt8 := [162, 0, 7, 3, 167, 0, 4, 5, 172]
abbrev dktX8_seen_4 : List UInt8 := dkwX8_seen_4 ++ []
def dkwX8_seen_3 : List UInt8 := [132, 5, 1, 167, 255, 190, 29, 42, 182, 0, 31, 161, 0, 7, 4, 167, 0, 17, 21, 4, 42, 182, 0, 31]
abbrev dktX8_seen_3 : List UInt8 := dkwX8_seen_3 ++ dktX8_seen_4
def dkwX8_seen_2 : List UInt8 := [180, 0, 9, 21, 5, 182, 0, 21, 192, 0, 25, 27, 28, 185, 0, 38, 3, 0, 153, 0, 6, 132, 4, 1]
abbrev dktX8_seen_2 : List UInt8 := dkwX8_seen_2 ++ dktX8_seen_3
def dkwX8_seen_1 : List UInt8 := [21, 5, 182, 0, 21, 192, 0, 25, 27, 28, 185, 0, 34, 3, 0, 4, 160, 0, 6, 132, 3, 1, 42]
abbrev dktX8_seen_1 : List UInt8 := dkwX8_seen_1 ++ dktX8_seen_2
def dkwX8_seen_0 : List UInt8 := [3, 62, 3, 54, 4, 3, 54, 5, 21, 5, 42, 180, 0, 9, 182, 0, 15, 162, 0, 60, 42, 180, 0, 9]
abbrev dktX8_seen_0 : List UInt8 := dkwX8_seen_0 ++ dktX8_seen_1
theorem dksX8_seen_0 : cX8_seen.data.toList.drop 0 = dktX8_seen_0 := by decide +kernel
theorem dksX8_seen_1 : cX8_seen.data.toList.drop 24 = dktX8_seen_1 := dk_seg dksX8_seen_0 24 rfl rfl
theorem dksX8_seen_2 : cX8_seen.data.toList.drop 47 = dktX8_seen_2 := dk_seg dksX8_seen_1 23 rfl rfl
theorem dksX8_seen_3 : cX8_seen.data.toList.drop 71 = dktX8_seen_3 := dk_seg dksX8_seen_2 24 rfl rfl
theorem dksX8_seen_4 : cX8_seen.data.toList.drop 95 = dktX8_seen_4 := dk_seg dksX8_seen_3 24 rfl rfl
theorem dX8_seen_0 : decode cX8_seen 0 = .ok (.iconst 0, 1) := dk_3 (dk_at dksX8_seen_0 0 rfl rfl)
theorem dX8_seen_1 : decode cX8_seen 1 = .ok (.istore_n 3, 1) := dk_62 (dk_at dksX8_seen_0 1 rfl rfl)
theorem dX8_seen_2 : decode cX8_seen 2 = .ok (.iconst 0, 1) := dk_3 (dk_at dksX8_seen_0 2 rfl rfl)
theorem dX8_seen_3 : decode cX8_seen 3 = .ok (.istore 4, 2) := dk_54 4 (dk_at dksX8_seen_0 3 rfl rfl)
theorem dX8_seen_5 : decode cX8_seen 5 = .ok (.iconst 0, 1) := dk_3 (dk_at dksX8_seen_0 5 rfl rfl)
theorem dX8_seen_6 : decode cX8_seen 6 = .ok (.istore 5, 2) := dk_54 5 (dk_at dksX8_seen_0 6 rfl rfl)
theorem dX8_seen_8 : decode cX8_seen 8 = .ok (.iload 5, 2) := dk_21 5 (dk_at dksX8_seen_0 8 rfl rfl)
theorem dX8_seen_10 : decode cX8_seen 10 = .ok (.aload_n 0, 1) := dk_42 (dk_at dksX8_seen_0 10 rfl rfl)
theorem dX8_seen_11 : decode cX8_seen 11 = .ok (.getfield 9, 3) := dk_180 0 9 (dk_at dksX8_seen_0 11 rfl rfl)
theorem dX8_seen_14 : decode cX8_seen 14 = .ok (.invokevirtual 15, 3) := dk_182 0 15 (dk_at dksX8_seen_0 14 rfl rfl)
theorem dX8_seen_17 : decode cX8_seen 17 = .ok (.if_icmp .ge 60, 3) := dk_162 0 60 (dk_at dksX8_seen_0 17 rfl rfl)
theorem dX8_seen_20 : decode cX8_seen 20 = .ok (.aload_n 0, 1) := dk_42 (dk_at dksX8_seen_0 20 rfl rfl)
theorem dX8_seen_21 : decode cX8_seen 21 = .ok (.getfield 9, 3) := dk_180 0 9 (dk_at dksX8_seen_0 21 rfl rfl)
theorem dX8_seen_24 : decode cX8_seen 24 = .ok (.iload 5, 2) := dk_21 5 (dk_at dksX8_seen_1 0 rfl rfl)
theorem dX8_seen_26 : decode cX8_seen 26 = .ok (.invokevirtual 21, 3) := dk_182 0 21 (dk_at dksX8_seen_1 2 rfl rfl)
theorem dX8_seen_29 : decode cX8_seen 29 = .ok (.checkcast 25, 3) := dk_192 0 25 (dk_at dksX8_seen_1 5 rfl rfl)
theorem dX8_seen_32 : decode cX8_seen 32 = .ok (.iload_n 1, 1) := dk_27 (dk_at dksX8_seen_1 8 rfl rfl)
theorem dX8_seen_33 : decode cX8_seen 33 = .ok (.iload_n 2, 1) := dk_28 (dk_at dksX8_seen_1 9 rfl rfl)
theorem dX8_seen_34 : decode cX8_seen 34 = .ok (.invokeinterface 34 3, 5) := by decide +kernel
theorem dX8_seen_39 : decode cX8_seen 39 = .ok (.iconst 1, 1) := dk_4 (dk_at dksX8_seen_1 15 rfl rfl)
theorem dX8_seen_40 : decode cX8_seen 40 = .ok (.if_icmp .ne 6, 3) := dk_160 0 6 (dk_at dksX8_seen_1 16 rfl rfl)
theorem dX8_seen_43 : decode cX8_seen 43 = .ok (.iinc 3 1, 3) := dk_132 3 1 (dk_at dksX8_seen_1 19 rfl rfl)
theorem dX8_seen_46 : decode cX8_seen 46 = .ok (.aload_n 0, 1) := dk_42 (dk_at dksX8_seen_1 22 rfl rfl)
theorem dX8_seen_47 : decode cX8_seen 47 = .ok (.getfield 9, 3) := dk_180 0 9 (dk_at dksX8_seen_2 0 rfl rfl)
theorem dX8_seen_50 : decode cX8_seen 50 = .ok (.iload 5, 2) := dk_21 5 (dk_at dksX8_seen_2 3 rfl rfl)
theorem dX8_seen_52 : decode cX8_seen 52 = .ok (.invokevirtual 21, 3) := dk_182 0 21 (dk_at dksX8_seen_2 5 rfl rfl)
theorem dX8_seen_55 : decode cX8_seen 55 = .ok (.checkcast 25, 3) := dk_192 0 25 (dk_at dksX8_seen_2 8 rfl rfl)
theorem dX8_seen_58 : decode cX8_seen 58 = .ok (.iload_n 1, 1) := dk_27 (dk_at dksX8_seen_2 11 rfl rfl)
theorem dX8_seen_59 : decode cX8_seen 59 = .ok (.iload_n 2, 1) := dk_28 (dk_at dksX8_seen_2 12 rfl rfl)
theorem dX8_seen_60 : decode cX8_seen 60 = .ok (.invokeinterface 38 3, 5) := by decide +kernel
theorem dX8_seen_65 : decode cX8_seen 65 = .ok (.ifCond .eq 6, 3) := dk_153 0 6 (dk_at dksX8_seen_2 18 rfl rfl)
theorem dX8_seen_68 : decode cX8_seen 68 = .ok (.iinc 4 1, 3) := dk_132 4 1 (dk_at dksX8_seen_2 21 rfl rfl)
theorem dX8_seen_71 : decode cX8_seen 71 = .ok (.iinc 5 1, 3) := dk_132 5 1 (dk_at dksX8_seen_3 0 rfl rfl)
theorem dX8_seen_74 : decode cX8_seen 74 = .ok (.goto (-66), 3) := dk_167 255 190 (dk_at dksX8_seen_3 3 rfl rfl)
theorem dX8_seen_77 : decode cX8_seen 77 = .ok (.iload_n 3, 1) := dk_29 (dk_at dksX8_seen_3 6 rfl rfl)
theorem dX8_seen_78 : decode cX8_seen 78 = .ok (.aload_n 0, 1) := dk_42 (dk_at dksX8_seen_3 7 rfl rfl)
theorem dX8_seen_79 : decode cX8_seen 79 = .ok (.invokevirtual 31, 3) := dk_182 0 31 (dk_at dksX8_seen_3 8 rfl rfl)
theorem dX8_seen_82 : decode cX8_seen 82 = .ok (.if_icmp .lt 7, 3) := dk_161 0 7 (dk_at dksX8_seen_3 11 rfl rfl)
theorem dX8_seen_85 : decode cX8_seen 85 = .ok (.iconst 1, 1) := dk_4 (dk_at dksX8_seen_3 14 rfl rfl)
theorem dX8_seen_86 : decode cX8_seen 86 = .ok (.goto 17, 3) := dk_167 0 17 (dk_at dksX8_seen_3 15 rfl rfl)
theorem dX8_seen_89 : decode cX8_seen 89 = .ok (.iload 4, 2) := dk_21 4 (dk_at dksX8_seen_3 18 rfl rfl)
theorem dX8_seen_91 : decode cX8_seen 91 = .ok (.aload_n 0, 1) := dk_42 (dk_at dksX8_seen_3 20 rfl rfl)
theorem dX8_seen_92 : decode cX8_seen 92 = .ok (.invokevirtual 31, 3) := dk_182 0 31 (dk_at dksX8_seen_3 21 rfl rfl)
theorem dX8_seen_95 : decode cX8_seen 95 = .ok (.if_icmp .ge 7, 3) := dk_162 0 7 (dk_at dksX8_seen_4 0 rfl rfl)
theorem dX8_seen_98 : decode cX8_seen 98 = .ok (.iconst 0, 1) := dk_3 (dk_at dksX8_seen_4 3 rfl rfl)
theorem dX8_seen_99 : decode cX8_seen 99 = .ok (.goto 4, 3) := dk_167 0 4 (dk_at dksX8_seen_4 4 rfl rfl)
theorem dX8_seen_102 : decode cX8_seen 102 = .ok (.iconst 2, 1) := dk_5 (dk_at dksX8_seen_4 7 rfl rfl)
theorem dX8_seen_103 : decode cX8_seen 103 = .ok (.ireturn, 1) := dk_172 (dk_at dksX8_seen_4 8 rfl rfl)
theorem q195 : (Jvm.Cond.initialized "StruckCounts$Some") ∈ lw_all := lw_g (lw_at lw_m1 40 rfl) rfl
theorem q416 : (Jvm.Cond.instanceMethod ({ cls := "StruckCounts$Some", name := "holds", desc := "(I)Z" } : Jvm.MethodName)) ∈ lw_all := lw_g (lw_at lw_m2 21 rfl) rfl
theorem q417 : (Jvm.Cond.publicMethod ({ cls := "StruckCounts$Some", name := "holds", desc := "(I)Z" } : Jvm.MethodName)) ∈ lw_tbl := lw_at lw_m2 22 rfl
theorem q418 : (Jvm.Cond.code ({ cls := "StruckCounts$Some", name := "holds", desc := "(I)Z" } : Jvm.MethodName) prog_13_method_4_code (4 : Nat) (Option.some Jvm.ClassFile.FieldType.boolean)) ∈ lw_all := lw_g (lw_at lw_m2 23 rfl) rfl
theorem q419 : (Jvm.Cond.methodLink "StruckCounts$Some" (15 : Nat) ({ cls := "java/util/ArrayList", name := "size", desc := "()I" } : Jvm.MethodName)) ∈ lw_all := lw_g (lw_at lw_m2 24 rfl) rfl
theorem q420 : (Jvm.Cond.methodLink "StruckCounts$Some" (21 : Nat) ({ cls := "java/util/ArrayList", name := "get", desc := "(I)Ljava/lang/Object;" } : Jvm.MethodName)) ∈ lw_all := lw_g (lw_at lw_m2 25 rfl) rfl
theorem q421 : (Jvm.Cond.classLink "StruckCounts$Some" (25 : Nat) "StruckCounts$Expr") ∈ lw_all := lw_g (lw_at lw_m2 26 rfl) rfl
theorem q422 : (Jvm.Cond.interfaceEntry "StruckCounts$Some" (27 : Nat)) ∈ lw_tbl := lw_at lw_m2 27 rfl
theorem q423 : (Jvm.Cond.methodLink "StruckCounts$Some" (27 : Nat) ({ cls := "StruckCounts$Expr", name := "holds", desc := "(I)Z" } : Jvm.MethodName)) ∈ lw_all := lw_g (lw_at lw_m2 28 rfl) rfl
theorem q444 : (Jvm.Cond.castable "StruckCounts$Some" "StruckCounts$Expr") ∈ lw_tbl := lw_at lw_m2 49 rfl
theorem q445 : (Jvm.Cond.selects "StruckCounts$Some" ({ cls := "StruckCounts$Expr", name := "holds", desc := "(I)Z" } : Jvm.MethodName) ({ cls := "StruckCounts$Some", name := "holds", desc := "(I)Z" } : Jvm.MethodName)) ∈ lw_all := lw_g (lw_at lw_m2 50 rfl) rfl
theorem q446 : (Jvm.Cond.unhidden "StruckCounts$Some" "holds" "(I)Z") ∈ lw_tbl := lw_at lw_m2 51 rfl
theorem q447 : (Jvm.Cond.methodLink "StruckCounts$Some" (31 : Nat) ({ cls := "StruckCounts$Some", name := "due", desc := "()I" } : Jvm.MethodName)) ∈ lw_all := lw_g (lw_at lw_m2 52 rfl) rfl
theorem q448 : (Jvm.Cond.instanceMethod ({ cls := "StruckCounts$Some", name := "due", desc := "()I" } : Jvm.MethodName)) ∈ lw_all := lw_g (lw_at lw_m2 53 rfl) rfl
theorem q449 : (Jvm.Cond.selects "StruckCounts$Some" ({ cls := "StruckCounts$Some", name := "due", desc := "()I" } : Jvm.MethodName) ({ cls := "StruckCounts$Some", name := "due", desc := "()I" } : Jvm.MethodName)) ∈ lw_all := lw_g (lw_at lw_m2 54 rfl) rfl
theorem q450 : (Jvm.Cond.sameMethod "StruckCounts$Some" "StruckCounts$Some" "due" "()I") ∈ lw_all := lw_g (lw_at lw_m2 55 rfl) rfl
theorem q456 : (Jvm.Cond.declares ({ cls := "StruckCounts$Some", name := "size", desc := "()I" } : Jvm.MethodName)) ∈ lw_tbl := lw_at lw_m2 61 rfl
theorem q458 : (Jvm.Cond.instanceMethod ({ cls := "StruckCounts$Some", name := "size", desc := "()I" } : Jvm.MethodName)) ∈ lw_all := lw_g (lw_at lw_m2 63 rfl) rfl
theorem q459 : (Jvm.Cond.code ({ cls := "StruckCounts$Some", name := "size", desc := "()I" } : Jvm.MethodName) prog_13_method_2_code (1 : Nat) (Option.some Jvm.ClassFile.FieldType.int)) ∈ lw_all := lw_g (lw_at lw_m2 64 rfl) rfl
theorem q463 : (Jvm.Cond.code ({ cls := "StruckCounts$Some", name := "due", desc := "()I" } : Jvm.MethodName) prog_13_method_3_code (1 : Nat) (Option.some Jvm.ClassFile.FieldType.int)) ∈ lw_all := lw_g (lw_at lw_m2 68 rfl) rfl
theorem q1161 : (Jvm.Cond.selects "StruckCounts$Some" ({ cls := "java/lang/Object", name := "hashCode", desc := "()I" } : Jvm.MethodName) ({ cls := "java/lang/Object", name := "hashCode", desc := "()I" } : Jvm.MethodName)) ∈ lw_all := lw_g (lw_at lw_m5 46 rfl) rfl
theorem q1193 : (Jvm.Cond.selects "StruckCounts$Some" ({ cls := "java/lang/Object", name := "equals", desc := "(Ljava/lang/Object;)Z" } : Jvm.MethodName) ({ cls := "java/lang/Object", name := "equals", desc := "(Ljava/lang/Object;)Z" } : Jvm.MethodName)) ∈ lw_all := lw_g (lw_at lw_m5 78 rfl) rfl
theorem q1236 : (Jvm.Cond.selects "StruckCounts$Some" ({ cls := "java/lang/Object", name := "getClass", desc := "()Ljava/lang/Class;" } : Jvm.MethodName) ({ cls := "java/lang/Object", name := "getClass", desc := "()Ljava/lang/Class;" } : Jvm.MethodName)) ∈ lw_all := lw_g (lw_at lw_m5 121 rfl) rfl
theorem q1759 : (Jvm.Cond.instanceMethod ({ cls := "StruckCounts$Some", name := "<init>", desc := "(Ljava/util/ArrayList;)V" } : Jvm.MethodName)) ∈ lw_all := lw_g (lw_at lw_m7 164 rfl) rfl
theorem q1760 : (Jvm.Cond.code ({ cls := "StruckCounts$Some", name := "<init>", desc := "(Ljava/util/ArrayList;)V" } : Jvm.MethodName) prog_13_method_1_code (2 : Nat) (Option.none : Option Jvm.ClassFile.FieldType)) ∈ lw_all := lw_g (lw_at lw_m7 165 rfl) rfl
theorem q1761 : (Jvm.Cond.methodLink "StruckCounts$Some" (3 : Nat) ({ cls := "java/lang/Object", name := "<init>", desc := "()V" } : Jvm.MethodName)) ∈ lw_all := lw_g (lw_at lw_m7 166 rfl) rfl
theorem q1763 : (Jvm.Cond.fieldLink "StruckCounts$Some" (9 : Nat) "StruckCounts$Some" "parts" "Ljava/util/ArrayList;") ∈ lw_all := lw_g (lw_at lw_m7 168 rfl) rfl
theorem q1767 : (Jvm.Cond.soleField "StruckCounts$Some" "parts") ∈ lw_all := lw_g (lw_at lw_m7 172 rfl) rfl
theorem q1790 : (Jvm.Cond.instantiable "StruckCounts$Some" (1 : Nat)) ∈ lw_all := lw_g (lw_at lw_m7 195 rfl) rfl
theorem q1792 : (Jvm.Cond.laysFinal "StruckCounts$Some" "StruckCounts$Some" "parts" "Ljava/util/ArrayList;") ∈ lw_all := lw_g (lw_at lw_m7 197 rfl) rfl
theorem q1793 : (Jvm.Cond.superclass "StruckCounts$Some" "java/lang/Object") ∈ lw_all := lw_g (lw_at lw_m7 198 rfl) rfl
theorem q2004 : (Jvm.Cond.instanceMethod ({ cls := "StruckCounts$Some", name := "seen", desc := "(II)I" } : Jvm.MethodName)) ∈ lw_all := lw_g (lw_at lw_m8 169 rfl) rfl
theorem q2005 : (Jvm.Cond.publicMethod ({ cls := "StruckCounts$Some", name := "seen", desc := "(II)I" } : Jvm.MethodName)) ∈ lw_tbl := lw_at lw_m8 170 rfl
theorem q2006 : (Jvm.Cond.code ({ cls := "StruckCounts$Some", name := "seen", desc := "(II)I" } : Jvm.MethodName) prog_13_method_5_code (6 : Nat) (Option.some Jvm.ClassFile.FieldType.int)) ∈ lw_all := lw_g (lw_at lw_m8 171 rfl) rfl
theorem q2007 : (Jvm.Cond.interfaceEntry "StruckCounts$Some" (34 : Nat)) ∈ lw_tbl := lw_at lw_m8 172 rfl
theorem q2008 : (Jvm.Cond.methodLink "StruckCounts$Some" (34 : Nat) ({ cls := "StruckCounts$Expr", name := "seen", desc := "(II)I" } : Jvm.MethodName)) ∈ lw_all := lw_g (lw_at lw_m8 173 rfl) rfl
theorem q2023 : (Jvm.Cond.selects "StruckCounts$Some" ({ cls := "StruckCounts$Expr", name := "seen", desc := "(II)I" } : Jvm.MethodName) ({ cls := "StruckCounts$Some", name := "seen", desc := "(II)I" } : Jvm.MethodName)) ∈ lw_all := lw_g (lw_at lw_m8 188 rfl) rfl
theorem q2024 : (Jvm.Cond.unhidden "StruckCounts$Some" "seen" "(II)I") ∈ lw_tbl := lw_at lw_m8 189 rfl
theorem q2028 : (Jvm.Cond.interfaceEntry "StruckCounts$Some" (38 : Nat)) ∈ lw_tbl := lw_at lw_m8 193 rfl
theorem q2029 : (Jvm.Cond.methodLink "StruckCounts$Some" (38 : Nat) ({ cls := "StruckCounts$Expr", name := "mayBeSeen", desc := "(II)Z" } : Jvm.MethodName)) ∈ lw_all := lw_g (lw_at lw_m8 194 rfl) rfl
theorem q2041 : (Jvm.Cond.unhidden "StruckCounts$Some" "mayBeSeen" "(II)Z") ∈ lw_tbl := lw_at lw_m8 206 rfl
theorem q3101 : (Jvm.Cond.castable "StruckCounts$Some" "java/lang/Object") ∈ lw_tbl := lw_at lw_m13 66 rfl
theorem in_X8 : ∀ w ∈ wsX80, w ∈ lw_all := lw_in wsX80 [1792] (by decide +kernel) (by decide +kernel)

/-! StruckCounts$SoMany -/
set_option maxRecDepth 100000
def RX9 : String := "StruckCounts$SoMany"
def TX9 : u_T := fun k => match k with
  | 0 => ("StruckCounts$Some", "parts", "Ljava/util/ArrayList;", true)
  | _ => ("StruckCounts$SoMany", "many", "I", true)
def tyX9 : Nat → FieldType := fun k => match k with
  | 0 => .object "java/util/ArrayList"
  | _ => .int
abbrev wsX90 : List Cond := u_ws RX9 TX9 2
theorem nmX9 : ∀ a, a < 2 → ∀ b, b < 2 → a ≠ b → (TX9 a).2.1 ≠ (TX9 b).2.1 := by decide +kernel
theorem tyX9_ok : ∀ k, k < 2 → parseFieldDescriptor (TX9 k).2.2.1 = some (tyX9 k) := by decide +kernel
abbrev cX9_due : ByteArray := prog_12_method_2_code
def yX9_due : MethodName := ⟨RX9, "due", "()I"⟩
theorem dX9_due_0 : decode cX9_due 0 = .ok (.aload_n 0, 1) := by decide +kernel
theorem dX9_due_1 : decode cX9_due 1 = .ok (.getfield 7, 3) := by decide +kernel
theorem dX9_due_4 : decode cX9_due 4 = .ok (.ireturn, 1) := by decide +kernel
abbrev cX9_init : ByteArray := prog_12_method_1_code
def yX9_init : MethodName := ⟨RX9, "<init>", "(ILjava/util/ArrayList;)V"⟩
def dkwX9_init_0 : List UInt8 := [42, 44, 183, 0, 1, 42, 27, 181, 0, 7, 177]
abbrev dktX9_init_0 : List UInt8 := dkwX9_init_0 ++ []
theorem dksX9_init_0 : cX9_init.data.toList.drop 0 = dktX9_init_0 := by decide +kernel
theorem dX9_init_0 : decode cX9_init 0 = .ok (.aload_n 0, 1) := dk_42 (dk_at dksX9_init_0 0 rfl rfl)
theorem dX9_init_1 : decode cX9_init 1 = .ok (.aload_n 2, 1) := dk_44 (dk_at dksX9_init_0 1 rfl rfl)
theorem dX9_init_2 : decode cX9_init 2 = .ok (.invokespecial 1, 3) := dk_183 0 1 (dk_at dksX9_init_0 2 rfl rfl)
theorem dX9_init_5 : decode cX9_init 5 = .ok (.aload_n 0, 1) := dk_42 (dk_at dksX9_init_0 5 rfl rfl)
theorem dX9_init_6 : decode cX9_init 6 = .ok (.iload_n 1, 1) := dk_27 (dk_at dksX9_init_0 6 rfl rfl)
theorem dX9_init_7 : decode cX9_init 7 = .ok (.putfield 7, 3) := dk_181 0 7 (dk_at dksX9_init_0 7 rfl rfl)
theorem dX9_init_10 : decode cX9_init 10 = .ok (.return_, 1) := dk_177 (dk_at dksX9_init_0 10 rfl rfl)
theorem q196 : (Jvm.Cond.initialized "StruckCounts$SoMany") ∈ lw_all := lw_g (lw_at lw_m1 41 rfl) rfl
theorem q441 : (Jvm.Cond.castable "StruckCounts$SoMany" "StruckCounts$Expr") ∈ lw_tbl := lw_at lw_m2 46 rfl
theorem q442 : (Jvm.Cond.selects "StruckCounts$SoMany" ({ cls := "StruckCounts$Expr", name := "holds", desc := "(I)Z" } : Jvm.MethodName) ({ cls := "StruckCounts$Some", name := "holds", desc := "(I)Z" } : Jvm.MethodName)) ∈ lw_all := lw_g (lw_at lw_m2 47 rfl) rfl
theorem q443 : (Jvm.Cond.unhidden "StruckCounts$SoMany" "holds" "(I)Z") ∈ lw_tbl := lw_at lw_m2 48 rfl
theorem q460 : (Jvm.Cond.selects "StruckCounts$SoMany" ({ cls := "StruckCounts$Some", name := "due", desc := "()I" } : Jvm.MethodName) ({ cls := "StruckCounts$SoMany", name := "due", desc := "()I" } : Jvm.MethodName)) ∈ lw_all := lw_g (lw_at lw_m2 65 rfl) rfl
theorem q461 : (Jvm.Cond.instanceMethod ({ cls := "StruckCounts$SoMany", name := "due", desc := "()I" } : Jvm.MethodName)) ∈ lw_all := lw_g (lw_at lw_m2 66 rfl) rfl
theorem q462 : (Jvm.Cond.code ({ cls := "StruckCounts$SoMany", name := "due", desc := "()I" } : Jvm.MethodName) prog_12_method_2_code (1 : Nat) (Option.some Jvm.ClassFile.FieldType.int)) ∈ lw_all := lw_g (lw_at lw_m2 67 rfl) rfl
theorem q1160 : (Jvm.Cond.selects "StruckCounts$SoMany" ({ cls := "java/lang/Object", name := "hashCode", desc := "()I" } : Jvm.MethodName) ({ cls := "java/lang/Object", name := "hashCode", desc := "()I" } : Jvm.MethodName)) ∈ lw_all := lw_g (lw_at lw_m5 45 rfl) rfl
theorem q1192 : (Jvm.Cond.selects "StruckCounts$SoMany" ({ cls := "java/lang/Object", name := "equals", desc := "(Ljava/lang/Object;)Z" } : Jvm.MethodName) ({ cls := "java/lang/Object", name := "equals", desc := "(Ljava/lang/Object;)Z" } : Jvm.MethodName)) ∈ lw_all := lw_g (lw_at lw_m5 77 rfl) rfl
theorem q1235 : (Jvm.Cond.selects "StruckCounts$SoMany" ({ cls := "java/lang/Object", name := "getClass", desc := "()Ljava/lang/Class;" } : Jvm.MethodName) ({ cls := "java/lang/Object", name := "getClass", desc := "()Ljava/lang/Class;" } : Jvm.MethodName)) ∈ lw_all := lw_g (lw_at lw_m5 120 rfl) rfl
theorem q1754 : (Jvm.Cond.instantiable "StruckCounts$SoMany" (2 : Nat)) ∈ lw_all := lw_g (lw_at lw_m7 159 rfl) rfl
theorem q1756 : (Jvm.Cond.instanceMethod ({ cls := "StruckCounts$SoMany", name := "<init>", desc := "(ILjava/util/ArrayList;)V" } : Jvm.MethodName)) ∈ lw_all := lw_g (lw_at lw_m7 161 rfl) rfl
theorem q1757 : (Jvm.Cond.code ({ cls := "StruckCounts$SoMany", name := "<init>", desc := "(ILjava/util/ArrayList;)V" } : Jvm.MethodName) prog_12_method_1_code (3 : Nat) (Option.none : Option Jvm.ClassFile.FieldType)) ∈ lw_all := lw_g (lw_at lw_m7 162 rfl) rfl
theorem q1758 : (Jvm.Cond.methodLink "StruckCounts$SoMany" (1 : Nat) ({ cls := "StruckCounts$Some", name := "<init>", desc := "(Ljava/util/ArrayList;)V" } : Jvm.MethodName)) ∈ lw_all := lw_g (lw_at lw_m7 163 rfl) rfl
theorem q1762 : (Jvm.Cond.fieldLink "StruckCounts$SoMany" (7 : Nat) "StruckCounts$SoMany" "many" "I") ∈ lw_all := lw_g (lw_at lw_m7 167 rfl) rfl
theorem q1764 : (Jvm.Cond.laysFinal "StruckCounts$SoMany" "StruckCounts$SoMany" "many" "I") ∈ lw_all := lw_g (lw_at lw_m7 169 rfl) rfl
theorem q1765 : (Jvm.Cond.soleField "StruckCounts$SoMany" "many") ∈ lw_all := lw_g (lw_at lw_m7 170 rfl) rfl
theorem q1766 : (Jvm.Cond.laysFinal "StruckCounts$SoMany" "StruckCounts$Some" "parts" "Ljava/util/ArrayList;") ∈ lw_all := lw_g (lw_at lw_m7 171 rfl) rfl
theorem q1768 : (Jvm.Cond.superclass "StruckCounts$SoMany" "StruckCounts$Some") ∈ lw_all := lw_g (lw_at lw_m7 173 rfl) rfl
theorem q2021 : (Jvm.Cond.selects "StruckCounts$SoMany" ({ cls := "StruckCounts$Expr", name := "seen", desc := "(II)I" } : Jvm.MethodName) ({ cls := "StruckCounts$Some", name := "seen", desc := "(II)I" } : Jvm.MethodName)) ∈ lw_all := lw_g (lw_at lw_m8 186 rfl) rfl
theorem q2022 : (Jvm.Cond.unhidden "StruckCounts$SoMany" "seen" "(II)I") ∈ lw_tbl := lw_at lw_m8 187 rfl
theorem q2040 : (Jvm.Cond.unhidden "StruckCounts$SoMany" "mayBeSeen" "(II)Z") ∈ lw_tbl := lw_at lw_m8 205 rfl
theorem q3098 : (Jvm.Cond.castable "StruckCounts$SoMany" "java/lang/Object") ∈ lw_tbl := lw_at lw_m13 63 rfl
theorem in_X9 : ∀ w ∈ wsX90, w ∈ lw_all := lw_in wsX90 [1766, 1764] (by decide +kernel) (by decide +kernel)
