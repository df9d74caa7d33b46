/-! StruckCountsModel -/
set_option maxRecDepth 100000
def RX3 : String := "StruckCountsModel"
def TX3 : u_T := fun k => match k with
  | 0 => ("StruckCountsModel", "told", "[I", true)
  | 1 => ("StruckCountsModel", "read", "[I", true)
  | 2 => ("StruckCountsModel", "names", "[J", true)
  | 3 => ("StruckCountsModel", "readNames", "[J", true)
  | 4 => ("StruckCountsModel", "now", "[I", true)
  | 5 => ("StruckCountsModel", "past", "[I", true)
  | 6 => ("StruckCountsModel", "kept", "[I", true)
  | 7 => ("StruckCountsModel", "isKept", "[Z", true)
  | 8 => ("StruckCountsModel", "acts", "I", false)
  | 9 => ("StruckCountsModel", "tape", "[I", true)
  | 10 => ("StruckCountsModel", "taped", "I", false)
  | 11 => ("StruckCountsModel", "size", "I", false)
  | 12 => ("StruckCountsModel", "head", "I", false)
  | 13 => ("StruckCountsModel", "begin", "I", false)
  | 14 => ("StruckCountsModel", "token", "I", false)
  | 15 => ("StruckCountsModel", "value", "I", false)
  | 16 => ("StruckCountsModel", "open", "I", false)
  | 17 => ("StruckCountsModel", "bad", "I", false)
  | 18 => ("StruckCountsModel", "badAt", "I", false)
  | 19 => ("StruckCountsModel", "fault", "I", false)
  | 20 => ("StruckCountsModel", "faultAt", "I", false)
  | 21 => ("StruckCountsModel", "word", "J", false)
  | 22 => ("StruckCountsModel", "isLimitTold", "Z", false)
  | 23 => ("StruckCountsModel", "pile", "[I", true)
  | 24 => ("StruckCountsModel", "can", "[I", true)
  | 25 => ("StruckCountsModel", "table", "[I", true)
  | 26 => ("StruckCountsModel", "wonIn", "[I", true)
  | 27 => ("StruckCountsModel", "knownIn", "[I", true)
  | 28 => ("StruckCountsModel", "agreed", "[I", true)
  | 29 => ("StruckCountsModel", "backs", "[I", true)
  | 30 => ("StruckCountsModel", "injury", "[I", true)
  | 31 => ("StruckCountsModel", "foundFacts", "I", false)
  | 32 => ("StruckCountsModel", "foundSo", "I", false)
  | 33 => ("StruckCountsModel", "left", "[I", true)
  | 34 => ("StruckCountsModel", "won", "[I", true)
  | 35 => ("StruckCountsModel", "best", "[I", true)
  | 36 => ("StruckCountsModel", "top", "J", false)
  | 37 => ("StruckCountsModel", "bottom", "J", false)
  | 38 => ("StruckCountsModel", "wins", "[I", true)
  | 39 => ("StruckCountsModel", "isAsked", "Z", false)
  | 40 => ("StruckCountsModel", "askedTop", "J", false)
  | _ => ("StruckCountsModel", "askedBottom", "J", false)
def tyX3 : Nat → FieldType := fun k => match k with
  | 0 => .array .int
  | 1 => .array .int
  | 2 => .array .long
  | 3 => .array .long
  | 4 => .array .int
  | 5 => .array .int
  | 6 => .array .int
  | 7 => .array .boolean
  | 8 => .int
  | 9 => .array .int
  | 10 => .int
  | 11 => .int
  | 12 => .int
  | 13 => .int
  | 14 => .int
  | 15 => .int
  | 16 => .int
  | 17 => .int
  | 18 => .int
  | 19 => .int
  | 20 => .int
  | 21 => .long
  | 22 => .boolean
  | 23 => .array .int
  | 24 => .array .int
  | 25 => .array .int
  | 26 => .array .int
  | 27 => .array .int
  | 28 => .array .int
  | 29 => .array .int
  | 30 => .array .int
  | 31 => .int
  | 32 => .int
  | 33 => .array .int
  | 34 => .array .int
  | 35 => .array .int
  | 36 => .long
  | 37 => .long
  | 38 => .array .int
  | 39 => .boolean
  | 40 => .long
  | _ => .long
abbrev wsX30 : List Cond := u_ws RX3 TX3 42
set_option maxRecDepth 100000 in
theorem nmX3 : ∀ a, a < 42 → ∀ b, b < 42 → a ≠ b → (TX3 a).2.1 ≠ (TX3 b).2.1 := by decide +kernel
set_option maxRecDepth 100000 in
theorem tyX3_ok : ∀ k, k < 42 → parseFieldDescriptor (TX3 k).2.2.1 = some (tyX3 k) := by decide +kernel
abbrev cX3_init : ByteArray := prog_18_method_1_code
def yX3_init : MethodName := ⟨RX3, "<init>", "()V"⟩
def dkwX3_init_8 : List UInt8 := [180, 0, 7, 8, 17, 1, 44, 79, 42, 182, 0, 79, 177]
abbrev dktX3_init_8 : List UInt8 := dkwX3_init_8 ++ []
def dkwX3_init_7 : List UInt8 := [181, 0, 70, 42, 17, 25, 161, 188, 10, 181, 0, 73, 42, 17, 1, 0, 188, 10, 181, 0, 76, 42]
abbrev dktX3_init_7 : List UInt8 := dkwX3_init_7 ++ dktX3_init_8
def dkwX3_init_6 : List UInt8 := [42, 16, 8, 188, 10, 181, 0, 64, 42, 17, 25, 161, 188, 10, 181, 0, 67, 42, 17, 25, 161, 188, 10]
abbrev dktX3_init_6 : List UInt8 := dkwX3_init_6 ++ dktX3_init_7
def dkwX3_init_5 : List UInt8 := [42, 16, 8, 188, 10, 181, 0, 55, 42, 16, 8, 188, 10, 181, 0, 58, 42, 16, 8, 188, 10, 181, 0, 61]
abbrev dktX3_init_5 : List UInt8 := dkwX3_init_5 ++ dktX3_init_6
def dkwX3_init_4 : List UInt8 := [16, 8, 188, 10, 181, 0, 46, 42, 17, 1, 0, 188, 10, 181, 0, 49, 42, 16, 40, 188, 10, 181, 0, 52]
abbrev dktX3_init_4 : List UInt8 := dkwX3_init_4 ++ dktX3_init_5
def dkwX3_init_3 : List UInt8 := [42, 17, 1, 224, 188, 10, 181, 0, 36, 42, 2, 181, 0, 39, 42, 17, 1, 234, 188, 10, 181, 0, 43, 42]
abbrev dktX3_init_3 : List UInt8 := dkwX3_init_3 ++ dktX3_init_4
def dkwX3_init_2 : List UInt8 := [17, 5, 48, 188, 10, 181, 0, 26, 42, 17, 0, 166, 188, 10, 181, 0, 29, 42, 5, 188, 4, 181, 0, 32]
abbrev dktX3_init_2 : List UInt8 := dkwX3_init_2 ++ dktX3_init_3
def dkwX3_init_1 : List UInt8 := [16, 13, 188, 11, 181, 0, 16, 42, 16, 13, 188, 11, 181, 0, 20, 42, 16, 83, 188, 10, 181, 0, 23, 42]
abbrev dktX3_init_1 : List UInt8 := dkwX3_init_1 ++ dktX3_init_2
def dkwX3_init_0 : List UInt8 := [42, 183, 0, 1, 42, 17, 2, 128, 188, 10, 181, 0, 7, 42, 17, 2, 128, 188, 10, 181, 0, 13, 42]
abbrev dktX3_init_0 : List UInt8 := dkwX3_init_0 ++ dktX3_init_1
theorem dksX3_init_0 : cX3_init.data.toList.drop 0 = dktX3_init_0 := by decide +kernel
theorem dksX3_init_1 : cX3_init.data.toList.drop 23 = dktX3_init_1 := dk_seg dksX3_init_0 23 rfl rfl
theorem dksX3_init_2 : cX3_init.data.toList.drop 47 = dktX3_init_2 := dk_seg dksX3_init_1 24 rfl rfl
theorem dksX3_init_3 : cX3_init.data.toList.drop 71 = dktX3_init_3 := dk_seg dksX3_init_2 24 rfl rfl
theorem dksX3_init_4 : cX3_init.data.toList.drop 95 = dktX3_init_4 := dk_seg dksX3_init_3 24 rfl rfl
theorem dksX3_init_5 : cX3_init.data.toList.drop 119 = dktX3_init_5 := dk_seg dksX3_init_4 24 rfl rfl
theorem dksX3_init_6 : cX3_init.data.toList.drop 143 = dktX3_init_6 := dk_seg dksX3_init_5 24 rfl rfl
theorem dksX3_init_7 : cX3_init.data.toList.drop 166 = dktX3_init_7 := dk_seg dksX3_init_6 23 rfl rfl
theorem dksX3_init_8 : cX3_init.data.toList.drop 188 = dktX3_init_8 := dk_seg dksX3_init_7 22 rfl rfl
theorem dX3_init_0 : decode cX3_init 0 = .ok (.aload_n 0, 1) := dk_42 (dk_at dksX3_init_0 0 rfl rfl)
theorem dX3_init_1 : decode cX3_init 1 = .ok (.invokespecial 1, 3) := dk_183 0 1 (dk_at dksX3_init_0 1 rfl rfl)
theorem dX3_init_4 : decode cX3_init 4 = .ok (.aload_n 0, 1) := dk_42 (dk_at dksX3_init_0 4 rfl rfl)
theorem dX3_init_5 : decode cX3_init 5 = .ok (.sipush 640, 3) := dk_17 2 128 (dk_at dksX3_init_0 5 rfl rfl)
theorem dX3_init_8 : decode cX3_init 8 = .ok (.newarray .int, 2) := dk_188_10 (dk_at dksX3_init_0 8 rfl rfl)
theorem dX3_init_10 : decode cX3_init 10 = .ok (.putfield 7, 3) := dk_181 0 7 (dk_at dksX3_init_0 10 rfl rfl)
theorem dX3_init_13 : decode cX3_init 13 = .ok (.aload_n 0, 1) := dk_42 (dk_at dksX3_init_0 13 rfl rfl)
theorem dX3_init_14 : decode cX3_init 14 = .ok (.sipush 640, 3) := dk_17 2 128 (dk_at dksX3_init_0 14 rfl rfl)
theorem dX3_init_17 : decode cX3_init 17 = .ok (.newarray .int, 2) := dk_188_10 (dk_at dksX3_init_0 17 rfl rfl)
theorem dX3_init_19 : decode cX3_init 19 = .ok (.putfield 13, 3) := dk_181 0 13 (dk_at dksX3_init_0 19 rfl rfl)
theorem dX3_init_22 : decode cX3_init 22 = .ok (.aload_n 0, 1) := dk_42 (dk_at dksX3_init_0 22 rfl rfl)
theorem dX3_init_23 : decode cX3_init 23 = .ok (.bipush 13, 2) := dk_16 13 (dk_at dksX3_init_1 0 rfl rfl)
theorem dX3_init_25 : decode cX3_init 25 = .ok (.newarray .long, 2) := dk_188_11 (dk_at dksX3_init_1 2 rfl rfl)
theorem dX3_init_27 : decode cX3_init 27 = .ok (.putfield 16, 3) := dk_181 0 16 (dk_at dksX3_init_1 4 rfl rfl)
theorem dX3_init_30 : decode cX3_init 30 = .ok (.aload_n 0, 1) := dk_42 (dk_at dksX3_init_1 7 rfl rfl)
theorem dX3_init_31 : decode cX3_init 31 = .ok (.bipush 13, 2) := dk_16 13 (dk_at dksX3_init_1 8 rfl rfl)
theorem dX3_init_33 : decode cX3_init 33 = .ok (.newarray .long, 2) := dk_188_11 (dk_at dksX3_init_1 10 rfl rfl)
theorem dX3_init_35 : decode cX3_init 35 = .ok (.putfield 20, 3) := dk_181 0 20 (dk_at dksX3_init_1 12 rfl rfl)
theorem dX3_init_38 : decode cX3_init 38 = .ok (.aload_n 0, 1) := dk_42 (dk_at dksX3_init_1 15 rfl rfl)
theorem dX3_init_39 : decode cX3_init 39 = .ok (.bipush 83, 2) := dk_16 83 (dk_at dksX3_init_1 16 rfl rfl)
theorem dX3_init_41 : decode cX3_init 41 = .ok (.newarray .int, 2) := dk_188_10 (dk_at dksX3_init_1 18 rfl rfl)
theorem dX3_init_43 : decode cX3_init 43 = .ok (.putfield 23, 3) := dk_181 0 23 (dk_at dksX3_init_1 20 rfl rfl)
theorem dX3_init_46 : decode cX3_init 46 = .ok (.aload_n 0, 1) := dk_42 (dk_at dksX3_init_1 23 rfl rfl)
theorem dX3_init_47 : decode cX3_init 47 = .ok (.sipush 1328, 3) := dk_17 5 48 (dk_at dksX3_init_2 0 rfl rfl)
theorem dX3_init_50 : decode cX3_init 50 = .ok (.newarray .int, 2) := dk_188_10 (dk_at dksX3_init_2 3 rfl rfl)
theorem dX3_init_52 : decode cX3_init 52 = .ok (.putfield 26, 3) := dk_181 0 26 (dk_at dksX3_init_2 5 rfl rfl)
theorem dX3_init_55 : decode cX3_init 55 = .ok (.aload_n 0, 1) := dk_42 (dk_at dksX3_init_2 8 rfl rfl)
theorem dX3_init_56 : decode cX3_init 56 = .ok (.sipush 166, 3) := dk_17 0 166 (dk_at dksX3_init_2 9 rfl rfl)
theorem dX3_init_59 : decode cX3_init 59 = .ok (.newarray .int, 2) := dk_188_10 (dk_at dksX3_init_2 12 rfl rfl)
theorem dX3_init_61 : decode cX3_init 61 = .ok (.putfield 29, 3) := dk_181 0 29 (dk_at dksX3_init_2 14 rfl rfl)
theorem dX3_init_64 : decode cX3_init 64 = .ok (.aload_n 0, 1) := dk_42 (dk_at dksX3_init_2 17 rfl rfl)
theorem dX3_init_65 : decode cX3_init 65 = .ok (.iconst 2, 1) := dk_5 (dk_at dksX3_init_2 18 rfl rfl)
theorem dX3_init_66 : decode cX3_init 66 = .ok (.newarray .boolean, 2) := dk_188_4 (dk_at dksX3_init_2 19 rfl rfl)
theorem dX3_init_68 : decode cX3_init 68 = .ok (.putfield 32, 3) := dk_181 0 32 (dk_at dksX3_init_2 21 rfl rfl)
theorem dX3_init_71 : decode cX3_init 71 = .ok (.aload_n 0, 1) := dk_42 (dk_at dksX3_init_3 0 rfl rfl)
theorem dX3_init_72 : decode cX3_init 72 = .ok (.sipush 480, 3) := dk_17 1 224 (dk_at dksX3_init_3 1 rfl rfl)
theorem dX3_init_75 : decode cX3_init 75 = .ok (.newarray .int, 2) := dk_188_10 (dk_at dksX3_init_3 4 rfl rfl)
theorem dX3_init_77 : decode cX3_init 77 = .ok (.putfield 36, 3) := dk_181 0 36 (dk_at dksX3_init_3 6 rfl rfl)
theorem dX3_init_80 : decode cX3_init 80 = .ok (.aload_n 0, 1) := dk_42 (dk_at dksX3_init_3 9 rfl rfl)
theorem dX3_init_81 : decode cX3_init 81 = .ok (.iconst (-1), 1) := dk_2 (dk_at dksX3_init_3 10 rfl rfl)
theorem dX3_init_82 : decode cX3_init 82 = .ok (.putfield 39, 3) := dk_181 0 39 (dk_at dksX3_init_3 11 rfl rfl)
theorem dX3_init_85 : decode cX3_init 85 = .ok (.aload_n 0, 1) := dk_42 (dk_at dksX3_init_3 14 rfl rfl)
theorem dX3_init_86 : decode cX3_init 86 = .ok (.sipush 490, 3) := dk_17 1 234 (dk_at dksX3_init_3 15 rfl rfl)
theorem dX3_init_89 : decode cX3_init 89 = .ok (.newarray .int, 2) := dk_188_10 (dk_at dksX3_init_3 18 rfl rfl)
theorem dX3_init_91 : decode cX3_init 91 = .ok (.putfield 43, 3) := dk_181 0 43 (dk_at dksX3_init_3 20 rfl rfl)
theorem dX3_init_94 : decode cX3_init 94 = .ok (.aload_n 0, 1) := dk_42 (dk_at dksX3_init_3 23 rfl rfl)
theorem dX3_init_95 : decode cX3_init 95 = .ok (.bipush 8, 2) := dk_16 8 (dk_at dksX3_init_4 0 rfl rfl)
theorem dX3_init_97 : decode cX3_init 97 = .ok (.newarray .int, 2) := dk_188_10 (dk_at dksX3_init_4 2 rfl rfl)
theorem dX3_init_99 : decode cX3_init 99 = .ok (.putfield 46, 3) := dk_181 0 46 (dk_at dksX3_init_4 4 rfl rfl)
theorem dX3_init_102 : decode cX3_init 102 = .ok (.aload_n 0, 1) := dk_42 (dk_at dksX3_init_4 7 rfl rfl)
theorem dX3_init_103 : decode cX3_init 103 = .ok (.sipush 256, 3) := dk_17 1 0 (dk_at dksX3_init_4 8 rfl rfl)
theorem dX3_init_106 : decode cX3_init 106 = .ok (.newarray .int, 2) := dk_188_10 (dk_at dksX3_init_4 11 rfl rfl)
theorem dX3_init_108 : decode cX3_init 108 = .ok (.putfield 49, 3) := dk_181 0 49 (dk_at dksX3_init_4 13 rfl rfl)
theorem dX3_init_111 : decode cX3_init 111 = .ok (.aload_n 0, 1) := dk_42 (dk_at dksX3_init_4 16 rfl rfl)
theorem dX3_init_112 : decode cX3_init 112 = .ok (.bipush 40, 2) := dk_16 40 (dk_at dksX3_init_4 17 rfl rfl)
theorem dX3_init_114 : decode cX3_init 114 = .ok (.newarray .int, 2) := dk_188_10 (dk_at dksX3_init_4 19 rfl rfl)
theorem dX3_init_116 : decode cX3_init 116 = .ok (.putfield 52, 3) := dk_181 0 52 (dk_at dksX3_init_4 21 rfl rfl)
theorem dX3_init_119 : decode cX3_init 119 = .ok (.aload_n 0, 1) := dk_42 (dk_at dksX3_init_5 0 rfl rfl)
theorem dX3_init_120 : decode cX3_init 120 = .ok (.bipush 8, 2) := dk_16 8 (dk_at dksX3_init_5 1 rfl rfl)
theorem dX3_init_122 : decode cX3_init 122 = .ok (.newarray .int, 2) := dk_188_10 (dk_at dksX3_init_5 3 rfl rfl)
theorem dX3_init_124 : decode cX3_init 124 = .ok (.putfield 55, 3) := dk_181 0 55 (dk_at dksX3_init_5 5 rfl rfl)
theorem dX3_init_127 : decode cX3_init 127 = .ok (.aload_n 0, 1) := dk_42 (dk_at dksX3_init_5 8 rfl rfl)
theorem dX3_init_128 : decode cX3_init 128 = .ok (.bipush 8, 2) := dk_16 8 (dk_at dksX3_init_5 9 rfl rfl)
theorem dX3_init_130 : decode cX3_init 130 = .ok (.newarray .int, 2) := dk_188_10 (dk_at dksX3_init_5 11 rfl rfl)
theorem dX3_init_132 : decode cX3_init 132 = .ok (.putfield 58, 3) := dk_181 0 58 (dk_at dksX3_init_5 13 rfl rfl)
theorem dX3_init_135 : decode cX3_init 135 = .ok (.aload_n 0, 1) := dk_42 (dk_at dksX3_init_5 16 rfl rfl)
theorem dX3_init_136 : decode cX3_init 136 = .ok (.bipush 8, 2) := dk_16 8 (dk_at dksX3_init_5 17 rfl rfl)
theorem dX3_init_138 : decode cX3_init 138 = .ok (.newarray .int, 2) := dk_188_10 (dk_at dksX3_init_5 19 rfl rfl)
theorem dX3_init_140 : decode cX3_init 140 = .ok (.putfield 61, 3) := dk_181 0 61 (dk_at dksX3_init_5 21 rfl rfl)
theorem dX3_init_143 : decode cX3_init 143 = .ok (.aload_n 0, 1) := dk_42 (dk_at dksX3_init_6 0 rfl rfl)
theorem dX3_init_144 : decode cX3_init 144 = .ok (.bipush 8, 2) := dk_16 8 (dk_at dksX3_init_6 1 rfl rfl)
theorem dX3_init_146 : decode cX3_init 146 = .ok (.newarray .int, 2) := dk_188_10 (dk_at dksX3_init_6 3 rfl rfl)
theorem dX3_init_148 : decode cX3_init 148 = .ok (.putfield 64, 3) := dk_181 0 64 (dk_at dksX3_init_6 5 rfl rfl)
theorem dX3_init_151 : decode cX3_init 151 = .ok (.aload_n 0, 1) := dk_42 (dk_at dksX3_init_6 8 rfl rfl)
theorem dX3_init_152 : decode cX3_init 152 = .ok (.sipush 6561, 3) := dk_17 25 161 (dk_at dksX3_init_6 9 rfl rfl)
theorem dX3_init_155 : decode cX3_init 155 = .ok (.newarray .int, 2) := dk_188_10 (dk_at dksX3_init_6 12 rfl rfl)
theorem dX3_init_157 : decode cX3_init 157 = .ok (.putfield 67, 3) := dk_181 0 67 (dk_at dksX3_init_6 14 rfl rfl)
theorem dX3_init_160 : decode cX3_init 160 = .ok (.aload_n 0, 1) := dk_42 (dk_at dksX3_init_6 17 rfl rfl)
theorem dX3_init_161 : decode cX3_init 161 = .ok (.sipush 6561, 3) := dk_17 25 161 (dk_at dksX3_init_6 18 rfl rfl)
theorem dX3_init_164 : decode cX3_init 164 = .ok (.newarray .int, 2) := dk_188_10 (dk_at dksX3_init_6 21 rfl rfl)
theorem dX3_init_166 : decode cX3_init 166 = .ok (.putfield 70, 3) := dk_181 0 70 (dk_at dksX3_init_7 0 rfl rfl)
theorem dX3_init_169 : decode cX3_init 169 = .ok (.aload_n 0, 1) := dk_42 (dk_at dksX3_init_7 3 rfl rfl)
theorem dX3_init_170 : decode cX3_init 170 = .ok (.sipush 6561, 3) := dk_17 25 161 (dk_at dksX3_init_7 4 rfl rfl)
theorem dX3_init_173 : decode cX3_init 173 = .ok (.newarray .int, 2) := dk_188_10 (dk_at dksX3_init_7 7 rfl rfl)
theorem dX3_init_175 : decode cX3_init 175 = .ok (.putfield 73, 3) := dk_181 0 73 (dk_at dksX3_init_7 9 rfl rfl)
theorem dX3_init_178 : decode cX3_init 178 = .ok (.aload_n 0, 1) := dk_42 (dk_at dksX3_init_7 12 rfl rfl)
theorem dX3_init_179 : decode cX3_init 179 = .ok (.sipush 256, 3) := dk_17 1 0 (dk_at dksX3_init_7 13 rfl rfl)
theorem dX3_init_182 : decode cX3_init 182 = .ok (.newarray .int, 2) := dk_188_10 (dk_at dksX3_init_7 16 rfl rfl)
theorem dX3_init_184 : decode cX3_init 184 = .ok (.putfield 76, 3) := dk_181 0 76 (dk_at dksX3_init_7 18 rfl rfl)
theorem dX3_init_187 : decode cX3_init 187 = .ok (.aload_n 0, 1) := dk_42 (dk_at dksX3_init_7 21 rfl rfl)
theorem dX3_init_188 : decode cX3_init 188 = .ok (.getfield 7, 3) := dk_180 0 7 (dk_at dksX3_init_8 0 rfl rfl)
theorem dX3_init_191 : decode cX3_init 191 = .ok (.iconst 5, 1) := dk_8 (dk_at dksX3_init_8 3 rfl rfl)
theorem dX3_init_192 : decode cX3_init 192 = .ok (.sipush 300, 3) := dk_17 1 44 (dk_at dksX3_init_8 4 rfl rfl)
theorem dX3_init_195 : decode cX3_init 195 = .ok (.iastore, 1) := dk_79 (dk_at dksX3_init_8 7 rfl rfl)
theorem dX3_init_196 : decode cX3_init 196 = .ok (.aload_n 0, 1) := dk_42 (dk_at dksX3_init_8 8 rfl rfl)
theorem dX3_init_197 : decode cX3_init 197 = .ok (.invokevirtual 79, 3) := dk_182 0 79 (dk_at dksX3_init_8 9 rfl rfl)
theorem dX3_init_200 : decode cX3_init 200 = .ok (.return_, 1) := dk_177 (dk_at dksX3_init_8 12 rfl rfl)
abbrev cX3_laysTables : ByteArray := prog_18_method_49_code
def yX3_laysTables : MethodName := ⟨RX3, "laysTables", "()V"⟩
def dkwX3_laysTables_6 : List UInt8 := [182, 1, 52, 177]
abbrev dktX3_laysTables_6 : List UInt8 := dkwX3_laysTables_6 ++ []
def dkwX3_laysTables_5 : List UInt8 := [42, 28, 27, 182, 1, 49, 184, 1, 45, 132, 2, 1, 167, 255, 228, 132, 1, 1, 167, 255, 143, 42]
abbrev dktX3_laysTables_5 : List UInt8 := dkwX3_laysTables_5 ++ dktX3_laysTables_6
def dkwX3_laysTables_4 : List UInt8 := [132, 2, 1, 167, 255, 214, 3, 61, 28, 42, 180, 0, 7, 5, 46, 162, 0, 24, 42, 180, 0, 52, 28, 27]
abbrev dktX3_laysTables_4 : List UInt8 := dkwX3_laysTables_4 ++ dktX3_laysTables_5
def dkwX3_laysTables_3 : List UInt8 := [27, 42, 42, 180, 0, 7, 28, 27, 182, 1, 37, 4, 160, 0, 7, 4, 167, 0, 4, 3, 184, 1, 45]
abbrev dktX3_laysTables_3 : List UInt8 := dkwX3_laysTables_3 ++ dktX3_laysTables_4
def dkwX3_laysTables_2 : List UInt8 := [182, 0, 235, 184, 1, 45, 3, 61, 28, 42, 180, 0, 7, 16, 6, 46, 162, 0, 37, 42, 180, 0, 49, 28]
abbrev dktX3_laysTables_2 : List UInt8 := dkwX3_laysTables_2 ++ dktX3_laysTables_3
def dkwX3_laysTables_1 : List UInt8 := [4, 42, 180, 0, 7, 4, 46, 120, 162, 0, 107, 42, 180, 0, 46, 3, 27, 42, 42, 180, 0, 7, 27]
abbrev dktX3_laysTables_1 : List UInt8 := dkwX3_laysTables_1 ++ dktX3_laysTables_2
def dkwX3_laysTables_0 : List UInt8 := [42, 180, 0, 46, 184, 1, 41, 42, 180, 0, 49, 184, 1, 41, 42, 180, 0, 52, 184, 1, 41, 3, 60, 27]
abbrev dktX3_laysTables_0 : List UInt8 := dkwX3_laysTables_0 ++ dktX3_laysTables_1
theorem dksX3_laysTables_0 : cX3_laysTables.data.toList.drop 0 = dktX3_laysTables_0 := by decide +kernel
theorem dksX3_laysTables_1 : cX3_laysTables.data.toList.drop 24 = dktX3_laysTables_1 := dk_seg dksX3_laysTables_0 24 rfl rfl
theorem dksX3_laysTables_2 : cX3_laysTables.data.toList.drop 47 = dktX3_laysTables_2 := dk_seg dksX3_laysTables_1 23 rfl rfl
theorem dksX3_laysTables_3 : cX3_laysTables.data.toList.drop 71 = dktX3_laysTables_3 := dk_seg dksX3_laysTables_2 24 rfl rfl
theorem dksX3_laysTables_4 : cX3_laysTables.data.toList.drop 94 = dktX3_laysTables_4 := dk_seg dksX3_laysTables_3 23 rfl rfl
theorem dksX3_laysTables_5 : cX3_laysTables.data.toList.drop 118 = dktX3_laysTables_5 := dk_seg dksX3_laysTables_4 24 rfl rfl
theorem dksX3_laysTables_6 : cX3_laysTables.data.toList.drop 140 = dktX3_laysTables_6 := dk_seg dksX3_laysTables_5 22 rfl rfl
theorem dX3_laysTables_0 : decode cX3_laysTables 0 = .ok (.aload_n 0, 1) := dk_42 (dk_at dksX3_laysTables_0 0 rfl rfl)
theorem dX3_laysTables_1 : decode cX3_laysTables 1 = .ok (.getfield 46, 3) := dk_180 0 46 (dk_at dksX3_laysTables_0 1 rfl rfl)
theorem dX3_laysTables_4 : decode cX3_laysTables 4 = .ok (.invokestatic 297, 3) := dk_184 1 41 (dk_at dksX3_laysTables_0 4 rfl rfl)
theorem dX3_laysTables_7 : decode cX3_laysTables 7 = .ok (.aload_n 0, 1) := dk_42 (dk_at dksX3_laysTables_0 7 rfl rfl)
theorem dX3_laysTables_8 : decode cX3_laysTables 8 = .ok (.getfield 49, 3) := dk_180 0 49 (dk_at dksX3_laysTables_0 8 rfl rfl)
theorem dX3_laysTables_11 : decode cX3_laysTables 11 = .ok (.invokestatic 297, 3) := dk_184 1 41 (dk_at dksX3_laysTables_0 11 rfl rfl)
theorem dX3_laysTables_14 : decode cX3_laysTables 14 = .ok (.aload_n 0, 1) := dk_42 (dk_at dksX3_laysTables_0 14 rfl rfl)
theorem dX3_laysTables_15 : decode cX3_laysTables 15 = .ok (.getfield 52, 3) := dk_180 0 52 (dk_at dksX3_laysTables_0 15 rfl rfl)
theorem dX3_laysTables_18 : decode cX3_laysTables 18 = .ok (.invokestatic 297, 3) := dk_184 1 41 (dk_at dksX3_laysTables_0 18 rfl rfl)
theorem dX3_laysTables_21 : decode cX3_laysTables 21 = .ok (.iconst 0, 1) := dk_3 (dk_at dksX3_laysTables_0 21 rfl rfl)
theorem dX3_laysTables_22 : decode cX3_laysTables 22 = .ok (.istore_n 1, 1) := dk_60 (dk_at dksX3_laysTables_0 22 rfl rfl)
theorem dX3_laysTables_23 : decode cX3_laysTables 23 = .ok (.iload_n 1, 1) := dk_27 (dk_at dksX3_laysTables_0 23 rfl rfl)
theorem dX3_laysTables_24 : decode cX3_laysTables 24 = .ok (.iconst 1, 1) := dk_4 (dk_at dksX3_laysTables_1 0 rfl rfl)
theorem dX3_laysTables_25 : decode cX3_laysTables 25 = .ok (.aload_n 0, 1) := dk_42 (dk_at dksX3_laysTables_1 1 rfl rfl)
theorem dX3_laysTables_26 : decode cX3_laysTables 26 = .ok (.getfield 7, 3) := dk_180 0 7 (dk_at dksX3_laysTables_1 2 rfl rfl)
theorem dX3_laysTables_29 : decode cX3_laysTables 29 = .ok (.iconst 1, 1) := dk_4 (dk_at dksX3_laysTables_1 5 rfl rfl)
theorem dX3_laysTables_30 : decode cX3_laysTables 30 = .ok (.iaload, 1) := dk_46 (dk_at dksX3_laysTables_1 6 rfl rfl)
theorem dX3_laysTables_31 : decode cX3_laysTables 31 = .ok (.ishl, 1) := dk_120 (dk_at dksX3_laysTables_1 7 rfl rfl)
theorem dX3_laysTables_32 : decode cX3_laysTables 32 = .ok (.if_icmp .ge 107, 3) := dk_162 0 107 (dk_at dksX3_laysTables_1 8 rfl rfl)
theorem dX3_laysTables_35 : decode cX3_laysTables 35 = .ok (.aload_n 0, 1) := dk_42 (dk_at dksX3_laysTables_1 11 rfl rfl)
theorem dX3_laysTables_36 : decode cX3_laysTables 36 = .ok (.getfield 46, 3) := dk_180 0 46 (dk_at dksX3_laysTables_1 12 rfl rfl)
theorem dX3_laysTables_39 : decode cX3_laysTables 39 = .ok (.iconst 0, 1) := dk_3 (dk_at dksX3_laysTables_1 15 rfl rfl)
theorem dX3_laysTables_40 : decode cX3_laysTables 40 = .ok (.iload_n 1, 1) := dk_27 (dk_at dksX3_laysTables_1 16 rfl rfl)
theorem dX3_laysTables_41 : decode cX3_laysTables 41 = .ok (.aload_n 0, 1) := dk_42 (dk_at dksX3_laysTables_1 17 rfl rfl)
theorem dX3_laysTables_42 : decode cX3_laysTables 42 = .ok (.aload_n 0, 1) := dk_42 (dk_at dksX3_laysTables_1 18 rfl rfl)
theorem dX3_laysTables_43 : decode cX3_laysTables 43 = .ok (.getfield 7, 3) := dk_180 0 7 (dk_at dksX3_laysTables_1 19 rfl rfl)
theorem dX3_laysTables_46 : decode cX3_laysTables 46 = .ok (.iload_n 1, 1) := dk_27 (dk_at dksX3_laysTables_1 22 rfl rfl)
theorem dX3_laysTables_47 : decode cX3_laysTables 47 = .ok (.invokevirtual 235, 3) := dk_182 0 235 (dk_at dksX3_laysTables_2 0 rfl rfl)
theorem dX3_laysTables_50 : decode cX3_laysTables 50 = .ok (.invokestatic 301, 3) := dk_184 1 45 (dk_at dksX3_laysTables_2 3 rfl rfl)
theorem dX3_laysTables_53 : decode cX3_laysTables 53 = .ok (.iconst 0, 1) := dk_3 (dk_at dksX3_laysTables_2 6 rfl rfl)
theorem dX3_laysTables_54 : decode cX3_laysTables 54 = .ok (.istore_n 2, 1) := dk_61 (dk_at dksX3_laysTables_2 7 rfl rfl)
theorem dX3_laysTables_55 : decode cX3_laysTables 55 = .ok (.iload_n 2, 1) := dk_28 (dk_at dksX3_laysTables_2 8 rfl rfl)
theorem dX3_laysTables_56 : decode cX3_laysTables 56 = .ok (.aload_n 0, 1) := dk_42 (dk_at dksX3_laysTables_2 9 rfl rfl)
theorem dX3_laysTables_57 : decode cX3_laysTables 57 = .ok (.getfield 7, 3) := dk_180 0 7 (dk_at dksX3_laysTables_2 10 rfl rfl)
theorem dX3_laysTables_60 : decode cX3_laysTables 60 = .ok (.bipush 6, 2) := dk_16 6 (dk_at dksX3_laysTables_2 13 rfl rfl)
theorem dX3_laysTables_62 : decode cX3_laysTables 62 = .ok (.iaload, 1) := dk_46 (dk_at dksX3_laysTables_2 15 rfl rfl)
theorem dX3_laysTables_63 : decode cX3_laysTables 63 = .ok (.if_icmp .ge 37, 3) := dk_162 0 37 (dk_at dksX3_laysTables_2 16 rfl rfl)
theorem dX3_laysTables_66 : decode cX3_laysTables 66 = .ok (.aload_n 0, 1) := dk_42 (dk_at dksX3_laysTables_2 19 rfl rfl)
theorem dX3_laysTables_67 : decode cX3_laysTables 67 = .ok (.getfield 49, 3) := dk_180 0 49 (dk_at dksX3_laysTables_2 20 rfl rfl)
theorem dX3_laysTables_70 : decode cX3_laysTables 70 = .ok (.iload_n 2, 1) := dk_28 (dk_at dksX3_laysTables_2 23 rfl rfl)
theorem dX3_laysTables_71 : decode cX3_laysTables 71 = .ok (.iload_n 1, 1) := dk_27 (dk_at dksX3_laysTables_3 0 rfl rfl)
theorem dX3_laysTables_72 : decode cX3_laysTables 72 = .ok (.aload_n 0, 1) := dk_42 (dk_at dksX3_laysTables_3 1 rfl rfl)
theorem dX3_laysTables_73 : decode cX3_laysTables 73 = .ok (.aload_n 0, 1) := dk_42 (dk_at dksX3_laysTables_3 2 rfl rfl)
theorem dX3_laysTables_74 : decode cX3_laysTables 74 = .ok (.getfield 7, 3) := dk_180 0 7 (dk_at dksX3_laysTables_3 3 rfl rfl)
theorem dX3_laysTables_77 : decode cX3_laysTables 77 = .ok (.iload_n 2, 1) := dk_28 (dk_at dksX3_laysTables_3 6 rfl rfl)
theorem dX3_laysTables_78 : decode cX3_laysTables 78 = .ok (.iload_n 1, 1) := dk_27 (dk_at dksX3_laysTables_3 7 rfl rfl)
theorem dX3_laysTables_79 : decode cX3_laysTables 79 = .ok (.invokevirtual 293, 3) := dk_182 1 37 (dk_at dksX3_laysTables_3 8 rfl rfl)
theorem dX3_laysTables_82 : decode cX3_laysTables 82 = .ok (.iconst 1, 1) := dk_4 (dk_at dksX3_laysTables_3 11 rfl rfl)
theorem dX3_laysTables_83 : decode cX3_laysTables 83 = .ok (.if_icmp .ne 7, 3) := dk_160 0 7 (dk_at dksX3_laysTables_3 12 rfl rfl)
theorem dX3_laysTables_86 : decode cX3_laysTables 86 = .ok (.iconst 1, 1) := dk_4 (dk_at dksX3_laysTables_3 15 rfl rfl)
theorem dX3_laysTables_87 : decode cX3_laysTables 87 = .ok (.goto 4, 3) := dk_167 0 4 (dk_at dksX3_laysTables_3 16 rfl rfl)
theorem dX3_laysTables_90 : decode cX3_laysTables 90 = .ok (.iconst 0, 1) := dk_3 (dk_at dksX3_laysTables_3 19 rfl rfl)
theorem dX3_laysTables_91 : decode cX3_laysTables 91 = .ok (.invokestatic 301, 3) := dk_184 1 45 (dk_at dksX3_laysTables_3 20 rfl rfl)
theorem dX3_laysTables_94 : decode cX3_laysTables 94 = .ok (.iinc 2 1, 3) := dk_132 2 1 (dk_at dksX3_laysTables_4 0 rfl rfl)
theorem dX3_laysTables_97 : decode cX3_laysTables 97 = .ok (.goto (-42), 3) := dk_167 255 214 (dk_at dksX3_laysTables_4 3 rfl rfl)
theorem dX3_laysTables_100 : decode cX3_laysTables 100 = .ok (.iconst 0, 1) := dk_3 (dk_at dksX3_laysTables_4 6 rfl rfl)
theorem dX3_laysTables_101 : decode cX3_laysTables 101 = .ok (.istore_n 2, 1) := dk_61 (dk_at dksX3_laysTables_4 7 rfl rfl)
theorem dX3_laysTables_102 : decode cX3_laysTables 102 = .ok (.iload_n 2, 1) := dk_28 (dk_at dksX3_laysTables_4 8 rfl rfl)
theorem dX3_laysTables_103 : decode cX3_laysTables 103 = .ok (.aload_n 0, 1) := dk_42 (dk_at dksX3_laysTables_4 9 rfl rfl)
theorem dX3_laysTables_104 : decode cX3_laysTables 104 = .ok (.getfield 7, 3) := dk_180 0 7 (dk_at dksX3_laysTables_4 10 rfl rfl)
theorem dX3_laysTables_107 : decode cX3_laysTables 107 = .ok (.iconst 2, 1) := dk_5 (dk_at dksX3_laysTables_4 13 rfl rfl)
theorem dX3_laysTables_108 : decode cX3_laysTables 108 = .ok (.iaload, 1) := dk_46 (dk_at dksX3_laysTables_4 14 rfl rfl)
theorem dX3_laysTables_109 : decode cX3_laysTables 109 = .ok (.if_icmp .ge 24, 3) := dk_162 0 24 (dk_at dksX3_laysTables_4 15 rfl rfl)
theorem dX3_laysTables_112 : decode cX3_laysTables 112 = .ok (.aload_n 0, 1) := dk_42 (dk_at dksX3_laysTables_4 18 rfl rfl)
theorem dX3_laysTables_113 : decode cX3_laysTables 113 = .ok (.getfield 52, 3) := dk_180 0 52 (dk_at dksX3_laysTables_4 19 rfl rfl)
theorem dX3_laysTables_116 : decode cX3_laysTables 116 = .ok (.iload_n 2, 1) := dk_28 (dk_at dksX3_laysTables_4 22 rfl rfl)
theorem dX3_laysTables_117 : decode cX3_laysTables 117 = .ok (.iload_n 1, 1) := dk_27 (dk_at dksX3_laysTables_4 23 rfl rfl)
theorem dX3_laysTables_118 : decode cX3_laysTables 118 = .ok (.aload_n 0, 1) := dk_42 (dk_at dksX3_laysTables_5 0 rfl rfl)
theorem dX3_laysTables_119 : decode cX3_laysTables 119 = .ok (.iload_n 2, 1) := dk_28 (dk_at dksX3_laysTables_5 1 rfl rfl)
theorem dX3_laysTables_120 : decode cX3_laysTables 120 = .ok (.iload_n 1, 1) := dk_27 (dk_at dksX3_laysTables_5 2 rfl rfl)
theorem dX3_laysTables_121 : decode cX3_laysTables 121 = .ok (.invokevirtual 305, 3) := dk_182 1 49 (dk_at dksX3_laysTables_5 3 rfl rfl)
theorem dX3_laysTables_124 : decode cX3_laysTables 124 = .ok (.invokestatic 301, 3) := dk_184 1 45 (dk_at dksX3_laysTables_5 6 rfl rfl)
theorem dX3_laysTables_127 : decode cX3_laysTables 127 = .ok (.iinc 2 1, 3) := dk_132 2 1 (dk_at dksX3_laysTables_5 9 rfl rfl)
theorem dX3_laysTables_130 : decode cX3_laysTables 130 = .ok (.goto (-28), 3) := dk_167 255 228 (dk_at dksX3_laysTables_5 12 rfl rfl)
theorem dX3_laysTables_133 : decode cX3_laysTables 133 = .ok (.iinc 1 1, 3) := dk_132 1 1 (dk_at dksX3_laysTables_5 15 rfl rfl)
theorem dX3_laysTables_136 : decode cX3_laysTables 136 = .ok (.goto (-113), 3) := dk_167 255 143 (dk_at dksX3_laysTables_5 18 rfl rfl)
theorem dX3_laysTables_139 : decode cX3_laysTables 139 = .ok (.aload_n 0, 1) := dk_42 (dk_at dksX3_laysTables_5 21 rfl rfl)
theorem dX3_laysTables_140 : decode cX3_laysTables 140 = .ok (.invokevirtual 308, 3) := dk_182 1 52 (dk_at dksX3_laysTables_6 0 rfl rfl)
theorem dX3_laysTables_143 : decode cX3_laysTables 143 = .ok (.return_, 1) := dk_177 (dk_at dksX3_laysTables_6 3 rfl rfl)
abbrev cX3_empties : ByteArray := prog_18_method_48_code
def yX3_empties : MethodName := ⟨RX3, "empties", "([I)V"⟩
def dkwX3_empties_0 : List UInt8 := [3, 60, 27, 42, 190, 162, 0, 13, 42, 27, 3, 79, 132, 1, 1, 167, 255, 243, 177]
abbrev dktX3_empties_0 : List UInt8 := dkwX3_empties_0 ++ []
theorem dksX3_empties_0 : cX3_empties.data.toList.drop 0 = dktX3_empties_0 := by decide +kernel
theorem dX3_empties_0 : decode cX3_empties 0 = .ok (.iconst 0, 1) := dk_3 (dk_at dksX3_empties_0 0 rfl rfl)
theorem dX3_empties_1 : decode cX3_empties 1 = .ok (.istore_n 1, 1) := dk_60 (dk_at dksX3_empties_0 1 rfl rfl)
theorem dX3_empties_2 : decode cX3_empties 2 = .ok (.iload_n 1, 1) := dk_27 (dk_at dksX3_empties_0 2 rfl rfl)
theorem dX3_empties_3 : decode cX3_empties 3 = .ok (.aload_n 0, 1) := dk_42 (dk_at dksX3_empties_0 3 rfl rfl)
theorem dX3_empties_4 : decode cX3_empties 4 = .ok (.arraylength, 1) := dk_190 (dk_at dksX3_empties_0 4 rfl rfl)
theorem dX3_empties_5 : decode cX3_empties 5 = .ok (.if_icmp .ge 13, 3) := dk_162 0 13 (dk_at dksX3_empties_0 5 rfl rfl)
theorem dX3_empties_8 : decode cX3_empties 8 = .ok (.aload_n 0, 1) := dk_42 (dk_at dksX3_empties_0 8 rfl rfl)
theorem dX3_empties_9 : decode cX3_empties 9 = .ok (.iload_n 1, 1) := dk_27 (dk_at dksX3_empties_0 9 rfl rfl)
theorem dX3_empties_10 : decode cX3_empties 10 = .ok (.iconst 0, 1) := dk_3 (dk_at dksX3_empties_0 10 rfl rfl)
theorem dX3_empties_11 : decode cX3_empties 11 = .ok (.iastore, 1) := dk_79 (dk_at dksX3_empties_0 11 rfl rfl)
theorem dX3_empties_12 : decode cX3_empties 12 = .ok (.iinc 1 1, 3) := dk_132 1 1 (dk_at dksX3_empties_0 12 rfl rfl)
theorem dX3_empties_15 : decode cX3_empties 15 = .ok (.goto (-13), 3) := dk_167 255 243 (dk_at dksX3_empties_0 15 rfl rfl)
theorem dX3_empties_18 : decode cX3_empties 18 = .ok (.return_, 1) := dk_177 (dk_at dksX3_empties_0 18 rfl rfl)
abbrev cX3_mayBe : ByteArray := prog_18_method_45_code
def yX3_mayBe : MethodName := ⟨RX3, "mayBe", "([II)Z"⟩
def dkwX3_mayBe_1 : List UInt8 := [160, 0, 5, 3, 172, 132, 3, 1, 167, 255, 228, 4, 172]
abbrev dktX3_mayBe_1 : List UInt8 := dkwX3_mayBe_1 ++ []
def dkwX3_mayBe_0 : List UInt8 := [3, 62, 29, 43, 6, 46, 162, 0, 27, 42, 43, 43, 16, 78, 29, 96, 46, 28, 182, 1, 37, 4]
abbrev dktX3_mayBe_0 : List UInt8 := dkwX3_mayBe_0 ++ dktX3_mayBe_1
theorem dksX3_mayBe_0 : cX3_mayBe.data.toList.drop 0 = dktX3_mayBe_0 := by decide +kernel
theorem dksX3_mayBe_1 : cX3_mayBe.data.toList.drop 22 = dktX3_mayBe_1 := dk_seg dksX3_mayBe_0 22 rfl rfl
theorem dX3_mayBe_0 : decode cX3_mayBe 0 = .ok (.iconst 0, 1) := dk_3 (dk_at dksX3_mayBe_0 0 rfl rfl)
theorem dX3_mayBe_1 : decode cX3_mayBe 1 = .ok (.istore_n 3, 1) := dk_62 (dk_at dksX3_mayBe_0 1 rfl rfl)
theorem dX3_mayBe_2 : decode cX3_mayBe 2 = .ok (.iload_n 3, 1) := dk_29 (dk_at dksX3_mayBe_0 2 rfl rfl)
theorem dX3_mayBe_3 : decode cX3_mayBe 3 = .ok (.aload_n 1, 1) := dk_43 (dk_at dksX3_mayBe_0 3 rfl rfl)
theorem dX3_mayBe_4 : decode cX3_mayBe 4 = .ok (.iconst 3, 1) := dk_6 (dk_at dksX3_mayBe_0 4 rfl rfl)
theorem dX3_mayBe_5 : decode cX3_mayBe 5 = .ok (.iaload, 1) := dk_46 (dk_at dksX3_mayBe_0 5 rfl rfl)
theorem dX3_mayBe_6 : decode cX3_mayBe 6 = .ok (.if_icmp .ge 27, 3) := dk_162 0 27 (dk_at dksX3_mayBe_0 6 rfl rfl)
theorem dX3_mayBe_9 : decode cX3_mayBe 9 = .ok (.aload_n 0, 1) := dk_42 (dk_at dksX3_mayBe_0 9 rfl rfl)
theorem dX3_mayBe_10 : decode cX3_mayBe 10 = .ok (.aload_n 1, 1) := dk_43 (dk_at dksX3_mayBe_0 10 rfl rfl)
theorem dX3_mayBe_11 : decode cX3_mayBe 11 = .ok (.aload_n 1, 1) := dk_43 (dk_at dksX3_mayBe_0 11 rfl rfl)
theorem dX3_mayBe_12 : decode cX3_mayBe 12 = .ok (.bipush 78, 2) := dk_16 78 (dk_at dksX3_mayBe_0 12 rfl rfl)
theorem dX3_mayBe_14 : decode cX3_mayBe 14 = .ok (.iload_n 3, 1) := dk_29 (dk_at dksX3_mayBe_0 14 rfl rfl)
theorem dX3_mayBe_15 : decode cX3_mayBe 15 = .ok (.iadd, 1) := dk_96 (dk_at dksX3_mayBe_0 15 rfl rfl)
theorem dX3_mayBe_16 : decode cX3_mayBe 16 = .ok (.iaload, 1) := dk_46 (dk_at dksX3_mayBe_0 16 rfl rfl)
theorem dX3_mayBe_17 : decode cX3_mayBe 17 = .ok (.iload_n 2, 1) := dk_28 (dk_at dksX3_mayBe_0 17 rfl rfl)
theorem dX3_mayBe_18 : decode cX3_mayBe 18 = .ok (.invokevirtual 293, 3) := dk_182 1 37 (dk_at dksX3_mayBe_0 18 rfl rfl)
theorem dX3_mayBe_21 : decode cX3_mayBe 21 = .ok (.iconst 1, 1) := dk_4 (dk_at dksX3_mayBe_0 21 rfl rfl)
theorem dX3_mayBe_22 : decode cX3_mayBe 22 = .ok (.if_icmp .ne 5, 3) := dk_160 0 5 (dk_at dksX3_mayBe_1 0 rfl rfl)
theorem dX3_mayBe_25 : decode cX3_mayBe 25 = .ok (.iconst 0, 1) := dk_3 (dk_at dksX3_mayBe_1 3 rfl rfl)
theorem dX3_mayBe_26 : decode cX3_mayBe 26 = .ok (.ireturn, 1) := dk_172 (dk_at dksX3_mayBe_1 4 rfl rfl)
theorem dX3_mayBe_27 : decode cX3_mayBe 27 = .ok (.iinc 3 1, 3) := dk_132 3 1 (dk_at dksX3_mayBe_1 5 rfl rfl)
theorem dX3_mayBe_30 : decode cX3_mayBe 30 = .ok (.goto (-28), 3) := dk_167 255 228 (dk_at dksX3_mayBe_1 8 rfl rfl)
theorem dX3_mayBe_33 : decode cX3_mayBe 33 = .ok (.iconst 1, 1) := dk_4 (dk_at dksX3_mayBe_1 11 rfl rfl)
theorem dX3_mayBe_34 : decode cX3_mayBe 34 = .ok (.ireturn, 1) := dk_172 (dk_at dksX3_mayBe_1 12 rfl rfl)
abbrev cX3_holds : ByteArray := prog_18_method_44_code
def yX3_holds : MethodName := ⟨RX3, "holds", "([III)I"⟩
def dkwX3_holds_10 : List UInt8 := [3, 46, 172]
abbrev dktX3_holds_10 : List UInt8 := dkwX3_holds_10 ++ []
def dkwX3_holds_9 : List UInt8 := [21, 4, 4, 100, 46, 42, 180, 0, 43, 21, 4, 46, 128, 79, 132, 5, 1, 167, 255, 37, 42, 180, 0, 43]
abbrev dktX3_holds_9 : List UInt8 := dkwX3_holds_9 ++ dktX3_holds_10
def dkwX3_holds_8 : List UInt8 := [42, 180, 0, 43, 21, 4, 4, 100, 46, 42, 180, 0, 43, 21, 4, 46, 126, 167, 0, 20, 42, 180, 0, 43]
abbrev dktX3_holds_8 : List UInt8 := dkwX3_holds_8 ++ dktX3_holds_9
def dkwX3_holds_7 : List UInt8 := [79, 132, 4, 1, 167, 0, 58, 132, 4, 255, 42, 180, 0, 43, 21, 4, 4, 100, 21, 6, 5, 160, 0, 23]
abbrev dktX3_holds_7 : List UInt8 := dkwX3_holds_7 ++ dktX3_holds_8
def dkwX3_holds_6 : List UInt8 := [167, 255, 228, 42, 180, 0, 43, 21, 4, 21, 8, 21, 7, 16, 10, 108, 161, 0, 7, 4, 167, 0, 4, 3]
abbrev dktX3_holds_6 : List UInt8 := dkwX3_holds_6 ++ dktX3_holds_7
def dkwX3_holds_5 : List UInt8 := [16, 10, 112, 162, 0, 24, 132, 4, 255, 21, 8, 42, 180, 0, 43, 21, 4, 46, 96, 54, 8, 132, 9, 1]
abbrev dktX3_holds_5 : List UInt8 := dkwX3_holds_5 ++ dktX3_holds_6
def dkwX3_holds_4 : List UInt8 := [4, 100, 46, 100, 79, 167, 0, 129, 21, 6, 7, 160, 0, 68, 3, 54, 8, 3, 54, 9, 21, 9, 21, 7]
abbrev dktX3_holds_4 : List UInt8 := dkwX3_holds_4 ++ dktX3_holds_5
def dkwX3_holds_3 : List UInt8 := [167, 0, 158, 21, 6, 4, 160, 0, 26, 42, 180, 0, 43, 21, 4, 4, 100, 4, 42, 180, 0, 43, 21, 4]
abbrev dktX3_holds_3 : List UInt8 := dkwX3_holds_3 ++ dktX3_holds_4
def dkwX3_holds_2 : List UInt8 := [54, 7, 21, 6, 154, 0, 22, 42, 180, 0, 43, 21, 4, 29, 21, 7, 122, 4, 126, 79, 132, 4, 1]
abbrev dktX3_holds_2 : List UInt8 := dkwX3_holds_2 ++ dktX3_holds_3
def dkwX3_holds_1 : List UInt8 := [17, 0, 150, 21, 5, 96, 46, 16, 100, 108, 54, 6, 43, 17, 0, 150, 21, 5, 96, 46, 16, 100, 112]
abbrev dktX3_holds_1 : List UInt8 := dkwX3_holds_1 ++ dktX3_holds_2
def dkwX3_holds_0 : List UInt8 := [3, 54, 4, 43, 16, 84, 28, 96, 46, 54, 5, 21, 5, 43, 16, 117, 28, 96, 46, 162, 0, 214, 43]
abbrev dktX3_holds_0 : List UInt8 := dkwX3_holds_0 ++ dktX3_holds_1
theorem dksX3_holds_0 : cX3_holds.data.toList.drop 0 = dktX3_holds_0 := by decide +kernel
theorem dksX3_holds_1 : cX3_holds.data.toList.drop 23 = dktX3_holds_1 := dk_seg dksX3_holds_0 23 rfl rfl
theorem dksX3_holds_2 : cX3_holds.data.toList.drop 46 = dktX3_holds_2 := dk_seg dksX3_holds_1 23 rfl rfl
theorem dksX3_holds_3 : cX3_holds.data.toList.drop 69 = dktX3_holds_3 := dk_seg dksX3_holds_2 23 rfl rfl
theorem dksX3_holds_4 : cX3_holds.data.toList.drop 93 = dktX3_holds_4 := dk_seg dksX3_holds_3 24 rfl rfl
theorem dksX3_holds_5 : cX3_holds.data.toList.drop 117 = dktX3_holds_5 := dk_seg dksX3_holds_4 24 rfl rfl
theorem dksX3_holds_6 : cX3_holds.data.toList.drop 141 = dktX3_holds_6 := dk_seg dksX3_holds_5 24 rfl rfl
theorem dksX3_holds_7 : cX3_holds.data.toList.drop 165 = dktX3_holds_7 := dk_seg dksX3_holds_6 24 rfl rfl
theorem dksX3_holds_8 : cX3_holds.data.toList.drop 189 = dktX3_holds_8 := dk_seg dksX3_holds_7 24 rfl rfl
theorem dksX3_holds_9 : cX3_holds.data.toList.drop 213 = dktX3_holds_9 := dk_seg dksX3_holds_8 24 rfl rfl
theorem dksX3_holds_10 : cX3_holds.data.toList.drop 237 = dktX3_holds_10 := dk_seg dksX3_holds_9 24 rfl rfl
theorem dX3_holds_0 : decode cX3_holds 0 = .ok (.iconst 0, 1) := dk_3 (dk_at dksX3_holds_0 0 rfl rfl)
theorem dX3_holds_1 : decode cX3_holds 1 = .ok (.istore 4, 2) := dk_54 4 (dk_at dksX3_holds_0 1 rfl rfl)
theorem dX3_holds_3 : decode cX3_holds 3 = .ok (.aload_n 1, 1) := dk_43 (dk_at dksX3_holds_0 3 rfl rfl)
theorem dX3_holds_4 : decode cX3_holds 4 = .ok (.bipush 84, 2) := dk_16 84 (dk_at dksX3_holds_0 4 rfl rfl)
theorem dX3_holds_6 : decode cX3_holds 6 = .ok (.iload_n 2, 1) := dk_28 (dk_at dksX3_holds_0 6 rfl rfl)
theorem dX3_holds_7 : decode cX3_holds 7 = .ok (.iadd, 1) := dk_96 (dk_at dksX3_holds_0 7 rfl rfl)
theorem dX3_holds_8 : decode cX3_holds 8 = .ok (.iaload, 1) := dk_46 (dk_at dksX3_holds_0 8 rfl rfl)
theorem dX3_holds_9 : decode cX3_holds 9 = .ok (.istore 5, 2) := dk_54 5 (dk_at dksX3_holds_0 9 rfl rfl)
theorem dX3_holds_11 : decode cX3_holds 11 = .ok (.iload 5, 2) := dk_21 5 (dk_at dksX3_holds_0 11 rfl rfl)
theorem dX3_holds_13 : decode cX3_holds 13 = .ok (.aload_n 1, 1) := dk_43 (dk_at dksX3_holds_0 13 rfl rfl)
theorem dX3_holds_14 : decode cX3_holds 14 = .ok (.bipush 117, 2) := dk_16 117 (dk_at dksX3_holds_0 14 rfl rfl)
theorem dX3_holds_16 : decode cX3_holds 16 = .ok (.iload_n 2, 1) := dk_28 (dk_at dksX3_holds_0 16 rfl rfl)
theorem dX3_holds_17 : decode cX3_holds 17 = .ok (.iadd, 1) := dk_96 (dk_at dksX3_holds_0 17 rfl rfl)
theorem dX3_holds_18 : decode cX3_holds 18 = .ok (.iaload, 1) := dk_46 (dk_at dksX3_holds_0 18 rfl rfl)
theorem dX3_holds_19 : decode cX3_holds 19 = .ok (.if_icmp .ge 214, 3) := dk_162 0 214 (dk_at dksX3_holds_0 19 rfl rfl)
theorem dX3_holds_22 : decode cX3_holds 22 = .ok (.aload_n 1, 1) := dk_43 (dk_at dksX3_holds_0 22 rfl rfl)
theorem dX3_holds_23 : decode cX3_holds 23 = .ok (.sipush 150, 3) := dk_17 0 150 (dk_at dksX3_holds_1 0 rfl rfl)
theorem dX3_holds_26 : decode cX3_holds 26 = .ok (.iload 5, 2) := dk_21 5 (dk_at dksX3_holds_1 3 rfl rfl)
theorem dX3_holds_28 : decode cX3_holds 28 = .ok (.iadd, 1) := dk_96 (dk_at dksX3_holds_1 5 rfl rfl)
theorem dX3_holds_29 : decode cX3_holds 29 = .ok (.iaload, 1) := dk_46 (dk_at dksX3_holds_1 6 rfl rfl)
theorem dX3_holds_30 : decode cX3_holds 30 = .ok (.bipush 100, 2) := dk_16 100 (dk_at dksX3_holds_1 7 rfl rfl)
theorem dX3_holds_32 : decode cX3_holds 32 = .ok (.idiv, 1) := dk_108 (dk_at dksX3_holds_1 9 rfl rfl)
theorem dX3_holds_33 : decode cX3_holds 33 = .ok (.istore 6, 2) := dk_54 6 (dk_at dksX3_holds_1 10 rfl rfl)
theorem dX3_holds_35 : decode cX3_holds 35 = .ok (.aload_n 1, 1) := dk_43 (dk_at dksX3_holds_1 12 rfl rfl)
theorem dX3_holds_36 : decode cX3_holds 36 = .ok (.sipush 150, 3) := dk_17 0 150 (dk_at dksX3_holds_1 13 rfl rfl)
theorem dX3_holds_39 : decode cX3_holds 39 = .ok (.iload 5, 2) := dk_21 5 (dk_at dksX3_holds_1 16 rfl rfl)
theorem dX3_holds_41 : decode cX3_holds 41 = .ok (.iadd, 1) := dk_96 (dk_at dksX3_holds_1 18 rfl rfl)
theorem dX3_holds_42 : decode cX3_holds 42 = .ok (.iaload, 1) := dk_46 (dk_at dksX3_holds_1 19 rfl rfl)
theorem dX3_holds_43 : decode cX3_holds 43 = .ok (.bipush 100, 2) := dk_16 100 (dk_at dksX3_holds_1 20 rfl rfl)
theorem dX3_holds_45 : decode cX3_holds 45 = .ok (.irem, 1) := dk_112 (dk_at dksX3_holds_1 22 rfl rfl)
theorem dX3_holds_46 : decode cX3_holds 46 = .ok (.istore 7, 2) := dk_54 7 (dk_at dksX3_holds_2 0 rfl rfl)
theorem dX3_holds_48 : decode cX3_holds 48 = .ok (.iload 6, 2) := dk_21 6 (dk_at dksX3_holds_2 2 rfl rfl)
theorem dX3_holds_50 : decode cX3_holds 50 = .ok (.ifCond .ne 22, 3) := dk_154 0 22 (dk_at dksX3_holds_2 4 rfl rfl)
theorem dX3_holds_53 : decode cX3_holds 53 = .ok (.aload_n 0, 1) := dk_42 (dk_at dksX3_holds_2 7 rfl rfl)
theorem dX3_holds_54 : decode cX3_holds 54 = .ok (.getfield 43, 3) := dk_180 0 43 (dk_at dksX3_holds_2 8 rfl rfl)
theorem dX3_holds_57 : decode cX3_holds 57 = .ok (.iload 4, 2) := dk_21 4 (dk_at dksX3_holds_2 11 rfl rfl)
theorem dX3_holds_59 : decode cX3_holds 59 = .ok (.iload_n 3, 1) := dk_29 (dk_at dksX3_holds_2 13 rfl rfl)
theorem dX3_holds_60 : decode cX3_holds 60 = .ok (.iload 7, 2) := dk_21 7 (dk_at dksX3_holds_2 14 rfl rfl)
theorem dX3_holds_62 : decode cX3_holds 62 = .ok (.ishr, 1) := dk_122 (dk_at dksX3_holds_2 16 rfl rfl)
theorem dX3_holds_63 : decode cX3_holds 63 = .ok (.iconst 1, 1) := dk_4 (dk_at dksX3_holds_2 17 rfl rfl)
theorem dX3_holds_64 : decode cX3_holds 64 = .ok (.iand, 1) := dk_126 (dk_at dksX3_holds_2 18 rfl rfl)
theorem dX3_holds_65 : decode cX3_holds 65 = .ok (.iastore, 1) := dk_79 (dk_at dksX3_holds_2 19 rfl rfl)
theorem dX3_holds_66 : decode cX3_holds 66 = .ok (.iinc 4 1, 3) := dk_132 4 1 (dk_at dksX3_holds_2 20 rfl rfl)
theorem dX3_holds_69 : decode cX3_holds 69 = .ok (.goto 158, 3) := dk_167 0 158 (dk_at dksX3_holds_3 0 rfl rfl)
theorem dX3_holds_72 : decode cX3_holds 72 = .ok (.iload 6, 2) := dk_21 6 (dk_at dksX3_holds_3 3 rfl rfl)
theorem dX3_holds_74 : decode cX3_holds 74 = .ok (.iconst 1, 1) := dk_4 (dk_at dksX3_holds_3 5 rfl rfl)
theorem dX3_holds_75 : decode cX3_holds 75 = .ok (.if_icmp .ne 26, 3) := dk_160 0 26 (dk_at dksX3_holds_3 6 rfl rfl)
theorem dX3_holds_78 : decode cX3_holds 78 = .ok (.aload_n 0, 1) := dk_42 (dk_at dksX3_holds_3 9 rfl rfl)
theorem dX3_holds_79 : decode cX3_holds 79 = .ok (.getfield 43, 3) := dk_180 0 43 (dk_at dksX3_holds_3 10 rfl rfl)
theorem dX3_holds_82 : decode cX3_holds 82 = .ok (.iload 4, 2) := dk_21 4 (dk_at dksX3_holds_3 13 rfl rfl)
theorem dX3_holds_84 : decode cX3_holds 84 = .ok (.iconst 1, 1) := dk_4 (dk_at dksX3_holds_3 15 rfl rfl)
theorem dX3_holds_85 : decode cX3_holds 85 = .ok (.isub, 1) := dk_100 (dk_at dksX3_holds_3 16 rfl rfl)
theorem dX3_holds_86 : decode cX3_holds 86 = .ok (.iconst 1, 1) := dk_4 (dk_at dksX3_holds_3 17 rfl rfl)
theorem dX3_holds_87 : decode cX3_holds 87 = .ok (.aload_n 0, 1) := dk_42 (dk_at dksX3_holds_3 18 rfl rfl)
theorem dX3_holds_88 : decode cX3_holds 88 = .ok (.getfield 43, 3) := dk_180 0 43 (dk_at dksX3_holds_3 19 rfl rfl)
theorem dX3_holds_91 : decode cX3_holds 91 = .ok (.iload 4, 2) := dk_21 4 (dk_at dksX3_holds_3 22 rfl rfl)
theorem dX3_holds_93 : decode cX3_holds 93 = .ok (.iconst 1, 1) := dk_4 (dk_at dksX3_holds_4 0 rfl rfl)
theorem dX3_holds_94 : decode cX3_holds 94 = .ok (.isub, 1) := dk_100 (dk_at dksX3_holds_4 1 rfl rfl)
theorem dX3_holds_95 : decode cX3_holds 95 = .ok (.iaload, 1) := dk_46 (dk_at dksX3_holds_4 2 rfl rfl)
theorem dX3_holds_96 : decode cX3_holds 96 = .ok (.isub, 1) := dk_100 (dk_at dksX3_holds_4 3 rfl rfl)
theorem dX3_holds_97 : decode cX3_holds 97 = .ok (.iastore, 1) := dk_79 (dk_at dksX3_holds_4 4 rfl rfl)
theorem dX3_holds_98 : decode cX3_holds 98 = .ok (.goto 129, 3) := dk_167 0 129 (dk_at dksX3_holds_4 5 rfl rfl)
theorem dX3_holds_101 : decode cX3_holds 101 = .ok (.iload 6, 2) := dk_21 6 (dk_at dksX3_holds_4 8 rfl rfl)
theorem dX3_holds_103 : decode cX3_holds 103 = .ok (.iconst 4, 1) := dk_7 (dk_at dksX3_holds_4 10 rfl rfl)
theorem dX3_holds_104 : decode cX3_holds 104 = .ok (.if_icmp .ne 68, 3) := dk_160 0 68 (dk_at dksX3_holds_4 11 rfl rfl)
theorem dX3_holds_107 : decode cX3_holds 107 = .ok (.iconst 0, 1) := dk_3 (dk_at dksX3_holds_4 14 rfl rfl)
theorem dX3_holds_108 : decode cX3_holds 108 = .ok (.istore 8, 2) := dk_54 8 (dk_at dksX3_holds_4 15 rfl rfl)
theorem dX3_holds_110 : decode cX3_holds 110 = .ok (.iconst 0, 1) := dk_3 (dk_at dksX3_holds_4 17 rfl rfl)
theorem dX3_holds_111 : decode cX3_holds 111 = .ok (.istore 9, 2) := dk_54 9 (dk_at dksX3_holds_4 18 rfl rfl)
theorem dX3_holds_113 : decode cX3_holds 113 = .ok (.iload 9, 2) := dk_21 9 (dk_at dksX3_holds_4 20 rfl rfl)
theorem dX3_holds_115 : decode cX3_holds 115 = .ok (.iload 7, 2) := dk_21 7 (dk_at dksX3_holds_4 22 rfl rfl)
theorem dX3_holds_117 : decode cX3_holds 117 = .ok (.bipush 10, 2) := dk_16 10 (dk_at dksX3_holds_5 0 rfl rfl)
theorem dX3_holds_119 : decode cX3_holds 119 = .ok (.irem, 1) := dk_112 (dk_at dksX3_holds_5 2 rfl rfl)
theorem dX3_holds_120 : decode cX3_holds 120 = .ok (.if_icmp .ge 24, 3) := dk_162 0 24 (dk_at dksX3_holds_5 3 rfl rfl)
theorem dX3_holds_123 : decode cX3_holds 123 = .ok (.iinc 4 (-1), 3) := dk_132 4 255 (dk_at dksX3_holds_5 6 rfl rfl)
theorem dX3_holds_126 : decode cX3_holds 126 = .ok (.iload 8, 2) := dk_21 8 (dk_at dksX3_holds_5 9 rfl rfl)
theorem dX3_holds_128 : decode cX3_holds 128 = .ok (.aload_n 0, 1) := dk_42 (dk_at dksX3_holds_5 11 rfl rfl)
theorem dX3_holds_129 : decode cX3_holds 129 = .ok (.getfield 43, 3) := dk_180 0 43 (dk_at dksX3_holds_5 12 rfl rfl)
theorem dX3_holds_132 : decode cX3_holds 132 = .ok (.iload 4, 2) := dk_21 4 (dk_at dksX3_holds_5 15 rfl rfl)
theorem dX3_holds_134 : decode cX3_holds 134 = .ok (.iaload, 1) := dk_46 (dk_at dksX3_holds_5 17 rfl rfl)
theorem dX3_holds_135 : decode cX3_holds 135 = .ok (.iadd, 1) := dk_96 (dk_at dksX3_holds_5 18 rfl rfl)
theorem dX3_holds_136 : decode cX3_holds 136 = .ok (.istore 8, 2) := dk_54 8 (dk_at dksX3_holds_5 19 rfl rfl)
theorem dX3_holds_138 : decode cX3_holds 138 = .ok (.iinc 9 1, 3) := dk_132 9 1 (dk_at dksX3_holds_5 21 rfl rfl)
theorem dX3_holds_141 : decode cX3_holds 141 = .ok (.goto (-28), 3) := dk_167 255 228 (dk_at dksX3_holds_6 0 rfl rfl)
theorem dX3_holds_144 : decode cX3_holds 144 = .ok (.aload_n 0, 1) := dk_42 (dk_at dksX3_holds_6 3 rfl rfl)
theorem dX3_holds_145 : decode cX3_holds 145 = .ok (.getfield 43, 3) := dk_180 0 43 (dk_at dksX3_holds_6 4 rfl rfl)
theorem dX3_holds_148 : decode cX3_holds 148 = .ok (.iload 4, 2) := dk_21 4 (dk_at dksX3_holds_6 7 rfl rfl)
theorem dX3_holds_150 : decode cX3_holds 150 = .ok (.iload 8, 2) := dk_21 8 (dk_at dksX3_holds_6 9 rfl rfl)
theorem dX3_holds_152 : decode cX3_holds 152 = .ok (.iload 7, 2) := dk_21 7 (dk_at dksX3_holds_6 11 rfl rfl)
theorem dX3_holds_154 : decode cX3_holds 154 = .ok (.bipush 10, 2) := dk_16 10 (dk_at dksX3_holds_6 13 rfl rfl)
theorem dX3_holds_156 : decode cX3_holds 156 = .ok (.idiv, 1) := dk_108 (dk_at dksX3_holds_6 15 rfl rfl)
theorem dX3_holds_157 : decode cX3_holds 157 = .ok (.if_icmp .lt 7, 3) := dk_161 0 7 (dk_at dksX3_holds_6 16 rfl rfl)
theorem dX3_holds_160 : decode cX3_holds 160 = .ok (.iconst 1, 1) := dk_4 (dk_at dksX3_holds_6 19 rfl rfl)
theorem dX3_holds_161 : decode cX3_holds 161 = .ok (.goto 4, 3) := dk_167 0 4 (dk_at dksX3_holds_6 20 rfl rfl)
theorem dX3_holds_164 : decode cX3_holds 164 = .ok (.iconst 0, 1) := dk_3 (dk_at dksX3_holds_6 23 rfl rfl)
theorem dX3_holds_165 : decode cX3_holds 165 = .ok (.iastore, 1) := dk_79 (dk_at dksX3_holds_7 0 rfl rfl)
theorem dX3_holds_166 : decode cX3_holds 166 = .ok (.iinc 4 1, 3) := dk_132 4 1 (dk_at dksX3_holds_7 1 rfl rfl)
theorem dX3_holds_169 : decode cX3_holds 169 = .ok (.goto 58, 3) := dk_167 0 58 (dk_at dksX3_holds_7 4 rfl rfl)
theorem dX3_holds_172 : decode cX3_holds 172 = .ok (.iinc 4 (-1), 3) := dk_132 4 255 (dk_at dksX3_holds_7 7 rfl rfl)
theorem dX3_holds_175 : decode cX3_holds 175 = .ok (.aload_n 0, 1) := dk_42 (dk_at dksX3_holds_7 10 rfl rfl)
theorem dX3_holds_176 : decode cX3_holds 176 = .ok (.getfield 43, 3) := dk_180 0 43 (dk_at dksX3_holds_7 11 rfl rfl)
theorem dX3_holds_179 : decode cX3_holds 179 = .ok (.iload 4, 2) := dk_21 4 (dk_at dksX3_holds_7 14 rfl rfl)
theorem dX3_holds_181 : decode cX3_holds 181 = .ok (.iconst 1, 1) := dk_4 (dk_at dksX3_holds_7 16 rfl rfl)
theorem dX3_holds_182 : decode cX3_holds 182 = .ok (.isub, 1) := dk_100 (dk_at dksX3_holds_7 17 rfl rfl)
theorem dX3_holds_183 : decode cX3_holds 183 = .ok (.iload 6, 2) := dk_21 6 (dk_at dksX3_holds_7 18 rfl rfl)
theorem dX3_holds_185 : decode cX3_holds 185 = .ok (.iconst 2, 1) := dk_5 (dk_at dksX3_holds_7 20 rfl rfl)
theorem dX3_holds_186 : decode cX3_holds 186 = .ok (.if_icmp .ne 23, 3) := dk_160 0 23 (dk_at dksX3_holds_7 21 rfl rfl)
theorem dX3_holds_189 : decode cX3_holds 189 = .ok (.aload_n 0, 1) := dk_42 (dk_at dksX3_holds_8 0 rfl rfl)
theorem dX3_holds_190 : decode cX3_holds 190 = .ok (.getfield 43, 3) := dk_180 0 43 (dk_at dksX3_holds_8 1 rfl rfl)
theorem dX3_holds_193 : decode cX3_holds 193 = .ok (.iload 4, 2) := dk_21 4 (dk_at dksX3_holds_8 4 rfl rfl)
theorem dX3_holds_195 : decode cX3_holds 195 = .ok (.iconst 1, 1) := dk_4 (dk_at dksX3_holds_8 6 rfl rfl)
theorem dX3_holds_196 : decode cX3_holds 196 = .ok (.isub, 1) := dk_100 (dk_at dksX3_holds_8 7 rfl rfl)
theorem dX3_holds_197 : decode cX3_holds 197 = .ok (.iaload, 1) := dk_46 (dk_at dksX3_holds_8 8 rfl rfl)
theorem dX3_holds_198 : decode cX3_holds 198 = .ok (.aload_n 0, 1) := dk_42 (dk_at dksX3_holds_8 9 rfl rfl)
theorem dX3_holds_199 : decode cX3_holds 199 = .ok (.getfield 43, 3) := dk_180 0 43 (dk_at dksX3_holds_8 10 rfl rfl)
theorem dX3_holds_202 : decode cX3_holds 202 = .ok (.iload 4, 2) := dk_21 4 (dk_at dksX3_holds_8 13 rfl rfl)
theorem dX3_holds_204 : decode cX3_holds 204 = .ok (.iaload, 1) := dk_46 (dk_at dksX3_holds_8 15 rfl rfl)
theorem dX3_holds_205 : decode cX3_holds 205 = .ok (.iand, 1) := dk_126 (dk_at dksX3_holds_8 16 rfl rfl)
theorem dX3_holds_206 : decode cX3_holds 206 = .ok (.goto 20, 3) := dk_167 0 20 (dk_at dksX3_holds_8 17 rfl rfl)
theorem dX3_holds_209 : decode cX3_holds 209 = .ok (.aload_n 0, 1) := dk_42 (dk_at dksX3_holds_8 20 rfl rfl)
theorem dX3_holds_210 : decode cX3_holds 210 = .ok (.getfield 43, 3) := dk_180 0 43 (dk_at dksX3_holds_8 21 rfl rfl)
theorem dX3_holds_213 : decode cX3_holds 213 = .ok (.iload 4, 2) := dk_21 4 (dk_at dksX3_holds_9 0 rfl rfl)
theorem dX3_holds_215 : decode cX3_holds 215 = .ok (.iconst 1, 1) := dk_4 (dk_at dksX3_holds_9 2 rfl rfl)
theorem dX3_holds_216 : decode cX3_holds 216 = .ok (.isub, 1) := dk_100 (dk_at dksX3_holds_9 3 rfl rfl)
theorem dX3_holds_217 : decode cX3_holds 217 = .ok (.iaload, 1) := dk_46 (dk_at dksX3_holds_9 4 rfl rfl)
theorem dX3_holds_218 : decode cX3_holds 218 = .ok (.aload_n 0, 1) := dk_42 (dk_at dksX3_holds_9 5 rfl rfl)
theorem dX3_holds_219 : decode cX3_holds 219 = .ok (.getfield 43, 3) := dk_180 0 43 (dk_at dksX3_holds_9 6 rfl rfl)
theorem dX3_holds_222 : decode cX3_holds 222 = .ok (.iload 4, 2) := dk_21 4 (dk_at dksX3_holds_9 9 rfl rfl)
theorem dX3_holds_224 : decode cX3_holds 224 = .ok (.iaload, 1) := dk_46 (dk_at dksX3_holds_9 11 rfl rfl)
theorem dX3_holds_225 : decode cX3_holds 225 = .ok (.ior, 1) := dk_128 (dk_at dksX3_holds_9 12 rfl rfl)
theorem dX3_holds_226 : decode cX3_holds 226 = .ok (.iastore, 1) := dk_79 (dk_at dksX3_holds_9 13 rfl rfl)
theorem dX3_holds_227 : decode cX3_holds 227 = .ok (.iinc 5 1, 3) := dk_132 5 1 (dk_at dksX3_holds_9 14 rfl rfl)
theorem dX3_holds_230 : decode cX3_holds 230 = .ok (.goto (-219), 3) := dk_167 255 37 (dk_at dksX3_holds_9 17 rfl rfl)
theorem dX3_holds_233 : decode cX3_holds 233 = .ok (.aload_n 0, 1) := dk_42 (dk_at dksX3_holds_9 20 rfl rfl)
theorem dX3_holds_234 : decode cX3_holds 234 = .ok (.getfield 43, 3) := dk_180 0 43 (dk_at dksX3_holds_9 21 rfl rfl)
theorem dX3_holds_237 : decode cX3_holds 237 = .ok (.iconst 0, 1) := dk_3 (dk_at dksX3_holds_10 0 rfl rfl)
theorem dX3_holds_238 : decode cX3_holds 238 = .ok (.iaload, 1) := dk_46 (dk_at dksX3_holds_10 1 rfl rfl)
theorem dX3_holds_239 : decode cX3_holds 239 = .ok (.ireturn, 1) := dk_172 (dk_at dksX3_holds_10 2 rfl rfl)
abbrev cX3_adds : ByteArray := prog_18_method_47_code
def yX3_adds : MethodName := ⟨RX3, "adds", "([IIIZ)V"⟩
def dkwX3_adds_0 : List UInt8 := [29, 153, 0, 22, 42, 16, 8, 27, 104, 28, 8, 122, 96, 92, 46, 4, 28, 16, 31, 126, 120, 128, 79, 177]
abbrev dktX3_adds_0 : List UInt8 := dkwX3_adds_0 ++ []
theorem dksX3_adds_0 : cX3_adds.data.toList.drop 0 = dktX3_adds_0 := by decide +kernel
theorem dX3_adds_0 : decode cX3_adds 0 = .ok (.iload_n 3, 1) := dk_29 (dk_at dksX3_adds_0 0 rfl rfl)
theorem dX3_adds_1 : decode cX3_adds 1 = .ok (.ifCond .eq 22, 3) := dk_153 0 22 (dk_at dksX3_adds_0 1 rfl rfl)
theorem dX3_adds_4 : decode cX3_adds 4 = .ok (.aload_n 0, 1) := dk_42 (dk_at dksX3_adds_0 4 rfl rfl)
theorem dX3_adds_5 : decode cX3_adds 5 = .ok (.bipush 8, 2) := dk_16 8 (dk_at dksX3_adds_0 5 rfl rfl)
theorem dX3_adds_7 : decode cX3_adds 7 = .ok (.iload_n 1, 1) := dk_27 (dk_at dksX3_adds_0 7 rfl rfl)
theorem dX3_adds_8 : decode cX3_adds 8 = .ok (.imul, 1) := dk_104 (dk_at dksX3_adds_0 8 rfl rfl)
theorem dX3_adds_9 : decode cX3_adds 9 = .ok (.iload_n 2, 1) := dk_28 (dk_at dksX3_adds_0 9 rfl rfl)
theorem dX3_adds_10 : decode cX3_adds 10 = .ok (.iconst 5, 1) := dk_8 (dk_at dksX3_adds_0 10 rfl rfl)
theorem dX3_adds_11 : decode cX3_adds 11 = .ok (.ishr, 1) := dk_122 (dk_at dksX3_adds_0 11 rfl rfl)
theorem dX3_adds_12 : decode cX3_adds 12 = .ok (.iadd, 1) := dk_96 (dk_at dksX3_adds_0 12 rfl rfl)
theorem dX3_adds_13 : decode cX3_adds 13 = .ok (.dup2, 1) := dk_92 (dk_at dksX3_adds_0 13 rfl rfl)
theorem dX3_adds_14 : decode cX3_adds 14 = .ok (.iaload, 1) := dk_46 (dk_at dksX3_adds_0 14 rfl rfl)
theorem dX3_adds_15 : decode cX3_adds 15 = .ok (.iconst 1, 1) := dk_4 (dk_at dksX3_adds_0 15 rfl rfl)
theorem dX3_adds_16 : decode cX3_adds 16 = .ok (.iload_n 2, 1) := dk_28 (dk_at dksX3_adds_0 16 rfl rfl)
theorem dX3_adds_17 : decode cX3_adds 17 = .ok (.bipush 31, 2) := dk_16 31 (dk_at dksX3_adds_0 17 rfl rfl)
theorem dX3_adds_19 : decode cX3_adds 19 = .ok (.iand, 1) := dk_126 (dk_at dksX3_adds_0 19 rfl rfl)
theorem dX3_adds_20 : decode cX3_adds 20 = .ok (.ishl, 1) := dk_120 (dk_at dksX3_adds_0 20 rfl rfl)
theorem dX3_adds_21 : decode cX3_adds 21 = .ok (.ior, 1) := dk_128 (dk_at dksX3_adds_0 21 rfl rfl)
theorem dX3_adds_22 : decode cX3_adds 22 = .ok (.iastore, 1) := dk_79 (dk_at dksX3_adds_0 22 rfl rfl)
theorem dX3_adds_23 : decode cX3_adds 23 = .ok (.return_, 1) := dk_177 (dk_at dksX3_adds_0 23 rfl rfl)
abbrev cX3_isWonTold : ByteArray := prog_18_method_50_code
def yX3_isWonTold : MethodName := ⟨RX3, "isWonTold", "(II)Z"⟩
def dkwX3_isWonTold_4 : List UInt8 := [172, 132, 3, 1, 167, 255, 208, 4, 172]
abbrev dktX3_isWonTold_4 : List UInt8 := dkwX3_isWonTold_4 ++ []
def dkwX3_isWonTold_3 : List UInt8 := [160, 0, 25, 42, 180, 0, 49, 42, 180, 0, 7, 16, 72, 29, 96, 46, 28, 184, 1, 55, 153, 0, 5, 3]
abbrev dktX3_isWonTold_3 : List UInt8 := dkwX3_isWonTold_3 ++ dktX3_isWonTold_4
def dkwX3_isWonTold_2 : List UInt8 := [3, 62, 29, 42, 180, 0, 7, 7, 46, 162, 0, 44, 42, 180, 0, 7, 16, 66, 29, 96, 46, 27]
abbrev dktX3_isWonTold_2 : List UInt8 := dkwX3_isWonTold_2 ++ dktX3_isWonTold_3
def dkwX3_isWonTold_1 : List UInt8 := [16, 31, 7, 27, 104, 96, 29, 96, 46, 28, 184, 1, 55, 154, 0, 5, 3, 172, 132, 3, 1, 167, 255, 214]
abbrev dktX3_isWonTold_1 : List UInt8 := dkwX3_isWonTold_1 ++ dktX3_isWonTold_2
def dkwX3_isWonTold_0 : List UInt8 := [3, 62, 29, 42, 180, 0, 7, 16, 26, 27, 96, 46, 162, 0, 35, 42, 180, 0, 49, 42, 180, 0, 7]
abbrev dktX3_isWonTold_0 : List UInt8 := dkwX3_isWonTold_0 ++ dktX3_isWonTold_1
theorem dksX3_isWonTold_0 : cX3_isWonTold.data.toList.drop 0 = dktX3_isWonTold_0 := by decide +kernel
theorem dksX3_isWonTold_1 : cX3_isWonTold.data.toList.drop 23 = dktX3_isWonTold_1 := dk_seg dksX3_isWonTold_0 23 rfl rfl
theorem dksX3_isWonTold_2 : cX3_isWonTold.data.toList.drop 47 = dktX3_isWonTold_2 := dk_seg dksX3_isWonTold_1 24 rfl rfl
theorem dksX3_isWonTold_3 : cX3_isWonTold.data.toList.drop 69 = dktX3_isWonTold_3 := dk_seg dksX3_isWonTold_2 22 rfl rfl
theorem dksX3_isWonTold_4 : cX3_isWonTold.data.toList.drop 93 = dktX3_isWonTold_4 := dk_seg dksX3_isWonTold_3 24 rfl rfl
theorem dX3_isWonTold_0 : decode cX3_isWonTold 0 = .ok (.iconst 0, 1) := dk_3 (dk_at dksX3_isWonTold_0 0 rfl rfl)
theorem dX3_isWonTold_1 : decode cX3_isWonTold 1 = .ok (.istore_n 3, 1) := dk_62 (dk_at dksX3_isWonTold_0 1 rfl rfl)
theorem dX3_isWonTold_2 : decode cX3_isWonTold 2 = .ok (.iload_n 3, 1) := dk_29 (dk_at dksX3_isWonTold_0 2 rfl rfl)
theorem dX3_isWonTold_3 : decode cX3_isWonTold 3 = .ok (.aload_n 0, 1) := dk_42 (dk_at dksX3_isWonTold_0 3 rfl rfl)
theorem dX3_isWonTold_4 : decode cX3_isWonTold 4 = .ok (.getfield 7, 3) := dk_180 0 7 (dk_at dksX3_isWonTold_0 4 rfl rfl)
theorem dX3_isWonTold_7 : decode cX3_isWonTold 7 = .ok (.bipush 26, 2) := dk_16 26 (dk_at dksX3_isWonTold_0 7 rfl rfl)
theorem dX3_isWonTold_9 : decode cX3_isWonTold 9 = .ok (.iload_n 1, 1) := dk_27 (dk_at dksX3_isWonTold_0 9 rfl rfl)
theorem dX3_isWonTold_10 : decode cX3_isWonTold 10 = .ok (.iadd, 1) := dk_96 (dk_at dksX3_isWonTold_0 10 rfl rfl)
theorem dX3_isWonTold_11 : decode cX3_isWonTold 11 = .ok (.iaload, 1) := dk_46 (dk_at dksX3_isWonTold_0 11 rfl rfl)
theorem dX3_isWonTold_12 : decode cX3_isWonTold 12 = .ok (.if_icmp .ge 35, 3) := dk_162 0 35 (dk_at dksX3_isWonTold_0 12 rfl rfl)
theorem dX3_isWonTold_15 : decode cX3_isWonTold 15 = .ok (.aload_n 0, 1) := dk_42 (dk_at dksX3_isWonTold_0 15 rfl rfl)
theorem dX3_isWonTold_16 : decode cX3_isWonTold 16 = .ok (.getfield 49, 3) := dk_180 0 49 (dk_at dksX3_isWonTold_0 16 rfl rfl)
theorem dX3_isWonTold_19 : decode cX3_isWonTold 19 = .ok (.aload_n 0, 1) := dk_42 (dk_at dksX3_isWonTold_0 19 rfl rfl)
theorem dX3_isWonTold_20 : decode cX3_isWonTold 20 = .ok (.getfield 7, 3) := dk_180 0 7 (dk_at dksX3_isWonTold_0 20 rfl rfl)
theorem dX3_isWonTold_23 : decode cX3_isWonTold 23 = .ok (.bipush 31, 2) := dk_16 31 (dk_at dksX3_isWonTold_1 0 rfl rfl)
theorem dX3_isWonTold_25 : decode cX3_isWonTold 25 = .ok (.iconst 4, 1) := dk_7 (dk_at dksX3_isWonTold_1 2 rfl rfl)
theorem dX3_isWonTold_26 : decode cX3_isWonTold 26 = .ok (.iload_n 1, 1) := dk_27 (dk_at dksX3_isWonTold_1 3 rfl rfl)
theorem dX3_isWonTold_27 : decode cX3_isWonTold 27 = .ok (.imul, 1) := dk_104 (dk_at dksX3_isWonTold_1 4 rfl rfl)
theorem dX3_isWonTold_28 : decode cX3_isWonTold 28 = .ok (.iadd, 1) := dk_96 (dk_at dksX3_isWonTold_1 5 rfl rfl)
theorem dX3_isWonTold_29 : decode cX3_isWonTold 29 = .ok (.iload_n 3, 1) := dk_29 (dk_at dksX3_isWonTold_1 6 rfl rfl)
theorem dX3_isWonTold_30 : decode cX3_isWonTold 30 = .ok (.iadd, 1) := dk_96 (dk_at dksX3_isWonTold_1 7 rfl rfl)
theorem dX3_isWonTold_31 : decode cX3_isWonTold 31 = .ok (.iaload, 1) := dk_46 (dk_at dksX3_isWonTold_1 8 rfl rfl)
theorem dX3_isWonTold_32 : decode cX3_isWonTold 32 = .ok (.iload_n 2, 1) := dk_28 (dk_at dksX3_isWonTold_1 9 rfl rfl)
theorem dX3_isWonTold_33 : decode cX3_isWonTold 33 = .ok (.invokestatic 311, 3) := dk_184 1 55 (dk_at dksX3_isWonTold_1 10 rfl rfl)
theorem dX3_isWonTold_36 : decode cX3_isWonTold 36 = .ok (.ifCond .ne 5, 3) := dk_154 0 5 (dk_at dksX3_isWonTold_1 13 rfl rfl)
theorem dX3_isWonTold_39 : decode cX3_isWonTold 39 = .ok (.iconst 0, 1) := dk_3 (dk_at dksX3_isWonTold_1 16 rfl rfl)
theorem dX3_isWonTold_40 : decode cX3_isWonTold 40 = .ok (.ireturn, 1) := dk_172 (dk_at dksX3_isWonTold_1 17 rfl rfl)
theorem dX3_isWonTold_41 : decode cX3_isWonTold 41 = .ok (.iinc 3 1, 3) := dk_132 3 1 (dk_at dksX3_isWonTold_1 18 rfl rfl)
theorem dX3_isWonTold_44 : decode cX3_isWonTold 44 = .ok (.goto (-42), 3) := dk_167 255 214 (dk_at dksX3_isWonTold_1 21 rfl rfl)
theorem dX3_isWonTold_47 : decode cX3_isWonTold 47 = .ok (.iconst 0, 1) := dk_3 (dk_at dksX3_isWonTold_2 0 rfl rfl)
theorem dX3_isWonTold_48 : decode cX3_isWonTold 48 = .ok (.istore_n 3, 1) := dk_62 (dk_at dksX3_isWonTold_2 1 rfl rfl)
theorem dX3_isWonTold_49 : decode cX3_isWonTold 49 = .ok (.iload_n 3, 1) := dk_29 (dk_at dksX3_isWonTold_2 2 rfl rfl)
theorem dX3_isWonTold_50 : decode cX3_isWonTold 50 = .ok (.aload_n 0, 1) := dk_42 (dk_at dksX3_isWonTold_2 3 rfl rfl)
theorem dX3_isWonTold_51 : decode cX3_isWonTold 51 = .ok (.getfield 7, 3) := dk_180 0 7 (dk_at dksX3_isWonTold_2 4 rfl rfl)
theorem dX3_isWonTold_54 : decode cX3_isWonTold 54 = .ok (.iconst 4, 1) := dk_7 (dk_at dksX3_isWonTold_2 7 rfl rfl)
theorem dX3_isWonTold_55 : decode cX3_isWonTold 55 = .ok (.iaload, 1) := dk_46 (dk_at dksX3_isWonTold_2 8 rfl rfl)
theorem dX3_isWonTold_56 : decode cX3_isWonTold 56 = .ok (.if_icmp .ge 44, 3) := dk_162 0 44 (dk_at dksX3_isWonTold_2 9 rfl rfl)
theorem dX3_isWonTold_59 : decode cX3_isWonTold 59 = .ok (.aload_n 0, 1) := dk_42 (dk_at dksX3_isWonTold_2 12 rfl rfl)
theorem dX3_isWonTold_60 : decode cX3_isWonTold 60 = .ok (.getfield 7, 3) := dk_180 0 7 (dk_at dksX3_isWonTold_2 13 rfl rfl)
theorem dX3_isWonTold_63 : decode cX3_isWonTold 63 = .ok (.bipush 66, 2) := dk_16 66 (dk_at dksX3_isWonTold_2 16 rfl rfl)
theorem dX3_isWonTold_65 : decode cX3_isWonTold 65 = .ok (.iload_n 3, 1) := dk_29 (dk_at dksX3_isWonTold_2 18 rfl rfl)
theorem dX3_isWonTold_66 : decode cX3_isWonTold 66 = .ok (.iadd, 1) := dk_96 (dk_at dksX3_isWonTold_2 19 rfl rfl)
theorem dX3_isWonTold_67 : decode cX3_isWonTold 67 = .ok (.iaload, 1) := dk_46 (dk_at dksX3_isWonTold_2 20 rfl rfl)
theorem dX3_isWonTold_68 : decode cX3_isWonTold 68 = .ok (.iload_n 1, 1) := dk_27 (dk_at dksX3_isWonTold_2 21 rfl rfl)
theorem dX3_isWonTold_69 : decode cX3_isWonTold 69 = .ok (.if_icmp .ne 25, 3) := dk_160 0 25 (dk_at dksX3_isWonTold_3 0 rfl rfl)
theorem dX3_isWonTold_72 : decode cX3_isWonTold 72 = .ok (.aload_n 0, 1) := dk_42 (dk_at dksX3_isWonTold_3 3 rfl rfl)
theorem dX3_isWonTold_73 : decode cX3_isWonTold 73 = .ok (.getfield 49, 3) := dk_180 0 49 (dk_at dksX3_isWonTold_3 4 rfl rfl)
theorem dX3_isWonTold_76 : decode cX3_isWonTold 76 = .ok (.aload_n 0, 1) := dk_42 (dk_at dksX3_isWonTold_3 7 rfl rfl)
theorem dX3_isWonTold_77 : decode cX3_isWonTold 77 = .ok (.getfield 7, 3) := dk_180 0 7 (dk_at dksX3_isWonTold_3 8 rfl rfl)
theorem dX3_isWonTold_80 : decode cX3_isWonTold 80 = .ok (.bipush 72, 2) := dk_16 72 (dk_at dksX3_isWonTold_3 11 rfl rfl)
theorem dX3_isWonTold_82 : decode cX3_isWonTold 82 = .ok (.iload_n 3, 1) := dk_29 (dk_at dksX3_isWonTold_3 13 rfl rfl)
theorem dX3_isWonTold_83 : decode cX3_isWonTold 83 = .ok (.iadd, 1) := dk_96 (dk_at dksX3_isWonTold_3 14 rfl rfl)
theorem dX3_isWonTold_84 : decode cX3_isWonTold 84 = .ok (.iaload, 1) := dk_46 (dk_at dksX3_isWonTold_3 15 rfl rfl)
theorem dX3_isWonTold_85 : decode cX3_isWonTold 85 = .ok (.iload_n 2, 1) := dk_28 (dk_at dksX3_isWonTold_3 16 rfl rfl)
theorem dX3_isWonTold_86 : decode cX3_isWonTold 86 = .ok (.invokestatic 311, 3) := dk_184 1 55 (dk_at dksX3_isWonTold_3 17 rfl rfl)
theorem dX3_isWonTold_89 : decode cX3_isWonTold 89 = .ok (.ifCond .eq 5, 3) := dk_153 0 5 (dk_at dksX3_isWonTold_3 20 rfl rfl)
theorem dX3_isWonTold_92 : decode cX3_isWonTold 92 = .ok (.iconst 0, 1) := dk_3 (dk_at dksX3_isWonTold_3 23 rfl rfl)
theorem dX3_isWonTold_93 : decode cX3_isWonTold 93 = .ok (.ireturn, 1) := dk_172 (dk_at dksX3_isWonTold_4 0 rfl rfl)
theorem dX3_isWonTold_94 : decode cX3_isWonTold 94 = .ok (.iinc 3 1, 3) := dk_132 3 1 (dk_at dksX3_isWonTold_4 1 rfl rfl)
theorem dX3_isWonTold_97 : decode cX3_isWonTold 97 = .ok (.goto (-48), 3) := dk_167 255 208 (dk_at dksX3_isWonTold_4 4 rfl rfl)
theorem dX3_isWonTold_100 : decode cX3_isWonTold 100 = .ok (.iconst 1, 1) := dk_4 (dk_at dksX3_isWonTold_4 7 rfl rfl)
theorem dX3_isWonTold_101 : decode cX3_isWonTold 101 = .ok (.ireturn, 1) := dk_172 (dk_at dksX3_isWonTold_4 8 rfl rfl)
abbrev cX3_isIn : ByteArray := prog_18_method_46_code
def yX3_isIn : MethodName := ⟨RX3, "isIn", "([III)Z"⟩
def dkwX3_isIn_1 : List UInt8 := [167, 0, 4, 3, 172]
abbrev dktX3_isIn_1 : List UInt8 := dkwX3_isIn_1 ++ []
def dkwX3_isIn_0 : List UInt8 := [42, 16, 8, 27, 104, 28, 8, 122, 96, 46, 28, 16, 31, 126, 124, 4, 126, 4, 160, 0, 7, 4]
abbrev dktX3_isIn_0 : List UInt8 := dkwX3_isIn_0 ++ dktX3_isIn_1
theorem dksX3_isIn_0 : cX3_isIn.data.toList.drop 0 = dktX3_isIn_0 := by decide +kernel
theorem dksX3_isIn_1 : cX3_isIn.data.toList.drop 22 = dktX3_isIn_1 := dk_seg dksX3_isIn_0 22 rfl rfl
theorem dX3_isIn_0 : decode cX3_isIn 0 = .ok (.aload_n 0, 1) := dk_42 (dk_at dksX3_isIn_0 0 rfl rfl)
theorem dX3_isIn_1 : decode cX3_isIn 1 = .ok (.bipush 8, 2) := dk_16 8 (dk_at dksX3_isIn_0 1 rfl rfl)
theorem dX3_isIn_3 : decode cX3_isIn 3 = .ok (.iload_n 1, 1) := dk_27 (dk_at dksX3_isIn_0 3 rfl rfl)
theorem dX3_isIn_4 : decode cX3_isIn 4 = .ok (.imul, 1) := dk_104 (dk_at dksX3_isIn_0 4 rfl rfl)
theorem dX3_isIn_5 : decode cX3_isIn 5 = .ok (.iload_n 2, 1) := dk_28 (dk_at dksX3_isIn_0 5 rfl rfl)
theorem dX3_isIn_6 : decode cX3_isIn 6 = .ok (.iconst 5, 1) := dk_8 (dk_at dksX3_isIn_0 6 rfl rfl)
theorem dX3_isIn_7 : decode cX3_isIn 7 = .ok (.ishr, 1) := dk_122 (dk_at dksX3_isIn_0 7 rfl rfl)
theorem dX3_isIn_8 : decode cX3_isIn 8 = .ok (.iadd, 1) := dk_96 (dk_at dksX3_isIn_0 8 rfl rfl)
theorem dX3_isIn_9 : decode cX3_isIn 9 = .ok (.iaload, 1) := dk_46 (dk_at dksX3_isIn_0 9 rfl rfl)
theorem dX3_isIn_10 : decode cX3_isIn 10 = .ok (.iload_n 2, 1) := dk_28 (dk_at dksX3_isIn_0 10 rfl rfl)
theorem dX3_isIn_11 : decode cX3_isIn 11 = .ok (.bipush 31, 2) := dk_16 31 (dk_at dksX3_isIn_0 11 rfl rfl)
theorem dX3_isIn_13 : decode cX3_isIn 13 = .ok (.iand, 1) := dk_126 (dk_at dksX3_isIn_0 13 rfl rfl)
theorem dX3_isIn_14 : decode cX3_isIn 14 = .ok (.iushr, 1) := dk_124 (dk_at dksX3_isIn_0 14 rfl rfl)
theorem dX3_isIn_15 : decode cX3_isIn 15 = .ok (.iconst 1, 1) := dk_4 (dk_at dksX3_isIn_0 15 rfl rfl)
theorem dX3_isIn_16 : decode cX3_isIn 16 = .ok (.iand, 1) := dk_126 (dk_at dksX3_isIn_0 16 rfl rfl)
theorem dX3_isIn_17 : decode cX3_isIn 17 = .ok (.iconst 1, 1) := dk_4 (dk_at dksX3_isIn_0 17 rfl rfl)
theorem dX3_isIn_18 : decode cX3_isIn 18 = .ok (.if_icmp .ne 7, 3) := dk_160 0 7 (dk_at dksX3_isIn_0 18 rfl rfl)
theorem dX3_isIn_21 : decode cX3_isIn 21 = .ok (.iconst 1, 1) := dk_4 (dk_at dksX3_isIn_0 21 rfl rfl)
theorem dX3_isIn_22 : decode cX3_isIn 22 = .ok (.goto 4, 3) := dk_167 0 4 (dk_at dksX3_isIn_1 0 rfl rfl)
theorem dX3_isIn_25 : decode cX3_isIn 25 = .ok (.iconst 0, 1) := dk_3 (dk_at dksX3_isIn_1 3 rfl rfl)
theorem dX3_isIn_26 : decode cX3_isIn 26 = .ok (.ireturn, 1) := dk_172 (dk_at dksX3_isIn_1 4 rfl rfl)
abbrev cX3_laysKnown : ByteArray := prog_18_method_62_code
def yX3_laysKnown : MethodName := ⟨RX3, "laysKnown", "()V"⟩
def dkwX3_laysKnown_0 : List UInt8 := [42, 42, 180, 0, 55, 42, 182, 1, 73, 42, 182, 1, 76, 182, 1, 79, 177]
abbrev dktX3_laysKnown_0 : List UInt8 := dkwX3_laysKnown_0 ++ []
theorem dksX3_laysKnown_0 : cX3_laysKnown.data.toList.drop 0 = dktX3_laysKnown_0 := by decide +kernel
theorem dX3_laysKnown_0 : decode cX3_laysKnown 0 = .ok (.aload_n 0, 1) := dk_42 (dk_at dksX3_laysKnown_0 0 rfl rfl)
theorem dX3_laysKnown_1 : decode cX3_laysKnown 1 = .ok (.aload_n 0, 1) := dk_42 (dk_at dksX3_laysKnown_0 1 rfl rfl)
theorem dX3_laysKnown_2 : decode cX3_laysKnown 2 = .ok (.getfield 55, 3) := dk_180 0 55 (dk_at dksX3_laysKnown_0 2 rfl rfl)
theorem dX3_laysKnown_5 : decode cX3_laysKnown 5 = .ok (.aload_n 0, 1) := dk_42 (dk_at dksX3_laysKnown_0 5 rfl rfl)
theorem dX3_laysKnown_6 : decode cX3_laysKnown 6 = .ok (.invokevirtual 329, 3) := dk_182 1 73 (dk_at dksX3_laysKnown_0 6 rfl rfl)
theorem dX3_laysKnown_9 : decode cX3_laysKnown 9 = .ok (.aload_n 0, 1) := dk_42 (dk_at dksX3_laysKnown_0 9 rfl rfl)
theorem dX3_laysKnown_10 : decode cX3_laysKnown 10 = .ok (.invokevirtual 332, 3) := dk_182 1 76 (dk_at dksX3_laysKnown_0 10 rfl rfl)
theorem dX3_laysKnown_13 : decode cX3_laysKnown 13 = .ok (.invokevirtual 335, 3) := dk_182 1 79 (dk_at dksX3_laysKnown_0 13 rfl rfl)
theorem dX3_laysKnown_16 : decode cX3_laysKnown 16 = .ok (.return_, 1) := dk_177 (dk_at dksX3_laysKnown_0 16 rfl rfl)
abbrev cX3_knownFacts : ByteArray := prog_18_method_60_code
def yX3_knownFacts : MethodName := ⟨RX3, "knownFacts", "()I"⟩
def dkwX3_knownFacts_1 : List UInt8 := [167, 0, 4, 3, 128, 60, 132, 2, 1, 167, 255, 229, 27, 172]
abbrev dktX3_knownFacts_1 : List UInt8 := dkwX3_knownFacts_1 ++ []
def dkwX3_knownFacts_0 : List UInt8 := [3, 60, 3, 61, 28, 16, 8, 162, 0, 27, 27, 42, 28, 182, 1, 70, 153, 0, 9, 4, 28, 120]
abbrev dktX3_knownFacts_0 : List UInt8 := dkwX3_knownFacts_0 ++ dktX3_knownFacts_1
theorem dksX3_knownFacts_0 : cX3_knownFacts.data.toList.drop 0 = dktX3_knownFacts_0 := by decide +kernel
theorem dksX3_knownFacts_1 : cX3_knownFacts.data.toList.drop 22 = dktX3_knownFacts_1 := dk_seg dksX3_knownFacts_0 22 rfl rfl
theorem dX3_knownFacts_0 : decode cX3_knownFacts 0 = .ok (.iconst 0, 1) := dk_3 (dk_at dksX3_knownFacts_0 0 rfl rfl)
theorem dX3_knownFacts_1 : decode cX3_knownFacts 1 = .ok (.istore_n 1, 1) := dk_60 (dk_at dksX3_knownFacts_0 1 rfl rfl)
theorem dX3_knownFacts_2 : decode cX3_knownFacts 2 = .ok (.iconst 0, 1) := dk_3 (dk_at dksX3_knownFacts_0 2 rfl rfl)
theorem dX3_knownFacts_3 : decode cX3_knownFacts 3 = .ok (.istore_n 2, 1) := dk_61 (dk_at dksX3_knownFacts_0 3 rfl rfl)
theorem dX3_knownFacts_4 : decode cX3_knownFacts 4 = .ok (.iload_n 2, 1) := dk_28 (dk_at dksX3_knownFacts_0 4 rfl rfl)
theorem dX3_knownFacts_5 : decode cX3_knownFacts 5 = .ok (.bipush 8, 2) := dk_16 8 (dk_at dksX3_knownFacts_0 5 rfl rfl)
theorem dX3_knownFacts_7 : decode cX3_knownFacts 7 = .ok (.if_icmp .ge 27, 3) := dk_162 0 27 (dk_at dksX3_knownFacts_0 7 rfl rfl)
theorem dX3_knownFacts_10 : decode cX3_knownFacts 10 = .ok (.iload_n 1, 1) := dk_27 (dk_at dksX3_knownFacts_0 10 rfl rfl)
theorem dX3_knownFacts_11 : decode cX3_knownFacts 11 = .ok (.aload_n 0, 1) := dk_42 (dk_at dksX3_knownFacts_0 11 rfl rfl)
theorem dX3_knownFacts_12 : decode cX3_knownFacts 12 = .ok (.iload_n 2, 1) := dk_28 (dk_at dksX3_knownFacts_0 12 rfl rfl)
theorem dX3_knownFacts_13 : decode cX3_knownFacts 13 = .ok (.invokevirtual 326, 3) := dk_182 1 70 (dk_at dksX3_knownFacts_0 13 rfl rfl)
theorem dX3_knownFacts_16 : decode cX3_knownFacts 16 = .ok (.ifCond .eq 9, 3) := dk_153 0 9 (dk_at dksX3_knownFacts_0 16 rfl rfl)
theorem dX3_knownFacts_19 : decode cX3_knownFacts 19 = .ok (.iconst 1, 1) := dk_4 (dk_at dksX3_knownFacts_0 19 rfl rfl)
theorem dX3_knownFacts_20 : decode cX3_knownFacts 20 = .ok (.iload_n 2, 1) := dk_28 (dk_at dksX3_knownFacts_0 20 rfl rfl)
theorem dX3_knownFacts_21 : decode cX3_knownFacts 21 = .ok (.ishl, 1) := dk_120 (dk_at dksX3_knownFacts_0 21 rfl rfl)
theorem dX3_knownFacts_22 : decode cX3_knownFacts 22 = .ok (.goto 4, 3) := dk_167 0 4 (dk_at dksX3_knownFacts_1 0 rfl rfl)
theorem dX3_knownFacts_25 : decode cX3_knownFacts 25 = .ok (.iconst 0, 1) := dk_3 (dk_at dksX3_knownFacts_1 3 rfl rfl)
theorem dX3_knownFacts_26 : decode cX3_knownFacts 26 = .ok (.ior, 1) := dk_128 (dk_at dksX3_knownFacts_1 4 rfl rfl)
theorem dX3_knownFacts_27 : decode cX3_knownFacts 27 = .ok (.istore_n 1, 1) := dk_60 (dk_at dksX3_knownFacts_1 5 rfl rfl)
theorem dX3_knownFacts_28 : decode cX3_knownFacts 28 = .ok (.iinc 2 1, 3) := dk_132 2 1 (dk_at dksX3_knownFacts_1 6 rfl rfl)
theorem dX3_knownFacts_31 : decode cX3_knownFacts 31 = .ok (.goto (-27), 3) := dk_167 255 229 (dk_at dksX3_knownFacts_1 9 rfl rfl)
theorem dX3_knownFacts_34 : decode cX3_knownFacts 34 = .ok (.iload_n 1, 1) := dk_27 (dk_at dksX3_knownFacts_1 12 rfl rfl)
theorem dX3_knownFacts_35 : decode cX3_knownFacts 35 = .ok (.ireturn, 1) := dk_172 (dk_at dksX3_knownFacts_1 13 rfl rfl)
abbrev cX3_isKnown : ByteArray := prog_18_method_59_code
def yX3_isKnown : MethodName := ⟨RX3, "isKnown", "(I)Z"⟩
def dkwX3_isKnown_1 : List UInt8 := [4, 167, 0, 4, 3, 172]
abbrev dktX3_isKnown_1 : List UInt8 := dkwX3_isKnown_1 ++ []
def dkwX3_isKnown_0 : List UInt8 := [42, 180, 0, 23, 3, 27, 96, 46, 4, 159, 0, 15, 42, 180, 0, 23, 3, 27, 96, 46, 7, 160, 0, 7]
abbrev dktX3_isKnown_0 : List UInt8 := dkwX3_isKnown_0 ++ dktX3_isKnown_1
theorem dksX3_isKnown_0 : cX3_isKnown.data.toList.drop 0 = dktX3_isKnown_0 := by decide +kernel
theorem dksX3_isKnown_1 : cX3_isKnown.data.toList.drop 24 = dktX3_isKnown_1 := dk_seg dksX3_isKnown_0 24 rfl rfl
theorem dX3_isKnown_0 : decode cX3_isKnown 0 = .ok (.aload_n 0, 1) := dk_42 (dk_at dksX3_isKnown_0 0 rfl rfl)
theorem dX3_isKnown_1 : decode cX3_isKnown 1 = .ok (.getfield 23, 3) := dk_180 0 23 (dk_at dksX3_isKnown_0 1 rfl rfl)
theorem dX3_isKnown_4 : decode cX3_isKnown 4 = .ok (.iconst 0, 1) := dk_3 (dk_at dksX3_isKnown_0 4 rfl rfl)
theorem dX3_isKnown_5 : decode cX3_isKnown 5 = .ok (.iload_n 1, 1) := dk_27 (dk_at dksX3_isKnown_0 5 rfl rfl)
theorem dX3_isKnown_6 : decode cX3_isKnown 6 = .ok (.iadd, 1) := dk_96 (dk_at dksX3_isKnown_0 6 rfl rfl)
theorem dX3_isKnown_7 : decode cX3_isKnown 7 = .ok (.iaload, 1) := dk_46 (dk_at dksX3_isKnown_0 7 rfl rfl)
theorem dX3_isKnown_8 : decode cX3_isKnown 8 = .ok (.iconst 1, 1) := dk_4 (dk_at dksX3_isKnown_0 8 rfl rfl)
theorem dX3_isKnown_9 : decode cX3_isKnown 9 = .ok (.if_icmp .eq 15, 3) := dk_159 0 15 (dk_at dksX3_isKnown_0 9 rfl rfl)
theorem dX3_isKnown_12 : decode cX3_isKnown 12 = .ok (.aload_n 0, 1) := dk_42 (dk_at dksX3_isKnown_0 12 rfl rfl)
theorem dX3_isKnown_13 : decode cX3_isKnown 13 = .ok (.getfield 23, 3) := dk_180 0 23 (dk_at dksX3_isKnown_0 13 rfl rfl)
theorem dX3_isKnown_16 : decode cX3_isKnown 16 = .ok (.iconst 0, 1) := dk_3 (dk_at dksX3_isKnown_0 16 rfl rfl)
theorem dX3_isKnown_17 : decode cX3_isKnown 17 = .ok (.iload_n 1, 1) := dk_27 (dk_at dksX3_isKnown_0 17 rfl rfl)
theorem dX3_isKnown_18 : decode cX3_isKnown 18 = .ok (.iadd, 1) := dk_96 (dk_at dksX3_isKnown_0 18 rfl rfl)
theorem dX3_isKnown_19 : decode cX3_isKnown 19 = .ok (.iaload, 1) := dk_46 (dk_at dksX3_isKnown_0 19 rfl rfl)
theorem dX3_isKnown_20 : decode cX3_isKnown 20 = .ok (.iconst 4, 1) := dk_7 (dk_at dksX3_isKnown_0 20 rfl rfl)
theorem dX3_isKnown_21 : decode cX3_isKnown 21 = .ok (.if_icmp .ne 7, 3) := dk_160 0 7 (dk_at dksX3_isKnown_0 21 rfl rfl)
theorem dX3_isKnown_24 : decode cX3_isKnown 24 = .ok (.iconst 1, 1) := dk_4 (dk_at dksX3_isKnown_1 0 rfl rfl)
theorem dX3_isKnown_25 : decode cX3_isKnown 25 = .ok (.goto 4, 3) := dk_167 0 4 (dk_at dksX3_isKnown_1 1 rfl rfl)
theorem dX3_isKnown_28 : decode cX3_isKnown 28 = .ok (.iconst 0, 1) := dk_3 (dk_at dksX3_isKnown_1 4 rfl rfl)
theorem dX3_isKnown_29 : decode cX3_isKnown 29 = .ok (.ireturn, 1) := dk_172 (dk_at dksX3_isKnown_1 5 rfl rfl)
abbrev cX3_knownSo : ByteArray := prog_18_method_61_code
def yX3_knownSo : MethodName := ⟨RX3, "knownSo", "()I"⟩
def dkwX3_knownSo_2 : List UInt8 := [27, 172]
abbrev dktX3_knownSo_2 : List UInt8 := dkwX3_knownSo_2 ++ []
def dkwX3_knownSo_1 : List UInt8 := [16, 8, 28, 96, 46, 4, 160, 0, 9, 4, 28, 120, 167, 0, 4, 3, 128, 60, 132, 2, 1, 167, 255, 216]
abbrev dktX3_knownSo_1 : List UInt8 := dkwX3_knownSo_1 ++ dktX3_knownSo_2
def dkwX3_knownSo_0 : List UInt8 := [3, 60, 3, 61, 28, 16, 8, 162, 0, 40, 27, 42, 28, 182, 1, 70, 153, 0, 22, 42, 180, 0, 23]
abbrev dktX3_knownSo_0 : List UInt8 := dkwX3_knownSo_0 ++ dktX3_knownSo_1
theorem dksX3_knownSo_0 : cX3_knownSo.data.toList.drop 0 = dktX3_knownSo_0 := by decide +kernel
theorem dksX3_knownSo_1 : cX3_knownSo.data.toList.drop 23 = dktX3_knownSo_1 := dk_seg dksX3_knownSo_0 23 rfl rfl
theorem dksX3_knownSo_2 : cX3_knownSo.data.toList.drop 47 = dktX3_knownSo_2 := dk_seg dksX3_knownSo_1 24 rfl rfl
theorem dX3_knownSo_0 : decode cX3_knownSo 0 = .ok (.iconst 0, 1) := dk_3 (dk_at dksX3_knownSo_0 0 rfl rfl)
theorem dX3_knownSo_1 : decode cX3_knownSo 1 = .ok (.istore_n 1, 1) := dk_60 (dk_at dksX3_knownSo_0 1 rfl rfl)
theorem dX3_knownSo_2 : decode cX3_knownSo 2 = .ok (.iconst 0, 1) := dk_3 (dk_at dksX3_knownSo_0 2 rfl rfl)
theorem dX3_knownSo_3 : decode cX3_knownSo 3 = .ok (.istore_n 2, 1) := dk_61 (dk_at dksX3_knownSo_0 3 rfl rfl)
theorem dX3_knownSo_4 : decode cX3_knownSo 4 = .ok (.iload_n 2, 1) := dk_28 (dk_at dksX3_knownSo_0 4 rfl rfl)
theorem dX3_knownSo_5 : decode cX3_knownSo 5 = .ok (.bipush 8, 2) := dk_16 8 (dk_at dksX3_knownSo_0 5 rfl rfl)
theorem dX3_knownSo_7 : decode cX3_knownSo 7 = .ok (.if_icmp .ge 40, 3) := dk_162 0 40 (dk_at dksX3_knownSo_0 7 rfl rfl)
theorem dX3_knownSo_10 : decode cX3_knownSo 10 = .ok (.iload_n 1, 1) := dk_27 (dk_at dksX3_knownSo_0 10 rfl rfl)
theorem dX3_knownSo_11 : decode cX3_knownSo 11 = .ok (.aload_n 0, 1) := dk_42 (dk_at dksX3_knownSo_0 11 rfl rfl)
theorem dX3_knownSo_12 : decode cX3_knownSo 12 = .ok (.iload_n 2, 1) := dk_28 (dk_at dksX3_knownSo_0 12 rfl rfl)
theorem dX3_knownSo_13 : decode cX3_knownSo 13 = .ok (.invokevirtual 326, 3) := dk_182 1 70 (dk_at dksX3_knownSo_0 13 rfl rfl)
theorem dX3_knownSo_16 : decode cX3_knownSo 16 = .ok (.ifCond .eq 22, 3) := dk_153 0 22 (dk_at dksX3_knownSo_0 16 rfl rfl)
theorem dX3_knownSo_19 : decode cX3_knownSo 19 = .ok (.aload_n 0, 1) := dk_42 (dk_at dksX3_knownSo_0 19 rfl rfl)
theorem dX3_knownSo_20 : decode cX3_knownSo 20 = .ok (.getfield 23, 3) := dk_180 0 23 (dk_at dksX3_knownSo_0 20 rfl rfl)
theorem dX3_knownSo_23 : decode cX3_knownSo 23 = .ok (.bipush 8, 2) := dk_16 8 (dk_at dksX3_knownSo_1 0 rfl rfl)
theorem dX3_knownSo_25 : decode cX3_knownSo 25 = .ok (.iload_n 2, 1) := dk_28 (dk_at dksX3_knownSo_1 2 rfl rfl)
theorem dX3_knownSo_26 : decode cX3_knownSo 26 = .ok (.iadd, 1) := dk_96 (dk_at dksX3_knownSo_1 3 rfl rfl)
theorem dX3_knownSo_27 : decode cX3_knownSo 27 = .ok (.iaload, 1) := dk_46 (dk_at dksX3_knownSo_1 4 rfl rfl)
theorem dX3_knownSo_28 : decode cX3_knownSo 28 = .ok (.iconst 1, 1) := dk_4 (dk_at dksX3_knownSo_1 5 rfl rfl)
theorem dX3_knownSo_29 : decode cX3_knownSo 29 = .ok (.if_icmp .ne 9, 3) := dk_160 0 9 (dk_at dksX3_knownSo_1 6 rfl rfl)
theorem dX3_knownSo_32 : decode cX3_knownSo 32 = .ok (.iconst 1, 1) := dk_4 (dk_at dksX3_knownSo_1 9 rfl rfl)
theorem dX3_knownSo_33 : decode cX3_knownSo 33 = .ok (.iload_n 2, 1) := dk_28 (dk_at dksX3_knownSo_1 10 rfl rfl)
theorem dX3_knownSo_34 : decode cX3_knownSo 34 = .ok (.ishl, 1) := dk_120 (dk_at dksX3_knownSo_1 11 rfl rfl)
theorem dX3_knownSo_35 : decode cX3_knownSo 35 = .ok (.goto 4, 3) := dk_167 0 4 (dk_at dksX3_knownSo_1 12 rfl rfl)
theorem dX3_knownSo_38 : decode cX3_knownSo 38 = .ok (.iconst 0, 1) := dk_3 (dk_at dksX3_knownSo_1 15 rfl rfl)
theorem dX3_knownSo_39 : decode cX3_knownSo 39 = .ok (.ior, 1) := dk_128 (dk_at dksX3_knownSo_1 16 rfl rfl)
theorem dX3_knownSo_40 : decode cX3_knownSo 40 = .ok (.istore_n 1, 1) := dk_60 (dk_at dksX3_knownSo_1 17 rfl rfl)
theorem dX3_knownSo_41 : decode cX3_knownSo 41 = .ok (.iinc 2 1, 3) := dk_132 2 1 (dk_at dksX3_knownSo_1 18 rfl rfl)
theorem dX3_knownSo_44 : decode cX3_knownSo 44 = .ok (.goto (-40), 3) := dk_167 255 216 (dk_at dksX3_knownSo_1 21 rfl rfl)
theorem dX3_knownSo_47 : decode cX3_knownSo 47 = .ok (.iload_n 1, 1) := dk_27 (dk_at dksX3_knownSo_2 0 rfl rfl)
theorem dX3_knownSo_48 : decode cX3_knownSo 48 = .ok (.ireturn, 1) := dk_172 (dk_at dksX3_knownSo_2 1 rfl rfl)
abbrev cX3_laysAgreed : ByteArray := prog_18_method_51_code
def yX3_laysAgreed : MethodName := ⟨RX3, "laysAgreed", "([III)V"⟩
def dkwX3_laysAgreed_2 : List UInt8 := [132, 4, 1, 167, 255, 212, 177]
abbrev dktX3_laysAgreed_2 : List UInt8 := dkwX3_laysAgreed_2 ++ []
def dkwX3_laysAgreed_1 : List UInt8 := [160, 0, 20, 42, 180, 0, 46, 3, 21, 4, 184, 1, 55, 153, 0, 7, 4, 167, 0, 4, 3, 184, 1, 45]
abbrev dktX3_laysAgreed_1 : List UInt8 := dkwX3_laysAgreed_1 ++ dktX3_laysAgreed_2
def dkwX3_laysAgreed_0 : List UInt8 := [43, 184, 1, 41, 3, 54, 4, 21, 4, 17, 1, 0, 162, 0, 42, 43, 3, 21, 4, 21, 4, 28, 126, 29]
abbrev dktX3_laysAgreed_0 : List UInt8 := dkwX3_laysAgreed_0 ++ dktX3_laysAgreed_1
theorem dksX3_laysAgreed_0 : cX3_laysAgreed.data.toList.drop 0 = dktX3_laysAgreed_0 := by decide +kernel
theorem dksX3_laysAgreed_1 : cX3_laysAgreed.data.toList.drop 24 = dktX3_laysAgreed_1 := dk_seg dksX3_laysAgreed_0 24 rfl rfl
theorem dksX3_laysAgreed_2 : cX3_laysAgreed.data.toList.drop 48 = dktX3_laysAgreed_2 := dk_seg dksX3_laysAgreed_1 24 rfl rfl
theorem dX3_laysAgreed_0 : decode cX3_laysAgreed 0 = .ok (.aload_n 1, 1) := dk_43 (dk_at dksX3_laysAgreed_0 0 rfl rfl)
theorem dX3_laysAgreed_1 : decode cX3_laysAgreed 1 = .ok (.invokestatic 297, 3) := dk_184 1 41 (dk_at dksX3_laysAgreed_0 1 rfl rfl)
theorem dX3_laysAgreed_4 : decode cX3_laysAgreed 4 = .ok (.iconst 0, 1) := dk_3 (dk_at dksX3_laysAgreed_0 4 rfl rfl)
theorem dX3_laysAgreed_5 : decode cX3_laysAgreed 5 = .ok (.istore 4, 2) := dk_54 4 (dk_at dksX3_laysAgreed_0 5 rfl rfl)
theorem dX3_laysAgreed_7 : decode cX3_laysAgreed 7 = .ok (.iload 4, 2) := dk_21 4 (dk_at dksX3_laysAgreed_0 7 rfl rfl)
theorem dX3_laysAgreed_9 : decode cX3_laysAgreed 9 = .ok (.sipush 256, 3) := dk_17 1 0 (dk_at dksX3_laysAgreed_0 9 rfl rfl)
theorem dX3_laysAgreed_12 : decode cX3_laysAgreed 12 = .ok (.if_icmp .ge 42, 3) := dk_162 0 42 (dk_at dksX3_laysAgreed_0 12 rfl rfl)
theorem dX3_laysAgreed_15 : decode cX3_laysAgreed 15 = .ok (.aload_n 1, 1) := dk_43 (dk_at dksX3_laysAgreed_0 15 rfl rfl)
theorem dX3_laysAgreed_16 : decode cX3_laysAgreed 16 = .ok (.iconst 0, 1) := dk_3 (dk_at dksX3_laysAgreed_0 16 rfl rfl)
theorem dX3_laysAgreed_17 : decode cX3_laysAgreed 17 = .ok (.iload 4, 2) := dk_21 4 (dk_at dksX3_laysAgreed_0 17 rfl rfl)
theorem dX3_laysAgreed_19 : decode cX3_laysAgreed 19 = .ok (.iload 4, 2) := dk_21 4 (dk_at dksX3_laysAgreed_0 19 rfl rfl)
theorem dX3_laysAgreed_21 : decode cX3_laysAgreed 21 = .ok (.iload_n 2, 1) := dk_28 (dk_at dksX3_laysAgreed_0 21 rfl rfl)
theorem dX3_laysAgreed_22 : decode cX3_laysAgreed 22 = .ok (.iand, 1) := dk_126 (dk_at dksX3_laysAgreed_0 22 rfl rfl)
theorem dX3_laysAgreed_23 : decode cX3_laysAgreed 23 = .ok (.iload_n 3, 1) := dk_29 (dk_at dksX3_laysAgreed_0 23 rfl rfl)
theorem dX3_laysAgreed_24 : decode cX3_laysAgreed 24 = .ok (.if_icmp .ne 20, 3) := dk_160 0 20 (dk_at dksX3_laysAgreed_1 0 rfl rfl)
theorem dX3_laysAgreed_27 : decode cX3_laysAgreed 27 = .ok (.aload_n 0, 1) := dk_42 (dk_at dksX3_laysAgreed_1 3 rfl rfl)
theorem dX3_laysAgreed_28 : decode cX3_laysAgreed 28 = .ok (.getfield 46, 3) := dk_180 0 46 (dk_at dksX3_laysAgreed_1 4 rfl rfl)
theorem dX3_laysAgreed_31 : decode cX3_laysAgreed 31 = .ok (.iconst 0, 1) := dk_3 (dk_at dksX3_laysAgreed_1 7 rfl rfl)
theorem dX3_laysAgreed_32 : decode cX3_laysAgreed 32 = .ok (.iload 4, 2) := dk_21 4 (dk_at dksX3_laysAgreed_1 8 rfl rfl)
theorem dX3_laysAgreed_34 : decode cX3_laysAgreed 34 = .ok (.invokestatic 311, 3) := dk_184 1 55 (dk_at dksX3_laysAgreed_1 10 rfl rfl)
theorem dX3_laysAgreed_37 : decode cX3_laysAgreed 37 = .ok (.ifCond .eq 7, 3) := dk_153 0 7 (dk_at dksX3_laysAgreed_1 13 rfl rfl)
theorem dX3_laysAgreed_40 : decode cX3_laysAgreed 40 = .ok (.iconst 1, 1) := dk_4 (dk_at dksX3_laysAgreed_1 16 rfl rfl)
theorem dX3_laysAgreed_41 : decode cX3_laysAgreed 41 = .ok (.goto 4, 3) := dk_167 0 4 (dk_at dksX3_laysAgreed_1 17 rfl rfl)
theorem dX3_laysAgreed_44 : decode cX3_laysAgreed 44 = .ok (.iconst 0, 1) := dk_3 (dk_at dksX3_laysAgreed_1 20 rfl rfl)
theorem dX3_laysAgreed_45 : decode cX3_laysAgreed 45 = .ok (.invokestatic 301, 3) := dk_184 1 45 (dk_at dksX3_laysAgreed_1 21 rfl rfl)
theorem dX3_laysAgreed_48 : decode cX3_laysAgreed 48 = .ok (.iinc 4 1, 3) := dk_132 4 1 (dk_at dksX3_laysAgreed_2 0 rfl rfl)
theorem dX3_laysAgreed_51 : decode cX3_laysAgreed 51 = .ok (.goto (-44), 3) := dk_167 255 212 (dk_at dksX3_laysAgreed_2 3 rfl rfl)
theorem dX3_laysAgreed_54 : decode cX3_laysAgreed 54 = .ok (.return_, 1) := dk_177 (dk_at dksX3_laysAgreed_2 6 rfl rfl)
abbrev cX3_sign : ByteArray := prog_18_method_5_code
def yX3_sign : MethodName := ⟨RX3, "sign", "(I)I"⟩
def dkwX3_sign_2 : List UInt8 := [181, 0, 82, 132, 2, 248, 167, 255, 223, 42, 180, 0, 82, 172]
abbrev dktX3_sign_2 : List UInt8 := dkwX3_sign_2 ++ []
def dkwX3_sign_1 : List UInt8 := [180, 0, 36, 42, 180, 0, 82, 27, 28, 122, 17, 0, 255, 126, 79, 42, 89, 180, 0, 82, 4, 96]
abbrev dktX3_sign_1 : List UInt8 := dkwX3_sign_1 ++ dktX3_sign_2
def dkwX3_sign_0 : List UInt8 := [42, 180, 0, 82, 7, 96, 17, 1, 224, 164, 0, 5, 2, 172, 16, 24, 61, 28, 155, 0, 35, 42]
abbrev dktX3_sign_0 : List UInt8 := dkwX3_sign_0 ++ dktX3_sign_1
theorem dksX3_sign_0 : cX3_sign.data.toList.drop 0 = dktX3_sign_0 := by decide +kernel
theorem dksX3_sign_1 : cX3_sign.data.toList.drop 22 = dktX3_sign_1 := dk_seg dksX3_sign_0 22 rfl rfl
theorem dksX3_sign_2 : cX3_sign.data.toList.drop 44 = dktX3_sign_2 := dk_seg dksX3_sign_1 22 rfl rfl
theorem dX3_sign_0 : decode cX3_sign 0 = .ok (.aload_n 0, 1) := dk_42 (dk_at dksX3_sign_0 0 rfl rfl)
theorem dX3_sign_1 : decode cX3_sign 1 = .ok (.getfield 82, 3) := dk_180 0 82 (dk_at dksX3_sign_0 1 rfl rfl)
theorem dX3_sign_4 : decode cX3_sign 4 = .ok (.iconst 4, 1) := dk_7 (dk_at dksX3_sign_0 4 rfl rfl)
theorem dX3_sign_5 : decode cX3_sign 5 = .ok (.iadd, 1) := dk_96 (dk_at dksX3_sign_0 5 rfl rfl)
theorem dX3_sign_6 : decode cX3_sign 6 = .ok (.sipush 480, 3) := dk_17 1 224 (dk_at dksX3_sign_0 6 rfl rfl)
theorem dX3_sign_9 : decode cX3_sign 9 = .ok (.if_icmp .le 5, 3) := dk_164 0 5 (dk_at dksX3_sign_0 9 rfl rfl)
theorem dX3_sign_12 : decode cX3_sign 12 = .ok (.iconst (-1), 1) := dk_2 (dk_at dksX3_sign_0 12 rfl rfl)
theorem dX3_sign_13 : decode cX3_sign 13 = .ok (.ireturn, 1) := dk_172 (dk_at dksX3_sign_0 13 rfl rfl)
theorem dX3_sign_14 : decode cX3_sign 14 = .ok (.bipush 24, 2) := dk_16 24 (dk_at dksX3_sign_0 14 rfl rfl)
theorem dX3_sign_16 : decode cX3_sign 16 = .ok (.istore_n 2, 1) := dk_61 (dk_at dksX3_sign_0 16 rfl rfl)
theorem dX3_sign_17 : decode cX3_sign 17 = .ok (.iload_n 2, 1) := dk_28 (dk_at dksX3_sign_0 17 rfl rfl)
theorem dX3_sign_18 : decode cX3_sign 18 = .ok (.ifCond .lt 35, 3) := dk_155 0 35 (dk_at dksX3_sign_0 18 rfl rfl)
theorem dX3_sign_21 : decode cX3_sign 21 = .ok (.aload_n 0, 1) := dk_42 (dk_at dksX3_sign_0 21 rfl rfl)
theorem dX3_sign_22 : decode cX3_sign 22 = .ok (.getfield 36, 3) := dk_180 0 36 (dk_at dksX3_sign_1 0 rfl rfl)
theorem dX3_sign_25 : decode cX3_sign 25 = .ok (.aload_n 0, 1) := dk_42 (dk_at dksX3_sign_1 3 rfl rfl)
theorem dX3_sign_26 : decode cX3_sign 26 = .ok (.getfield 82, 3) := dk_180 0 82 (dk_at dksX3_sign_1 4 rfl rfl)
theorem dX3_sign_29 : decode cX3_sign 29 = .ok (.iload_n 1, 1) := dk_27 (dk_at dksX3_sign_1 7 rfl rfl)
theorem dX3_sign_30 : decode cX3_sign 30 = .ok (.iload_n 2, 1) := dk_28 (dk_at dksX3_sign_1 8 rfl rfl)
theorem dX3_sign_31 : decode cX3_sign 31 = .ok (.ishr, 1) := dk_122 (dk_at dksX3_sign_1 9 rfl rfl)
theorem dX3_sign_32 : decode cX3_sign 32 = .ok (.sipush 255, 3) := dk_17 0 255 (dk_at dksX3_sign_1 10 rfl rfl)
theorem dX3_sign_35 : decode cX3_sign 35 = .ok (.iand, 1) := dk_126 (dk_at dksX3_sign_1 13 rfl rfl)
theorem dX3_sign_36 : decode cX3_sign 36 = .ok (.iastore, 1) := dk_79 (dk_at dksX3_sign_1 14 rfl rfl)
theorem dX3_sign_37 : decode cX3_sign 37 = .ok (.aload_n 0, 1) := dk_42 (dk_at dksX3_sign_1 15 rfl rfl)
theorem dX3_sign_38 : decode cX3_sign 38 = .ok (.dup, 1) := dk_89 (dk_at dksX3_sign_1 16 rfl rfl)
theorem dX3_sign_39 : decode cX3_sign 39 = .ok (.getfield 82, 3) := dk_180 0 82 (dk_at dksX3_sign_1 17 rfl rfl)
theorem dX3_sign_42 : decode cX3_sign 42 = .ok (.iconst 1, 1) := dk_4 (dk_at dksX3_sign_1 20 rfl rfl)
theorem dX3_sign_43 : decode cX3_sign 43 = .ok (.iadd, 1) := dk_96 (dk_at dksX3_sign_1 21 rfl rfl)
theorem dX3_sign_44 : decode cX3_sign 44 = .ok (.putfield 82, 3) := dk_181 0 82 (dk_at dksX3_sign_2 0 rfl rfl)
theorem dX3_sign_47 : decode cX3_sign 47 = .ok (.iinc 2 (-8), 3) := dk_132 2 248 (dk_at dksX3_sign_2 3 rfl rfl)
theorem dX3_sign_50 : decode cX3_sign 50 = .ok (.goto (-33), 3) := dk_167 255 223 (dk_at dksX3_sign_2 6 rfl rfl)
theorem dX3_sign_53 : decode cX3_sign 53 = .ok (.aload_n 0, 1) := dk_42 (dk_at dksX3_sign_2 9 rfl rfl)
theorem dX3_sign_54 : decode cX3_sign 54 = .ok (.getfield 82, 3) := dk_180 0 82 (dk_at dksX3_sign_2 10 rfl rfl)
theorem dX3_sign_57 : decode cX3_sign 57 = .ok (.ireturn, 1) := dk_172 (dk_at dksX3_sign_2 13 rfl rfl)
abbrev cX3_end : ByteArray := prog_18_method_6_code
def yX3_end : MethodName := ⟨RX3, "end", "(I)Z"⟩
def dkwX3_end_0 : List UInt8 := [27, 3, 42, 180, 0, 82, 184, 0, 85, 154, 0, 5, 3, 172, 42, 27, 181, 0, 82, 4, 172]
abbrev dktX3_end_0 : List UInt8 := dkwX3_end_0 ++ []
theorem dksX3_end_0 : cX3_end.data.toList.drop 0 = dktX3_end_0 := by decide +kernel
theorem dX3_end_0 : decode cX3_end 0 = .ok (.iload_n 1, 1) := dk_27 (dk_at dksX3_end_0 0 rfl rfl)
theorem dX3_end_1 : decode cX3_end 1 = .ok (.iconst 0, 1) := dk_3 (dk_at dksX3_end_0 1 rfl rfl)
theorem dX3_end_2 : decode cX3_end 2 = .ok (.aload_n 0, 1) := dk_42 (dk_at dksX3_end_0 2 rfl rfl)
theorem dX3_end_3 : decode cX3_end 3 = .ok (.getfield 82, 3) := dk_180 0 82 (dk_at dksX3_end_0 3 rfl rfl)
theorem dX3_end_6 : decode cX3_end 6 = .ok (.invokestatic 85, 3) := dk_184 0 85 (dk_at dksX3_end_0 6 rfl rfl)
theorem dX3_end_9 : decode cX3_end 9 = .ok (.ifCond .ne 5, 3) := dk_154 0 5 (dk_at dksX3_end_0 9 rfl rfl)
theorem dX3_end_12 : decode cX3_end 12 = .ok (.iconst 0, 1) := dk_3 (dk_at dksX3_end_0 12 rfl rfl)
theorem dX3_end_13 : decode cX3_end 13 = .ok (.ireturn, 1) := dk_172 (dk_at dksX3_end_0 13 rfl rfl)
theorem dX3_end_14 : decode cX3_end 14 = .ok (.aload_n 0, 1) := dk_42 (dk_at dksX3_end_0 14 rfl rfl)
theorem dX3_end_15 : decode cX3_end 15 = .ok (.iload_n 1, 1) := dk_27 (dk_at dksX3_end_0 15 rfl rfl)
theorem dX3_end_16 : decode cX3_end 16 = .ok (.putfield 82, 3) := dk_181 0 82 (dk_at dksX3_end_0 16 rfl rfl)
theorem dX3_end_19 : decode cX3_end 19 = .ok (.iconst 1, 1) := dk_4 (dk_at dksX3_end_0 19 rfl rfl)
theorem dX3_end_20 : decode cX3_end 20 = .ok (.ireturn, 1) := dk_172 (dk_at dksX3_end_0 20 rfl rfl)
abbrev cX3_in : ByteArray := prog_18_method_2_code
def yX3_in : MethodName := ⟨RX3, "in", "(III)Z"⟩
def dkwX3_in_0 : List UInt8 := [26, 27, 161, 0, 12, 26, 28, 163, 0, 7, 4, 167, 0, 4, 3, 172]
abbrev dktX3_in_0 : List UInt8 := dkwX3_in_0 ++ []
theorem dksX3_in_0 : cX3_in.data.toList.drop 0 = dktX3_in_0 := by decide +kernel
theorem dX3_in_0 : decode cX3_in 0 = .ok (.iload_n 0, 1) := dk_26 (dk_at dksX3_in_0 0 rfl rfl)
theorem dX3_in_1 : decode cX3_in 1 = .ok (.iload_n 1, 1) := dk_27 (dk_at dksX3_in_0 1 rfl rfl)
theorem dX3_in_2 : decode cX3_in 2 = .ok (.if_icmp .lt 12, 3) := dk_161 0 12 (dk_at dksX3_in_0 2 rfl rfl)
theorem dX3_in_5 : decode cX3_in 5 = .ok (.iload_n 0, 1) := dk_26 (dk_at dksX3_in_0 5 rfl rfl)
theorem dX3_in_6 : decode cX3_in 6 = .ok (.iload_n 2, 1) := dk_28 (dk_at dksX3_in_0 6 rfl rfl)
theorem dX3_in_7 : decode cX3_in 7 = .ok (.if_icmp .gt 7, 3) := dk_163 0 7 (dk_at dksX3_in_0 7 rfl rfl)
theorem dX3_in_10 : decode cX3_in 10 = .ok (.iconst 1, 1) := dk_4 (dk_at dksX3_in_0 10 rfl rfl)
theorem dX3_in_11 : decode cX3_in 11 = .ok (.goto 4, 3) := dk_167 0 4 (dk_at dksX3_in_0 11 rfl rfl)
theorem dX3_in_14 : decode cX3_in 14 = .ok (.iconst 0, 1) := dk_3 (dk_at dksX3_in_0 14 rfl rfl)
theorem dX3_in_15 : decode cX3_in 15 = .ok (.ireturn, 1) := dk_172 (dk_at dksX3_in_0 15 rfl rfl)
abbrev cX3_suit : ByteArray := prog_18_method_41_code
def yX3_suit : MethodName := ⟨RX3, "suit", "()I"⟩
def dkwX3_suit_5 : List UInt8 := [132, 1, 1, 167, 255, 235, 42, 182, 1, 24, 42, 180, 0, 7, 3, 46, 172]
abbrev dktX3_suit_5 : List UInt8 := dkwX3_suit_5 ++ []
def dkwX3_suit_4 : List UInt8 := [167, 255, 234, 3, 60, 27, 16, 13, 162, 0, 21, 42, 180, 0, 16, 27, 42, 180, 0, 20, 27, 47, 80]
abbrev dktX3_suit_4 : List UInt8 := dkwX3_suit_4 ++ dktX3_suit_5
def dkwX3_suit_3 : List UInt8 := [60, 27, 17, 2, 128, 162, 0, 21, 42, 180, 0, 7, 27, 42, 180, 0, 13, 27, 46, 79, 132, 1, 1]
abbrev dktX3_suit_3 : List UInt8 := dkwX3_suit_3 ++ dktX3_suit_4
def dkwX3_suit_2 : List UInt8 := [42, 180, 0, 109, 153, 0, 10, 42, 182, 1, 18, 167, 255, 238, 42, 182, 1, 21, 154, 0, 5, 2, 172, 3]
abbrev dktX3_suit_2 : List UInt8 := dkwX3_suit_2 ++ dktX3_suit_3
def dkwX3_suit_1 : List UInt8 := [167, 255, 239, 42, 180, 0, 13, 8, 17, 1, 44, 79, 42, 3, 181, 0, 243, 42, 180, 0, 126, 154, 0, 17]
abbrev dktX3_suit_1 : List UInt8 := dkwX3_suit_1 ++ dktX3_suit_2
def dkwX3_suit_0 : List UInt8 := [42, 182, 1, 15, 3, 60, 27, 17, 2, 128, 162, 0, 16, 42, 180, 0, 13, 27, 3, 79, 132, 1, 1]
abbrev dktX3_suit_0 : List UInt8 := dkwX3_suit_0 ++ dktX3_suit_1
theorem dksX3_suit_0 : cX3_suit.data.toList.drop 0 = dktX3_suit_0 := by decide +kernel
theorem dksX3_suit_1 : cX3_suit.data.toList.drop 23 = dktX3_suit_1 := dk_seg dksX3_suit_0 23 rfl rfl
theorem dksX3_suit_2 : cX3_suit.data.toList.drop 47 = dktX3_suit_2 := dk_seg dksX3_suit_1 24 rfl rfl
theorem dksX3_suit_3 : cX3_suit.data.toList.drop 71 = dktX3_suit_3 := dk_seg dksX3_suit_2 24 rfl rfl
theorem dksX3_suit_4 : cX3_suit.data.toList.drop 94 = dktX3_suit_4 := dk_seg dksX3_suit_3 23 rfl rfl
theorem dksX3_suit_5 : cX3_suit.data.toList.drop 117 = dktX3_suit_5 := dk_seg dksX3_suit_4 23 rfl rfl
theorem dX3_suit_0 : decode cX3_suit 0 = .ok (.aload_n 0, 1) := dk_42 (dk_at dksX3_suit_0 0 rfl rfl)
theorem dX3_suit_1 : decode cX3_suit 1 = .ok (.invokevirtual 271, 3) := dk_182 1 15 (dk_at dksX3_suit_0 1 rfl rfl)
theorem dX3_suit_4 : decode cX3_suit 4 = .ok (.iconst 0, 1) := dk_3 (dk_at dksX3_suit_0 4 rfl rfl)
theorem dX3_suit_5 : decode cX3_suit 5 = .ok (.istore_n 1, 1) := dk_60 (dk_at dksX3_suit_0 5 rfl rfl)
theorem dX3_suit_6 : decode cX3_suit 6 = .ok (.iload_n 1, 1) := dk_27 (dk_at dksX3_suit_0 6 rfl rfl)
theorem dX3_suit_7 : decode cX3_suit 7 = .ok (.sipush 640, 3) := dk_17 2 128 (dk_at dksX3_suit_0 7 rfl rfl)
theorem dX3_suit_10 : decode cX3_suit 10 = .ok (.if_icmp .ge 16, 3) := dk_162 0 16 (dk_at dksX3_suit_0 10 rfl rfl)
theorem dX3_suit_13 : decode cX3_suit 13 = .ok (.aload_n 0, 1) := dk_42 (dk_at dksX3_suit_0 13 rfl rfl)
theorem dX3_suit_14 : decode cX3_suit 14 = .ok (.getfield 13, 3) := dk_180 0 13 (dk_at dksX3_suit_0 14 rfl rfl)
theorem dX3_suit_17 : decode cX3_suit 17 = .ok (.iload_n 1, 1) := dk_27 (dk_at dksX3_suit_0 17 rfl rfl)
theorem dX3_suit_18 : decode cX3_suit 18 = .ok (.iconst 0, 1) := dk_3 (dk_at dksX3_suit_0 18 rfl rfl)
theorem dX3_suit_19 : decode cX3_suit 19 = .ok (.iastore, 1) := dk_79 (dk_at dksX3_suit_0 19 rfl rfl)
theorem dX3_suit_20 : decode cX3_suit 20 = .ok (.iinc 1 1, 3) := dk_132 1 1 (dk_at dksX3_suit_0 20 rfl rfl)
theorem dX3_suit_23 : decode cX3_suit 23 = .ok (.goto (-17), 3) := dk_167 255 239 (dk_at dksX3_suit_1 0 rfl rfl)
theorem dX3_suit_26 : decode cX3_suit 26 = .ok (.aload_n 0, 1) := dk_42 (dk_at dksX3_suit_1 3 rfl rfl)
theorem dX3_suit_27 : decode cX3_suit 27 = .ok (.getfield 13, 3) := dk_180 0 13 (dk_at dksX3_suit_1 4 rfl rfl)
theorem dX3_suit_30 : decode cX3_suit 30 = .ok (.iconst 5, 1) := dk_8 (dk_at dksX3_suit_1 7 rfl rfl)
theorem dX3_suit_31 : decode cX3_suit 31 = .ok (.sipush 300, 3) := dk_17 1 44 (dk_at dksX3_suit_1 8 rfl rfl)
theorem dX3_suit_34 : decode cX3_suit 34 = .ok (.iastore, 1) := dk_79 (dk_at dksX3_suit_1 11 rfl rfl)
theorem dX3_suit_35 : decode cX3_suit 35 = .ok (.aload_n 0, 1) := dk_42 (dk_at dksX3_suit_1 12 rfl rfl)
theorem dX3_suit_36 : decode cX3_suit 36 = .ok (.iconst 0, 1) := dk_3 (dk_at dksX3_suit_1 13 rfl rfl)
theorem dX3_suit_37 : decode cX3_suit 37 = .ok (.putfield 243, 3) := dk_181 0 243 (dk_at dksX3_suit_1 14 rfl rfl)
theorem dX3_suit_40 : decode cX3_suit 40 = .ok (.aload_n 0, 1) := dk_42 (dk_at dksX3_suit_1 17 rfl rfl)
theorem dX3_suit_41 : decode cX3_suit 41 = .ok (.getfield 126, 3) := dk_180 0 126 (dk_at dksX3_suit_1 18 rfl rfl)
theorem dX3_suit_44 : decode cX3_suit 44 = .ok (.ifCond .ne 17, 3) := dk_154 0 17 (dk_at dksX3_suit_1 21 rfl rfl)
theorem dX3_suit_47 : decode cX3_suit 47 = .ok (.aload_n 0, 1) := dk_42 (dk_at dksX3_suit_2 0 rfl rfl)
theorem dX3_suit_48 : decode cX3_suit 48 = .ok (.getfield 109, 3) := dk_180 0 109 (dk_at dksX3_suit_2 1 rfl rfl)
theorem dX3_suit_51 : decode cX3_suit 51 = .ok (.ifCond .eq 10, 3) := dk_153 0 10 (dk_at dksX3_suit_2 4 rfl rfl)
theorem dX3_suit_54 : decode cX3_suit 54 = .ok (.aload_n 0, 1) := dk_42 (dk_at dksX3_suit_2 7 rfl rfl)
theorem dX3_suit_55 : decode cX3_suit 55 = .ok (.invokevirtual 274, 3) := dk_182 1 18 (dk_at dksX3_suit_2 8 rfl rfl)
theorem dX3_suit_58 : decode cX3_suit 58 = .ok (.goto (-18), 3) := dk_167 255 238 (dk_at dksX3_suit_2 11 rfl rfl)
theorem dX3_suit_61 : decode cX3_suit 61 = .ok (.aload_n 0, 1) := dk_42 (dk_at dksX3_suit_2 14 rfl rfl)
theorem dX3_suit_62 : decode cX3_suit 62 = .ok (.invokevirtual 277, 3) := dk_182 1 21 (dk_at dksX3_suit_2 15 rfl rfl)
theorem dX3_suit_65 : decode cX3_suit 65 = .ok (.ifCond .ne 5, 3) := dk_154 0 5 (dk_at dksX3_suit_2 18 rfl rfl)
theorem dX3_suit_68 : decode cX3_suit 68 = .ok (.iconst (-1), 1) := dk_2 (dk_at dksX3_suit_2 21 rfl rfl)
theorem dX3_suit_69 : decode cX3_suit 69 = .ok (.ireturn, 1) := dk_172 (dk_at dksX3_suit_2 22 rfl rfl)
theorem dX3_suit_70 : decode cX3_suit 70 = .ok (.iconst 0, 1) := dk_3 (dk_at dksX3_suit_2 23 rfl rfl)
theorem dX3_suit_71 : decode cX3_suit 71 = .ok (.istore_n 1, 1) := dk_60 (dk_at dksX3_suit_3 0 rfl rfl)
theorem dX3_suit_72 : decode cX3_suit 72 = .ok (.iload_n 1, 1) := dk_27 (dk_at dksX3_suit_3 1 rfl rfl)
theorem dX3_suit_73 : decode cX3_suit 73 = .ok (.sipush 640, 3) := dk_17 2 128 (dk_at dksX3_suit_3 2 rfl rfl)
theorem dX3_suit_76 : decode cX3_suit 76 = .ok (.if_icmp .ge 21, 3) := dk_162 0 21 (dk_at dksX3_suit_3 5 rfl rfl)
theorem dX3_suit_79 : decode cX3_suit 79 = .ok (.aload_n 0, 1) := dk_42 (dk_at dksX3_suit_3 8 rfl rfl)
theorem dX3_suit_80 : decode cX3_suit 80 = .ok (.getfield 7, 3) := dk_180 0 7 (dk_at dksX3_suit_3 9 rfl rfl)
theorem dX3_suit_83 : decode cX3_suit 83 = .ok (.iload_n 1, 1) := dk_27 (dk_at dksX3_suit_3 12 rfl rfl)
theorem dX3_suit_84 : decode cX3_suit 84 = .ok (.aload_n 0, 1) := dk_42 (dk_at dksX3_suit_3 13 rfl rfl)
theorem dX3_suit_85 : decode cX3_suit 85 = .ok (.getfield 13, 3) := dk_180 0 13 (dk_at dksX3_suit_3 14 rfl rfl)
theorem dX3_suit_88 : decode cX3_suit 88 = .ok (.iload_n 1, 1) := dk_27 (dk_at dksX3_suit_3 17 rfl rfl)
theorem dX3_suit_89 : decode cX3_suit 89 = .ok (.iaload, 1) := dk_46 (dk_at dksX3_suit_3 18 rfl rfl)
theorem dX3_suit_90 : decode cX3_suit 90 = .ok (.iastore, 1) := dk_79 (dk_at dksX3_suit_3 19 rfl rfl)
theorem dX3_suit_91 : decode cX3_suit 91 = .ok (.iinc 1 1, 3) := dk_132 1 1 (dk_at dksX3_suit_3 20 rfl rfl)
theorem dX3_suit_94 : decode cX3_suit 94 = .ok (.goto (-22), 3) := dk_167 255 234 (dk_at dksX3_suit_4 0 rfl rfl)
theorem dX3_suit_97 : decode cX3_suit 97 = .ok (.iconst 0, 1) := dk_3 (dk_at dksX3_suit_4 3 rfl rfl)
theorem dX3_suit_98 : decode cX3_suit 98 = .ok (.istore_n 1, 1) := dk_60 (dk_at dksX3_suit_4 4 rfl rfl)
theorem dX3_suit_99 : decode cX3_suit 99 = .ok (.iload_n 1, 1) := dk_27 (dk_at dksX3_suit_4 5 rfl rfl)
theorem dX3_suit_100 : decode cX3_suit 100 = .ok (.bipush 13, 2) := dk_16 13 (dk_at dksX3_suit_4 6 rfl rfl)
theorem dX3_suit_102 : decode cX3_suit 102 = .ok (.if_icmp .ge 21, 3) := dk_162 0 21 (dk_at dksX3_suit_4 8 rfl rfl)
theorem dX3_suit_105 : decode cX3_suit 105 = .ok (.aload_n 0, 1) := dk_42 (dk_at dksX3_suit_4 11 rfl rfl)
theorem dX3_suit_106 : decode cX3_suit 106 = .ok (.getfield 16, 3) := dk_180 0 16 (dk_at dksX3_suit_4 12 rfl rfl)
theorem dX3_suit_109 : decode cX3_suit 109 = .ok (.iload_n 1, 1) := dk_27 (dk_at dksX3_suit_4 15 rfl rfl)
theorem dX3_suit_110 : decode cX3_suit 110 = .ok (.aload_n 0, 1) := dk_42 (dk_at dksX3_suit_4 16 rfl rfl)
theorem dX3_suit_111 : decode cX3_suit 111 = .ok (.getfield 20, 3) := dk_180 0 20 (dk_at dksX3_suit_4 17 rfl rfl)
theorem dX3_suit_114 : decode cX3_suit 114 = .ok (.iload_n 1, 1) := dk_27 (dk_at dksX3_suit_4 20 rfl rfl)
theorem dX3_suit_115 : decode cX3_suit 115 = .ok (.laload, 1) := dk_47 (dk_at dksX3_suit_4 21 rfl rfl)
theorem dX3_suit_116 : decode cX3_suit 116 = .ok (.lastore, 1) := dk_80 (dk_at dksX3_suit_4 22 rfl rfl)
theorem dX3_suit_117 : decode cX3_suit 117 = .ok (.iinc 1 1, 3) := dk_132 1 1 (dk_at dksX3_suit_5 0 rfl rfl)
theorem dX3_suit_120 : decode cX3_suit 120 = .ok (.goto (-21), 3) := dk_167 255 235 (dk_at dksX3_suit_5 3 rfl rfl)
theorem dX3_suit_123 : decode cX3_suit 123 = .ok (.aload_n 0, 1) := dk_42 (dk_at dksX3_suit_5 6 rfl rfl)
theorem dX3_suit_124 : decode cX3_suit 124 = .ok (.invokevirtual 280, 3) := dk_182 1 24 (dk_at dksX3_suit_5 7 rfl rfl)
theorem dX3_suit_127 : decode cX3_suit 127 = .ok (.aload_n 0, 1) := dk_42 (dk_at dksX3_suit_5 10 rfl rfl)
theorem dX3_suit_128 : decode cX3_suit 128 = .ok (.getfield 7, 3) := dk_180 0 7 (dk_at dksX3_suit_5 11 rfl rfl)
theorem dX3_suit_131 : decode cX3_suit 131 = .ok (.iconst 0, 1) := dk_3 (dk_at dksX3_suit_5 14 rfl rfl)
theorem dX3_suit_132 : decode cX3_suit 132 = .ok (.iaload, 1) := dk_46 (dk_at dksX3_suit_5 15 rfl rfl)
theorem dX3_suit_133 : decode cX3_suit 133 = .ok (.ireturn, 1) := dk_172 (dk_at dksX3_suit_5 16 rfl rfl)
abbrev cX3_takes : ByteArray := prog_18_method_39_code
def yX3_takes : MethodName := ⟨RX3, "takes", "()V"⟩
def dkwX3_takes_1 : List UInt8 := [2, 181, 0, 159, 42, 182, 0, 162, 177]
abbrev dktX3_takes_1 : List UInt8 := dkwX3_takes_1 ++ []
def dkwX3_takes_0 : List UInt8 := [42, 42, 180, 0, 82, 181, 0, 89, 42, 3, 181, 0, 82, 42, 3, 181, 0, 92, 42, 3, 181, 0, 126, 42]
abbrev dktX3_takes_0 : List UInt8 := dkwX3_takes_0 ++ dktX3_takes_1
theorem dksX3_takes_0 : cX3_takes.data.toList.drop 0 = dktX3_takes_0 := by decide +kernel
theorem dksX3_takes_1 : cX3_takes.data.toList.drop 24 = dktX3_takes_1 := dk_seg dksX3_takes_0 24 rfl rfl
theorem dX3_takes_0 : decode cX3_takes 0 = .ok (.aload_n 0, 1) := dk_42 (dk_at dksX3_takes_0 0 rfl rfl)
theorem dX3_takes_1 : decode cX3_takes 1 = .ok (.aload_n 0, 1) := dk_42 (dk_at dksX3_takes_0 1 rfl rfl)
theorem dX3_takes_2 : decode cX3_takes 2 = .ok (.getfield 82, 3) := dk_180 0 82 (dk_at dksX3_takes_0 2 rfl rfl)
theorem dX3_takes_5 : decode cX3_takes 5 = .ok (.putfield 89, 3) := dk_181 0 89 (dk_at dksX3_takes_0 5 rfl rfl)
theorem dX3_takes_8 : decode cX3_takes 8 = .ok (.aload_n 0, 1) := dk_42 (dk_at dksX3_takes_0 8 rfl rfl)
theorem dX3_takes_9 : decode cX3_takes 9 = .ok (.iconst 0, 1) := dk_3 (dk_at dksX3_takes_0 9 rfl rfl)
theorem dX3_takes_10 : decode cX3_takes 10 = .ok (.putfield 82, 3) := dk_181 0 82 (dk_at dksX3_takes_0 10 rfl rfl)
theorem dX3_takes_13 : decode cX3_takes 13 = .ok (.aload_n 0, 1) := dk_42 (dk_at dksX3_takes_0 13 rfl rfl)
theorem dX3_takes_14 : decode cX3_takes 14 = .ok (.iconst 0, 1) := dk_3 (dk_at dksX3_takes_0 14 rfl rfl)
theorem dX3_takes_15 : decode cX3_takes 15 = .ok (.putfield 92, 3) := dk_181 0 92 (dk_at dksX3_takes_0 15 rfl rfl)
theorem dX3_takes_18 : decode cX3_takes 18 = .ok (.aload_n 0, 1) := dk_42 (dk_at dksX3_takes_0 18 rfl rfl)
theorem dX3_takes_19 : decode cX3_takes 19 = .ok (.iconst 0, 1) := dk_3 (dk_at dksX3_takes_0 19 rfl rfl)
theorem dX3_takes_20 : decode cX3_takes 20 = .ok (.putfield 126, 3) := dk_181 0 126 (dk_at dksX3_takes_0 20 rfl rfl)
theorem dX3_takes_23 : decode cX3_takes 23 = .ok (.aload_n 0, 1) := dk_42 (dk_at dksX3_takes_0 23 rfl rfl)
theorem dX3_takes_24 : decode cX3_takes 24 = .ok (.iconst (-1), 1) := dk_2 (dk_at dksX3_takes_1 0 rfl rfl)
theorem dX3_takes_25 : decode cX3_takes 25 = .ok (.putfield 159, 3) := dk_181 0 159 (dk_at dksX3_takes_1 1 rfl rfl)
theorem dX3_takes_28 : decode cX3_takes 28 = .ok (.aload_n 0, 1) := dk_42 (dk_at dksX3_takes_1 4 rfl rfl)
theorem dX3_takes_29 : decode cX3_takes 29 = .ok (.invokevirtual 162, 3) := dk_182 0 162 (dk_at dksX3_takes_1 5 rfl rfl)
theorem dX3_takes_32 : decode cX3_takes 32 = .ok (.return_, 1) := dk_177 (dk_at dksX3_takes_1 8 rfl rfl)
abbrev cX3_next : ByteArray := prog_18_method_8_code
def yX3_next : MethodName := ⟨RX3, "next", "()V"⟩
def dkwX3_next_15 : List UInt8 := [16, 44, 159, 0, 9, 27, 16, 59, 160, 0, 7, 7, 167, 0, 4, 4, 181, 0, 109, 177]
abbrev dktX3_next_15 : List UInt8 := dkwX3_next_15 ++ []
def dkwX3_next_14 : List UInt8 := [16, 38, 159, 0, 33, 27, 16, 124, 159, 0, 27, 27, 16, 40, 159, 0, 21, 27, 16, 41, 159, 0, 15, 27]
abbrev dktX3_next_14 : List UInt8 := dkwX3_next_14 ++ dktX3_next_15
def dkwX3_next_13 : List UInt8 := [42, 89, 180, 0, 92, 4, 96, 181, 0, 92, 42, 27, 181, 0, 102, 42, 27, 16, 33, 159, 0, 39, 27]
abbrev dktX3_next_13 : List UInt8 := dkwX3_next_13 ++ dktX3_next_14
def dkwX3_next_12 : List UInt8 := [42, 180, 0, 92, 42, 180, 0, 99, 100, 6, 164, 0, 7, 4, 167, 0, 4, 6, 181, 0, 109, 167, 0, 69]
abbrev dktX3_next_12 : List UInt8 := dkwX3_next_12 ++ dktX3_next_13
def dkwX3_next_11 : List UInt8 := [167, 0, 7, 42, 180, 0, 102, 181, 0, 102, 42, 89, 180, 0, 92, 4, 96, 181, 0, 92, 167, 255, 185, 42]
abbrev dktX3_next_11 : List UInt8 := dkwX3_next_11 ++ dktX3_next_12
def dkwX3_next_10 : List UInt8 := [162, 0, 25, 16, 10, 42, 180, 0, 102, 104, 42, 42, 180, 0, 92, 182, 0, 95, 96, 16, 48, 100]
abbrev dktX3_next_10 : List UInt8 := dkwX3_next_10 ++ dktX3_next_11
def dkwX3_next_9 : List UInt8 := [182, 0, 95, 16, 48, 16, 57, 184, 0, 85, 153, 0, 59, 42, 42, 180, 0, 92, 42, 180, 0, 99, 100, 6]
abbrev dktX3_next_9 : List UInt8 := dkwX3_next_9 ++ dktX3_next_10
def dkwX3_next_8 : List UInt8 := [181, 0, 109, 167, 0, 179, 27, 16, 48, 16, 57, 184, 0, 85, 153, 0, 102, 42, 42, 180, 0, 92]
abbrev dktX3_next_8 : List UInt8 := dkwX3_next_8 ++ dktX3_next_9
def dkwX3_next_7 : List UInt8 := [167, 255, 181, 42, 42, 180, 0, 92, 42, 180, 0, 99, 100, 16, 6, 164, 0, 7, 4, 167, 0, 4, 5]
abbrev dktX3_next_7 : List UInt8 := dkwX3_next_7 ++ dktX3_next_8
def dkwX3_next_6 : List UInt8 := [20, 0, 114, 101, 167, 0, 7, 42, 180, 0, 105, 181, 0, 105, 42, 89, 180, 0, 92, 4, 96, 181, 0, 92]
abbrev dktX3_next_6 : List UInt8 := dkwX3_next_6 ++ dktX3_next_7
def dkwX3_next_5 : List UInt8 := [16, 6, 162, 0, 28, 20, 0, 112, 42, 180, 0, 105, 105, 42, 42, 180, 0, 92, 182, 0, 95, 133, 97]
abbrev dktX3_next_5 : List UInt8 := dkwX3_next_5 ++ dktX3_next_6
def dkwX3_next_4 : List UInt8 := [182, 0, 95, 16, 97, 16, 122, 184, 0, 85, 153, 0, 63, 42, 42, 180, 0, 92, 42, 180, 0, 99, 100]
abbrev dktX3_next_4 : List UInt8 := dkwX3_next_4 ++ dktX3_next_5
def dkwX3_next_3 : List UInt8 := [42, 3, 181, 0, 109, 167, 1, 38, 27, 16, 97, 16, 122, 184, 0, 85, 153, 0, 107, 42, 42, 180, 0, 92]
abbrev dktX3_next_3 : List UInt8 := dkwX3_next_3 ++ dktX3_next_4
def dkwX3_next_2 : List UInt8 := [42, 3, 181, 0, 102, 42, 9, 181, 0, 105, 42, 42, 180, 0, 92, 182, 0, 95, 60, 27, 2, 160, 0, 11]
abbrev dktX3_next_2 : List UInt8 := dkwX3_next_2 ++ dktX3_next_3
def dkwX3_next_1 : List UInt8 := [160, 0, 16, 42, 89, 180, 0, 92, 4, 96, 181, 0, 92, 167, 255, 220, 42, 42, 180, 0, 92, 181, 0, 99]
abbrev dktX3_next_1 : List UInt8 := dkwX3_next_1 ++ dktX3_next_2
def dkwX3_next_0 : List UInt8 := [42, 42, 180, 0, 92, 182, 0, 95, 16, 32, 159, 0, 16, 42, 42, 180, 0, 92, 182, 0, 95, 16, 10]
abbrev dktX3_next_0 : List UInt8 := dkwX3_next_0 ++ dktX3_next_1
theorem dksX3_next_0 : cX3_next.data.toList.drop 0 = dktX3_next_0 := by decide +kernel
theorem dksX3_next_1 : cX3_next.data.toList.drop 23 = dktX3_next_1 := dk_seg dksX3_next_0 23 rfl rfl
theorem dksX3_next_2 : cX3_next.data.toList.drop 47 = dktX3_next_2 := dk_seg dksX3_next_1 24 rfl rfl
theorem dksX3_next_3 : cX3_next.data.toList.drop 71 = dktX3_next_3 := dk_seg dksX3_next_2 24 rfl rfl
theorem dksX3_next_4 : cX3_next.data.toList.drop 95 = dktX3_next_4 := dk_seg dksX3_next_3 24 rfl rfl
theorem dksX3_next_5 : cX3_next.data.toList.drop 118 = dktX3_next_5 := dk_seg dksX3_next_4 23 rfl rfl
theorem dksX3_next_6 : cX3_next.data.toList.drop 141 = dktX3_next_6 := dk_seg dksX3_next_5 23 rfl rfl
theorem dksX3_next_7 : cX3_next.data.toList.drop 165 = dktX3_next_7 := dk_seg dksX3_next_6 24 rfl rfl
theorem dksX3_next_8 : cX3_next.data.toList.drop 188 = dktX3_next_8 := dk_seg dksX3_next_7 23 rfl rfl
theorem dksX3_next_9 : cX3_next.data.toList.drop 210 = dktX3_next_9 := dk_seg dksX3_next_8 22 rfl rfl
theorem dksX3_next_10 : cX3_next.data.toList.drop 234 = dktX3_next_10 := dk_seg dksX3_next_9 24 rfl rfl
theorem dksX3_next_11 : cX3_next.data.toList.drop 256 = dktX3_next_11 := dk_seg dksX3_next_10 22 rfl rfl
theorem dksX3_next_12 : cX3_next.data.toList.drop 280 = dktX3_next_12 := dk_seg dksX3_next_11 24 rfl rfl
theorem dksX3_next_13 : cX3_next.data.toList.drop 304 = dktX3_next_13 := dk_seg dksX3_next_12 24 rfl rfl
theorem dksX3_next_14 : cX3_next.data.toList.drop 327 = dktX3_next_14 := dk_seg dksX3_next_13 23 rfl rfl
theorem dksX3_next_15 : cX3_next.data.toList.drop 351 = dktX3_next_15 := dk_seg dksX3_next_14 24 rfl rfl
theorem dX3_next_0 : decode cX3_next 0 = .ok (.aload_n 0, 1) := dk_42 (dk_at dksX3_next_0 0 rfl rfl)
theorem dX3_next_1 : decode cX3_next 1 = .ok (.aload_n 0, 1) := dk_42 (dk_at dksX3_next_0 1 rfl rfl)
theorem dX3_next_2 : decode cX3_next 2 = .ok (.getfield 92, 3) := dk_180 0 92 (dk_at dksX3_next_0 2 rfl rfl)
theorem dX3_next_5 : decode cX3_next 5 = .ok (.invokevirtual 95, 3) := dk_182 0 95 (dk_at dksX3_next_0 5 rfl rfl)
theorem dX3_next_8 : decode cX3_next 8 = .ok (.bipush 32, 2) := dk_16 32 (dk_at dksX3_next_0 8 rfl rfl)
theorem dX3_next_10 : decode cX3_next 10 = .ok (.if_icmp .eq 16, 3) := dk_159 0 16 (dk_at dksX3_next_0 10 rfl rfl)
theorem dX3_next_13 : decode cX3_next 13 = .ok (.aload_n 0, 1) := dk_42 (dk_at dksX3_next_0 13 rfl rfl)
theorem dX3_next_14 : decode cX3_next 14 = .ok (.aload_n 0, 1) := dk_42 (dk_at dksX3_next_0 14 rfl rfl)
theorem dX3_next_15 : decode cX3_next 15 = .ok (.getfield 92, 3) := dk_180 0 92 (dk_at dksX3_next_0 15 rfl rfl)
theorem dX3_next_18 : decode cX3_next 18 = .ok (.invokevirtual 95, 3) := dk_182 0 95 (dk_at dksX3_next_0 18 rfl rfl)
theorem dX3_next_21 : decode cX3_next 21 = .ok (.bipush 10, 2) := dk_16 10 (dk_at dksX3_next_0 21 rfl rfl)
theorem dX3_next_23 : decode cX3_next 23 = .ok (.if_icmp .ne 16, 3) := dk_160 0 16 (dk_at dksX3_next_1 0 rfl rfl)
theorem dX3_next_26 : decode cX3_next 26 = .ok (.aload_n 0, 1) := dk_42 (dk_at dksX3_next_1 3 rfl rfl)
theorem dX3_next_27 : decode cX3_next 27 = .ok (.dup, 1) := dk_89 (dk_at dksX3_next_1 4 rfl rfl)
theorem dX3_next_28 : decode cX3_next 28 = .ok (.getfield 92, 3) := dk_180 0 92 (dk_at dksX3_next_1 5 rfl rfl)
theorem dX3_next_31 : decode cX3_next 31 = .ok (.iconst 1, 1) := dk_4 (dk_at dksX3_next_1 8 rfl rfl)
theorem dX3_next_32 : decode cX3_next 32 = .ok (.iadd, 1) := dk_96 (dk_at dksX3_next_1 9 rfl rfl)
theorem dX3_next_33 : decode cX3_next 33 = .ok (.putfield 92, 3) := dk_181 0 92 (dk_at dksX3_next_1 10 rfl rfl)
theorem dX3_next_36 : decode cX3_next 36 = .ok (.goto (-36), 3) := dk_167 255 220 (dk_at dksX3_next_1 13 rfl rfl)
theorem dX3_next_39 : decode cX3_next 39 = .ok (.aload_n 0, 1) := dk_42 (dk_at dksX3_next_1 16 rfl rfl)
theorem dX3_next_40 : decode cX3_next 40 = .ok (.aload_n 0, 1) := dk_42 (dk_at dksX3_next_1 17 rfl rfl)
theorem dX3_next_41 : decode cX3_next 41 = .ok (.getfield 92, 3) := dk_180 0 92 (dk_at dksX3_next_1 18 rfl rfl)
theorem dX3_next_44 : decode cX3_next 44 = .ok (.putfield 99, 3) := dk_181 0 99 (dk_at dksX3_next_1 21 rfl rfl)
theorem dX3_next_47 : decode cX3_next 47 = .ok (.aload_n 0, 1) := dk_42 (dk_at dksX3_next_2 0 rfl rfl)
theorem dX3_next_48 : decode cX3_next 48 = .ok (.iconst 0, 1) := dk_3 (dk_at dksX3_next_2 1 rfl rfl)
theorem dX3_next_49 : decode cX3_next 49 = .ok (.putfield 102, 3) := dk_181 0 102 (dk_at dksX3_next_2 2 rfl rfl)
theorem dX3_next_52 : decode cX3_next 52 = .ok (.aload_n 0, 1) := dk_42 (dk_at dksX3_next_2 5 rfl rfl)
theorem dX3_next_53 : decode cX3_next 53 = .ok (.lconst 0, 1) := dk_9 (dk_at dksX3_next_2 6 rfl rfl)
theorem dX3_next_54 : decode cX3_next 54 = .ok (.putfield 105, 3) := dk_181 0 105 (dk_at dksX3_next_2 7 rfl rfl)
theorem dX3_next_57 : decode cX3_next 57 = .ok (.aload_n 0, 1) := dk_42 (dk_at dksX3_next_2 10 rfl rfl)
theorem dX3_next_58 : decode cX3_next 58 = .ok (.aload_n 0, 1) := dk_42 (dk_at dksX3_next_2 11 rfl rfl)
theorem dX3_next_59 : decode cX3_next 59 = .ok (.getfield 92, 3) := dk_180 0 92 (dk_at dksX3_next_2 12 rfl rfl)
theorem dX3_next_62 : decode cX3_next 62 = .ok (.invokevirtual 95, 3) := dk_182 0 95 (dk_at dksX3_next_2 15 rfl rfl)
theorem dX3_next_65 : decode cX3_next 65 = .ok (.istore_n 1, 1) := dk_60 (dk_at dksX3_next_2 18 rfl rfl)
theorem dX3_next_66 : decode cX3_next 66 = .ok (.iload_n 1, 1) := dk_27 (dk_at dksX3_next_2 19 rfl rfl)
theorem dX3_next_67 : decode cX3_next 67 = .ok (.iconst (-1), 1) := dk_2 (dk_at dksX3_next_2 20 rfl rfl)
theorem dX3_next_68 : decode cX3_next 68 = .ok (.if_icmp .ne 11, 3) := dk_160 0 11 (dk_at dksX3_next_2 21 rfl rfl)
theorem dX3_next_71 : decode cX3_next 71 = .ok (.aload_n 0, 1) := dk_42 (dk_at dksX3_next_3 0 rfl rfl)
theorem dX3_next_72 : decode cX3_next 72 = .ok (.iconst 0, 1) := dk_3 (dk_at dksX3_next_3 1 rfl rfl)
theorem dX3_next_73 : decode cX3_next 73 = .ok (.putfield 109, 3) := dk_181 0 109 (dk_at dksX3_next_3 2 rfl rfl)
theorem dX3_next_76 : decode cX3_next 76 = .ok (.goto 294, 3) := dk_167 1 38 (dk_at dksX3_next_3 5 rfl rfl)
theorem dX3_next_79 : decode cX3_next 79 = .ok (.iload_n 1, 1) := dk_27 (dk_at dksX3_next_3 8 rfl rfl)
theorem dX3_next_80 : decode cX3_next 80 = .ok (.bipush 97, 2) := dk_16 97 (dk_at dksX3_next_3 9 rfl rfl)
theorem dX3_next_82 : decode cX3_next 82 = .ok (.bipush 122, 2) := dk_16 122 (dk_at dksX3_next_3 11 rfl rfl)
theorem dX3_next_84 : decode cX3_next 84 = .ok (.invokestatic 85, 3) := dk_184 0 85 (dk_at dksX3_next_3 13 rfl rfl)
theorem dX3_next_87 : decode cX3_next 87 = .ok (.ifCond .eq 107, 3) := dk_153 0 107 (dk_at dksX3_next_3 16 rfl rfl)
theorem dX3_next_90 : decode cX3_next 90 = .ok (.aload_n 0, 1) := dk_42 (dk_at dksX3_next_3 19 rfl rfl)
theorem dX3_next_91 : decode cX3_next 91 = .ok (.aload_n 0, 1) := dk_42 (dk_at dksX3_next_3 20 rfl rfl)
theorem dX3_next_92 : decode cX3_next 92 = .ok (.getfield 92, 3) := dk_180 0 92 (dk_at dksX3_next_3 21 rfl rfl)
theorem dX3_next_95 : decode cX3_next 95 = .ok (.invokevirtual 95, 3) := dk_182 0 95 (dk_at dksX3_next_4 0 rfl rfl)
theorem dX3_next_98 : decode cX3_next 98 = .ok (.bipush 97, 2) := dk_16 97 (dk_at dksX3_next_4 3 rfl rfl)
theorem dX3_next_100 : decode cX3_next 100 = .ok (.bipush 122, 2) := dk_16 122 (dk_at dksX3_next_4 5 rfl rfl)
theorem dX3_next_102 : decode cX3_next 102 = .ok (.invokestatic 85, 3) := dk_184 0 85 (dk_at dksX3_next_4 7 rfl rfl)
theorem dX3_next_105 : decode cX3_next 105 = .ok (.ifCond .eq 63, 3) := dk_153 0 63 (dk_at dksX3_next_4 10 rfl rfl)
theorem dX3_next_108 : decode cX3_next 108 = .ok (.aload_n 0, 1) := dk_42 (dk_at dksX3_next_4 13 rfl rfl)
theorem dX3_next_109 : decode cX3_next 109 = .ok (.aload_n 0, 1) := dk_42 (dk_at dksX3_next_4 14 rfl rfl)
theorem dX3_next_110 : decode cX3_next 110 = .ok (.getfield 92, 3) := dk_180 0 92 (dk_at dksX3_next_4 15 rfl rfl)
theorem dX3_next_113 : decode cX3_next 113 = .ok (.aload_n 0, 1) := dk_42 (dk_at dksX3_next_4 18 rfl rfl)
theorem dX3_next_114 : decode cX3_next 114 = .ok (.getfield 99, 3) := dk_180 0 99 (dk_at dksX3_next_4 19 rfl rfl)
theorem dX3_next_117 : decode cX3_next 117 = .ok (.isub, 1) := dk_100 (dk_at dksX3_next_4 22 rfl rfl)
theorem dX3_next_118 : decode cX3_next 118 = .ok (.bipush 6, 2) := dk_16 6 (dk_at dksX3_next_5 0 rfl rfl)
theorem dX3_next_120 : decode cX3_next 120 = .ok (.if_icmp .ge 28, 3) := dk_162 0 28 (dk_at dksX3_next_5 2 rfl rfl)
theorem dX3_next_123 : decode cX3_next 123 = .ok (.ldc2_w 112, 3) := dk_20 0 112 (dk_at dksX3_next_5 5 rfl rfl)
theorem dX3_next_126 : decode cX3_next 126 = .ok (.aload_n 0, 1) := dk_42 (dk_at dksX3_next_5 8 rfl rfl)
theorem dX3_next_127 : decode cX3_next 127 = .ok (.getfield 105, 3) := dk_180 0 105 (dk_at dksX3_next_5 9 rfl rfl)
theorem dX3_next_130 : decode cX3_next 130 = .ok (.lmul, 1) := dk_105 (dk_at dksX3_next_5 12 rfl rfl)
theorem dX3_next_131 : decode cX3_next 131 = .ok (.aload_n 0, 1) := dk_42 (dk_at dksX3_next_5 13 rfl rfl)
theorem dX3_next_132 : decode cX3_next 132 = .ok (.aload_n 0, 1) := dk_42 (dk_at dksX3_next_5 14 rfl rfl)
theorem dX3_next_133 : decode cX3_next 133 = .ok (.getfield 92, 3) := dk_180 0 92 (dk_at dksX3_next_5 15 rfl rfl)
theorem dX3_next_136 : decode cX3_next 136 = .ok (.invokevirtual 95, 3) := dk_182 0 95 (dk_at dksX3_next_5 18 rfl rfl)
theorem dX3_next_139 : decode cX3_next 139 = .ok (.i2l, 1) := dk_133 (dk_at dksX3_next_5 21 rfl rfl)
theorem dX3_next_140 : decode cX3_next 140 = .ok (.ladd, 1) := dk_97 (dk_at dksX3_next_5 22 rfl rfl)
theorem dX3_next_141 : decode cX3_next 141 = .ok (.ldc2_w 114, 3) := dk_20 0 114 (dk_at dksX3_next_6 0 rfl rfl)
theorem dX3_next_144 : decode cX3_next 144 = .ok (.lsub, 1) := dk_101 (dk_at dksX3_next_6 3 rfl rfl)
theorem dX3_next_145 : decode cX3_next 145 = .ok (.goto 7, 3) := dk_167 0 7 (dk_at dksX3_next_6 4 rfl rfl)
theorem dX3_next_148 : decode cX3_next 148 = .ok (.aload_n 0, 1) := dk_42 (dk_at dksX3_next_6 7 rfl rfl)
theorem dX3_next_149 : decode cX3_next 149 = .ok (.getfield 105, 3) := dk_180 0 105 (dk_at dksX3_next_6 8 rfl rfl)
theorem dX3_next_152 : decode cX3_next 152 = .ok (.putfield 105, 3) := dk_181 0 105 (dk_at dksX3_next_6 11 rfl rfl)
theorem dX3_next_155 : decode cX3_next 155 = .ok (.aload_n 0, 1) := dk_42 (dk_at dksX3_next_6 14 rfl rfl)
theorem dX3_next_156 : decode cX3_next 156 = .ok (.dup, 1) := dk_89 (dk_at dksX3_next_6 15 rfl rfl)
theorem dX3_next_157 : decode cX3_next 157 = .ok (.getfield 92, 3) := dk_180 0 92 (dk_at dksX3_next_6 16 rfl rfl)
theorem dX3_next_160 : decode cX3_next 160 = .ok (.iconst 1, 1) := dk_4 (dk_at dksX3_next_6 19 rfl rfl)
theorem dX3_next_161 : decode cX3_next 161 = .ok (.iadd, 1) := dk_96 (dk_at dksX3_next_6 20 rfl rfl)
theorem dX3_next_162 : decode cX3_next 162 = .ok (.putfield 92, 3) := dk_181 0 92 (dk_at dksX3_next_6 21 rfl rfl)
theorem dX3_next_165 : decode cX3_next 165 = .ok (.goto (-75), 3) := dk_167 255 181 (dk_at dksX3_next_7 0 rfl rfl)
theorem dX3_next_168 : decode cX3_next 168 = .ok (.aload_n 0, 1) := dk_42 (dk_at dksX3_next_7 3 rfl rfl)
theorem dX3_next_169 : decode cX3_next 169 = .ok (.aload_n 0, 1) := dk_42 (dk_at dksX3_next_7 4 rfl rfl)
theorem dX3_next_170 : decode cX3_next 170 = .ok (.getfield 92, 3) := dk_180 0 92 (dk_at dksX3_next_7 5 rfl rfl)
theorem dX3_next_173 : decode cX3_next 173 = .ok (.aload_n 0, 1) := dk_42 (dk_at dksX3_next_7 8 rfl rfl)
theorem dX3_next_174 : decode cX3_next 174 = .ok (.getfield 99, 3) := dk_180 0 99 (dk_at dksX3_next_7 9 rfl rfl)
theorem dX3_next_177 : decode cX3_next 177 = .ok (.isub, 1) := dk_100 (dk_at dksX3_next_7 12 rfl rfl)
theorem dX3_next_178 : decode cX3_next 178 = .ok (.bipush 6, 2) := dk_16 6 (dk_at dksX3_next_7 13 rfl rfl)
theorem dX3_next_180 : decode cX3_next 180 = .ok (.if_icmp .le 7, 3) := dk_164 0 7 (dk_at dksX3_next_7 15 rfl rfl)
theorem dX3_next_183 : decode cX3_next 183 = .ok (.iconst 1, 1) := dk_4 (dk_at dksX3_next_7 18 rfl rfl)
theorem dX3_next_184 : decode cX3_next 184 = .ok (.goto 4, 3) := dk_167 0 4 (dk_at dksX3_next_7 19 rfl rfl)
theorem dX3_next_187 : decode cX3_next 187 = .ok (.iconst 2, 1) := dk_5 (dk_at dksX3_next_7 22 rfl rfl)
theorem dX3_next_188 : decode cX3_next 188 = .ok (.putfield 109, 3) := dk_181 0 109 (dk_at dksX3_next_8 0 rfl rfl)
theorem dX3_next_191 : decode cX3_next 191 = .ok (.goto 179, 3) := dk_167 0 179 (dk_at dksX3_next_8 3 rfl rfl)
theorem dX3_next_194 : decode cX3_next 194 = .ok (.iload_n 1, 1) := dk_27 (dk_at dksX3_next_8 6 rfl rfl)
theorem dX3_next_195 : decode cX3_next 195 = .ok (.bipush 48, 2) := dk_16 48 (dk_at dksX3_next_8 7 rfl rfl)
theorem dX3_next_197 : decode cX3_next 197 = .ok (.bipush 57, 2) := dk_16 57 (dk_at dksX3_next_8 9 rfl rfl)
theorem dX3_next_199 : decode cX3_next 199 = .ok (.invokestatic 85, 3) := dk_184 0 85 (dk_at dksX3_next_8 11 rfl rfl)
theorem dX3_next_202 : decode cX3_next 202 = .ok (.ifCond .eq 102, 3) := dk_153 0 102 (dk_at dksX3_next_8 14 rfl rfl)
theorem dX3_next_205 : decode cX3_next 205 = .ok (.aload_n 0, 1) := dk_42 (dk_at dksX3_next_8 17 rfl rfl)
theorem dX3_next_206 : decode cX3_next 206 = .ok (.aload_n 0, 1) := dk_42 (dk_at dksX3_next_8 18 rfl rfl)
theorem dX3_next_207 : decode cX3_next 207 = .ok (.getfield 92, 3) := dk_180 0 92 (dk_at dksX3_next_8 19 rfl rfl)
theorem dX3_next_210 : decode cX3_next 210 = .ok (.invokevirtual 95, 3) := dk_182 0 95 (dk_at dksX3_next_9 0 rfl rfl)
theorem dX3_next_213 : decode cX3_next 213 = .ok (.bipush 48, 2) := dk_16 48 (dk_at dksX3_next_9 3 rfl rfl)
theorem dX3_next_215 : decode cX3_next 215 = .ok (.bipush 57, 2) := dk_16 57 (dk_at dksX3_next_9 5 rfl rfl)
theorem dX3_next_217 : decode cX3_next 217 = .ok (.invokestatic 85, 3) := dk_184 0 85 (dk_at dksX3_next_9 7 rfl rfl)
theorem dX3_next_220 : decode cX3_next 220 = .ok (.ifCond .eq 59, 3) := dk_153 0 59 (dk_at dksX3_next_9 10 rfl rfl)
theorem dX3_next_223 : decode cX3_next 223 = .ok (.aload_n 0, 1) := dk_42 (dk_at dksX3_next_9 13 rfl rfl)
theorem dX3_next_224 : decode cX3_next 224 = .ok (.aload_n 0, 1) := dk_42 (dk_at dksX3_next_9 14 rfl rfl)
theorem dX3_next_225 : decode cX3_next 225 = .ok (.getfield 92, 3) := dk_180 0 92 (dk_at dksX3_next_9 15 rfl rfl)
theorem dX3_next_228 : decode cX3_next 228 = .ok (.aload_n 0, 1) := dk_42 (dk_at dksX3_next_9 18 rfl rfl)
theorem dX3_next_229 : decode cX3_next 229 = .ok (.getfield 99, 3) := dk_180 0 99 (dk_at dksX3_next_9 19 rfl rfl)
theorem dX3_next_232 : decode cX3_next 232 = .ok (.isub, 1) := dk_100 (dk_at dksX3_next_9 22 rfl rfl)
theorem dX3_next_233 : decode cX3_next 233 = .ok (.iconst 3, 1) := dk_6 (dk_at dksX3_next_9 23 rfl rfl)
theorem dX3_next_234 : decode cX3_next 234 = .ok (.if_icmp .ge 25, 3) := dk_162 0 25 (dk_at dksX3_next_10 0 rfl rfl)
theorem dX3_next_237 : decode cX3_next 237 = .ok (.bipush 10, 2) := dk_16 10 (dk_at dksX3_next_10 3 rfl rfl)
theorem dX3_next_239 : decode cX3_next 239 = .ok (.aload_n 0, 1) := dk_42 (dk_at dksX3_next_10 5 rfl rfl)
theorem dX3_next_240 : decode cX3_next 240 = .ok (.getfield 102, 3) := dk_180 0 102 (dk_at dksX3_next_10 6 rfl rfl)
theorem dX3_next_243 : decode cX3_next 243 = .ok (.imul, 1) := dk_104 (dk_at dksX3_next_10 9 rfl rfl)
theorem dX3_next_244 : decode cX3_next 244 = .ok (.aload_n 0, 1) := dk_42 (dk_at dksX3_next_10 10 rfl rfl)
theorem dX3_next_245 : decode cX3_next 245 = .ok (.aload_n 0, 1) := dk_42 (dk_at dksX3_next_10 11 rfl rfl)
theorem dX3_next_246 : decode cX3_next 246 = .ok (.getfield 92, 3) := dk_180 0 92 (dk_at dksX3_next_10 12 rfl rfl)
theorem dX3_next_249 : decode cX3_next 249 = .ok (.invokevirtual 95, 3) := dk_182 0 95 (dk_at dksX3_next_10 15 rfl rfl)
theorem dX3_next_252 : decode cX3_next 252 = .ok (.iadd, 1) := dk_96 (dk_at dksX3_next_10 18 rfl rfl)
theorem dX3_next_253 : decode cX3_next 253 = .ok (.bipush 48, 2) := dk_16 48 (dk_at dksX3_next_10 19 rfl rfl)
theorem dX3_next_255 : decode cX3_next 255 = .ok (.isub, 1) := dk_100 (dk_at dksX3_next_10 21 rfl rfl)
theorem dX3_next_256 : decode cX3_next 256 = .ok (.goto 7, 3) := dk_167 0 7 (dk_at dksX3_next_11 0 rfl rfl)
theorem dX3_next_259 : decode cX3_next 259 = .ok (.aload_n 0, 1) := dk_42 (dk_at dksX3_next_11 3 rfl rfl)
theorem dX3_next_260 : decode cX3_next 260 = .ok (.getfield 102, 3) := dk_180 0 102 (dk_at dksX3_next_11 4 rfl rfl)
theorem dX3_next_263 : decode cX3_next 263 = .ok (.putfield 102, 3) := dk_181 0 102 (dk_at dksX3_next_11 7 rfl rfl)
theorem dX3_next_266 : decode cX3_next 266 = .ok (.aload_n 0, 1) := dk_42 (dk_at dksX3_next_11 10 rfl rfl)
theorem dX3_next_267 : decode cX3_next 267 = .ok (.dup, 1) := dk_89 (dk_at dksX3_next_11 11 rfl rfl)
theorem dX3_next_268 : decode cX3_next 268 = .ok (.getfield 92, 3) := dk_180 0 92 (dk_at dksX3_next_11 12 rfl rfl)
theorem dX3_next_271 : decode cX3_next 271 = .ok (.iconst 1, 1) := dk_4 (dk_at dksX3_next_11 15 rfl rfl)
theorem dX3_next_272 : decode cX3_next 272 = .ok (.iadd, 1) := dk_96 (dk_at dksX3_next_11 16 rfl rfl)
theorem dX3_next_273 : decode cX3_next 273 = .ok (.putfield 92, 3) := dk_181 0 92 (dk_at dksX3_next_11 17 rfl rfl)
theorem dX3_next_276 : decode cX3_next 276 = .ok (.goto (-71), 3) := dk_167 255 185 (dk_at dksX3_next_11 20 rfl rfl)
theorem dX3_next_279 : decode cX3_next 279 = .ok (.aload_n 0, 1) := dk_42 (dk_at dksX3_next_11 23 rfl rfl)
theorem dX3_next_280 : decode cX3_next 280 = .ok (.aload_n 0, 1) := dk_42 (dk_at dksX3_next_12 0 rfl rfl)
theorem dX3_next_281 : decode cX3_next 281 = .ok (.getfield 92, 3) := dk_180 0 92 (dk_at dksX3_next_12 1 rfl rfl)
theorem dX3_next_284 : decode cX3_next 284 = .ok (.aload_n 0, 1) := dk_42 (dk_at dksX3_next_12 4 rfl rfl)
theorem dX3_next_285 : decode cX3_next 285 = .ok (.getfield 99, 3) := dk_180 0 99 (dk_at dksX3_next_12 5 rfl rfl)
theorem dX3_next_288 : decode cX3_next 288 = .ok (.isub, 1) := dk_100 (dk_at dksX3_next_12 8 rfl rfl)
theorem dX3_next_289 : decode cX3_next 289 = .ok (.iconst 3, 1) := dk_6 (dk_at dksX3_next_12 9 rfl rfl)
theorem dX3_next_290 : decode cX3_next 290 = .ok (.if_icmp .le 7, 3) := dk_164 0 7 (dk_at dksX3_next_12 10 rfl rfl)
theorem dX3_next_293 : decode cX3_next 293 = .ok (.iconst 1, 1) := dk_4 (dk_at dksX3_next_12 13 rfl rfl)
theorem dX3_next_294 : decode cX3_next 294 = .ok (.goto 4, 3) := dk_167 0 4 (dk_at dksX3_next_12 14 rfl rfl)
theorem dX3_next_297 : decode cX3_next 297 = .ok (.iconst 3, 1) := dk_6 (dk_at dksX3_next_12 17 rfl rfl)
theorem dX3_next_298 : decode cX3_next 298 = .ok (.putfield 109, 3) := dk_181 0 109 (dk_at dksX3_next_12 18 rfl rfl)
theorem dX3_next_301 : decode cX3_next 301 = .ok (.goto 69, 3) := dk_167 0 69 (dk_at dksX3_next_12 21 rfl rfl)
theorem dX3_next_304 : decode cX3_next 304 = .ok (.aload_n 0, 1) := dk_42 (dk_at dksX3_next_13 0 rfl rfl)
theorem dX3_next_305 : decode cX3_next 305 = .ok (.dup, 1) := dk_89 (dk_at dksX3_next_13 1 rfl rfl)
theorem dX3_next_306 : decode cX3_next 306 = .ok (.getfield 92, 3) := dk_180 0 92 (dk_at dksX3_next_13 2 rfl rfl)
theorem dX3_next_309 : decode cX3_next 309 = .ok (.iconst 1, 1) := dk_4 (dk_at dksX3_next_13 5 rfl rfl)
theorem dX3_next_310 : decode cX3_next 310 = .ok (.iadd, 1) := dk_96 (dk_at dksX3_next_13 6 rfl rfl)
theorem dX3_next_311 : decode cX3_next 311 = .ok (.putfield 92, 3) := dk_181 0 92 (dk_at dksX3_next_13 7 rfl rfl)
theorem dX3_next_314 : decode cX3_next 314 = .ok (.aload_n 0, 1) := dk_42 (dk_at dksX3_next_13 10 rfl rfl)
theorem dX3_next_315 : decode cX3_next 315 = .ok (.iload_n 1, 1) := dk_27 (dk_at dksX3_next_13 11 rfl rfl)
theorem dX3_next_316 : decode cX3_next 316 = .ok (.putfield 102, 3) := dk_181 0 102 (dk_at dksX3_next_13 12 rfl rfl)
theorem dX3_next_319 : decode cX3_next 319 = .ok (.aload_n 0, 1) := dk_42 (dk_at dksX3_next_13 15 rfl rfl)
theorem dX3_next_320 : decode cX3_next 320 = .ok (.iload_n 1, 1) := dk_27 (dk_at dksX3_next_13 16 rfl rfl)
theorem dX3_next_321 : decode cX3_next 321 = .ok (.bipush 33, 2) := dk_16 33 (dk_at dksX3_next_13 17 rfl rfl)
theorem dX3_next_323 : decode cX3_next 323 = .ok (.if_icmp .eq 39, 3) := dk_159 0 39 (dk_at dksX3_next_13 19 rfl rfl)
theorem dX3_next_326 : decode cX3_next 326 = .ok (.iload_n 1, 1) := dk_27 (dk_at dksX3_next_13 22 rfl rfl)
theorem dX3_next_327 : decode cX3_next 327 = .ok (.bipush 38, 2) := dk_16 38 (dk_at dksX3_next_14 0 rfl rfl)
theorem dX3_next_329 : decode cX3_next 329 = .ok (.if_icmp .eq 33, 3) := dk_159 0 33 (dk_at dksX3_next_14 2 rfl rfl)
theorem dX3_next_332 : decode cX3_next 332 = .ok (.iload_n 1, 1) := dk_27 (dk_at dksX3_next_14 5 rfl rfl)
theorem dX3_next_333 : decode cX3_next 333 = .ok (.bipush 124, 2) := dk_16 124 (dk_at dksX3_next_14 6 rfl rfl)
theorem dX3_next_335 : decode cX3_next 335 = .ok (.if_icmp .eq 27, 3) := dk_159 0 27 (dk_at dksX3_next_14 8 rfl rfl)
theorem dX3_next_338 : decode cX3_next 338 = .ok (.iload_n 1, 1) := dk_27 (dk_at dksX3_next_14 11 rfl rfl)
theorem dX3_next_339 : decode cX3_next 339 = .ok (.bipush 40, 2) := dk_16 40 (dk_at dksX3_next_14 12 rfl rfl)
theorem dX3_next_341 : decode cX3_next 341 = .ok (.if_icmp .eq 21, 3) := dk_159 0 21 (dk_at dksX3_next_14 14 rfl rfl)
theorem dX3_next_344 : decode cX3_next 344 = .ok (.iload_n 1, 1) := dk_27 (dk_at dksX3_next_14 17 rfl rfl)
theorem dX3_next_345 : decode cX3_next 345 = .ok (.bipush 41, 2) := dk_16 41 (dk_at dksX3_next_14 18 rfl rfl)
theorem dX3_next_347 : decode cX3_next 347 = .ok (.if_icmp .eq 15, 3) := dk_159 0 15 (dk_at dksX3_next_14 20 rfl rfl)
theorem dX3_next_350 : decode cX3_next 350 = .ok (.iload_n 1, 1) := dk_27 (dk_at dksX3_next_14 23 rfl rfl)
theorem dX3_next_351 : decode cX3_next 351 = .ok (.bipush 44, 2) := dk_16 44 (dk_at dksX3_next_15 0 rfl rfl)
theorem dX3_next_353 : decode cX3_next 353 = .ok (.if_icmp .eq 9, 3) := dk_159 0 9 (dk_at dksX3_next_15 2 rfl rfl)
theorem dX3_next_356 : decode cX3_next 356 = .ok (.iload_n 1, 1) := dk_27 (dk_at dksX3_next_15 5 rfl rfl)
theorem dX3_next_357 : decode cX3_next 357 = .ok (.bipush 59, 2) := dk_16 59 (dk_at dksX3_next_15 6 rfl rfl)
theorem dX3_next_359 : decode cX3_next 359 = .ok (.if_icmp .ne 7, 3) := dk_160 0 7 (dk_at dksX3_next_15 8 rfl rfl)
theorem dX3_next_362 : decode cX3_next 362 = .ok (.iconst 4, 1) := dk_7 (dk_at dksX3_next_15 11 rfl rfl)
theorem dX3_next_363 : decode cX3_next 363 = .ok (.goto 4, 3) := dk_167 0 4 (dk_at dksX3_next_15 12 rfl rfl)
theorem dX3_next_366 : decode cX3_next 366 = .ok (.iconst 1, 1) := dk_4 (dk_at dksX3_next_15 15 rfl rfl)
theorem dX3_next_367 : decode cX3_next 367 = .ok (.putfield 109, 3) := dk_181 0 109 (dk_at dksX3_next_15 16 rfl rfl)
theorem dX3_next_370 : decode cX3_next 370 = .ok (.return_, 1) := dk_177 (dk_at dksX3_next_15 19 rfl rfl)
abbrev cX3_see : ByteArray := prog_18_method_7_code
def yX3_see : MethodName := ⟨RX3, "see", "(I)I"⟩
def dkwX3_see_0 : List UInt8 := [27, 42, 180, 0, 89, 162, 0, 12, 42, 180, 0, 36, 27, 46, 167, 0, 4, 2, 172]
abbrev dktX3_see_0 : List UInt8 := dkwX3_see_0 ++ []
theorem dksX3_see_0 : cX3_see.data.toList.drop 0 = dktX3_see_0 := by decide +kernel
theorem dX3_see_0 : decode cX3_see 0 = .ok (.iload_n 1, 1) := dk_27 (dk_at dksX3_see_0 0 rfl rfl)
theorem dX3_see_1 : decode cX3_see 1 = .ok (.aload_n 0, 1) := dk_42 (dk_at dksX3_see_0 1 rfl rfl)
theorem dX3_see_2 : decode cX3_see 2 = .ok (.getfield 89, 3) := dk_180 0 89 (dk_at dksX3_see_0 2 rfl rfl)
theorem dX3_see_5 : decode cX3_see 5 = .ok (.if_icmp .ge 12, 3) := dk_162 0 12 (dk_at dksX3_see_0 5 rfl rfl)
theorem dX3_see_8 : decode cX3_see 8 = .ok (.aload_n 0, 1) := dk_42 (dk_at dksX3_see_0 8 rfl rfl)
theorem dX3_see_9 : decode cX3_see 9 = .ok (.getfield 36, 3) := dk_180 0 36 (dk_at dksX3_see_0 9 rfl rfl)
theorem dX3_see_12 : decode cX3_see 12 = .ok (.iload_n 1, 1) := dk_27 (dk_at dksX3_see_0 12 rfl rfl)
theorem dX3_see_13 : decode cX3_see 13 = .ok (.iaload, 1) := dk_46 (dk_at dksX3_see_0 13 rfl rfl)
theorem dX3_see_14 : decode cX3_see 14 = .ok (.goto 4, 3) := dk_167 0 4 (dk_at dksX3_see_0 14 rfl rfl)
theorem dX3_see_17 : decode cX3_see 17 = .ok (.iconst (-1), 1) := dk_2 (dk_at dksX3_see_0 17 rfl rfl)
theorem dX3_see_18 : decode cX3_see 18 = .ok (.ireturn, 1) := dk_172 (dk_at dksX3_see_0 18 rfl rfl)
abbrev cX3_readLine : ByteArray := prog_18_method_38_code
def yX3_readLine : MethodName := ⟨RX3, "readLine", "()V"⟩
def dkwX3_readLine_5 : List UInt8 := [182, 0, 165, 42, 180, 0, 13, 3, 92, 46, 4, 96, 79, 177]
abbrev dktX3_readLine_5 : List UInt8 := dkwX3_readLine_5 ++ []
def dkwX3_readLine_4 : List UInt8 := [182, 1, 6, 167, 0, 24, 42, 18, 155, 182, 0, 135, 153, 0, 10, 42, 182, 1, 9, 167, 0, 8, 42, 4]
abbrev dktX3_readLine_4 : List UInt8 := dkwX3_readLine_4 ++ dktX3_readLine_5
def dkwX3_readLine_3 : List UInt8 := [182, 0, 135, 153, 0, 10, 42, 182, 1, 3, 167, 0, 40, 42, 18, 153, 182, 0, 135, 153, 0, 10, 42]
abbrev dktX3_readLine_3 : List UInt8 := dkwX3_readLine_3 ++ dktX3_readLine_4
def dkwX3_readLine_2 : List UInt8 := [167, 0, 72, 42, 18, 149, 182, 0, 135, 153, 0, 10, 42, 182, 1, 0, 167, 0, 56, 42, 18, 151]
abbrev dktX3_readLine_2 : List UInt8 := dkwX3_readLine_2 ++ dktX3_readLine_3
def dkwX3_readLine_1 : List UInt8 := [153, 0, 10, 42, 182, 0, 250, 167, 0, 88, 42, 18, 141, 182, 0, 135, 153, 0, 10, 42, 182, 0, 253]
abbrev dktX3_readLine_1 : List UInt8 := dkwX3_readLine_1 ++ dktX3_readLine_2
def dkwX3_readLine_0 : List UInt8 := [42, 18, 133, 182, 0, 135, 153, 0, 10, 42, 182, 0, 247, 167, 0, 104, 42, 18, 139, 182, 0, 135]
abbrev dktX3_readLine_0 : List UInt8 := dkwX3_readLine_0 ++ dktX3_readLine_1
theorem dksX3_readLine_0 : cX3_readLine.data.toList.drop 0 = dktX3_readLine_0 := by decide +kernel
theorem dksX3_readLine_1 : cX3_readLine.data.toList.drop 22 = dktX3_readLine_1 := dk_seg dksX3_readLine_0 22 rfl rfl
theorem dksX3_readLine_2 : cX3_readLine.data.toList.drop 45 = dktX3_readLine_2 := dk_seg dksX3_readLine_1 23 rfl rfl
theorem dksX3_readLine_3 : cX3_readLine.data.toList.drop 67 = dktX3_readLine_3 := dk_seg dksX3_readLine_2 22 rfl rfl
theorem dksX3_readLine_4 : cX3_readLine.data.toList.drop 90 = dktX3_readLine_4 := dk_seg dksX3_readLine_3 23 rfl rfl
theorem dksX3_readLine_5 : cX3_readLine.data.toList.drop 114 = dktX3_readLine_5 := dk_seg dksX3_readLine_4 24 rfl rfl
theorem dX3_readLine_0 : decode cX3_readLine 0 = .ok (.aload_n 0, 1) := dk_42 (dk_at dksX3_readLine_0 0 rfl rfl)
theorem dX3_readLine_1 : decode cX3_readLine 1 = .ok (.ldc 133, 2) := dk_18 133 (dk_at dksX3_readLine_0 1 rfl rfl)
theorem dX3_readLine_3 : decode cX3_readLine 3 = .ok (.invokevirtual 135, 3) := dk_182 0 135 (dk_at dksX3_readLine_0 3 rfl rfl)
theorem dX3_readLine_6 : decode cX3_readLine 6 = .ok (.ifCond .eq 10, 3) := dk_153 0 10 (dk_at dksX3_readLine_0 6 rfl rfl)
theorem dX3_readLine_9 : decode cX3_readLine 9 = .ok (.aload_n 0, 1) := dk_42 (dk_at dksX3_readLine_0 9 rfl rfl)
theorem dX3_readLine_10 : decode cX3_readLine 10 = .ok (.invokevirtual 247, 3) := dk_182 0 247 (dk_at dksX3_readLine_0 10 rfl rfl)
theorem dX3_readLine_13 : decode cX3_readLine 13 = .ok (.goto 104, 3) := dk_167 0 104 (dk_at dksX3_readLine_0 13 rfl rfl)
theorem dX3_readLine_16 : decode cX3_readLine 16 = .ok (.aload_n 0, 1) := dk_42 (dk_at dksX3_readLine_0 16 rfl rfl)
theorem dX3_readLine_17 : decode cX3_readLine 17 = .ok (.ldc 139, 2) := dk_18 139 (dk_at dksX3_readLine_0 17 rfl rfl)
theorem dX3_readLine_19 : decode cX3_readLine 19 = .ok (.invokevirtual 135, 3) := dk_182 0 135 (dk_at dksX3_readLine_0 19 rfl rfl)
theorem dX3_readLine_22 : decode cX3_readLine 22 = .ok (.ifCond .eq 10, 3) := dk_153 0 10 (dk_at dksX3_readLine_1 0 rfl rfl)
theorem dX3_readLine_25 : decode cX3_readLine 25 = .ok (.aload_n 0, 1) := dk_42 (dk_at dksX3_readLine_1 3 rfl rfl)
theorem dX3_readLine_26 : decode cX3_readLine 26 = .ok (.invokevirtual 250, 3) := dk_182 0 250 (dk_at dksX3_readLine_1 4 rfl rfl)
theorem dX3_readLine_29 : decode cX3_readLine 29 = .ok (.goto 88, 3) := dk_167 0 88 (dk_at dksX3_readLine_1 7 rfl rfl)
theorem dX3_readLine_32 : decode cX3_readLine 32 = .ok (.aload_n 0, 1) := dk_42 (dk_at dksX3_readLine_1 10 rfl rfl)
theorem dX3_readLine_33 : decode cX3_readLine 33 = .ok (.ldc 141, 2) := dk_18 141 (dk_at dksX3_readLine_1 11 rfl rfl)
theorem dX3_readLine_35 : decode cX3_readLine 35 = .ok (.invokevirtual 135, 3) := dk_182 0 135 (dk_at dksX3_readLine_1 13 rfl rfl)
theorem dX3_readLine_38 : decode cX3_readLine 38 = .ok (.ifCond .eq 10, 3) := dk_153 0 10 (dk_at dksX3_readLine_1 16 rfl rfl)
theorem dX3_readLine_41 : decode cX3_readLine 41 = .ok (.aload_n 0, 1) := dk_42 (dk_at dksX3_readLine_1 19 rfl rfl)
theorem dX3_readLine_42 : decode cX3_readLine 42 = .ok (.invokevirtual 253, 3) := dk_182 0 253 (dk_at dksX3_readLine_1 20 rfl rfl)
theorem dX3_readLine_45 : decode cX3_readLine 45 = .ok (.goto 72, 3) := dk_167 0 72 (dk_at dksX3_readLine_2 0 rfl rfl)
theorem dX3_readLine_48 : decode cX3_readLine 48 = .ok (.aload_n 0, 1) := dk_42 (dk_at dksX3_readLine_2 3 rfl rfl)
theorem dX3_readLine_49 : decode cX3_readLine 49 = .ok (.ldc 149, 2) := dk_18 149 (dk_at dksX3_readLine_2 4 rfl rfl)
theorem dX3_readLine_51 : decode cX3_readLine 51 = .ok (.invokevirtual 135, 3) := dk_182 0 135 (dk_at dksX3_readLine_2 6 rfl rfl)
theorem dX3_readLine_54 : decode cX3_readLine 54 = .ok (.ifCond .eq 10, 3) := dk_153 0 10 (dk_at dksX3_readLine_2 9 rfl rfl)
theorem dX3_readLine_57 : decode cX3_readLine 57 = .ok (.aload_n 0, 1) := dk_42 (dk_at dksX3_readLine_2 12 rfl rfl)
theorem dX3_readLine_58 : decode cX3_readLine 58 = .ok (.invokevirtual 256, 3) := dk_182 1 0 (dk_at dksX3_readLine_2 13 rfl rfl)
theorem dX3_readLine_61 : decode cX3_readLine 61 = .ok (.goto 56, 3) := dk_167 0 56 (dk_at dksX3_readLine_2 16 rfl rfl)
theorem dX3_readLine_64 : decode cX3_readLine 64 = .ok (.aload_n 0, 1) := dk_42 (dk_at dksX3_readLine_2 19 rfl rfl)
theorem dX3_readLine_65 : decode cX3_readLine 65 = .ok (.ldc 151, 2) := dk_18 151 (dk_at dksX3_readLine_2 20 rfl rfl)
theorem dX3_readLine_67 : decode cX3_readLine 67 = .ok (.invokevirtual 135, 3) := dk_182 0 135 (dk_at dksX3_readLine_3 0 rfl rfl)
theorem dX3_readLine_70 : decode cX3_readLine 70 = .ok (.ifCond .eq 10, 3) := dk_153 0 10 (dk_at dksX3_readLine_3 3 rfl rfl)
theorem dX3_readLine_73 : decode cX3_readLine 73 = .ok (.aload_n 0, 1) := dk_42 (dk_at dksX3_readLine_3 6 rfl rfl)
theorem dX3_readLine_74 : decode cX3_readLine 74 = .ok (.invokevirtual 259, 3) := dk_182 1 3 (dk_at dksX3_readLine_3 7 rfl rfl)
theorem dX3_readLine_77 : decode cX3_readLine 77 = .ok (.goto 40, 3) := dk_167 0 40 (dk_at dksX3_readLine_3 10 rfl rfl)
theorem dX3_readLine_80 : decode cX3_readLine 80 = .ok (.aload_n 0, 1) := dk_42 (dk_at dksX3_readLine_3 13 rfl rfl)
theorem dX3_readLine_81 : decode cX3_readLine 81 = .ok (.ldc 153, 2) := dk_18 153 (dk_at dksX3_readLine_3 14 rfl rfl)
theorem dX3_readLine_83 : decode cX3_readLine 83 = .ok (.invokevirtual 135, 3) := dk_182 0 135 (dk_at dksX3_readLine_3 16 rfl rfl)
theorem dX3_readLine_86 : decode cX3_readLine 86 = .ok (.ifCond .eq 10, 3) := dk_153 0 10 (dk_at dksX3_readLine_3 19 rfl rfl)
theorem dX3_readLine_89 : decode cX3_readLine 89 = .ok (.aload_n 0, 1) := dk_42 (dk_at dksX3_readLine_3 22 rfl rfl)
theorem dX3_readLine_90 : decode cX3_readLine 90 = .ok (.invokevirtual 262, 3) := dk_182 1 6 (dk_at dksX3_readLine_4 0 rfl rfl)
theorem dX3_readLine_93 : decode cX3_readLine 93 = .ok (.goto 24, 3) := dk_167 0 24 (dk_at dksX3_readLine_4 3 rfl rfl)
theorem dX3_readLine_96 : decode cX3_readLine 96 = .ok (.aload_n 0, 1) := dk_42 (dk_at dksX3_readLine_4 6 rfl rfl)
theorem dX3_readLine_97 : decode cX3_readLine 97 = .ok (.ldc 155, 2) := dk_18 155 (dk_at dksX3_readLine_4 7 rfl rfl)
theorem dX3_readLine_99 : decode cX3_readLine 99 = .ok (.invokevirtual 135, 3) := dk_182 0 135 (dk_at dksX3_readLine_4 9 rfl rfl)
theorem dX3_readLine_102 : decode cX3_readLine 102 = .ok (.ifCond .eq 10, 3) := dk_153 0 10 (dk_at dksX3_readLine_4 12 rfl rfl)
theorem dX3_readLine_105 : decode cX3_readLine 105 = .ok (.aload_n 0, 1) := dk_42 (dk_at dksX3_readLine_4 15 rfl rfl)
theorem dX3_readLine_106 : decode cX3_readLine 106 = .ok (.invokevirtual 265, 3) := dk_182 1 9 (dk_at dksX3_readLine_4 16 rfl rfl)
theorem dX3_readLine_109 : decode cX3_readLine 109 = .ok (.goto 8, 3) := dk_167 0 8 (dk_at dksX3_readLine_4 19 rfl rfl)
theorem dX3_readLine_112 : decode cX3_readLine 112 = .ok (.aload_n 0, 1) := dk_42 (dk_at dksX3_readLine_4 22 rfl rfl)
theorem dX3_readLine_113 : decode cX3_readLine 113 = .ok (.iconst 1, 1) := dk_4 (dk_at dksX3_readLine_4 23 rfl rfl)
theorem dX3_readLine_114 : decode cX3_readLine 114 = .ok (.invokevirtual 165, 3) := dk_182 0 165 (dk_at dksX3_readLine_5 0 rfl rfl)
theorem dX3_readLine_117 : decode cX3_readLine 117 = .ok (.aload_n 0, 1) := dk_42 (dk_at dksX3_readLine_5 3 rfl rfl)
theorem dX3_readLine_118 : decode cX3_readLine 118 = .ok (.getfield 13, 3) := dk_180 0 13 (dk_at dksX3_readLine_5 4 rfl rfl)
theorem dX3_readLine_121 : decode cX3_readLine 121 = .ok (.iconst 0, 1) := dk_3 (dk_at dksX3_readLine_5 7 rfl rfl)
theorem dX3_readLine_122 : decode cX3_readLine 122 = .ok (.dup2, 1) := dk_92 (dk_at dksX3_readLine_5 8 rfl rfl)
theorem dX3_readLine_123 : decode cX3_readLine 123 = .ok (.iaload, 1) := dk_46 (dk_at dksX3_readLine_5 9 rfl rfl)
theorem dX3_readLine_124 : decode cX3_readLine 124 = .ok (.iconst 1, 1) := dk_4 (dk_at dksX3_readLine_5 10 rfl rfl)
theorem dX3_readLine_125 : decode cX3_readLine 125 = .ok (.iadd, 1) := dk_96 (dk_at dksX3_readLine_5 11 rfl rfl)
theorem dX3_readLine_126 : decode cX3_readLine 126 = .ok (.iastore, 1) := dk_79 (dk_at dksX3_readLine_5 12 rfl rfl)
theorem dX3_readLine_127 : decode cX3_readLine 127 = .ok (.return_, 1) := dk_177 (dk_at dksX3_readLine_5 13 rfl rfl)
abbrev cX3_isWord : ByteArray := prog_18_method_10_code
def yX3_isWord : MethodName := ⟨RX3, "isWord", "(Ljava/lang/String;)Z"⟩
def dkwX3_isWord_1 : List UInt8 := [154, 0, 7, 4, 167, 0, 4, 3, 172]
abbrev dktX3_isWord_1 : List UInt8 := dkwX3_isWord_1 ++ []
def dkwX3_isWord_0 : List UInt8 := [42, 180, 0, 126, 154, 0, 27, 42, 180, 0, 109, 5, 160, 0, 19, 42, 180, 0, 105, 43, 184, 0, 129, 148]
abbrev dktX3_isWord_0 : List UInt8 := dkwX3_isWord_0 ++ dktX3_isWord_1
theorem dksX3_isWord_0 : cX3_isWord.data.toList.drop 0 = dktX3_isWord_0 := by decide +kernel
theorem dksX3_isWord_1 : cX3_isWord.data.toList.drop 24 = dktX3_isWord_1 := dk_seg dksX3_isWord_0 24 rfl rfl
theorem dX3_isWord_0 : decode cX3_isWord 0 = .ok (.aload_n 0, 1) := dk_42 (dk_at dksX3_isWord_0 0 rfl rfl)
theorem dX3_isWord_1 : decode cX3_isWord 1 = .ok (.getfield 126, 3) := dk_180 0 126 (dk_at dksX3_isWord_0 1 rfl rfl)
theorem dX3_isWord_4 : decode cX3_isWord 4 = .ok (.ifCond .ne 27, 3) := dk_154 0 27 (dk_at dksX3_isWord_0 4 rfl rfl)
theorem dX3_isWord_7 : decode cX3_isWord 7 = .ok (.aload_n 0, 1) := dk_42 (dk_at dksX3_isWord_0 7 rfl rfl)
theorem dX3_isWord_8 : decode cX3_isWord 8 = .ok (.getfield 109, 3) := dk_180 0 109 (dk_at dksX3_isWord_0 8 rfl rfl)
theorem dX3_isWord_11 : decode cX3_isWord 11 = .ok (.iconst 2, 1) := dk_5 (dk_at dksX3_isWord_0 11 rfl rfl)
theorem dX3_isWord_12 : decode cX3_isWord 12 = .ok (.if_icmp .ne 19, 3) := dk_160 0 19 (dk_at dksX3_isWord_0 12 rfl rfl)
theorem dX3_isWord_15 : decode cX3_isWord 15 = .ok (.aload_n 0, 1) := dk_42 (dk_at dksX3_isWord_0 15 rfl rfl)
theorem dX3_isWord_16 : decode cX3_isWord 16 = .ok (.getfield 105, 3) := dk_180 0 105 (dk_at dksX3_isWord_0 16 rfl rfl)
theorem dX3_isWord_19 : decode cX3_isWord 19 = .ok (.aload_n 1, 1) := dk_43 (dk_at dksX3_isWord_0 19 rfl rfl)
theorem dX3_isWord_20 : decode cX3_isWord 20 = .ok (.invokestatic 129, 3) := dk_184 0 129 (dk_at dksX3_isWord_0 20 rfl rfl)
theorem dX3_isWord_23 : decode cX3_isWord 23 = .ok (.lcmp, 1) := dk_148 (dk_at dksX3_isWord_0 23 rfl rfl)
theorem dX3_isWord_24 : decode cX3_isWord 24 = .ok (.ifCond .ne 7, 3) := dk_154 0 7 (dk_at dksX3_isWord_1 0 rfl rfl)
theorem dX3_isWord_27 : decode cX3_isWord 27 = .ok (.iconst 1, 1) := dk_4 (dk_at dksX3_isWord_1 3 rfl rfl)
theorem dX3_isWord_28 : decode cX3_isWord 28 = .ok (.goto 4, 3) := dk_167 0 4 (dk_at dksX3_isWord_1 4 rfl rfl)
theorem dX3_isWord_31 : decode cX3_isWord 31 = .ok (.iconst 0, 1) := dk_3 (dk_at dksX3_isWord_1 7 rfl rfl)
theorem dX3_isWord_32 : decode cX3_isWord 32 = .ok (.ireturn, 1) := dk_172 (dk_at dksX3_isWord_1 8 rfl rfl)
abbrev cX3_spelled : ByteArray := prog_18_method_9_code
def yX3_spelled : MethodName := ⟨RX3, "spelled", "(Ljava/lang/String;)J"⟩
def dkwX3_spelled_1 : List UInt8 := [20, 0, 114, 101, 64, 132, 3, 1, 167, 255, 228, 31, 173]
abbrev dktX3_spelled_1 : List UInt8 := dkwX3_spelled_1 ++ []
def dkwX3_spelled_0 : List UInt8 := [9, 64, 3, 62, 29, 42, 182, 0, 116, 162, 0, 26, 20, 0, 112, 31, 105, 42, 29, 182, 0, 122, 133, 97]
abbrev dktX3_spelled_0 : List UInt8 := dkwX3_spelled_0 ++ dktX3_spelled_1
theorem dksX3_spelled_0 : cX3_spelled.data.toList.drop 0 = dktX3_spelled_0 := by decide +kernel
theorem dksX3_spelled_1 : cX3_spelled.data.toList.drop 24 = dktX3_spelled_1 := dk_seg dksX3_spelled_0 24 rfl rfl
theorem dX3_spelled_0 : decode cX3_spelled 0 = .ok (.lconst 0, 1) := dk_9 (dk_at dksX3_spelled_0 0 rfl rfl)
theorem dX3_spelled_1 : decode cX3_spelled 1 = .ok (.lstore_n 1, 1) := dk_64 (dk_at dksX3_spelled_0 1 rfl rfl)
theorem dX3_spelled_2 : decode cX3_spelled 2 = .ok (.iconst 0, 1) := dk_3 (dk_at dksX3_spelled_0 2 rfl rfl)
theorem dX3_spelled_3 : decode cX3_spelled 3 = .ok (.istore_n 3, 1) := dk_62 (dk_at dksX3_spelled_0 3 rfl rfl)
theorem dX3_spelled_4 : decode cX3_spelled 4 = .ok (.iload_n 3, 1) := dk_29 (dk_at dksX3_spelled_0 4 rfl rfl)
theorem dX3_spelled_5 : decode cX3_spelled 5 = .ok (.aload_n 0, 1) := dk_42 (dk_at dksX3_spelled_0 5 rfl rfl)
theorem dX3_spelled_6 : decode cX3_spelled 6 = .ok (.invokevirtual 116, 3) := dk_182 0 116 (dk_at dksX3_spelled_0 6 rfl rfl)
theorem dX3_spelled_9 : decode cX3_spelled 9 = .ok (.if_icmp .ge 26, 3) := dk_162 0 26 (dk_at dksX3_spelled_0 9 rfl rfl)
theorem dX3_spelled_12 : decode cX3_spelled 12 = .ok (.ldc2_w 112, 3) := dk_20 0 112 (dk_at dksX3_spelled_0 12 rfl rfl)
theorem dX3_spelled_15 : decode cX3_spelled 15 = .ok (.lload_n 1, 1) := dk_31 (dk_at dksX3_spelled_0 15 rfl rfl)
theorem dX3_spelled_16 : decode cX3_spelled 16 = .ok (.lmul, 1) := dk_105 (dk_at dksX3_spelled_0 16 rfl rfl)
theorem dX3_spelled_17 : decode cX3_spelled 17 = .ok (.aload_n 0, 1) := dk_42 (dk_at dksX3_spelled_0 17 rfl rfl)
theorem dX3_spelled_18 : decode cX3_spelled 18 = .ok (.iload_n 3, 1) := dk_29 (dk_at dksX3_spelled_0 18 rfl rfl)
theorem dX3_spelled_19 : decode cX3_spelled 19 = .ok (.invokevirtual 122, 3) := dk_182 0 122 (dk_at dksX3_spelled_0 19 rfl rfl)
theorem dX3_spelled_22 : decode cX3_spelled 22 = .ok (.i2l, 1) := dk_133 (dk_at dksX3_spelled_0 22 rfl rfl)
theorem dX3_spelled_23 : decode cX3_spelled 23 = .ok (.ladd, 1) := dk_97 (dk_at dksX3_spelled_0 23 rfl rfl)
theorem dX3_spelled_24 : decode cX3_spelled 24 = .ok (.ldc2_w 114, 3) := dk_20 0 114 (dk_at dksX3_spelled_1 0 rfl rfl)
theorem dX3_spelled_27 : decode cX3_spelled 27 = .ok (.lsub, 1) := dk_101 (dk_at dksX3_spelled_1 3 rfl rfl)
theorem dX3_spelled_28 : decode cX3_spelled 28 = .ok (.lstore_n 1, 1) := dk_64 (dk_at dksX3_spelled_1 4 rfl rfl)
theorem dX3_spelled_29 : decode cX3_spelled 29 = .ok (.iinc 3 1, 3) := dk_132 3 1 (dk_at dksX3_spelled_1 5 rfl rfl)
theorem dX3_spelled_32 : decode cX3_spelled 32 = .ok (.goto (-28), 3) := dk_167 255 228 (dk_at dksX3_spelled_1 8 rfl rfl)
theorem dX3_spelled_35 : decode cX3_spelled 35 = .ok (.lload_n 1, 1) := dk_31 (dk_at dksX3_spelled_1 11 rfl rfl)
theorem dX3_spelled_36 : decode cX3_spelled 36 = .ok (.lreturn, 1) := dk_173 (dk_at dksX3_spelled_1 12 rfl rfl)
abbrev cX3_readFact : ByteArray := prog_18_method_31_code
def yX3_readFact : MethodName := ⟨RX3, "readFact", "()V"⟩
def dkwX3_readFact_3 : List UInt8 := [4, 92, 46, 4, 96, 79, 177]
abbrev dktX3_readFact_3 : List UInt8 := dkwX3_readFact_3 ++ []
def dkwX3_readFact_2 : List UInt8 := [182, 0, 209, 42, 180, 0, 126, 154, 0, 23, 42, 180, 0, 13, 16, 8, 27, 96, 28, 79, 42, 180, 0, 13]
abbrev dktX3_readFact_2 : List UInt8 := dkwX3_readFact_2 ++ dktX3_readFact_3
def dkwX3_readFact_1 : List UInt8 := [160, 0, 13, 42, 4, 16, 9, 182, 0, 219, 167, 0, 4, 8, 61, 42, 42, 16, 59, 182, 0, 195]
abbrev dktX3_readFact_1 : List UInt8 := dkwX3_readFact_1 ++ dktX3_readFact_2
def dkwX3_readFact_0 : List UInt8 := [42, 180, 0, 13, 4, 46, 60, 42, 27, 16, 8, 182, 0, 226, 42, 27, 182, 0, 229, 42, 180, 0, 109, 6]
abbrev dktX3_readFact_0 : List UInt8 := dkwX3_readFact_0 ++ dktX3_readFact_1
theorem dksX3_readFact_0 : cX3_readFact.data.toList.drop 0 = dktX3_readFact_0 := by decide +kernel
theorem dksX3_readFact_1 : cX3_readFact.data.toList.drop 24 = dktX3_readFact_1 := dk_seg dksX3_readFact_0 24 rfl rfl
theorem dksX3_readFact_2 : cX3_readFact.data.toList.drop 46 = dktX3_readFact_2 := dk_seg dksX3_readFact_1 22 rfl rfl
theorem dksX3_readFact_3 : cX3_readFact.data.toList.drop 70 = dktX3_readFact_3 := dk_seg dksX3_readFact_2 24 rfl rfl
theorem dX3_readFact_0 : decode cX3_readFact 0 = .ok (.aload_n 0, 1) := dk_42 (dk_at dksX3_readFact_0 0 rfl rfl)
theorem dX3_readFact_1 : decode cX3_readFact 1 = .ok (.getfield 13, 3) := dk_180 0 13 (dk_at dksX3_readFact_0 1 rfl rfl)
theorem dX3_readFact_4 : decode cX3_readFact 4 = .ok (.iconst 1, 1) := dk_4 (dk_at dksX3_readFact_0 4 rfl rfl)
theorem dX3_readFact_5 : decode cX3_readFact 5 = .ok (.iaload, 1) := dk_46 (dk_at dksX3_readFact_0 5 rfl rfl)
theorem dX3_readFact_6 : decode cX3_readFact 6 = .ok (.istore_n 1, 1) := dk_60 (dk_at dksX3_readFact_0 6 rfl rfl)
theorem dX3_readFact_7 : decode cX3_readFact 7 = .ok (.aload_n 0, 1) := dk_42 (dk_at dksX3_readFact_0 7 rfl rfl)
theorem dX3_readFact_8 : decode cX3_readFact 8 = .ok (.iload_n 1, 1) := dk_27 (dk_at dksX3_readFact_0 8 rfl rfl)
theorem dX3_readFact_9 : decode cX3_readFact 9 = .ok (.bipush 8, 2) := dk_16 8 (dk_at dksX3_readFact_0 9 rfl rfl)
theorem dX3_readFact_11 : decode cX3_readFact 11 = .ok (.invokevirtual 226, 3) := dk_182 0 226 (dk_at dksX3_readFact_0 11 rfl rfl)
theorem dX3_readFact_14 : decode cX3_readFact 14 = .ok (.aload_n 0, 1) := dk_42 (dk_at dksX3_readFact_0 14 rfl rfl)
theorem dX3_readFact_15 : decode cX3_readFact 15 = .ok (.iload_n 1, 1) := dk_27 (dk_at dksX3_readFact_0 15 rfl rfl)
theorem dX3_readFact_16 : decode cX3_readFact 16 = .ok (.invokevirtual 229, 3) := dk_182 0 229 (dk_at dksX3_readFact_0 16 rfl rfl)
theorem dX3_readFact_19 : decode cX3_readFact 19 = .ok (.aload_n 0, 1) := dk_42 (dk_at dksX3_readFact_0 19 rfl rfl)
theorem dX3_readFact_20 : decode cX3_readFact 20 = .ok (.getfield 109, 3) := dk_180 0 109 (dk_at dksX3_readFact_0 20 rfl rfl)
theorem dX3_readFact_23 : decode cX3_readFact 23 = .ok (.iconst 3, 1) := dk_6 (dk_at dksX3_readFact_0 23 rfl rfl)
theorem dX3_readFact_24 : decode cX3_readFact 24 = .ok (.if_icmp .ne 13, 3) := dk_160 0 13 (dk_at dksX3_readFact_1 0 rfl rfl)
theorem dX3_readFact_27 : decode cX3_readFact 27 = .ok (.aload_n 0, 1) := dk_42 (dk_at dksX3_readFact_1 3 rfl rfl)
theorem dX3_readFact_28 : decode cX3_readFact 28 = .ok (.iconst 1, 1) := dk_4 (dk_at dksX3_readFact_1 4 rfl rfl)
theorem dX3_readFact_29 : decode cX3_readFact 29 = .ok (.bipush 9, 2) := dk_16 9 (dk_at dksX3_readFact_1 5 rfl rfl)
theorem dX3_readFact_31 : decode cX3_readFact 31 = .ok (.invokevirtual 219, 3) := dk_182 0 219 (dk_at dksX3_readFact_1 7 rfl rfl)
theorem dX3_readFact_34 : decode cX3_readFact 34 = .ok (.goto 4, 3) := dk_167 0 4 (dk_at dksX3_readFact_1 10 rfl rfl)
theorem dX3_readFact_37 : decode cX3_readFact 37 = .ok (.iconst 5, 1) := dk_8 (dk_at dksX3_readFact_1 13 rfl rfl)
theorem dX3_readFact_38 : decode cX3_readFact 38 = .ok (.istore_n 2, 1) := dk_61 (dk_at dksX3_readFact_1 14 rfl rfl)
theorem dX3_readFact_39 : decode cX3_readFact 39 = .ok (.aload_n 0, 1) := dk_42 (dk_at dksX3_readFact_1 15 rfl rfl)
theorem dX3_readFact_40 : decode cX3_readFact 40 = .ok (.aload_n 0, 1) := dk_42 (dk_at dksX3_readFact_1 16 rfl rfl)
theorem dX3_readFact_41 : decode cX3_readFact 41 = .ok (.bipush 59, 2) := dk_16 59 (dk_at dksX3_readFact_1 17 rfl rfl)
theorem dX3_readFact_43 : decode cX3_readFact 43 = .ok (.invokevirtual 195, 3) := dk_182 0 195 (dk_at dksX3_readFact_1 19 rfl rfl)
theorem dX3_readFact_46 : decode cX3_readFact 46 = .ok (.invokevirtual 209, 3) := dk_182 0 209 (dk_at dksX3_readFact_2 0 rfl rfl)
theorem dX3_readFact_49 : decode cX3_readFact 49 = .ok (.aload_n 0, 1) := dk_42 (dk_at dksX3_readFact_2 3 rfl rfl)
theorem dX3_readFact_50 : decode cX3_readFact 50 = .ok (.getfield 126, 3) := dk_180 0 126 (dk_at dksX3_readFact_2 4 rfl rfl)
theorem dX3_readFact_53 : decode cX3_readFact 53 = .ok (.ifCond .ne 23, 3) := dk_154 0 23 (dk_at dksX3_readFact_2 7 rfl rfl)
theorem dX3_readFact_56 : decode cX3_readFact 56 = .ok (.aload_n 0, 1) := dk_42 (dk_at dksX3_readFact_2 10 rfl rfl)
theorem dX3_readFact_57 : decode cX3_readFact 57 = .ok (.getfield 13, 3) := dk_180 0 13 (dk_at dksX3_readFact_2 11 rfl rfl)
theorem dX3_readFact_60 : decode cX3_readFact 60 = .ok (.bipush 8, 2) := dk_16 8 (dk_at dksX3_readFact_2 14 rfl rfl)
theorem dX3_readFact_62 : decode cX3_readFact 62 = .ok (.iload_n 1, 1) := dk_27 (dk_at dksX3_readFact_2 16 rfl rfl)
theorem dX3_readFact_63 : decode cX3_readFact 63 = .ok (.iadd, 1) := dk_96 (dk_at dksX3_readFact_2 17 rfl rfl)
theorem dX3_readFact_64 : decode cX3_readFact 64 = .ok (.iload_n 2, 1) := dk_28 (dk_at dksX3_readFact_2 18 rfl rfl)
theorem dX3_readFact_65 : decode cX3_readFact 65 = .ok (.iastore, 1) := dk_79 (dk_at dksX3_readFact_2 19 rfl rfl)
theorem dX3_readFact_66 : decode cX3_readFact 66 = .ok (.aload_n 0, 1) := dk_42 (dk_at dksX3_readFact_2 20 rfl rfl)
theorem dX3_readFact_67 : decode cX3_readFact 67 = .ok (.getfield 13, 3) := dk_180 0 13 (dk_at dksX3_readFact_2 21 rfl rfl)
theorem dX3_readFact_70 : decode cX3_readFact 70 = .ok (.iconst 1, 1) := dk_4 (dk_at dksX3_readFact_3 0 rfl rfl)
theorem dX3_readFact_71 : decode cX3_readFact 71 = .ok (.dup2, 1) := dk_92 (dk_at dksX3_readFact_3 1 rfl rfl)
theorem dX3_readFact_72 : decode cX3_readFact 72 = .ok (.iaload, 1) := dk_46 (dk_at dksX3_readFact_3 2 rfl rfl)
theorem dX3_readFact_73 : decode cX3_readFact 73 = .ok (.iconst 1, 1) := dk_4 (dk_at dksX3_readFact_3 3 rfl rfl)
theorem dX3_readFact_74 : decode cX3_readFact 74 = .ok (.iadd, 1) := dk_96 (dk_at dksX3_readFact_3 4 rfl rfl)
theorem dX3_readFact_75 : decode cX3_readFact 75 = .ok (.iastore, 1) := dk_79 (dk_at dksX3_readFact_3 5 rfl rfl)
theorem dX3_readFact_76 : decode cX3_readFact 76 = .ok (.return_, 1) := dk_177 (dk_at dksX3_readFact_3 6 rfl rfl)
abbrev cX3_room : ByteArray := prog_18_method_17_code
def yX3_room : MethodName := ⟨RX3, "room", "(II)V"⟩
def dkwX3_room_0 : List UInt8 := [27, 28, 160, 0, 8, 42, 7, 182, 0, 165, 42, 182, 0, 169, 177]
abbrev dktX3_room_0 : List UInt8 := dkwX3_room_0 ++ []
theorem dksX3_room_0 : cX3_room.data.toList.drop 0 = dktX3_room_0 := by decide +kernel
theorem dX3_room_0 : decode cX3_room 0 = .ok (.iload_n 1, 1) := dk_27 (dk_at dksX3_room_0 0 rfl rfl)
theorem dX3_room_1 : decode cX3_room 1 = .ok (.iload_n 2, 1) := dk_28 (dk_at dksX3_room_0 1 rfl rfl)
theorem dX3_room_2 : decode cX3_room 2 = .ok (.if_icmp .ne 8, 3) := dk_160 0 8 (dk_at dksX3_room_0 2 rfl rfl)
theorem dX3_room_5 : decode cX3_room 5 = .ok (.aload_n 0, 1) := dk_42 (dk_at dksX3_room_0 5 rfl rfl)
theorem dX3_room_6 : decode cX3_room 6 = .ok (.iconst 4, 1) := dk_7 (dk_at dksX3_room_0 6 rfl rfl)
theorem dX3_room_7 : decode cX3_room 7 = .ok (.invokevirtual 165, 3) := dk_182 0 165 (dk_at dksX3_room_0 7 rfl rfl)
theorem dX3_room_10 : decode cX3_room 10 = .ok (.aload_n 0, 1) := dk_42 (dk_at dksX3_room_0 10 rfl rfl)
theorem dX3_room_11 : decode cX3_room 11 = .ok (.invokevirtual 169, 3) := dk_182 0 169 (dk_at dksX3_room_0 11 rfl rfl)
theorem dX3_room_14 : decode cX3_room 14 = .ok (.return_, 1) := dk_177 (dk_at dksX3_room_0 14 rfl rfl)
abbrev cX3_wrong : ByteArray := prog_18_method_13_code
def yX3_wrong : MethodName := ⟨RX3, "wrong", "(I)V"⟩
def dkwX3_wrong_1 : List UInt8 := [181, 0, 126, 42, 42, 180, 0, 99, 181, 0, 159, 177]
abbrev dktX3_wrong_1 : List UInt8 := dkwX3_wrong_1 ++ []
def dkwX3_wrong_0 : List UInt8 := [42, 180, 0, 126, 153, 0, 4, 177, 42, 42, 180, 0, 109, 4, 160, 0, 7, 4, 167, 0, 4, 27]
abbrev dktX3_wrong_0 : List UInt8 := dkwX3_wrong_0 ++ dktX3_wrong_1
theorem dksX3_wrong_0 : cX3_wrong.data.toList.drop 0 = dktX3_wrong_0 := by decide +kernel
theorem dksX3_wrong_1 : cX3_wrong.data.toList.drop 22 = dktX3_wrong_1 := dk_seg dksX3_wrong_0 22 rfl rfl
theorem dX3_wrong_0 : decode cX3_wrong 0 = .ok (.aload_n 0, 1) := dk_42 (dk_at dksX3_wrong_0 0 rfl rfl)
theorem dX3_wrong_1 : decode cX3_wrong 1 = .ok (.getfield 126, 3) := dk_180 0 126 (dk_at dksX3_wrong_0 1 rfl rfl)
theorem dX3_wrong_4 : decode cX3_wrong 4 = .ok (.ifCond .eq 4, 3) := dk_153 0 4 (dk_at dksX3_wrong_0 4 rfl rfl)
theorem dX3_wrong_7 : decode cX3_wrong 7 = .ok (.return_, 1) := dk_177 (dk_at dksX3_wrong_0 7 rfl rfl)
theorem dX3_wrong_8 : decode cX3_wrong 8 = .ok (.aload_n 0, 1) := dk_42 (dk_at dksX3_wrong_0 8 rfl rfl)
theorem dX3_wrong_9 : decode cX3_wrong 9 = .ok (.aload_n 0, 1) := dk_42 (dk_at dksX3_wrong_0 9 rfl rfl)
theorem dX3_wrong_10 : decode cX3_wrong 10 = .ok (.getfield 109, 3) := dk_180 0 109 (dk_at dksX3_wrong_0 10 rfl rfl)
theorem dX3_wrong_13 : decode cX3_wrong 13 = .ok (.iconst 1, 1) := dk_4 (dk_at dksX3_wrong_0 13 rfl rfl)
theorem dX3_wrong_14 : decode cX3_wrong 14 = .ok (.if_icmp .ne 7, 3) := dk_160 0 7 (dk_at dksX3_wrong_0 14 rfl rfl)
theorem dX3_wrong_17 : decode cX3_wrong 17 = .ok (.iconst 1, 1) := dk_4 (dk_at dksX3_wrong_0 17 rfl rfl)
theorem dX3_wrong_18 : decode cX3_wrong 18 = .ok (.goto 4, 3) := dk_167 0 4 (dk_at dksX3_wrong_0 18 rfl rfl)
theorem dX3_wrong_21 : decode cX3_wrong 21 = .ok (.iload_n 1, 1) := dk_27 (dk_at dksX3_wrong_0 21 rfl rfl)
theorem dX3_wrong_22 : decode cX3_wrong 22 = .ok (.putfield 126, 3) := dk_181 0 126 (dk_at dksX3_wrong_1 0 rfl rfl)
theorem dX3_wrong_25 : decode cX3_wrong 25 = .ok (.aload_n 0, 1) := dk_42 (dk_at dksX3_wrong_1 3 rfl rfl)
theorem dX3_wrong_26 : decode cX3_wrong 26 = .ok (.aload_n 0, 1) := dk_42 (dk_at dksX3_wrong_1 4 rfl rfl)
theorem dX3_wrong_27 : decode cX3_wrong 27 = .ok (.getfield 99, 3) := dk_180 0 99 (dk_at dksX3_wrong_1 5 rfl rfl)
theorem dX3_wrong_30 : decode cX3_wrong 30 = .ok (.putfield 159, 3) := dk_181 0 159 (dk_at dksX3_wrong_1 8 rfl rfl)
theorem dX3_wrong_33 : decode cX3_wrong 33 = .ok (.return_, 1) := dk_177 (dk_at dksX3_wrong_1 11 rfl rfl)
abbrev cX3_passes : ByteArray := prog_18_method_14_code
def yX3_passes : MethodName := ⟨RX3, "passes", "()V"⟩
def dkwX3_passes_0 : List UInt8 := [42, 180, 0, 126, 154, 0, 7, 42, 182, 0, 162, 177]
abbrev dktX3_passes_0 : List UInt8 := dkwX3_passes_0 ++ []
theorem dksX3_passes_0 : cX3_passes.data.toList.drop 0 = dktX3_passes_0 := by decide +kernel
theorem dX3_passes_0 : decode cX3_passes 0 = .ok (.aload_n 0, 1) := dk_42 (dk_at dksX3_passes_0 0 rfl rfl)
theorem dX3_passes_1 : decode cX3_passes 1 = .ok (.getfield 126, 3) := dk_180 0 126 (dk_at dksX3_passes_0 1 rfl rfl)
theorem dX3_passes_4 : decode cX3_passes 4 = .ok (.ifCond .ne 7, 3) := dk_154 0 7 (dk_at dksX3_passes_0 4 rfl rfl)
theorem dX3_passes_7 : decode cX3_passes 7 = .ok (.aload_n 0, 1) := dk_42 (dk_at dksX3_passes_0 7 rfl rfl)
theorem dX3_passes_8 : decode cX3_passes 8 = .ok (.invokevirtual 162, 3) := dk_182 0 162 (dk_at dksX3_passes_0 8 rfl rfl)
theorem dX3_passes_11 : decode cX3_passes 11 = .ok (.return_, 1) := dk_177 (dk_at dksX3_passes_0 11 rfl rfl)
abbrev cX3_newName : ByteArray := prog_18_method_22_code
def yX3_newName : MethodName := ⟨RX3, "newName", "(I)V"⟩
def dkwX3_newName_2 : List UInt8 := [180, 0, 105, 80, 42, 182, 0, 169, 177]
abbrev dktX3_newName_2 : List UInt8 := dkwX3_newName_2 ++ []
def dkwX3_newName_1 : List UInt8 := [2, 159, 0, 8, 42, 6, 182, 0, 165, 42, 180, 0, 126, 154, 0, 13, 42, 180, 0, 20, 27, 42]
abbrev dktX3_newName_1 : List UInt8 := dkwX3_newName_1 ++ dktX3_newName_2
def dkwX3_newName_0 : List UInt8 := [42, 182, 0, 172, 154, 0, 8, 42, 4, 182, 0, 165, 42, 182, 0, 176, 2, 160, 0, 11, 42, 182, 0, 179]
abbrev dktX3_newName_0 : List UInt8 := dkwX3_newName_0 ++ dktX3_newName_1
theorem dksX3_newName_0 : cX3_newName.data.toList.drop 0 = dktX3_newName_0 := by decide +kernel
theorem dksX3_newName_1 : cX3_newName.data.toList.drop 24 = dktX3_newName_1 := dk_seg dksX3_newName_0 24 rfl rfl
theorem dksX3_newName_2 : cX3_newName.data.toList.drop 46 = dktX3_newName_2 := dk_seg dksX3_newName_1 22 rfl rfl
theorem dX3_newName_0 : decode cX3_newName 0 = .ok (.aload_n 0, 1) := dk_42 (dk_at dksX3_newName_0 0 rfl rfl)
theorem dX3_newName_1 : decode cX3_newName 1 = .ok (.invokevirtual 172, 3) := dk_182 0 172 (dk_at dksX3_newName_0 1 rfl rfl)
theorem dX3_newName_4 : decode cX3_newName 4 = .ok (.ifCond .ne 8, 3) := dk_154 0 8 (dk_at dksX3_newName_0 4 rfl rfl)
theorem dX3_newName_7 : decode cX3_newName 7 = .ok (.aload_n 0, 1) := dk_42 (dk_at dksX3_newName_0 7 rfl rfl)
theorem dX3_newName_8 : decode cX3_newName 8 = .ok (.iconst 1, 1) := dk_4 (dk_at dksX3_newName_0 8 rfl rfl)
theorem dX3_newName_9 : decode cX3_newName 9 = .ok (.invokevirtual 165, 3) := dk_182 0 165 (dk_at dksX3_newName_0 9 rfl rfl)
theorem dX3_newName_12 : decode cX3_newName 12 = .ok (.aload_n 0, 1) := dk_42 (dk_at dksX3_newName_0 12 rfl rfl)
theorem dX3_newName_13 : decode cX3_newName 13 = .ok (.invokevirtual 176, 3) := dk_182 0 176 (dk_at dksX3_newName_0 13 rfl rfl)
theorem dX3_newName_16 : decode cX3_newName 16 = .ok (.iconst (-1), 1) := dk_2 (dk_at dksX3_newName_0 16 rfl rfl)
theorem dX3_newName_17 : decode cX3_newName 17 = .ok (.if_icmp .ne 11, 3) := dk_160 0 11 (dk_at dksX3_newName_0 17 rfl rfl)
theorem dX3_newName_20 : decode cX3_newName 20 = .ok (.aload_n 0, 1) := dk_42 (dk_at dksX3_newName_0 20 rfl rfl)
theorem dX3_newName_21 : decode cX3_newName 21 = .ok (.invokevirtual 179, 3) := dk_182 0 179 (dk_at dksX3_newName_0 21 rfl rfl)
theorem dX3_newName_24 : decode cX3_newName 24 = .ok (.iconst (-1), 1) := dk_2 (dk_at dksX3_newName_1 0 rfl rfl)
theorem dX3_newName_25 : decode cX3_newName 25 = .ok (.if_icmp .eq 8, 3) := dk_159 0 8 (dk_at dksX3_newName_1 1 rfl rfl)
theorem dX3_newName_28 : decode cX3_newName 28 = .ok (.aload_n 0, 1) := dk_42 (dk_at dksX3_newName_1 4 rfl rfl)
theorem dX3_newName_29 : decode cX3_newName 29 = .ok (.iconst 3, 1) := dk_6 (dk_at dksX3_newName_1 5 rfl rfl)
theorem dX3_newName_30 : decode cX3_newName 30 = .ok (.invokevirtual 165, 3) := dk_182 0 165 (dk_at dksX3_newName_1 6 rfl rfl)
theorem dX3_newName_33 : decode cX3_newName 33 = .ok (.aload_n 0, 1) := dk_42 (dk_at dksX3_newName_1 9 rfl rfl)
theorem dX3_newName_34 : decode cX3_newName 34 = .ok (.getfield 126, 3) := dk_180 0 126 (dk_at dksX3_newName_1 10 rfl rfl)
theorem dX3_newName_37 : decode cX3_newName 37 = .ok (.ifCond .ne 13, 3) := dk_154 0 13 (dk_at dksX3_newName_1 13 rfl rfl)
theorem dX3_newName_40 : decode cX3_newName 40 = .ok (.aload_n 0, 1) := dk_42 (dk_at dksX3_newName_1 16 rfl rfl)
theorem dX3_newName_41 : decode cX3_newName 41 = .ok (.getfield 20, 3) := dk_180 0 20 (dk_at dksX3_newName_1 17 rfl rfl)
theorem dX3_newName_44 : decode cX3_newName 44 = .ok (.iload_n 1, 1) := dk_27 (dk_at dksX3_newName_1 20 rfl rfl)
theorem dX3_newName_45 : decode cX3_newName 45 = .ok (.aload_n 0, 1) := dk_42 (dk_at dksX3_newName_1 21 rfl rfl)
theorem dX3_newName_46 : decode cX3_newName 46 = .ok (.getfield 105, 3) := dk_180 0 105 (dk_at dksX3_newName_2 0 rfl rfl)
theorem dX3_newName_49 : decode cX3_newName 49 = .ok (.lastore, 1) := dk_80 (dk_at dksX3_newName_2 3 rfl rfl)
theorem dX3_newName_50 : decode cX3_newName 50 = .ok (.aload_n 0, 1) := dk_42 (dk_at dksX3_newName_2 4 rfl rfl)
theorem dX3_newName_51 : decode cX3_newName 51 = .ok (.invokevirtual 169, 3) := dk_182 0 169 (dk_at dksX3_newName_2 5 rfl rfl)
theorem dX3_newName_54 : decode cX3_newName 54 = .ok (.return_, 1) := dk_177 (dk_at dksX3_newName_2 8 rfl rfl)
abbrev cX3_isName : ByteArray := prog_18_method_12_code
def yX3_isName : MethodName := ⟨RX3, "isName", "()Z"⟩
def dkwX3_isName_4 : List UInt8 := [182, 0, 135, 154, 0, 16, 42, 18, 157, 182, 0, 135, 154, 0, 7, 4, 167, 0, 4, 3, 172]
abbrev dktX3_isName_4 : List UInt8 := dkwX3_isName_4 ++ []
def dkwX3_isName_3 : List UInt8 := [154, 0, 43, 42, 18, 151, 182, 0, 135, 154, 0, 34, 42, 18, 153, 182, 0, 135, 154, 0, 25, 42, 18, 155]
abbrev dktX3_isName_3 : List UInt8 := dkwX3_isName_3 ++ dktX3_isName_4
def dkwX3_isName_2 : List UInt8 := [182, 0, 135, 154, 0, 12, 42, 18, 147, 182, 0, 135, 153, 0, 5, 3, 172, 42, 18, 149, 182, 0, 135]
abbrev dktX3_isName_2 : List UInt8 := dkwX3_isName_2 ++ dktX3_isName_3
def dkwX3_isName_1 : List UInt8 := [154, 0, 39, 42, 18, 141, 182, 0, 135, 154, 0, 30, 42, 18, 143, 182, 0, 135, 154, 0, 21, 42, 18, 145]
abbrev dktX3_isName_1 : List UInt8 := dkwX3_isName_1 ++ dktX3_isName_2
def dkwX3_isName_0 : List UInt8 := [42, 180, 0, 109, 5, 160, 0, 57, 42, 18, 133, 182, 0, 135, 154, 0, 48, 42, 18, 139, 182, 0, 135]
abbrev dktX3_isName_0 : List UInt8 := dkwX3_isName_0 ++ dktX3_isName_1
theorem dksX3_isName_0 : cX3_isName.data.toList.drop 0 = dktX3_isName_0 := by decide +kernel
theorem dksX3_isName_1 : cX3_isName.data.toList.drop 23 = dktX3_isName_1 := dk_seg dksX3_isName_0 23 rfl rfl
theorem dksX3_isName_2 : cX3_isName.data.toList.drop 47 = dktX3_isName_2 := dk_seg dksX3_isName_1 24 rfl rfl
theorem dksX3_isName_3 : cX3_isName.data.toList.drop 70 = dktX3_isName_3 := dk_seg dksX3_isName_2 23 rfl rfl
theorem dksX3_isName_4 : cX3_isName.data.toList.drop 94 = dktX3_isName_4 := dk_seg dksX3_isName_3 24 rfl rfl
theorem dX3_isName_0 : decode cX3_isName 0 = .ok (.aload_n 0, 1) := dk_42 (dk_at dksX3_isName_0 0 rfl rfl)
theorem dX3_isName_1 : decode cX3_isName 1 = .ok (.getfield 109, 3) := dk_180 0 109 (dk_at dksX3_isName_0 1 rfl rfl)
theorem dX3_isName_4 : decode cX3_isName 4 = .ok (.iconst 2, 1) := dk_5 (dk_at dksX3_isName_0 4 rfl rfl)
theorem dX3_isName_5 : decode cX3_isName 5 = .ok (.if_icmp .ne 57, 3) := dk_160 0 57 (dk_at dksX3_isName_0 5 rfl rfl)
theorem dX3_isName_8 : decode cX3_isName 8 = .ok (.aload_n 0, 1) := dk_42 (dk_at dksX3_isName_0 8 rfl rfl)
theorem dX3_isName_9 : decode cX3_isName 9 = .ok (.ldc 133, 2) := dk_18 133 (dk_at dksX3_isName_0 9 rfl rfl)
theorem dX3_isName_11 : decode cX3_isName 11 = .ok (.invokevirtual 135, 3) := dk_182 0 135 (dk_at dksX3_isName_0 11 rfl rfl)
theorem dX3_isName_14 : decode cX3_isName 14 = .ok (.ifCond .ne 48, 3) := dk_154 0 48 (dk_at dksX3_isName_0 14 rfl rfl)
theorem dX3_isName_17 : decode cX3_isName 17 = .ok (.aload_n 0, 1) := dk_42 (dk_at dksX3_isName_0 17 rfl rfl)
theorem dX3_isName_18 : decode cX3_isName 18 = .ok (.ldc 139, 2) := dk_18 139 (dk_at dksX3_isName_0 18 rfl rfl)
theorem dX3_isName_20 : decode cX3_isName 20 = .ok (.invokevirtual 135, 3) := dk_182 0 135 (dk_at dksX3_isName_0 20 rfl rfl)
theorem dX3_isName_23 : decode cX3_isName 23 = .ok (.ifCond .ne 39, 3) := dk_154 0 39 (dk_at dksX3_isName_1 0 rfl rfl)
theorem dX3_isName_26 : decode cX3_isName 26 = .ok (.aload_n 0, 1) := dk_42 (dk_at dksX3_isName_1 3 rfl rfl)
theorem dX3_isName_27 : decode cX3_isName 27 = .ok (.ldc 141, 2) := dk_18 141 (dk_at dksX3_isName_1 4 rfl rfl)
theorem dX3_isName_29 : decode cX3_isName 29 = .ok (.invokevirtual 135, 3) := dk_182 0 135 (dk_at dksX3_isName_1 6 rfl rfl)
theorem dX3_isName_32 : decode cX3_isName 32 = .ok (.ifCond .ne 30, 3) := dk_154 0 30 (dk_at dksX3_isName_1 9 rfl rfl)
theorem dX3_isName_35 : decode cX3_isName 35 = .ok (.aload_n 0, 1) := dk_42 (dk_at dksX3_isName_1 12 rfl rfl)
theorem dX3_isName_36 : decode cX3_isName 36 = .ok (.ldc 143, 2) := dk_18 143 (dk_at dksX3_isName_1 13 rfl rfl)
theorem dX3_isName_38 : decode cX3_isName 38 = .ok (.invokevirtual 135, 3) := dk_182 0 135 (dk_at dksX3_isName_1 15 rfl rfl)
theorem dX3_isName_41 : decode cX3_isName 41 = .ok (.ifCond .ne 21, 3) := dk_154 0 21 (dk_at dksX3_isName_1 18 rfl rfl)
theorem dX3_isName_44 : decode cX3_isName 44 = .ok (.aload_n 0, 1) := dk_42 (dk_at dksX3_isName_1 21 rfl rfl)
theorem dX3_isName_45 : decode cX3_isName 45 = .ok (.ldc 145, 2) := dk_18 145 (dk_at dksX3_isName_1 22 rfl rfl)
theorem dX3_isName_47 : decode cX3_isName 47 = .ok (.invokevirtual 135, 3) := dk_182 0 135 (dk_at dksX3_isName_2 0 rfl rfl)
theorem dX3_isName_50 : decode cX3_isName 50 = .ok (.ifCond .ne 12, 3) := dk_154 0 12 (dk_at dksX3_isName_2 3 rfl rfl)
theorem dX3_isName_53 : decode cX3_isName 53 = .ok (.aload_n 0, 1) := dk_42 (dk_at dksX3_isName_2 6 rfl rfl)
theorem dX3_isName_54 : decode cX3_isName 54 = .ok (.ldc 147, 2) := dk_18 147 (dk_at dksX3_isName_2 7 rfl rfl)
theorem dX3_isName_56 : decode cX3_isName 56 = .ok (.invokevirtual 135, 3) := dk_182 0 135 (dk_at dksX3_isName_2 9 rfl rfl)
theorem dX3_isName_59 : decode cX3_isName 59 = .ok (.ifCond .eq 5, 3) := dk_153 0 5 (dk_at dksX3_isName_2 12 rfl rfl)
theorem dX3_isName_62 : decode cX3_isName 62 = .ok (.iconst 0, 1) := dk_3 (dk_at dksX3_isName_2 15 rfl rfl)
theorem dX3_isName_63 : decode cX3_isName 63 = .ok (.ireturn, 1) := dk_172 (dk_at dksX3_isName_2 16 rfl rfl)
theorem dX3_isName_64 : decode cX3_isName 64 = .ok (.aload_n 0, 1) := dk_42 (dk_at dksX3_isName_2 17 rfl rfl)
theorem dX3_isName_65 : decode cX3_isName 65 = .ok (.ldc 149, 2) := dk_18 149 (dk_at dksX3_isName_2 18 rfl rfl)
theorem dX3_isName_67 : decode cX3_isName 67 = .ok (.invokevirtual 135, 3) := dk_182 0 135 (dk_at dksX3_isName_2 20 rfl rfl)
theorem dX3_isName_70 : decode cX3_isName 70 = .ok (.ifCond .ne 43, 3) := dk_154 0 43 (dk_at dksX3_isName_3 0 rfl rfl)
theorem dX3_isName_73 : decode cX3_isName 73 = .ok (.aload_n 0, 1) := dk_42 (dk_at dksX3_isName_3 3 rfl rfl)
theorem dX3_isName_74 : decode cX3_isName 74 = .ok (.ldc 151, 2) := dk_18 151 (dk_at dksX3_isName_3 4 rfl rfl)
theorem dX3_isName_76 : decode cX3_isName 76 = .ok (.invokevirtual 135, 3) := dk_182 0 135 (dk_at dksX3_isName_3 6 rfl rfl)
theorem dX3_isName_79 : decode cX3_isName 79 = .ok (.ifCond .ne 34, 3) := dk_154 0 34 (dk_at dksX3_isName_3 9 rfl rfl)
theorem dX3_isName_82 : decode cX3_isName 82 = .ok (.aload_n 0, 1) := dk_42 (dk_at dksX3_isName_3 12 rfl rfl)
theorem dX3_isName_83 : decode cX3_isName 83 = .ok (.ldc 153, 2) := dk_18 153 (dk_at dksX3_isName_3 13 rfl rfl)
theorem dX3_isName_85 : decode cX3_isName 85 = .ok (.invokevirtual 135, 3) := dk_182 0 135 (dk_at dksX3_isName_3 15 rfl rfl)
theorem dX3_isName_88 : decode cX3_isName 88 = .ok (.ifCond .ne 25, 3) := dk_154 0 25 (dk_at dksX3_isName_3 18 rfl rfl)
theorem dX3_isName_91 : decode cX3_isName 91 = .ok (.aload_n 0, 1) := dk_42 (dk_at dksX3_isName_3 21 rfl rfl)
theorem dX3_isName_92 : decode cX3_isName 92 = .ok (.ldc 155, 2) := dk_18 155 (dk_at dksX3_isName_3 22 rfl rfl)
theorem dX3_isName_94 : decode cX3_isName 94 = .ok (.invokevirtual 135, 3) := dk_182 0 135 (dk_at dksX3_isName_4 0 rfl rfl)
theorem dX3_isName_97 : decode cX3_isName 97 = .ok (.ifCond .ne 16, 3) := dk_154 0 16 (dk_at dksX3_isName_4 3 rfl rfl)
theorem dX3_isName_100 : decode cX3_isName 100 = .ok (.aload_n 0, 1) := dk_42 (dk_at dksX3_isName_4 6 rfl rfl)
theorem dX3_isName_101 : decode cX3_isName 101 = .ok (.ldc 157, 2) := dk_18 157 (dk_at dksX3_isName_4 7 rfl rfl)
theorem dX3_isName_103 : decode cX3_isName 103 = .ok (.invokevirtual 135, 3) := dk_182 0 135 (dk_at dksX3_isName_4 9 rfl rfl)
theorem dX3_isName_106 : decode cX3_isName 106 = .ok (.ifCond .ne 7, 3) := dk_154 0 7 (dk_at dksX3_isName_4 12 rfl rfl)
theorem dX3_isName_109 : decode cX3_isName 109 = .ok (.iconst 1, 1) := dk_4 (dk_at dksX3_isName_4 15 rfl rfl)
theorem dX3_isName_110 : decode cX3_isName 110 = .ok (.goto 4, 3) := dk_167 0 4 (dk_at dksX3_isName_4 16 rfl rfl)
theorem dX3_isName_113 : decode cX3_isName 113 = .ok (.iconst 0, 1) := dk_3 (dk_at dksX3_isName_4 19 rfl rfl)
theorem dX3_isName_114 : decode cX3_isName 114 = .ok (.ireturn, 1) := dk_172 (dk_at dksX3_isName_4 20 rfl rfl)
abbrev cX3_factNamed : ByteArray := prog_18_method_18_code
def yX3_factNamed : MethodName := ⟨RX3, "factNamed", "()I"⟩
def dkwX3_factNamed_1 : List UInt8 := [154, 0, 5, 27, 172, 132, 1, 1, 167, 255, 227, 2, 172]
abbrev dktX3_factNamed_1 : List UInt8 := dkwX3_factNamed_1 ++ []
def dkwX3_factNamed_0 : List UInt8 := [3, 60, 27, 42, 180, 0, 13, 4, 46, 162, 0, 25, 42, 180, 0, 20, 27, 47, 42, 180, 0, 105, 148]
abbrev dktX3_factNamed_0 : List UInt8 := dkwX3_factNamed_0 ++ dktX3_factNamed_1
theorem dksX3_factNamed_0 : cX3_factNamed.data.toList.drop 0 = dktX3_factNamed_0 := by decide +kernel
theorem dksX3_factNamed_1 : cX3_factNamed.data.toList.drop 23 = dktX3_factNamed_1 := dk_seg dksX3_factNamed_0 23 rfl rfl
theorem dX3_factNamed_0 : decode cX3_factNamed 0 = .ok (.iconst 0, 1) := dk_3 (dk_at dksX3_factNamed_0 0 rfl rfl)
theorem dX3_factNamed_1 : decode cX3_factNamed 1 = .ok (.istore_n 1, 1) := dk_60 (dk_at dksX3_factNamed_0 1 rfl rfl)
theorem dX3_factNamed_2 : decode cX3_factNamed 2 = .ok (.iload_n 1, 1) := dk_27 (dk_at dksX3_factNamed_0 2 rfl rfl)
theorem dX3_factNamed_3 : decode cX3_factNamed 3 = .ok (.aload_n 0, 1) := dk_42 (dk_at dksX3_factNamed_0 3 rfl rfl)
theorem dX3_factNamed_4 : decode cX3_factNamed 4 = .ok (.getfield 13, 3) := dk_180 0 13 (dk_at dksX3_factNamed_0 4 rfl rfl)
theorem dX3_factNamed_7 : decode cX3_factNamed 7 = .ok (.iconst 1, 1) := dk_4 (dk_at dksX3_factNamed_0 7 rfl rfl)
theorem dX3_factNamed_8 : decode cX3_factNamed 8 = .ok (.iaload, 1) := dk_46 (dk_at dksX3_factNamed_0 8 rfl rfl)
theorem dX3_factNamed_9 : decode cX3_factNamed 9 = .ok (.if_icmp .ge 25, 3) := dk_162 0 25 (dk_at dksX3_factNamed_0 9 rfl rfl)
theorem dX3_factNamed_12 : decode cX3_factNamed 12 = .ok (.aload_n 0, 1) := dk_42 (dk_at dksX3_factNamed_0 12 rfl rfl)
theorem dX3_factNamed_13 : decode cX3_factNamed 13 = .ok (.getfield 20, 3) := dk_180 0 20 (dk_at dksX3_factNamed_0 13 rfl rfl)
theorem dX3_factNamed_16 : decode cX3_factNamed 16 = .ok (.iload_n 1, 1) := dk_27 (dk_at dksX3_factNamed_0 16 rfl rfl)
theorem dX3_factNamed_17 : decode cX3_factNamed 17 = .ok (.laload, 1) := dk_47 (dk_at dksX3_factNamed_0 17 rfl rfl)
theorem dX3_factNamed_18 : decode cX3_factNamed 18 = .ok (.aload_n 0, 1) := dk_42 (dk_at dksX3_factNamed_0 18 rfl rfl)
theorem dX3_factNamed_19 : decode cX3_factNamed 19 = .ok (.getfield 105, 3) := dk_180 0 105 (dk_at dksX3_factNamed_0 19 rfl rfl)
theorem dX3_factNamed_22 : decode cX3_factNamed 22 = .ok (.lcmp, 1) := dk_148 (dk_at dksX3_factNamed_0 22 rfl rfl)
theorem dX3_factNamed_23 : decode cX3_factNamed 23 = .ok (.ifCond .ne 5, 3) := dk_154 0 5 (dk_at dksX3_factNamed_1 0 rfl rfl)
theorem dX3_factNamed_26 : decode cX3_factNamed 26 = .ok (.iload_n 1, 1) := dk_27 (dk_at dksX3_factNamed_1 3 rfl rfl)
theorem dX3_factNamed_27 : decode cX3_factNamed 27 = .ok (.ireturn, 1) := dk_172 (dk_at dksX3_factNamed_1 4 rfl rfl)
theorem dX3_factNamed_28 : decode cX3_factNamed 28 = .ok (.iinc 1 1, 3) := dk_132 1 1 (dk_at dksX3_factNamed_1 5 rfl rfl)
theorem dX3_factNamed_31 : decode cX3_factNamed 31 = .ok (.goto (-29), 3) := dk_167 255 227 (dk_at dksX3_factNamed_1 8 rfl rfl)
theorem dX3_factNamed_34 : decode cX3_factNamed 34 = .ok (.iconst (-1), 1) := dk_2 (dk_at dksX3_factNamed_1 11 rfl rfl)
theorem dX3_factNamed_35 : decode cX3_factNamed 35 = .ok (.ireturn, 1) := dk_172 (dk_at dksX3_factNamed_1 12 rfl rfl)
abbrev cX3_countNamed : ByteArray := prog_18_method_19_code
def yX3_countNamed : MethodName := ⟨RX3, "countNamed", "()I"⟩
def dkwX3_countNamed_1 : List UInt8 := [180, 0, 105, 148, 154, 0, 5, 27, 172, 132, 1, 1, 167, 255, 224, 2, 172]
abbrev dktX3_countNamed_1 : List UInt8 := dkwX3_countNamed_1 ++ []
def dkwX3_countNamed_0 : List UInt8 := [3, 60, 27, 42, 180, 0, 13, 5, 46, 162, 0, 28, 42, 180, 0, 20, 16, 8, 27, 96, 47, 42]
abbrev dktX3_countNamed_0 : List UInt8 := dkwX3_countNamed_0 ++ dktX3_countNamed_1
theorem dksX3_countNamed_0 : cX3_countNamed.data.toList.drop 0 = dktX3_countNamed_0 := by decide +kernel
theorem dksX3_countNamed_1 : cX3_countNamed.data.toList.drop 22 = dktX3_countNamed_1 := dk_seg dksX3_countNamed_0 22 rfl rfl
theorem dX3_countNamed_0 : decode cX3_countNamed 0 = .ok (.iconst 0, 1) := dk_3 (dk_at dksX3_countNamed_0 0 rfl rfl)
theorem dX3_countNamed_1 : decode cX3_countNamed 1 = .ok (.istore_n 1, 1) := dk_60 (dk_at dksX3_countNamed_0 1 rfl rfl)
theorem dX3_countNamed_2 : decode cX3_countNamed 2 = .ok (.iload_n 1, 1) := dk_27 (dk_at dksX3_countNamed_0 2 rfl rfl)
theorem dX3_countNamed_3 : decode cX3_countNamed 3 = .ok (.aload_n 0, 1) := dk_42 (dk_at dksX3_countNamed_0 3 rfl rfl)
theorem dX3_countNamed_4 : decode cX3_countNamed 4 = .ok (.getfield 13, 3) := dk_180 0 13 (dk_at dksX3_countNamed_0 4 rfl rfl)
theorem dX3_countNamed_7 : decode cX3_countNamed 7 = .ok (.iconst 2, 1) := dk_5 (dk_at dksX3_countNamed_0 7 rfl rfl)
theorem dX3_countNamed_8 : decode cX3_countNamed 8 = .ok (.iaload, 1) := dk_46 (dk_at dksX3_countNamed_0 8 rfl rfl)
theorem dX3_countNamed_9 : decode cX3_countNamed 9 = .ok (.if_icmp .ge 28, 3) := dk_162 0 28 (dk_at dksX3_countNamed_0 9 rfl rfl)
theorem dX3_countNamed_12 : decode cX3_countNamed 12 = .ok (.aload_n 0, 1) := dk_42 (dk_at dksX3_countNamed_0 12 rfl rfl)
theorem dX3_countNamed_13 : decode cX3_countNamed 13 = .ok (.getfield 20, 3) := dk_180 0 20 (dk_at dksX3_countNamed_0 13 rfl rfl)
theorem dX3_countNamed_16 : decode cX3_countNamed 16 = .ok (.bipush 8, 2) := dk_16 8 (dk_at dksX3_countNamed_0 16 rfl rfl)
theorem dX3_countNamed_18 : decode cX3_countNamed 18 = .ok (.iload_n 1, 1) := dk_27 (dk_at dksX3_countNamed_0 18 rfl rfl)
theorem dX3_countNamed_19 : decode cX3_countNamed 19 = .ok (.iadd, 1) := dk_96 (dk_at dksX3_countNamed_0 19 rfl rfl)
theorem dX3_countNamed_20 : decode cX3_countNamed 20 = .ok (.laload, 1) := dk_47 (dk_at dksX3_countNamed_0 20 rfl rfl)
theorem dX3_countNamed_21 : decode cX3_countNamed 21 = .ok (.aload_n 0, 1) := dk_42 (dk_at dksX3_countNamed_0 21 rfl rfl)
theorem dX3_countNamed_22 : decode cX3_countNamed 22 = .ok (.getfield 105, 3) := dk_180 0 105 (dk_at dksX3_countNamed_1 0 rfl rfl)
theorem dX3_countNamed_25 : decode cX3_countNamed 25 = .ok (.lcmp, 1) := dk_148 (dk_at dksX3_countNamed_1 3 rfl rfl)
theorem dX3_countNamed_26 : decode cX3_countNamed 26 = .ok (.ifCond .ne 5, 3) := dk_154 0 5 (dk_at dksX3_countNamed_1 4 rfl rfl)
theorem dX3_countNamed_29 : decode cX3_countNamed 29 = .ok (.iload_n 1, 1) := dk_27 (dk_at dksX3_countNamed_1 7 rfl rfl)
theorem dX3_countNamed_30 : decode cX3_countNamed 30 = .ok (.ireturn, 1) := dk_172 (dk_at dksX3_countNamed_1 8 rfl rfl)
theorem dX3_countNamed_31 : decode cX3_countNamed 31 = .ok (.iinc 1 1, 3) := dk_132 1 1 (dk_at dksX3_countNamed_1 9 rfl rfl)
theorem dX3_countNamed_34 : decode cX3_countNamed 34 = .ok (.goto (-32), 3) := dk_167 255 224 (dk_at dksX3_countNamed_1 12 rfl rfl)
theorem dX3_countNamed_37 : decode cX3_countNamed 37 = .ok (.iconst (-1), 1) := dk_2 (dk_at dksX3_countNamed_1 15 rfl rfl)
theorem dX3_countNamed_38 : decode cX3_countNamed 38 = .ok (.ireturn, 1) := dk_172 (dk_at dksX3_countNamed_1 16 rfl rfl)
abbrev cX3_number : ByteArray := prog_18_method_16_code
def yX3_number : MethodName := ⟨RX3, "number", "(II)I"⟩
def dkwX3_number_1 : List UInt8 := [184, 0, 85, 154, 0, 8, 42, 5, 182, 0, 165, 42, 180, 0, 102, 62, 42, 182, 0, 169, 29, 172]
abbrev dktX3_number_1 : List UInt8 := dkwX3_number_1 ++ []
def dkwX3_number_0 : List UInt8 := [42, 180, 0, 109, 6, 159, 0, 11, 42, 4, 182, 0, 165, 167, 0, 20, 42, 180, 0, 102, 27, 28]
abbrev dktX3_number_0 : List UInt8 := dkwX3_number_0 ++ dktX3_number_1
theorem dksX3_number_0 : cX3_number.data.toList.drop 0 = dktX3_number_0 := by decide +kernel
theorem dksX3_number_1 : cX3_number.data.toList.drop 22 = dktX3_number_1 := dk_seg dksX3_number_0 22 rfl rfl
theorem dX3_number_0 : decode cX3_number 0 = .ok (.aload_n 0, 1) := dk_42 (dk_at dksX3_number_0 0 rfl rfl)
theorem dX3_number_1 : decode cX3_number 1 = .ok (.getfield 109, 3) := dk_180 0 109 (dk_at dksX3_number_0 1 rfl rfl)
theorem dX3_number_4 : decode cX3_number 4 = .ok (.iconst 3, 1) := dk_6 (dk_at dksX3_number_0 4 rfl rfl)
theorem dX3_number_5 : decode cX3_number 5 = .ok (.if_icmp .eq 11, 3) := dk_159 0 11 (dk_at dksX3_number_0 5 rfl rfl)
theorem dX3_number_8 : decode cX3_number 8 = .ok (.aload_n 0, 1) := dk_42 (dk_at dksX3_number_0 8 rfl rfl)
theorem dX3_number_9 : decode cX3_number 9 = .ok (.iconst 1, 1) := dk_4 (dk_at dksX3_number_0 9 rfl rfl)
theorem dX3_number_10 : decode cX3_number 10 = .ok (.invokevirtual 165, 3) := dk_182 0 165 (dk_at dksX3_number_0 10 rfl rfl)
theorem dX3_number_13 : decode cX3_number 13 = .ok (.goto 20, 3) := dk_167 0 20 (dk_at dksX3_number_0 13 rfl rfl)
theorem dX3_number_16 : decode cX3_number 16 = .ok (.aload_n 0, 1) := dk_42 (dk_at dksX3_number_0 16 rfl rfl)
theorem dX3_number_17 : decode cX3_number 17 = .ok (.getfield 102, 3) := dk_180 0 102 (dk_at dksX3_number_0 17 rfl rfl)
theorem dX3_number_20 : decode cX3_number 20 = .ok (.iload_n 1, 1) := dk_27 (dk_at dksX3_number_0 20 rfl rfl)
theorem dX3_number_21 : decode cX3_number 21 = .ok (.iload_n 2, 1) := dk_28 (dk_at dksX3_number_0 21 rfl rfl)
theorem dX3_number_22 : decode cX3_number 22 = .ok (.invokestatic 85, 3) := dk_184 0 85 (dk_at dksX3_number_1 0 rfl rfl)
theorem dX3_number_25 : decode cX3_number 25 = .ok (.ifCond .ne 8, 3) := dk_154 0 8 (dk_at dksX3_number_1 3 rfl rfl)
theorem dX3_number_28 : decode cX3_number 28 = .ok (.aload_n 0, 1) := dk_42 (dk_at dksX3_number_1 6 rfl rfl)
theorem dX3_number_29 : decode cX3_number 29 = .ok (.iconst 2, 1) := dk_5 (dk_at dksX3_number_1 7 rfl rfl)
theorem dX3_number_30 : decode cX3_number 30 = .ok (.invokevirtual 165, 3) := dk_182 0 165 (dk_at dksX3_number_1 8 rfl rfl)
theorem dX3_number_33 : decode cX3_number 33 = .ok (.aload_n 0, 1) := dk_42 (dk_at dksX3_number_1 11 rfl rfl)
theorem dX3_number_34 : decode cX3_number 34 = .ok (.getfield 102, 3) := dk_180 0 102 (dk_at dksX3_number_1 12 rfl rfl)
theorem dX3_number_37 : decode cX3_number 37 = .ok (.istore_n 3, 1) := dk_62 (dk_at dksX3_number_1 15 rfl rfl)
theorem dX3_number_38 : decode cX3_number 38 = .ok (.aload_n 0, 1) := dk_42 (dk_at dksX3_number_1 16 rfl rfl)
theorem dX3_number_39 : decode cX3_number 39 = .ok (.invokevirtual 169, 3) := dk_182 0 169 (dk_at dksX3_number_1 17 rfl rfl)
theorem dX3_number_42 : decode cX3_number 42 = .ok (.iload_n 3, 1) := dk_29 (dk_at dksX3_number_1 20 rfl rfl)
theorem dX3_number_43 : decode cX3_number 43 = .ok (.ireturn, 1) := dk_172 (dk_at dksX3_number_1 21 rfl rfl)
abbrev cX3_isSign : ByteArray := prog_18_method_11_code
def yX3_isSign : MethodName := ⟨RX3, "isSign", "(I)Z"⟩
def dkwX3_isSign_1 : List UInt8 := [167, 0, 4, 3, 172]
abbrev dktX3_isSign_1 : List UInt8 := dkwX3_isSign_1 ++ []
def dkwX3_isSign_0 : List UInt8 := [42, 180, 0, 126, 154, 0, 23, 42, 180, 0, 109, 7, 160, 0, 15, 42, 180, 0, 102, 27, 160, 0, 7, 4]
abbrev dktX3_isSign_0 : List UInt8 := dkwX3_isSign_0 ++ dktX3_isSign_1
theorem dksX3_isSign_0 : cX3_isSign.data.toList.drop 0 = dktX3_isSign_0 := by decide +kernel
theorem dksX3_isSign_1 : cX3_isSign.data.toList.drop 24 = dktX3_isSign_1 := dk_seg dksX3_isSign_0 24 rfl rfl
theorem dX3_isSign_0 : decode cX3_isSign 0 = .ok (.aload_n 0, 1) := dk_42 (dk_at dksX3_isSign_0 0 rfl rfl)
theorem dX3_isSign_1 : decode cX3_isSign 1 = .ok (.getfield 126, 3) := dk_180 0 126 (dk_at dksX3_isSign_0 1 rfl rfl)
theorem dX3_isSign_4 : decode cX3_isSign 4 = .ok (.ifCond .ne 23, 3) := dk_154 0 23 (dk_at dksX3_isSign_0 4 rfl rfl)
theorem dX3_isSign_7 : decode cX3_isSign 7 = .ok (.aload_n 0, 1) := dk_42 (dk_at dksX3_isSign_0 7 rfl rfl)
theorem dX3_isSign_8 : decode cX3_isSign 8 = .ok (.getfield 109, 3) := dk_180 0 109 (dk_at dksX3_isSign_0 8 rfl rfl)
theorem dX3_isSign_11 : decode cX3_isSign 11 = .ok (.iconst 4, 1) := dk_7 (dk_at dksX3_isSign_0 11 rfl rfl)
theorem dX3_isSign_12 : decode cX3_isSign 12 = .ok (.if_icmp .ne 15, 3) := dk_160 0 15 (dk_at dksX3_isSign_0 12 rfl rfl)
theorem dX3_isSign_15 : decode cX3_isSign 15 = .ok (.aload_n 0, 1) := dk_42 (dk_at dksX3_isSign_0 15 rfl rfl)
theorem dX3_isSign_16 : decode cX3_isSign 16 = .ok (.getfield 102, 3) := dk_180 0 102 (dk_at dksX3_isSign_0 16 rfl rfl)
theorem dX3_isSign_19 : decode cX3_isSign 19 = .ok (.iload_n 1, 1) := dk_27 (dk_at dksX3_isSign_0 19 rfl rfl)
theorem dX3_isSign_20 : decode cX3_isSign 20 = .ok (.if_icmp .ne 7, 3) := dk_160 0 7 (dk_at dksX3_isSign_0 20 rfl rfl)
theorem dX3_isSign_23 : decode cX3_isSign 23 = .ok (.iconst 1, 1) := dk_4 (dk_at dksX3_isSign_0 23 rfl rfl)
theorem dX3_isSign_24 : decode cX3_isSign 24 = .ok (.goto 4, 3) := dk_167 0 4 (dk_at dksX3_isSign_1 0 rfl rfl)
theorem dX3_isSign_27 : decode cX3_isSign 27 = .ok (.iconst 0, 1) := dk_3 (dk_at dksX3_isSign_1 3 rfl rfl)
theorem dX3_isSign_28 : decode cX3_isSign 28 = .ok (.ireturn, 1) := dk_172 (dk_at dksX3_isSign_1 4 rfl rfl)
abbrev cX3_must : ByteArray := prog_18_method_15_code
def yX3_must : MethodName := ⟨RX3, "must", "(Z)V"⟩
def dkwX3_must_0 : List UInt8 := [27, 154, 0, 8, 42, 4, 182, 0, 165, 42, 182, 0, 169, 177]
abbrev dktX3_must_0 : List UInt8 := dkwX3_must_0 ++ []
theorem dksX3_must_0 : cX3_must.data.toList.drop 0 = dktX3_must_0 := by decide +kernel
theorem dX3_must_0 : decode cX3_must 0 = .ok (.iload_n 1, 1) := dk_27 (dk_at dksX3_must_0 0 rfl rfl)
theorem dX3_must_1 : decode cX3_must 1 = .ok (.ifCond .ne 8, 3) := dk_154 0 8 (dk_at dksX3_must_0 1 rfl rfl)
theorem dX3_must_4 : decode cX3_must 4 = .ok (.aload_n 0, 1) := dk_42 (dk_at dksX3_must_0 4 rfl rfl)
theorem dX3_must_5 : decode cX3_must 5 = .ok (.iconst 1, 1) := dk_4 (dk_at dksX3_must_0 5 rfl rfl)
theorem dX3_must_6 : decode cX3_must 6 = .ok (.invokevirtual 165, 3) := dk_182 0 165 (dk_at dksX3_must_0 6 rfl rfl)
theorem dX3_must_9 : decode cX3_must 9 = .ok (.aload_n 0, 1) := dk_42 (dk_at dksX3_must_0 9 rfl rfl)
theorem dX3_must_10 : decode cX3_must 10 = .ok (.invokevirtual 169, 3) := dk_182 0 169 (dk_at dksX3_must_0 10 rfl rfl)
theorem dX3_must_13 : decode cX3_must 13 = .ok (.return_, 1) := dk_177 (dk_at dksX3_must_0 13 rfl rfl)
abbrev cX3_readNever : ByteArray := prog_18_method_32_code
def yX3_readNever : MethodName := ⟨RX3, "readNever", "()V"⟩
def dkwX3_readNever_5 : List UInt8 := [42, 27, 181, 0, 159, 42, 182, 0, 169, 177]
abbrev dktX3_readNever_5 : List UInt8 := dkwX3_readNever_5 ++ []
def dkwX3_readNever_4 : List UInt8 := [180, 0, 13, 21, 4, 182, 0, 235, 62, 132, 4, 1, 167, 255, 225, 29, 154, 0, 13, 42, 8, 181, 0, 126]
abbrev dktX3_readNever_4 : List UInt8 := dkwX3_readNever_4 ++ dktX3_readNever_5
def dkwX3_readNever_3 : List UInt8 := [3, 62, 3, 54, 4, 21, 4, 4, 42, 180, 0, 13, 4, 46, 120, 162, 0, 24, 29, 154, 0, 20, 42, 42]
abbrev dktX3_readNever_3 : List UInt8 := dkwX3_readNever_3 ++ dktX3_readNever_4
def dkwX3_readNever_2 : List UInt8 := [180, 0, 13, 16, 78, 42, 180, 0, 13, 6, 46, 96, 28, 79, 42, 180, 0, 13, 6, 92, 46, 4, 96, 79]
abbrev dktX3_readNever_2 : List UInt8 := dkwX3_readNever_2 ++ dktX3_readNever_3
def dkwX3_readNever_1 : List UInt8 := [16, 59, 182, 0, 195, 154, 0, 8, 42, 4, 182, 0, 165, 42, 180, 0, 126, 153, 0, 4, 177, 42]
abbrev dktX3_readNever_1 : List UInt8 := dkwX3_readNever_1 ++ dktX3_readNever_2
def dkwX3_readNever_0 : List UInt8 := [42, 180, 0, 99, 60, 42, 42, 180, 0, 13, 6, 46, 16, 6, 182, 0, 226, 42, 182, 0, 232, 61, 42]
abbrev dktX3_readNever_0 : List UInt8 := dkwX3_readNever_0 ++ dktX3_readNever_1
theorem dksX3_readNever_0 : cX3_readNever.data.toList.drop 0 = dktX3_readNever_0 := by decide +kernel
theorem dksX3_readNever_1 : cX3_readNever.data.toList.drop 23 = dktX3_readNever_1 := dk_seg dksX3_readNever_0 23 rfl rfl
theorem dksX3_readNever_2 : cX3_readNever.data.toList.drop 45 = dktX3_readNever_2 := dk_seg dksX3_readNever_1 22 rfl rfl
theorem dksX3_readNever_3 : cX3_readNever.data.toList.drop 69 = dktX3_readNever_3 := dk_seg dksX3_readNever_2 24 rfl rfl
theorem dksX3_readNever_4 : cX3_readNever.data.toList.drop 93 = dktX3_readNever_4 := dk_seg dksX3_readNever_3 24 rfl rfl
theorem dksX3_readNever_5 : cX3_readNever.data.toList.drop 117 = dktX3_readNever_5 := dk_seg dksX3_readNever_4 24 rfl rfl
theorem dX3_readNever_0 : decode cX3_readNever 0 = .ok (.aload_n 0, 1) := dk_42 (dk_at dksX3_readNever_0 0 rfl rfl)
theorem dX3_readNever_1 : decode cX3_readNever 1 = .ok (.getfield 99, 3) := dk_180 0 99 (dk_at dksX3_readNever_0 1 rfl rfl)
theorem dX3_readNever_4 : decode cX3_readNever 4 = .ok (.istore_n 1, 1) := dk_60 (dk_at dksX3_readNever_0 4 rfl rfl)
theorem dX3_readNever_5 : decode cX3_readNever 5 = .ok (.aload_n 0, 1) := dk_42 (dk_at dksX3_readNever_0 5 rfl rfl)
theorem dX3_readNever_6 : decode cX3_readNever 6 = .ok (.aload_n 0, 1) := dk_42 (dk_at dksX3_readNever_0 6 rfl rfl)
theorem dX3_readNever_7 : decode cX3_readNever 7 = .ok (.getfield 13, 3) := dk_180 0 13 (dk_at dksX3_readNever_0 7 rfl rfl)
theorem dX3_readNever_10 : decode cX3_readNever 10 = .ok (.iconst 3, 1) := dk_6 (dk_at dksX3_readNever_0 10 rfl rfl)
theorem dX3_readNever_11 : decode cX3_readNever 11 = .ok (.iaload, 1) := dk_46 (dk_at dksX3_readNever_0 11 rfl rfl)
theorem dX3_readNever_12 : decode cX3_readNever 12 = .ok (.bipush 6, 2) := dk_16 6 (dk_at dksX3_readNever_0 12 rfl rfl)
theorem dX3_readNever_14 : decode cX3_readNever 14 = .ok (.invokevirtual 226, 3) := dk_182 0 226 (dk_at dksX3_readNever_0 14 rfl rfl)
theorem dX3_readNever_17 : decode cX3_readNever 17 = .ok (.aload_n 0, 1) := dk_42 (dk_at dksX3_readNever_0 17 rfl rfl)
theorem dX3_readNever_18 : decode cX3_readNever 18 = .ok (.invokevirtual 232, 3) := dk_182 0 232 (dk_at dksX3_readNever_0 18 rfl rfl)
theorem dX3_readNever_21 : decode cX3_readNever 21 = .ok (.istore_n 2, 1) := dk_61 (dk_at dksX3_readNever_0 21 rfl rfl)
theorem dX3_readNever_22 : decode cX3_readNever 22 = .ok (.aload_n 0, 1) := dk_42 (dk_at dksX3_readNever_0 22 rfl rfl)
theorem dX3_readNever_23 : decode cX3_readNever 23 = .ok (.bipush 59, 2) := dk_16 59 (dk_at dksX3_readNever_1 0 rfl rfl)
theorem dX3_readNever_25 : decode cX3_readNever 25 = .ok (.invokevirtual 195, 3) := dk_182 0 195 (dk_at dksX3_readNever_1 2 rfl rfl)
theorem dX3_readNever_28 : decode cX3_readNever 28 = .ok (.ifCond .ne 8, 3) := dk_154 0 8 (dk_at dksX3_readNever_1 5 rfl rfl)
theorem dX3_readNever_31 : decode cX3_readNever 31 = .ok (.aload_n 0, 1) := dk_42 (dk_at dksX3_readNever_1 8 rfl rfl)
theorem dX3_readNever_32 : decode cX3_readNever 32 = .ok (.iconst 1, 1) := dk_4 (dk_at dksX3_readNever_1 9 rfl rfl)
theorem dX3_readNever_33 : decode cX3_readNever 33 = .ok (.invokevirtual 165, 3) := dk_182 0 165 (dk_at dksX3_readNever_1 10 rfl rfl)
theorem dX3_readNever_36 : decode cX3_readNever 36 = .ok (.aload_n 0, 1) := dk_42 (dk_at dksX3_readNever_1 13 rfl rfl)
theorem dX3_readNever_37 : decode cX3_readNever 37 = .ok (.getfield 126, 3) := dk_180 0 126 (dk_at dksX3_readNever_1 14 rfl rfl)
theorem dX3_readNever_40 : decode cX3_readNever 40 = .ok (.ifCond .eq 4, 3) := dk_153 0 4 (dk_at dksX3_readNever_1 17 rfl rfl)
theorem dX3_readNever_43 : decode cX3_readNever 43 = .ok (.return_, 1) := dk_177 (dk_at dksX3_readNever_1 20 rfl rfl)
theorem dX3_readNever_44 : decode cX3_readNever 44 = .ok (.aload_n 0, 1) := dk_42 (dk_at dksX3_readNever_1 21 rfl rfl)
theorem dX3_readNever_45 : decode cX3_readNever 45 = .ok (.getfield 13, 3) := dk_180 0 13 (dk_at dksX3_readNever_2 0 rfl rfl)
theorem dX3_readNever_48 : decode cX3_readNever 48 = .ok (.bipush 78, 2) := dk_16 78 (dk_at dksX3_readNever_2 3 rfl rfl)
theorem dX3_readNever_50 : decode cX3_readNever 50 = .ok (.aload_n 0, 1) := dk_42 (dk_at dksX3_readNever_2 5 rfl rfl)
theorem dX3_readNever_51 : decode cX3_readNever 51 = .ok (.getfield 13, 3) := dk_180 0 13 (dk_at dksX3_readNever_2 6 rfl rfl)
theorem dX3_readNever_54 : decode cX3_readNever 54 = .ok (.iconst 3, 1) := dk_6 (dk_at dksX3_readNever_2 9 rfl rfl)
theorem dX3_readNever_55 : decode cX3_readNever 55 = .ok (.iaload, 1) := dk_46 (dk_at dksX3_readNever_2 10 rfl rfl)
theorem dX3_readNever_56 : decode cX3_readNever 56 = .ok (.iadd, 1) := dk_96 (dk_at dksX3_readNever_2 11 rfl rfl)
theorem dX3_readNever_57 : decode cX3_readNever 57 = .ok (.iload_n 2, 1) := dk_28 (dk_at dksX3_readNever_2 12 rfl rfl)
theorem dX3_readNever_58 : decode cX3_readNever 58 = .ok (.iastore, 1) := dk_79 (dk_at dksX3_readNever_2 13 rfl rfl)
theorem dX3_readNever_59 : decode cX3_readNever 59 = .ok (.aload_n 0, 1) := dk_42 (dk_at dksX3_readNever_2 14 rfl rfl)
theorem dX3_readNever_60 : decode cX3_readNever 60 = .ok (.getfield 13, 3) := dk_180 0 13 (dk_at dksX3_readNever_2 15 rfl rfl)
theorem dX3_readNever_63 : decode cX3_readNever 63 = .ok (.iconst 3, 1) := dk_6 (dk_at dksX3_readNever_2 18 rfl rfl)
theorem dX3_readNever_64 : decode cX3_readNever 64 = .ok (.dup2, 1) := dk_92 (dk_at dksX3_readNever_2 19 rfl rfl)
theorem dX3_readNever_65 : decode cX3_readNever 65 = .ok (.iaload, 1) := dk_46 (dk_at dksX3_readNever_2 20 rfl rfl)
theorem dX3_readNever_66 : decode cX3_readNever 66 = .ok (.iconst 1, 1) := dk_4 (dk_at dksX3_readNever_2 21 rfl rfl)
theorem dX3_readNever_67 : decode cX3_readNever 67 = .ok (.iadd, 1) := dk_96 (dk_at dksX3_readNever_2 22 rfl rfl)
theorem dX3_readNever_68 : decode cX3_readNever 68 = .ok (.iastore, 1) := dk_79 (dk_at dksX3_readNever_2 23 rfl rfl)
theorem dX3_readNever_69 : decode cX3_readNever 69 = .ok (.iconst 0, 1) := dk_3 (dk_at dksX3_readNever_3 0 rfl rfl)
theorem dX3_readNever_70 : decode cX3_readNever 70 = .ok (.istore_n 3, 1) := dk_62 (dk_at dksX3_readNever_3 1 rfl rfl)
theorem dX3_readNever_71 : decode cX3_readNever 71 = .ok (.iconst 0, 1) := dk_3 (dk_at dksX3_readNever_3 2 rfl rfl)
theorem dX3_readNever_72 : decode cX3_readNever 72 = .ok (.istore 4, 2) := dk_54 4 (dk_at dksX3_readNever_3 3 rfl rfl)
theorem dX3_readNever_74 : decode cX3_readNever 74 = .ok (.iload 4, 2) := dk_21 4 (dk_at dksX3_readNever_3 5 rfl rfl)
theorem dX3_readNever_76 : decode cX3_readNever 76 = .ok (.iconst 1, 1) := dk_4 (dk_at dksX3_readNever_3 7 rfl rfl)
theorem dX3_readNever_77 : decode cX3_readNever 77 = .ok (.aload_n 0, 1) := dk_42 (dk_at dksX3_readNever_3 8 rfl rfl)
theorem dX3_readNever_78 : decode cX3_readNever 78 = .ok (.getfield 13, 3) := dk_180 0 13 (dk_at dksX3_readNever_3 9 rfl rfl)
theorem dX3_readNever_81 : decode cX3_readNever 81 = .ok (.iconst 1, 1) := dk_4 (dk_at dksX3_readNever_3 12 rfl rfl)
theorem dX3_readNever_82 : decode cX3_readNever 82 = .ok (.iaload, 1) := dk_46 (dk_at dksX3_readNever_3 13 rfl rfl)
theorem dX3_readNever_83 : decode cX3_readNever 83 = .ok (.ishl, 1) := dk_120 (dk_at dksX3_readNever_3 14 rfl rfl)
theorem dX3_readNever_84 : decode cX3_readNever 84 = .ok (.if_icmp .ge 24, 3) := dk_162 0 24 (dk_at dksX3_readNever_3 15 rfl rfl)
theorem dX3_readNever_87 : decode cX3_readNever 87 = .ok (.iload_n 3, 1) := dk_29 (dk_at dksX3_readNever_3 18 rfl rfl)
theorem dX3_readNever_88 : decode cX3_readNever 88 = .ok (.ifCond .ne 20, 3) := dk_154 0 20 (dk_at dksX3_readNever_3 19 rfl rfl)
theorem dX3_readNever_91 : decode cX3_readNever 91 = .ok (.aload_n 0, 1) := dk_42 (dk_at dksX3_readNever_3 22 rfl rfl)
theorem dX3_readNever_92 : decode cX3_readNever 92 = .ok (.aload_n 0, 1) := dk_42 (dk_at dksX3_readNever_3 23 rfl rfl)
theorem dX3_readNever_93 : decode cX3_readNever 93 = .ok (.getfield 13, 3) := dk_180 0 13 (dk_at dksX3_readNever_4 0 rfl rfl)
theorem dX3_readNever_96 : decode cX3_readNever 96 = .ok (.iload 4, 2) := dk_21 4 (dk_at dksX3_readNever_4 3 rfl rfl)
theorem dX3_readNever_98 : decode cX3_readNever 98 = .ok (.invokevirtual 235, 3) := dk_182 0 235 (dk_at dksX3_readNever_4 5 rfl rfl)
theorem dX3_readNever_101 : decode cX3_readNever 101 = .ok (.istore_n 3, 1) := dk_62 (dk_at dksX3_readNever_4 8 rfl rfl)
theorem dX3_readNever_102 : decode cX3_readNever 102 = .ok (.iinc 4 1, 3) := dk_132 4 1 (dk_at dksX3_readNever_4 9 rfl rfl)
theorem dX3_readNever_105 : decode cX3_readNever 105 = .ok (.goto (-31), 3) := dk_167 255 225 (dk_at dksX3_readNever_4 12 rfl rfl)
theorem dX3_readNever_108 : decode cX3_readNever 108 = .ok (.iload_n 3, 1) := dk_29 (dk_at dksX3_readNever_4 15 rfl rfl)
theorem dX3_readNever_109 : decode cX3_readNever 109 = .ok (.ifCond .ne 13, 3) := dk_154 0 13 (dk_at dksX3_readNever_4 16 rfl rfl)
theorem dX3_readNever_112 : decode cX3_readNever 112 = .ok (.aload_n 0, 1) := dk_42 (dk_at dksX3_readNever_4 19 rfl rfl)
theorem dX3_readNever_113 : decode cX3_readNever 113 = .ok (.iconst 5, 1) := dk_8 (dk_at dksX3_readNever_4 20 rfl rfl)
theorem dX3_readNever_114 : decode cX3_readNever 114 = .ok (.putfield 126, 3) := dk_181 0 126 (dk_at dksX3_readNever_4 21 rfl rfl)
theorem dX3_readNever_117 : decode cX3_readNever 117 = .ok (.aload_n 0, 1) := dk_42 (dk_at dksX3_readNever_5 0 rfl rfl)
theorem dX3_readNever_118 : decode cX3_readNever 118 = .ok (.iload_n 1, 1) := dk_27 (dk_at dksX3_readNever_5 1 rfl rfl)
theorem dX3_readNever_119 : decode cX3_readNever 119 = .ok (.putfield 159, 3) := dk_181 0 159 (dk_at dksX3_readNever_5 2 rfl rfl)
theorem dX3_readNever_122 : decode cX3_readNever 122 = .ok (.aload_n 0, 1) := dk_42 (dk_at dksX3_readNever_5 5 rfl rfl)
theorem dX3_readNever_123 : decode cX3_readNever 123 = .ok (.invokevirtual 169, 3) := dk_182 0 169 (dk_at dksX3_readNever_5 6 rfl rfl)
theorem dX3_readNever_126 : decode cX3_readNever 126 = .ok (.return_, 1) := dk_177 (dk_at dksX3_readNever_5 9 rfl rfl)
abbrev cX3_expr : ByteArray := prog_18_method_24_code
def yX3_expr : MethodName := ⟨RX3, "expr", "()I"⟩
def dkwX3_expr_3 : List UInt8 := [172]
abbrev dktX3_expr_3 : List UInt8 := dkwX3_expr_3 ++ []
def dkwX3_expr_2 : List UInt8 := [79, 42, 180, 0, 13, 16, 6, 92, 46, 42, 180, 0, 126, 154, 0, 7, 4, 167, 0, 4, 3, 96, 79, 27]
abbrev dktX3_expr_2 : List UInt8 := dkwX3_expr_2 ++ dktX3_expr_3
def dkwX3_expr_1 : List UInt8 := [42, 3, 181, 0, 186, 42, 182, 0, 189, 42, 180, 0, 13, 16, 117, 27, 96, 42, 180, 0, 13, 16, 7, 46]
abbrev dktX3_expr_1 : List UInt8 := dkwX3_expr_1 ++ dktX3_expr_2
def dkwX3_expr_0 : List UInt8 := [42, 180, 0, 13, 16, 6, 46, 60, 42, 180, 0, 13, 16, 84, 27, 96, 42, 180, 0, 13, 16, 7, 46, 79]
abbrev dktX3_expr_0 : List UInt8 := dkwX3_expr_0 ++ dktX3_expr_1
theorem dksX3_expr_0 : cX3_expr.data.toList.drop 0 = dktX3_expr_0 := by decide +kernel
theorem dksX3_expr_1 : cX3_expr.data.toList.drop 24 = dktX3_expr_1 := dk_seg dksX3_expr_0 24 rfl rfl
theorem dksX3_expr_2 : cX3_expr.data.toList.drop 48 = dktX3_expr_2 := dk_seg dksX3_expr_1 24 rfl rfl
theorem dksX3_expr_3 : cX3_expr.data.toList.drop 72 = dktX3_expr_3 := dk_seg dksX3_expr_2 24 rfl rfl
theorem dX3_expr_0 : decode cX3_expr 0 = .ok (.aload_n 0, 1) := dk_42 (dk_at dksX3_expr_0 0 rfl rfl)
theorem dX3_expr_1 : decode cX3_expr 1 = .ok (.getfield 13, 3) := dk_180 0 13 (dk_at dksX3_expr_0 1 rfl rfl)
theorem dX3_expr_4 : decode cX3_expr 4 = .ok (.bipush 6, 2) := dk_16 6 (dk_at dksX3_expr_0 4 rfl rfl)
theorem dX3_expr_6 : decode cX3_expr 6 = .ok (.iaload, 1) := dk_46 (dk_at dksX3_expr_0 6 rfl rfl)
theorem dX3_expr_7 : decode cX3_expr 7 = .ok (.istore_n 1, 1) := dk_60 (dk_at dksX3_expr_0 7 rfl rfl)
theorem dX3_expr_8 : decode cX3_expr 8 = .ok (.aload_n 0, 1) := dk_42 (dk_at dksX3_expr_0 8 rfl rfl)
theorem dX3_expr_9 : decode cX3_expr 9 = .ok (.getfield 13, 3) := dk_180 0 13 (dk_at dksX3_expr_0 9 rfl rfl)
theorem dX3_expr_12 : decode cX3_expr 12 = .ok (.bipush 84, 2) := dk_16 84 (dk_at dksX3_expr_0 12 rfl rfl)
theorem dX3_expr_14 : decode cX3_expr 14 = .ok (.iload_n 1, 1) := dk_27 (dk_at dksX3_expr_0 14 rfl rfl)
theorem dX3_expr_15 : decode cX3_expr 15 = .ok (.iadd, 1) := dk_96 (dk_at dksX3_expr_0 15 rfl rfl)
theorem dX3_expr_16 : decode cX3_expr 16 = .ok (.aload_n 0, 1) := dk_42 (dk_at dksX3_expr_0 16 rfl rfl)
theorem dX3_expr_17 : decode cX3_expr 17 = .ok (.getfield 13, 3) := dk_180 0 13 (dk_at dksX3_expr_0 17 rfl rfl)
theorem dX3_expr_20 : decode cX3_expr 20 = .ok (.bipush 7, 2) := dk_16 7 (dk_at dksX3_expr_0 20 rfl rfl)
theorem dX3_expr_22 : decode cX3_expr 22 = .ok (.iaload, 1) := dk_46 (dk_at dksX3_expr_0 22 rfl rfl)
theorem dX3_expr_23 : decode cX3_expr 23 = .ok (.iastore, 1) := dk_79 (dk_at dksX3_expr_0 23 rfl rfl)
theorem dX3_expr_24 : decode cX3_expr 24 = .ok (.aload_n 0, 1) := dk_42 (dk_at dksX3_expr_1 0 rfl rfl)
theorem dX3_expr_25 : decode cX3_expr 25 = .ok (.iconst 0, 1) := dk_3 (dk_at dksX3_expr_1 1 rfl rfl)
theorem dX3_expr_26 : decode cX3_expr 26 = .ok (.putfield 186, 3) := dk_181 0 186 (dk_at dksX3_expr_1 2 rfl rfl)
theorem dX3_expr_29 : decode cX3_expr 29 = .ok (.aload_n 0, 1) := dk_42 (dk_at dksX3_expr_1 5 rfl rfl)
theorem dX3_expr_30 : decode cX3_expr 30 = .ok (.invokevirtual 189, 3) := dk_182 0 189 (dk_at dksX3_expr_1 6 rfl rfl)
theorem dX3_expr_33 : decode cX3_expr 33 = .ok (.aload_n 0, 1) := dk_42 (dk_at dksX3_expr_1 9 rfl rfl)
theorem dX3_expr_34 : decode cX3_expr 34 = .ok (.getfield 13, 3) := dk_180 0 13 (dk_at dksX3_expr_1 10 rfl rfl)
theorem dX3_expr_37 : decode cX3_expr 37 = .ok (.bipush 117, 2) := dk_16 117 (dk_at dksX3_expr_1 13 rfl rfl)
theorem dX3_expr_39 : decode cX3_expr 39 = .ok (.iload_n 1, 1) := dk_27 (dk_at dksX3_expr_1 15 rfl rfl)
theorem dX3_expr_40 : decode cX3_expr 40 = .ok (.iadd, 1) := dk_96 (dk_at dksX3_expr_1 16 rfl rfl)
theorem dX3_expr_41 : decode cX3_expr 41 = .ok (.aload_n 0, 1) := dk_42 (dk_at dksX3_expr_1 17 rfl rfl)
theorem dX3_expr_42 : decode cX3_expr 42 = .ok (.getfield 13, 3) := dk_180 0 13 (dk_at dksX3_expr_1 18 rfl rfl)
theorem dX3_expr_45 : decode cX3_expr 45 = .ok (.bipush 7, 2) := dk_16 7 (dk_at dksX3_expr_1 21 rfl rfl)
theorem dX3_expr_47 : decode cX3_expr 47 = .ok (.iaload, 1) := dk_46 (dk_at dksX3_expr_1 23 rfl rfl)
theorem dX3_expr_48 : decode cX3_expr 48 = .ok (.iastore, 1) := dk_79 (dk_at dksX3_expr_2 0 rfl rfl)
theorem dX3_expr_49 : decode cX3_expr 49 = .ok (.aload_n 0, 1) := dk_42 (dk_at dksX3_expr_2 1 rfl rfl)
theorem dX3_expr_50 : decode cX3_expr 50 = .ok (.getfield 13, 3) := dk_180 0 13 (dk_at dksX3_expr_2 2 rfl rfl)
theorem dX3_expr_53 : decode cX3_expr 53 = .ok (.bipush 6, 2) := dk_16 6 (dk_at dksX3_expr_2 5 rfl rfl)
theorem dX3_expr_55 : decode cX3_expr 55 = .ok (.dup2, 1) := dk_92 (dk_at dksX3_expr_2 7 rfl rfl)
theorem dX3_expr_56 : decode cX3_expr 56 = .ok (.iaload, 1) := dk_46 (dk_at dksX3_expr_2 8 rfl rfl)
theorem dX3_expr_57 : decode cX3_expr 57 = .ok (.aload_n 0, 1) := dk_42 (dk_at dksX3_expr_2 9 rfl rfl)
theorem dX3_expr_58 : decode cX3_expr 58 = .ok (.getfield 126, 3) := dk_180 0 126 (dk_at dksX3_expr_2 10 rfl rfl)
theorem dX3_expr_61 : decode cX3_expr 61 = .ok (.ifCond .ne 7, 3) := dk_154 0 7 (dk_at dksX3_expr_2 13 rfl rfl)
theorem dX3_expr_64 : decode cX3_expr 64 = .ok (.iconst 1, 1) := dk_4 (dk_at dksX3_expr_2 16 rfl rfl)
theorem dX3_expr_65 : decode cX3_expr 65 = .ok (.goto 4, 3) := dk_167 0 4 (dk_at dksX3_expr_2 17 rfl rfl)
theorem dX3_expr_68 : decode cX3_expr 68 = .ok (.iconst 0, 1) := dk_3 (dk_at dksX3_expr_2 20 rfl rfl)
theorem dX3_expr_69 : decode cX3_expr 69 = .ok (.iadd, 1) := dk_96 (dk_at dksX3_expr_2 21 rfl rfl)
theorem dX3_expr_70 : decode cX3_expr 70 = .ok (.iastore, 1) := dk_79 (dk_at dksX3_expr_2 22 rfl rfl)
theorem dX3_expr_71 : decode cX3_expr 71 = .ok (.iload_n 1, 1) := dk_27 (dk_at dksX3_expr_2 23 rfl rfl)
theorem dX3_expr_72 : decode cX3_expr 72 = .ok (.ireturn, 1) := dk_172 (dk_at dksX3_expr_3 0 rfl rfl)
abbrev cX3_either : ByteArray := prog_18_method_25_code
def yX3_either : MethodName := ⟨RX3, "either", "()V"⟩
def dkwX3_either_1 : List UInt8 := [182, 0, 199, 167, 255, 233, 177]
abbrev dktX3_either_1 : List UInt8 := dkwX3_either_1 ++ []
def dkwX3_either_0 : List UInt8 := [42, 182, 0, 192, 42, 16, 124, 182, 0, 195, 153, 0, 20, 42, 182, 0, 162, 42, 182, 0, 192, 42, 6, 3]
abbrev dktX3_either_0 : List UInt8 := dkwX3_either_0 ++ dktX3_either_1
theorem dksX3_either_0 : cX3_either.data.toList.drop 0 = dktX3_either_0 := by decide +kernel
theorem dksX3_either_1 : cX3_either.data.toList.drop 24 = dktX3_either_1 := dk_seg dksX3_either_0 24 rfl rfl
theorem dX3_either_0 : decode cX3_either 0 = .ok (.aload_n 0, 1) := dk_42 (dk_at dksX3_either_0 0 rfl rfl)
theorem dX3_either_1 : decode cX3_either 1 = .ok (.invokevirtual 192, 3) := dk_182 0 192 (dk_at dksX3_either_0 1 rfl rfl)
theorem dX3_either_4 : decode cX3_either 4 = .ok (.aload_n 0, 1) := dk_42 (dk_at dksX3_either_0 4 rfl rfl)
theorem dX3_either_5 : decode cX3_either 5 = .ok (.bipush 124, 2) := dk_16 124 (dk_at dksX3_either_0 5 rfl rfl)
theorem dX3_either_7 : decode cX3_either 7 = .ok (.invokevirtual 195, 3) := dk_182 0 195 (dk_at dksX3_either_0 7 rfl rfl)
theorem dX3_either_10 : decode cX3_either 10 = .ok (.ifCond .eq 20, 3) := dk_153 0 20 (dk_at dksX3_either_0 10 rfl rfl)
theorem dX3_either_13 : decode cX3_either 13 = .ok (.aload_n 0, 1) := dk_42 (dk_at dksX3_either_0 13 rfl rfl)
theorem dX3_either_14 : decode cX3_either 14 = .ok (.invokevirtual 162, 3) := dk_182 0 162 (dk_at dksX3_either_0 14 rfl rfl)
theorem dX3_either_17 : decode cX3_either 17 = .ok (.aload_n 0, 1) := dk_42 (dk_at dksX3_either_0 17 rfl rfl)
theorem dX3_either_18 : decode cX3_either 18 = .ok (.invokevirtual 192, 3) := dk_182 0 192 (dk_at dksX3_either_0 18 rfl rfl)
theorem dX3_either_21 : decode cX3_either 21 = .ok (.aload_n 0, 1) := dk_42 (dk_at dksX3_either_0 21 rfl rfl)
theorem dX3_either_22 : decode cX3_either 22 = .ok (.iconst 3, 1) := dk_6 (dk_at dksX3_either_0 22 rfl rfl)
theorem dX3_either_23 : decode cX3_either 23 = .ok (.iconst 0, 1) := dk_3 (dk_at dksX3_either_0 23 rfl rfl)
theorem dX3_either_24 : decode cX3_either 24 = .ok (.invokevirtual 199, 3) := dk_182 0 199 (dk_at dksX3_either_1 0 rfl rfl)
theorem dX3_either_27 : decode cX3_either 27 = .ok (.goto (-23), 3) := dk_167 255 233 (dk_at dksX3_either_1 3 rfl rfl)
theorem dX3_either_30 : decode cX3_either 30 = .ok (.return_, 1) := dk_177 (dk_at dksX3_either_1 6 rfl rfl)
abbrev cX3_both : ByteArray := prog_18_method_26_code
def yX3_both : MethodName := ⟨RX3, "both", "()V"⟩
def dkwX3_both_1 : List UInt8 := [182, 0, 199, 167, 255, 233, 177]
abbrev dktX3_both_1 : List UInt8 := dkwX3_both_1 ++ []
def dkwX3_both_0 : List UInt8 := [42, 182, 0, 203, 42, 16, 38, 182, 0, 195, 153, 0, 20, 42, 182, 0, 162, 42, 182, 0, 203, 42, 5, 3]
abbrev dktX3_both_0 : List UInt8 := dkwX3_both_0 ++ dktX3_both_1
theorem dksX3_both_0 : cX3_both.data.toList.drop 0 = dktX3_both_0 := by decide +kernel
theorem dksX3_both_1 : cX3_both.data.toList.drop 24 = dktX3_both_1 := dk_seg dksX3_both_0 24 rfl rfl
theorem dX3_both_0 : decode cX3_both 0 = .ok (.aload_n 0, 1) := dk_42 (dk_at dksX3_both_0 0 rfl rfl)
theorem dX3_both_1 : decode cX3_both 1 = .ok (.invokevirtual 203, 3) := dk_182 0 203 (dk_at dksX3_both_0 1 rfl rfl)
theorem dX3_both_4 : decode cX3_both 4 = .ok (.aload_n 0, 1) := dk_42 (dk_at dksX3_both_0 4 rfl rfl)
theorem dX3_both_5 : decode cX3_both 5 = .ok (.bipush 38, 2) := dk_16 38 (dk_at dksX3_both_0 5 rfl rfl)
theorem dX3_both_7 : decode cX3_both 7 = .ok (.invokevirtual 195, 3) := dk_182 0 195 (dk_at dksX3_both_0 7 rfl rfl)
theorem dX3_both_10 : decode cX3_both 10 = .ok (.ifCond .eq 20, 3) := dk_153 0 20 (dk_at dksX3_both_0 10 rfl rfl)
theorem dX3_both_13 : decode cX3_both 13 = .ok (.aload_n 0, 1) := dk_42 (dk_at dksX3_both_0 13 rfl rfl)
theorem dX3_both_14 : decode cX3_both 14 = .ok (.invokevirtual 162, 3) := dk_182 0 162 (dk_at dksX3_both_0 14 rfl rfl)
theorem dX3_both_17 : decode cX3_both 17 = .ok (.aload_n 0, 1) := dk_42 (dk_at dksX3_both_0 17 rfl rfl)
theorem dX3_both_18 : decode cX3_both 18 = .ok (.invokevirtual 203, 3) := dk_182 0 203 (dk_at dksX3_both_0 18 rfl rfl)
theorem dX3_both_21 : decode cX3_both 21 = .ok (.aload_n 0, 1) := dk_42 (dk_at dksX3_both_0 21 rfl rfl)
theorem dX3_both_22 : decode cX3_both 22 = .ok (.iconst 2, 1) := dk_5 (dk_at dksX3_both_0 22 rfl rfl)
theorem dX3_both_23 : decode cX3_both 23 = .ok (.iconst 0, 1) := dk_3 (dk_at dksX3_both_0 23 rfl rfl)
theorem dX3_both_24 : decode cX3_both 24 = .ok (.invokevirtual 199, 3) := dk_182 0 199 (dk_at dksX3_both_1 0 rfl rfl)
theorem dX3_both_27 : decode cX3_both 27 = .ok (.goto (-23), 3) := dk_167 255 233 (dk_at dksX3_both_1 3 rfl rfl)
theorem dX3_both_30 : decode cX3_both 30 = .ok (.return_, 1) := dk_177 (dk_at dksX3_both_1 6 rfl rfl)
abbrev cX3_one : ByteArray := prog_18_method_28_code
def yX3_one : MethodName := ⟨RX3, "one", "()V"⟩
def dkwX3_one_4 : List UInt8 := [42, 182, 0, 213, 167, 0, 13, 42, 3, 42, 4, 182, 0, 216, 182, 0, 199, 177]
abbrev dktX3_one_4 : List UInt8 := dkwX3_one_4 ++ []
def dkwX3_one_3 : List UInt8 := [182, 0, 209, 42, 89, 180, 0, 186, 4, 100, 181, 0, 186, 167, 0, 28, 42, 180, 0, 109, 6, 160, 0, 10]
abbrev dktX3_one_3 : List UInt8 := dkwX3_one_3 ++ dktX3_one_4
def dkwX3_one_2 : List UInt8 := [16, 40, 182, 0, 195, 153, 0, 34, 42, 182, 0, 206, 42, 182, 0, 189, 42, 42, 16, 41, 182, 0, 195]
abbrev dktX3_one_2 : List UInt8 := dkwX3_one_2 ++ dktX3_one_3
def dkwX3_one_1 : List UInt8 := [182, 0, 203, 42, 89, 180, 0, 186, 4, 100, 181, 0, 186, 42, 4, 3, 182, 0, 199, 167, 0, 68, 42]
abbrev dktX3_one_1 : List UInt8 := dkwX3_one_1 ++ dktX3_one_2
def dkwX3_one_0 : List UInt8 := [42, 180, 0, 126, 153, 0, 4, 177, 42, 16, 33, 182, 0, 195, 153, 0, 30, 42, 182, 0, 206, 42]
abbrev dktX3_one_0 : List UInt8 := dkwX3_one_0 ++ dktX3_one_1
theorem dksX3_one_0 : cX3_one.data.toList.drop 0 = dktX3_one_0 := by decide +kernel
theorem dksX3_one_1 : cX3_one.data.toList.drop 22 = dktX3_one_1 := dk_seg dksX3_one_0 22 rfl rfl
theorem dksX3_one_2 : cX3_one.data.toList.drop 45 = dktX3_one_2 := dk_seg dksX3_one_1 23 rfl rfl
theorem dksX3_one_3 : cX3_one.data.toList.drop 68 = dktX3_one_3 := dk_seg dksX3_one_2 23 rfl rfl
theorem dksX3_one_4 : cX3_one.data.toList.drop 92 = dktX3_one_4 := dk_seg dksX3_one_3 24 rfl rfl
theorem dX3_one_0 : decode cX3_one 0 = .ok (.aload_n 0, 1) := dk_42 (dk_at dksX3_one_0 0 rfl rfl)
theorem dX3_one_1 : decode cX3_one 1 = .ok (.getfield 126, 3) := dk_180 0 126 (dk_at dksX3_one_0 1 rfl rfl)
theorem dX3_one_4 : decode cX3_one 4 = .ok (.ifCond .eq 4, 3) := dk_153 0 4 (dk_at dksX3_one_0 4 rfl rfl)
theorem dX3_one_7 : decode cX3_one 7 = .ok (.return_, 1) := dk_177 (dk_at dksX3_one_0 7 rfl rfl)
theorem dX3_one_8 : decode cX3_one 8 = .ok (.aload_n 0, 1) := dk_42 (dk_at dksX3_one_0 8 rfl rfl)
theorem dX3_one_9 : decode cX3_one 9 = .ok (.bipush 33, 2) := dk_16 33 (dk_at dksX3_one_0 9 rfl rfl)
theorem dX3_one_11 : decode cX3_one 11 = .ok (.invokevirtual 195, 3) := dk_182 0 195 (dk_at dksX3_one_0 11 rfl rfl)
theorem dX3_one_14 : decode cX3_one 14 = .ok (.ifCond .eq 30, 3) := dk_153 0 30 (dk_at dksX3_one_0 14 rfl rfl)
theorem dX3_one_17 : decode cX3_one 17 = .ok (.aload_n 0, 1) := dk_42 (dk_at dksX3_one_0 17 rfl rfl)
theorem dX3_one_18 : decode cX3_one 18 = .ok (.invokevirtual 206, 3) := dk_182 0 206 (dk_at dksX3_one_0 18 rfl rfl)
theorem dX3_one_21 : decode cX3_one 21 = .ok (.aload_n 0, 1) := dk_42 (dk_at dksX3_one_0 21 rfl rfl)
theorem dX3_one_22 : decode cX3_one 22 = .ok (.invokevirtual 203, 3) := dk_182 0 203 (dk_at dksX3_one_1 0 rfl rfl)
theorem dX3_one_25 : decode cX3_one 25 = .ok (.aload_n 0, 1) := dk_42 (dk_at dksX3_one_1 3 rfl rfl)
theorem dX3_one_26 : decode cX3_one 26 = .ok (.dup, 1) := dk_89 (dk_at dksX3_one_1 4 rfl rfl)
theorem dX3_one_27 : decode cX3_one 27 = .ok (.getfield 186, 3) := dk_180 0 186 (dk_at dksX3_one_1 5 rfl rfl)
theorem dX3_one_30 : decode cX3_one 30 = .ok (.iconst 1, 1) := dk_4 (dk_at dksX3_one_1 8 rfl rfl)
theorem dX3_one_31 : decode cX3_one 31 = .ok (.isub, 1) := dk_100 (dk_at dksX3_one_1 9 rfl rfl)
theorem dX3_one_32 : decode cX3_one 32 = .ok (.putfield 186, 3) := dk_181 0 186 (dk_at dksX3_one_1 10 rfl rfl)
theorem dX3_one_35 : decode cX3_one 35 = .ok (.aload_n 0, 1) := dk_42 (dk_at dksX3_one_1 13 rfl rfl)
theorem dX3_one_36 : decode cX3_one 36 = .ok (.iconst 1, 1) := dk_4 (dk_at dksX3_one_1 14 rfl rfl)
theorem dX3_one_37 : decode cX3_one 37 = .ok (.iconst 0, 1) := dk_3 (dk_at dksX3_one_1 15 rfl rfl)
theorem dX3_one_38 : decode cX3_one 38 = .ok (.invokevirtual 199, 3) := dk_182 0 199 (dk_at dksX3_one_1 16 rfl rfl)
theorem dX3_one_41 : decode cX3_one 41 = .ok (.goto 68, 3) := dk_167 0 68 (dk_at dksX3_one_1 19 rfl rfl)
theorem dX3_one_44 : decode cX3_one 44 = .ok (.aload_n 0, 1) := dk_42 (dk_at dksX3_one_1 22 rfl rfl)
theorem dX3_one_45 : decode cX3_one 45 = .ok (.bipush 40, 2) := dk_16 40 (dk_at dksX3_one_2 0 rfl rfl)
theorem dX3_one_47 : decode cX3_one 47 = .ok (.invokevirtual 195, 3) := dk_182 0 195 (dk_at dksX3_one_2 2 rfl rfl)
theorem dX3_one_50 : decode cX3_one 50 = .ok (.ifCond .eq 34, 3) := dk_153 0 34 (dk_at dksX3_one_2 5 rfl rfl)
theorem dX3_one_53 : decode cX3_one 53 = .ok (.aload_n 0, 1) := dk_42 (dk_at dksX3_one_2 8 rfl rfl)
theorem dX3_one_54 : decode cX3_one 54 = .ok (.invokevirtual 206, 3) := dk_182 0 206 (dk_at dksX3_one_2 9 rfl rfl)
theorem dX3_one_57 : decode cX3_one 57 = .ok (.aload_n 0, 1) := dk_42 (dk_at dksX3_one_2 12 rfl rfl)
theorem dX3_one_58 : decode cX3_one 58 = .ok (.invokevirtual 189, 3) := dk_182 0 189 (dk_at dksX3_one_2 13 rfl rfl)
theorem dX3_one_61 : decode cX3_one 61 = .ok (.aload_n 0, 1) := dk_42 (dk_at dksX3_one_2 16 rfl rfl)
theorem dX3_one_62 : decode cX3_one 62 = .ok (.aload_n 0, 1) := dk_42 (dk_at dksX3_one_2 17 rfl rfl)
theorem dX3_one_63 : decode cX3_one 63 = .ok (.bipush 41, 2) := dk_16 41 (dk_at dksX3_one_2 18 rfl rfl)
theorem dX3_one_65 : decode cX3_one 65 = .ok (.invokevirtual 195, 3) := dk_182 0 195 (dk_at dksX3_one_2 20 rfl rfl)
theorem dX3_one_68 : decode cX3_one 68 = .ok (.invokevirtual 209, 3) := dk_182 0 209 (dk_at dksX3_one_3 0 rfl rfl)
theorem dX3_one_71 : decode cX3_one 71 = .ok (.aload_n 0, 1) := dk_42 (dk_at dksX3_one_3 3 rfl rfl)
theorem dX3_one_72 : decode cX3_one 72 = .ok (.dup, 1) := dk_89 (dk_at dksX3_one_3 4 rfl rfl)
theorem dX3_one_73 : decode cX3_one 73 = .ok (.getfield 186, 3) := dk_180 0 186 (dk_at dksX3_one_3 5 rfl rfl)
theorem dX3_one_76 : decode cX3_one 76 = .ok (.iconst 1, 1) := dk_4 (dk_at dksX3_one_3 8 rfl rfl)
theorem dX3_one_77 : decode cX3_one 77 = .ok (.isub, 1) := dk_100 (dk_at dksX3_one_3 9 rfl rfl)
theorem dX3_one_78 : decode cX3_one 78 = .ok (.putfield 186, 3) := dk_181 0 186 (dk_at dksX3_one_3 10 rfl rfl)
theorem dX3_one_81 : decode cX3_one 81 = .ok (.goto 28, 3) := dk_167 0 28 (dk_at dksX3_one_3 13 rfl rfl)
theorem dX3_one_84 : decode cX3_one 84 = .ok (.aload_n 0, 1) := dk_42 (dk_at dksX3_one_3 16 rfl rfl)
theorem dX3_one_85 : decode cX3_one 85 = .ok (.getfield 109, 3) := dk_180 0 109 (dk_at dksX3_one_3 17 rfl rfl)
theorem dX3_one_88 : decode cX3_one 88 = .ok (.iconst 3, 1) := dk_6 (dk_at dksX3_one_3 20 rfl rfl)
theorem dX3_one_89 : decode cX3_one 89 = .ok (.if_icmp .ne 10, 3) := dk_160 0 10 (dk_at dksX3_one_3 21 rfl rfl)
theorem dX3_one_92 : decode cX3_one 92 = .ok (.aload_n 0, 1) := dk_42 (dk_at dksX3_one_4 0 rfl rfl)
theorem dX3_one_93 : decode cX3_one 93 = .ok (.invokevirtual 213, 3) := dk_182 0 213 (dk_at dksX3_one_4 1 rfl rfl)
theorem dX3_one_96 : decode cX3_one 96 = .ok (.goto 13, 3) := dk_167 0 13 (dk_at dksX3_one_4 4 rfl rfl)
theorem dX3_one_99 : decode cX3_one 99 = .ok (.aload_n 0, 1) := dk_42 (dk_at dksX3_one_4 7 rfl rfl)
theorem dX3_one_100 : decode cX3_one 100 = .ok (.iconst 0, 1) := dk_3 (dk_at dksX3_one_4 8 rfl rfl)
theorem dX3_one_101 : decode cX3_one 101 = .ok (.aload_n 0, 1) := dk_42 (dk_at dksX3_one_4 9 rfl rfl)
theorem dX3_one_102 : decode cX3_one 102 = .ok (.iconst 1, 1) := dk_4 (dk_at dksX3_one_4 10 rfl rfl)
theorem dX3_one_103 : decode cX3_one 103 = .ok (.invokevirtual 216, 3) := dk_182 0 216 (dk_at dksX3_one_4 11 rfl rfl)
theorem dX3_one_106 : decode cX3_one 106 = .ok (.invokevirtual 199, 3) := dk_182 0 199 (dk_at dksX3_one_4 14 rfl rfl)
theorem dX3_one_109 : decode cX3_one 109 = .ok (.return_, 1) := dk_177 (dk_at dksX3_one_4 17 rfl rfl)
abbrev cX3_opens : ByteArray := prog_18_method_27_code
def yX3_opens : MethodName := ⟨RX3, "opens", "()V"⟩
def dkwX3_opens_1 : List UInt8 := [182, 0, 169, 177]
abbrev dktX3_opens_1 : List UInt8 := dkwX3_opens_1 ++ []
def dkwX3_opens_0 : List UInt8 := [42, 180, 0, 186, 8, 160, 0, 8, 42, 7, 182, 0, 165, 42, 89, 180, 0, 186, 4, 96, 181, 0, 186, 42]
abbrev dktX3_opens_0 : List UInt8 := dkwX3_opens_0 ++ dktX3_opens_1
theorem dksX3_opens_0 : cX3_opens.data.toList.drop 0 = dktX3_opens_0 := by decide +kernel
theorem dksX3_opens_1 : cX3_opens.data.toList.drop 24 = dktX3_opens_1 := dk_seg dksX3_opens_0 24 rfl rfl
theorem dX3_opens_0 : decode cX3_opens 0 = .ok (.aload_n 0, 1) := dk_42 (dk_at dksX3_opens_0 0 rfl rfl)
theorem dX3_opens_1 : decode cX3_opens 1 = .ok (.getfield 186, 3) := dk_180 0 186 (dk_at dksX3_opens_0 1 rfl rfl)
theorem dX3_opens_4 : decode cX3_opens 4 = .ok (.iconst 5, 1) := dk_8 (dk_at dksX3_opens_0 4 rfl rfl)
theorem dX3_opens_5 : decode cX3_opens 5 = .ok (.if_icmp .ne 8, 3) := dk_160 0 8 (dk_at dksX3_opens_0 5 rfl rfl)
theorem dX3_opens_8 : decode cX3_opens 8 = .ok (.aload_n 0, 1) := dk_42 (dk_at dksX3_opens_0 8 rfl rfl)
theorem dX3_opens_9 : decode cX3_opens 9 = .ok (.iconst 4, 1) := dk_7 (dk_at dksX3_opens_0 9 rfl rfl)
theorem dX3_opens_10 : decode cX3_opens 10 = .ok (.invokevirtual 165, 3) := dk_182 0 165 (dk_at dksX3_opens_0 10 rfl rfl)
theorem dX3_opens_13 : decode cX3_opens 13 = .ok (.aload_n 0, 1) := dk_42 (dk_at dksX3_opens_0 13 rfl rfl)
theorem dX3_opens_14 : decode cX3_opens 14 = .ok (.dup, 1) := dk_89 (dk_at dksX3_opens_0 14 rfl rfl)
theorem dX3_opens_15 : decode cX3_opens 15 = .ok (.getfield 186, 3) := dk_180 0 186 (dk_at dksX3_opens_0 15 rfl rfl)
theorem dX3_opens_18 : decode cX3_opens 18 = .ok (.iconst 1, 1) := dk_4 (dk_at dksX3_opens_0 18 rfl rfl)
theorem dX3_opens_19 : decode cX3_opens 19 = .ok (.iadd, 1) := dk_96 (dk_at dksX3_opens_0 19 rfl rfl)
theorem dX3_opens_20 : decode cX3_opens 20 = .ok (.putfield 186, 3) := dk_181 0 186 (dk_at dksX3_opens_0 20 rfl rfl)
theorem dX3_opens_23 : decode cX3_opens 23 = .ok (.aload_n 0, 1) := dk_42 (dk_at dksX3_opens_0 23 rfl rfl)
theorem dX3_opens_24 : decode cX3_opens 24 = .ok (.invokevirtual 169, 3) := dk_182 0 169 (dk_at dksX3_opens_1 0 rfl rfl)
theorem dX3_opens_27 : decode cX3_opens 27 = .ok (.return_, 1) := dk_177 (dk_at dksX3_opens_1 3 rfl rfl)
abbrev cX3_step : ByteArray := prog_18_method_23_code
def yX3_step : MethodName := ⟨RX3, "step", "(II)V"⟩
def dkwX3_step_1 : List UInt8 := [16, 100, 27, 104, 28, 96, 79, 42, 180, 0, 13, 16, 7, 92, 46, 4, 96, 79, 177]
abbrev dktX3_step_1 : List UInt8 := dkwX3_step_1 ++ []
def dkwX3_step_0 : List UInt8 := [42, 180, 0, 126, 153, 0, 4, 177, 42, 180, 0, 13, 17, 0, 150, 42, 180, 0, 13, 16, 7, 46, 96]
abbrev dktX3_step_0 : List UInt8 := dkwX3_step_0 ++ dktX3_step_1
theorem dksX3_step_0 : cX3_step.data.toList.drop 0 = dktX3_step_0 := by decide +kernel
theorem dksX3_step_1 : cX3_step.data.toList.drop 23 = dktX3_step_1 := dk_seg dksX3_step_0 23 rfl rfl
theorem dX3_step_0 : decode cX3_step 0 = .ok (.aload_n 0, 1) := dk_42 (dk_at dksX3_step_0 0 rfl rfl)
theorem dX3_step_1 : decode cX3_step 1 = .ok (.getfield 126, 3) := dk_180 0 126 (dk_at dksX3_step_0 1 rfl rfl)
theorem dX3_step_4 : decode cX3_step 4 = .ok (.ifCond .eq 4, 3) := dk_153 0 4 (dk_at dksX3_step_0 4 rfl rfl)
theorem dX3_step_7 : decode cX3_step 7 = .ok (.return_, 1) := dk_177 (dk_at dksX3_step_0 7 rfl rfl)
theorem dX3_step_8 : decode cX3_step 8 = .ok (.aload_n 0, 1) := dk_42 (dk_at dksX3_step_0 8 rfl rfl)
theorem dX3_step_9 : decode cX3_step 9 = .ok (.getfield 13, 3) := dk_180 0 13 (dk_at dksX3_step_0 9 rfl rfl)
theorem dX3_step_12 : decode cX3_step 12 = .ok (.sipush 150, 3) := dk_17 0 150 (dk_at dksX3_step_0 12 rfl rfl)
theorem dX3_step_15 : decode cX3_step 15 = .ok (.aload_n 0, 1) := dk_42 (dk_at dksX3_step_0 15 rfl rfl)
theorem dX3_step_16 : decode cX3_step 16 = .ok (.getfield 13, 3) := dk_180 0 13 (dk_at dksX3_step_0 16 rfl rfl)
theorem dX3_step_19 : decode cX3_step 19 = .ok (.bipush 7, 2) := dk_16 7 (dk_at dksX3_step_0 19 rfl rfl)
theorem dX3_step_21 : decode cX3_step 21 = .ok (.iaload, 1) := dk_46 (dk_at dksX3_step_0 21 rfl rfl)
theorem dX3_step_22 : decode cX3_step 22 = .ok (.iadd, 1) := dk_96 (dk_at dksX3_step_0 22 rfl rfl)
theorem dX3_step_23 : decode cX3_step 23 = .ok (.bipush 100, 2) := dk_16 100 (dk_at dksX3_step_1 0 rfl rfl)
theorem dX3_step_25 : decode cX3_step 25 = .ok (.iload_n 1, 1) := dk_27 (dk_at dksX3_step_1 2 rfl rfl)
theorem dX3_step_26 : decode cX3_step 26 = .ok (.imul, 1) := dk_104 (dk_at dksX3_step_1 3 rfl rfl)
theorem dX3_step_27 : decode cX3_step 27 = .ok (.iload_n 2, 1) := dk_28 (dk_at dksX3_step_1 4 rfl rfl)
theorem dX3_step_28 : decode cX3_step 28 = .ok (.iadd, 1) := dk_96 (dk_at dksX3_step_1 5 rfl rfl)
theorem dX3_step_29 : decode cX3_step 29 = .ok (.iastore, 1) := dk_79 (dk_at dksX3_step_1 6 rfl rfl)
theorem dX3_step_30 : decode cX3_step 30 = .ok (.aload_n 0, 1) := dk_42 (dk_at dksX3_step_1 7 rfl rfl)
theorem dX3_step_31 : decode cX3_step 31 = .ok (.getfield 13, 3) := dk_180 0 13 (dk_at dksX3_step_1 8 rfl rfl)
theorem dX3_step_34 : decode cX3_step 34 = .ok (.bipush 7, 2) := dk_16 7 (dk_at dksX3_step_1 11 rfl rfl)
theorem dX3_step_36 : decode cX3_step 36 = .ok (.dup2, 1) := dk_92 (dk_at dksX3_step_1 13 rfl rfl)
theorem dX3_step_37 : decode cX3_step 37 = .ok (.iaload, 1) := dk_46 (dk_at dksX3_step_1 14 rfl rfl)
theorem dX3_step_38 : decode cX3_step 38 = .ok (.iconst 1, 1) := dk_4 (dk_at dksX3_step_1 15 rfl rfl)
theorem dX3_step_39 : decode cX3_step 39 = .ok (.iadd, 1) := dk_96 (dk_at dksX3_step_1 16 rfl rfl)
theorem dX3_step_40 : decode cX3_step 40 = .ok (.iastore, 1) := dk_79 (dk_at dksX3_step_1 17 rfl rfl)
theorem dX3_step_41 : decode cX3_step 41 = .ok (.return_, 1) := dk_177 (dk_at dksX3_step_1 18 rfl rfl)
abbrev cX3_someOf : ByteArray := prog_18_method_29_code
def yX3_someOf : MethodName := ⟨RX3, "someOf", "()V"⟩
def dkwX3_someOf_5 : List UInt8 := [28, 96, 182, 0, 199, 177]
abbrev dktX3_someOf_5 : List UInt8 := dkwX3_someOf_5 ++ []
def dkwX3_someOf_4 : List UInt8 := [16, 41, 182, 0, 195, 182, 0, 209, 42, 89, 180, 0, 186, 4, 100, 181, 0, 186, 42, 7, 16, 10, 27, 104]
abbrev dktX3_someOf_4 : List UInt8 := dkwX3_someOf_4 ++ dktX3_someOf_5
def dkwX3_someOf_3 : List UInt8 := [132, 2, 1, 42, 16, 44, 182, 0, 195, 62, 29, 153, 255, 227, 42, 182, 0, 162, 167, 255, 220, 42, 42]
abbrev dktX3_someOf_3 : List UInt8 := dkwX3_someOf_3 ++ dktX3_someOf_4
def dkwX3_someOf_2 : List UInt8 := [167, 0, 4, 3, 62, 29, 153, 0, 38, 28, 16, 6, 160, 0, 7, 42, 182, 0, 223, 42, 182, 0, 189]
abbrev dktX3_someOf_2 : List UInt8 := dkwX3_someOf_2 ++ dktX3_someOf_3
def dkwX3_someOf_1 : List UInt8 := [154, 0, 8, 42, 4, 182, 0, 165, 42, 182, 0, 206, 3, 61, 42, 180, 0, 126, 154, 0, 7, 4]
abbrev dktX3_someOf_1 : List UInt8 := dkwX3_someOf_1 ++ dktX3_someOf_2
def dkwX3_someOf_0 : List UInt8 := [42, 3, 16, 6, 182, 0, 219, 60, 42, 42, 18, 157, 182, 0, 135, 182, 0, 209, 42, 16, 40, 182, 0, 195]
abbrev dktX3_someOf_0 : List UInt8 := dkwX3_someOf_0 ++ dktX3_someOf_1
theorem dksX3_someOf_0 : cX3_someOf.data.toList.drop 0 = dktX3_someOf_0 := by decide +kernel
theorem dksX3_someOf_1 : cX3_someOf.data.toList.drop 24 = dktX3_someOf_1 := dk_seg dksX3_someOf_0 24 rfl rfl
theorem dksX3_someOf_2 : cX3_someOf.data.toList.drop 46 = dktX3_someOf_2 := dk_seg dksX3_someOf_1 22 rfl rfl
theorem dksX3_someOf_3 : cX3_someOf.data.toList.drop 69 = dktX3_someOf_3 := dk_seg dksX3_someOf_2 23 rfl rfl
theorem dksX3_someOf_4 : cX3_someOf.data.toList.drop 92 = dktX3_someOf_4 := dk_seg dksX3_someOf_3 23 rfl rfl
theorem dksX3_someOf_5 : cX3_someOf.data.toList.drop 116 = dktX3_someOf_5 := dk_seg dksX3_someOf_4 24 rfl rfl
theorem dX3_someOf_0 : decode cX3_someOf 0 = .ok (.aload_n 0, 1) := dk_42 (dk_at dksX3_someOf_0 0 rfl rfl)
theorem dX3_someOf_1 : decode cX3_someOf 1 = .ok (.iconst 0, 1) := dk_3 (dk_at dksX3_someOf_0 1 rfl rfl)
theorem dX3_someOf_2 : decode cX3_someOf 2 = .ok (.bipush 6, 2) := dk_16 6 (dk_at dksX3_someOf_0 2 rfl rfl)
theorem dX3_someOf_4 : decode cX3_someOf 4 = .ok (.invokevirtual 219, 3) := dk_182 0 219 (dk_at dksX3_someOf_0 4 rfl rfl)
theorem dX3_someOf_7 : decode cX3_someOf 7 = .ok (.istore_n 1, 1) := dk_60 (dk_at dksX3_someOf_0 7 rfl rfl)
theorem dX3_someOf_8 : decode cX3_someOf 8 = .ok (.aload_n 0, 1) := dk_42 (dk_at dksX3_someOf_0 8 rfl rfl)
theorem dX3_someOf_9 : decode cX3_someOf 9 = .ok (.aload_n 0, 1) := dk_42 (dk_at dksX3_someOf_0 9 rfl rfl)
theorem dX3_someOf_10 : decode cX3_someOf 10 = .ok (.ldc 157, 2) := dk_18 157 (dk_at dksX3_someOf_0 10 rfl rfl)
theorem dX3_someOf_12 : decode cX3_someOf 12 = .ok (.invokevirtual 135, 3) := dk_182 0 135 (dk_at dksX3_someOf_0 12 rfl rfl)
theorem dX3_someOf_15 : decode cX3_someOf 15 = .ok (.invokevirtual 209, 3) := dk_182 0 209 (dk_at dksX3_someOf_0 15 rfl rfl)
theorem dX3_someOf_18 : decode cX3_someOf 18 = .ok (.aload_n 0, 1) := dk_42 (dk_at dksX3_someOf_0 18 rfl rfl)
theorem dX3_someOf_19 : decode cX3_someOf 19 = .ok (.bipush 40, 2) := dk_16 40 (dk_at dksX3_someOf_0 19 rfl rfl)
theorem dX3_someOf_21 : decode cX3_someOf 21 = .ok (.invokevirtual 195, 3) := dk_182 0 195 (dk_at dksX3_someOf_0 21 rfl rfl)
theorem dX3_someOf_24 : decode cX3_someOf 24 = .ok (.ifCond .ne 8, 3) := dk_154 0 8 (dk_at dksX3_someOf_1 0 rfl rfl)
theorem dX3_someOf_27 : decode cX3_someOf 27 = .ok (.aload_n 0, 1) := dk_42 (dk_at dksX3_someOf_1 3 rfl rfl)
theorem dX3_someOf_28 : decode cX3_someOf 28 = .ok (.iconst 1, 1) := dk_4 (dk_at dksX3_someOf_1 4 rfl rfl)
theorem dX3_someOf_29 : decode cX3_someOf 29 = .ok (.invokevirtual 165, 3) := dk_182 0 165 (dk_at dksX3_someOf_1 5 rfl rfl)
theorem dX3_someOf_32 : decode cX3_someOf 32 = .ok (.aload_n 0, 1) := dk_42 (dk_at dksX3_someOf_1 8 rfl rfl)
theorem dX3_someOf_33 : decode cX3_someOf 33 = .ok (.invokevirtual 206, 3) := dk_182 0 206 (dk_at dksX3_someOf_1 9 rfl rfl)
theorem dX3_someOf_36 : decode cX3_someOf 36 = .ok (.iconst 0, 1) := dk_3 (dk_at dksX3_someOf_1 12 rfl rfl)
theorem dX3_someOf_37 : decode cX3_someOf 37 = .ok (.istore_n 2, 1) := dk_61 (dk_at dksX3_someOf_1 13 rfl rfl)
theorem dX3_someOf_38 : decode cX3_someOf 38 = .ok (.aload_n 0, 1) := dk_42 (dk_at dksX3_someOf_1 14 rfl rfl)
theorem dX3_someOf_39 : decode cX3_someOf 39 = .ok (.getfield 126, 3) := dk_180 0 126 (dk_at dksX3_someOf_1 15 rfl rfl)
theorem dX3_someOf_42 : decode cX3_someOf 42 = .ok (.ifCond .ne 7, 3) := dk_154 0 7 (dk_at dksX3_someOf_1 18 rfl rfl)
theorem dX3_someOf_45 : decode cX3_someOf 45 = .ok (.iconst 1, 1) := dk_4 (dk_at dksX3_someOf_1 21 rfl rfl)
theorem dX3_someOf_46 : decode cX3_someOf 46 = .ok (.goto 4, 3) := dk_167 0 4 (dk_at dksX3_someOf_2 0 rfl rfl)
theorem dX3_someOf_49 : decode cX3_someOf 49 = .ok (.iconst 0, 1) := dk_3 (dk_at dksX3_someOf_2 3 rfl rfl)
theorem dX3_someOf_50 : decode cX3_someOf 50 = .ok (.istore_n 3, 1) := dk_62 (dk_at dksX3_someOf_2 4 rfl rfl)
theorem dX3_someOf_51 : decode cX3_someOf 51 = .ok (.iload_n 3, 1) := dk_29 (dk_at dksX3_someOf_2 5 rfl rfl)
theorem dX3_someOf_52 : decode cX3_someOf 52 = .ok (.ifCond .eq 38, 3) := dk_153 0 38 (dk_at dksX3_someOf_2 6 rfl rfl)
theorem dX3_someOf_55 : decode cX3_someOf 55 = .ok (.iload_n 2, 1) := dk_28 (dk_at dksX3_someOf_2 9 rfl rfl)
theorem dX3_someOf_56 : decode cX3_someOf 56 = .ok (.bipush 6, 2) := dk_16 6 (dk_at dksX3_someOf_2 10 rfl rfl)
theorem dX3_someOf_58 : decode cX3_someOf 58 = .ok (.if_icmp .ne 7, 3) := dk_160 0 7 (dk_at dksX3_someOf_2 12 rfl rfl)
theorem dX3_someOf_61 : decode cX3_someOf 61 = .ok (.aload_n 0, 1) := dk_42 (dk_at dksX3_someOf_2 15 rfl rfl)
theorem dX3_someOf_62 : decode cX3_someOf 62 = .ok (.invokevirtual 223, 3) := dk_182 0 223 (dk_at dksX3_someOf_2 16 rfl rfl)
theorem dX3_someOf_65 : decode cX3_someOf 65 = .ok (.aload_n 0, 1) := dk_42 (dk_at dksX3_someOf_2 19 rfl rfl)
theorem dX3_someOf_66 : decode cX3_someOf 66 = .ok (.invokevirtual 189, 3) := dk_182 0 189 (dk_at dksX3_someOf_2 20 rfl rfl)
theorem dX3_someOf_69 : decode cX3_someOf 69 = .ok (.iinc 2 1, 3) := dk_132 2 1 (dk_at dksX3_someOf_3 0 rfl rfl)
theorem dX3_someOf_72 : decode cX3_someOf 72 = .ok (.aload_n 0, 1) := dk_42 (dk_at dksX3_someOf_3 3 rfl rfl)
theorem dX3_someOf_73 : decode cX3_someOf 73 = .ok (.bipush 44, 2) := dk_16 44 (dk_at dksX3_someOf_3 4 rfl rfl)
theorem dX3_someOf_75 : decode cX3_someOf 75 = .ok (.invokevirtual 195, 3) := dk_182 0 195 (dk_at dksX3_someOf_3 6 rfl rfl)
theorem dX3_someOf_78 : decode cX3_someOf 78 = .ok (.istore_n 3, 1) := dk_62 (dk_at dksX3_someOf_3 9 rfl rfl)
theorem dX3_someOf_79 : decode cX3_someOf 79 = .ok (.iload_n 3, 1) := dk_29 (dk_at dksX3_someOf_3 10 rfl rfl)
theorem dX3_someOf_80 : decode cX3_someOf 80 = .ok (.ifCond .eq (-29), 3) := dk_153 255 227 (dk_at dksX3_someOf_3 11 rfl rfl)
theorem dX3_someOf_83 : decode cX3_someOf 83 = .ok (.aload_n 0, 1) := dk_42 (dk_at dksX3_someOf_3 14 rfl rfl)
theorem dX3_someOf_84 : decode cX3_someOf 84 = .ok (.invokevirtual 162, 3) := dk_182 0 162 (dk_at dksX3_someOf_3 15 rfl rfl)
theorem dX3_someOf_87 : decode cX3_someOf 87 = .ok (.goto (-36), 3) := dk_167 255 220 (dk_at dksX3_someOf_3 18 rfl rfl)
theorem dX3_someOf_90 : decode cX3_someOf 90 = .ok (.aload_n 0, 1) := dk_42 (dk_at dksX3_someOf_3 21 rfl rfl)
theorem dX3_someOf_91 : decode cX3_someOf 91 = .ok (.aload_n 0, 1) := dk_42 (dk_at dksX3_someOf_3 22 rfl rfl)
theorem dX3_someOf_92 : decode cX3_someOf 92 = .ok (.bipush 41, 2) := dk_16 41 (dk_at dksX3_someOf_4 0 rfl rfl)
theorem dX3_someOf_94 : decode cX3_someOf 94 = .ok (.invokevirtual 195, 3) := dk_182 0 195 (dk_at dksX3_someOf_4 2 rfl rfl)
theorem dX3_someOf_97 : decode cX3_someOf 97 = .ok (.invokevirtual 209, 3) := dk_182 0 209 (dk_at dksX3_someOf_4 5 rfl rfl)
theorem dX3_someOf_100 : decode cX3_someOf 100 = .ok (.aload_n 0, 1) := dk_42 (dk_at dksX3_someOf_4 8 rfl rfl)
theorem dX3_someOf_101 : decode cX3_someOf 101 = .ok (.dup, 1) := dk_89 (dk_at dksX3_someOf_4 9 rfl rfl)
theorem dX3_someOf_102 : decode cX3_someOf 102 = .ok (.getfield 186, 3) := dk_180 0 186 (dk_at dksX3_someOf_4 10 rfl rfl)
theorem dX3_someOf_105 : decode cX3_someOf 105 = .ok (.iconst 1, 1) := dk_4 (dk_at dksX3_someOf_4 13 rfl rfl)
theorem dX3_someOf_106 : decode cX3_someOf 106 = .ok (.isub, 1) := dk_100 (dk_at dksX3_someOf_4 14 rfl rfl)
theorem dX3_someOf_107 : decode cX3_someOf 107 = .ok (.putfield 186, 3) := dk_181 0 186 (dk_at dksX3_someOf_4 15 rfl rfl)
theorem dX3_someOf_110 : decode cX3_someOf 110 = .ok (.aload_n 0, 1) := dk_42 (dk_at dksX3_someOf_4 18 rfl rfl)
theorem dX3_someOf_111 : decode cX3_someOf 111 = .ok (.iconst 4, 1) := dk_7 (dk_at dksX3_someOf_4 19 rfl rfl)
theorem dX3_someOf_112 : decode cX3_someOf 112 = .ok (.bipush 10, 2) := dk_16 10 (dk_at dksX3_someOf_4 20 rfl rfl)
theorem dX3_someOf_114 : decode cX3_someOf 114 = .ok (.iload_n 1, 1) := dk_27 (dk_at dksX3_someOf_4 22 rfl rfl)
theorem dX3_someOf_115 : decode cX3_someOf 115 = .ok (.imul, 1) := dk_104 (dk_at dksX3_someOf_4 23 rfl rfl)
theorem dX3_someOf_116 : decode cX3_someOf 116 = .ok (.iload_n 2, 1) := dk_28 (dk_at dksX3_someOf_5 0 rfl rfl)
theorem dX3_someOf_117 : decode cX3_someOf 117 = .ok (.iadd, 1) := dk_96 (dk_at dksX3_someOf_5 1 rfl rfl)
theorem dX3_someOf_118 : decode cX3_someOf 118 = .ok (.invokevirtual 199, 3) := dk_182 0 199 (dk_at dksX3_someOf_5 2 rfl rfl)
theorem dX3_someOf_121 : decode cX3_someOf 121 = .ok (.return_, 1) := dk_177 (dk_at dksX3_someOf_5 5 rfl rfl)
abbrev cX3_oneTooMany : ByteArray := prog_18_method_30_code
def yX3_oneTooMany : MethodName := ⟨RX3, "oneTooMany", "()V"⟩
def dkwX3_oneTooMany_2 : List UInt8 := [182, 0, 195, 154, 0, 9, 42, 4, 182, 0, 182, 87, 42, 7, 182, 0, 165, 177]
abbrev dktX3_oneTooMany_2 : List UInt8 := dkwX3_oneTooMany_2 ++ []
def dkwX3_oneTooMany_1 : List UInt8 := [167, 0, 4, 5, 182, 0, 165, 167, 0, 27, 42, 16, 33, 182, 0, 195, 154, 0, 18, 42, 16, 40]
abbrev dktX3_oneTooMany_1 : List UInt8 := dkwX3_oneTooMany_1 ++ dktX3_oneTooMany_2
def dkwX3_oneTooMany_0 : List UInt8 := [42, 180, 0, 109, 6, 160, 0, 28, 42, 42, 180, 0, 102, 3, 16, 6, 184, 0, 85, 153, 0, 7, 7]
abbrev dktX3_oneTooMany_0 : List UInt8 := dkwX3_oneTooMany_0 ++ dktX3_oneTooMany_1
theorem dksX3_oneTooMany_0 : cX3_oneTooMany.data.toList.drop 0 = dktX3_oneTooMany_0 := by decide +kernel
theorem dksX3_oneTooMany_1 : cX3_oneTooMany.data.toList.drop 23 = dktX3_oneTooMany_1 := dk_seg dksX3_oneTooMany_0 23 rfl rfl
theorem dksX3_oneTooMany_2 : cX3_oneTooMany.data.toList.drop 45 = dktX3_oneTooMany_2 := dk_seg dksX3_oneTooMany_1 22 rfl rfl
theorem dX3_oneTooMany_0 : decode cX3_oneTooMany 0 = .ok (.aload_n 0, 1) := dk_42 (dk_at dksX3_oneTooMany_0 0 rfl rfl)
theorem dX3_oneTooMany_1 : decode cX3_oneTooMany 1 = .ok (.getfield 109, 3) := dk_180 0 109 (dk_at dksX3_oneTooMany_0 1 rfl rfl)
theorem dX3_oneTooMany_4 : decode cX3_oneTooMany 4 = .ok (.iconst 3, 1) := dk_6 (dk_at dksX3_oneTooMany_0 4 rfl rfl)
theorem dX3_oneTooMany_5 : decode cX3_oneTooMany 5 = .ok (.if_icmp .ne 28, 3) := dk_160 0 28 (dk_at dksX3_oneTooMany_0 5 rfl rfl)
theorem dX3_oneTooMany_8 : decode cX3_oneTooMany 8 = .ok (.aload_n 0, 1) := dk_42 (dk_at dksX3_oneTooMany_0 8 rfl rfl)
theorem dX3_oneTooMany_9 : decode cX3_oneTooMany 9 = .ok (.aload_n 0, 1) := dk_42 (dk_at dksX3_oneTooMany_0 9 rfl rfl)
theorem dX3_oneTooMany_10 : decode cX3_oneTooMany 10 = .ok (.getfield 102, 3) := dk_180 0 102 (dk_at dksX3_oneTooMany_0 10 rfl rfl)
theorem dX3_oneTooMany_13 : decode cX3_oneTooMany 13 = .ok (.iconst 0, 1) := dk_3 (dk_at dksX3_oneTooMany_0 13 rfl rfl)
theorem dX3_oneTooMany_14 : decode cX3_oneTooMany 14 = .ok (.bipush 6, 2) := dk_16 6 (dk_at dksX3_oneTooMany_0 14 rfl rfl)
theorem dX3_oneTooMany_16 : decode cX3_oneTooMany 16 = .ok (.invokestatic 85, 3) := dk_184 0 85 (dk_at dksX3_oneTooMany_0 16 rfl rfl)
theorem dX3_oneTooMany_19 : decode cX3_oneTooMany 19 = .ok (.ifCond .eq 7, 3) := dk_153 0 7 (dk_at dksX3_oneTooMany_0 19 rfl rfl)
theorem dX3_oneTooMany_22 : decode cX3_oneTooMany 22 = .ok (.iconst 4, 1) := dk_7 (dk_at dksX3_oneTooMany_0 22 rfl rfl)
theorem dX3_oneTooMany_23 : decode cX3_oneTooMany 23 = .ok (.goto 4, 3) := dk_167 0 4 (dk_at dksX3_oneTooMany_1 0 rfl rfl)
theorem dX3_oneTooMany_26 : decode cX3_oneTooMany 26 = .ok (.iconst 2, 1) := dk_5 (dk_at dksX3_oneTooMany_1 3 rfl rfl)
theorem dX3_oneTooMany_27 : decode cX3_oneTooMany 27 = .ok (.invokevirtual 165, 3) := dk_182 0 165 (dk_at dksX3_oneTooMany_1 4 rfl rfl)
theorem dX3_oneTooMany_30 : decode cX3_oneTooMany 30 = .ok (.goto 27, 3) := dk_167 0 27 (dk_at dksX3_oneTooMany_1 7 rfl rfl)
theorem dX3_oneTooMany_33 : decode cX3_oneTooMany 33 = .ok (.aload_n 0, 1) := dk_42 (dk_at dksX3_oneTooMany_1 10 rfl rfl)
theorem dX3_oneTooMany_34 : decode cX3_oneTooMany 34 = .ok (.bipush 33, 2) := dk_16 33 (dk_at dksX3_oneTooMany_1 11 rfl rfl)
theorem dX3_oneTooMany_36 : decode cX3_oneTooMany 36 = .ok (.invokevirtual 195, 3) := dk_182 0 195 (dk_at dksX3_oneTooMany_1 13 rfl rfl)
theorem dX3_oneTooMany_39 : decode cX3_oneTooMany 39 = .ok (.ifCond .ne 18, 3) := dk_154 0 18 (dk_at dksX3_oneTooMany_1 16 rfl rfl)
theorem dX3_oneTooMany_42 : decode cX3_oneTooMany 42 = .ok (.aload_n 0, 1) := dk_42 (dk_at dksX3_oneTooMany_1 19 rfl rfl)
theorem dX3_oneTooMany_43 : decode cX3_oneTooMany 43 = .ok (.bipush 40, 2) := dk_16 40 (dk_at dksX3_oneTooMany_1 20 rfl rfl)
theorem dX3_oneTooMany_45 : decode cX3_oneTooMany 45 = .ok (.invokevirtual 195, 3) := dk_182 0 195 (dk_at dksX3_oneTooMany_2 0 rfl rfl)
theorem dX3_oneTooMany_48 : decode cX3_oneTooMany 48 = .ok (.ifCond .ne 9, 3) := dk_154 0 9 (dk_at dksX3_oneTooMany_2 3 rfl rfl)
theorem dX3_oneTooMany_51 : decode cX3_oneTooMany 51 = .ok (.aload_n 0, 1) := dk_42 (dk_at dksX3_oneTooMany_2 6 rfl rfl)
theorem dX3_oneTooMany_52 : decode cX3_oneTooMany 52 = .ok (.iconst 1, 1) := dk_4 (dk_at dksX3_oneTooMany_2 7 rfl rfl)
theorem dX3_oneTooMany_53 : decode cX3_oneTooMany 53 = .ok (.invokevirtual 182, 3) := dk_182 0 182 (dk_at dksX3_oneTooMany_2 8 rfl rfl)
theorem dX3_oneTooMany_56 : decode cX3_oneTooMany 56 = .ok (.pop, 1) := dk_87 (dk_at dksX3_oneTooMany_2 11 rfl rfl)
theorem dX3_oneTooMany_57 : decode cX3_oneTooMany 57 = .ok (.aload_n 0, 1) := dk_42 (dk_at dksX3_oneTooMany_2 12 rfl rfl)
theorem dX3_oneTooMany_58 : decode cX3_oneTooMany 58 = .ok (.iconst 4, 1) := dk_7 (dk_at dksX3_oneTooMany_2 13 rfl rfl)
theorem dX3_oneTooMany_59 : decode cX3_oneTooMany 59 = .ok (.invokevirtual 165, 3) := dk_182 0 165 (dk_at dksX3_oneTooMany_2 14 rfl rfl)
theorem dX3_oneTooMany_62 : decode cX3_oneTooMany 62 = .ok (.return_, 1) := dk_177 (dk_at dksX3_oneTooMany_2 17 rfl rfl)
abbrev cX3_here : ByteArray := prog_18_method_20_code
def yX3_here : MethodName := ⟨RX3, "here", "(Z)I"⟩
def dkwX3_here_2 : List UInt8 := [167, 0, 4, 3, 172]
abbrev dktX3_here_2 : List UInt8 := dkwX3_here_2 ++ []
def dkwX3_here_1 : List UInt8 := [182, 0, 179, 61, 28, 2, 160, 0, 8, 42, 6, 182, 0, 165, 42, 180, 0, 126, 154, 0, 7, 28]
abbrev dktX3_here_1 : List UInt8 := dkwX3_here_1 ++ dktX3_here_2
def dkwX3_here_0 : List UInt8 := [42, 182, 0, 172, 154, 0, 8, 42, 4, 182, 0, 165, 27, 153, 0, 10, 42, 182, 0, 176, 167, 0, 7, 42]
abbrev dktX3_here_0 : List UInt8 := dkwX3_here_0 ++ dktX3_here_1
theorem dksX3_here_0 : cX3_here.data.toList.drop 0 = dktX3_here_0 := by decide +kernel
theorem dksX3_here_1 : cX3_here.data.toList.drop 24 = dktX3_here_1 := dk_seg dksX3_here_0 24 rfl rfl
theorem dksX3_here_2 : cX3_here.data.toList.drop 46 = dktX3_here_2 := dk_seg dksX3_here_1 22 rfl rfl
theorem dX3_here_0 : decode cX3_here 0 = .ok (.aload_n 0, 1) := dk_42 (dk_at dksX3_here_0 0 rfl rfl)
theorem dX3_here_1 : decode cX3_here 1 = .ok (.invokevirtual 172, 3) := dk_182 0 172 (dk_at dksX3_here_0 1 rfl rfl)
theorem dX3_here_4 : decode cX3_here 4 = .ok (.ifCond .ne 8, 3) := dk_154 0 8 (dk_at dksX3_here_0 4 rfl rfl)
theorem dX3_here_7 : decode cX3_here 7 = .ok (.aload_n 0, 1) := dk_42 (dk_at dksX3_here_0 7 rfl rfl)
theorem dX3_here_8 : decode cX3_here 8 = .ok (.iconst 1, 1) := dk_4 (dk_at dksX3_here_0 8 rfl rfl)
theorem dX3_here_9 : decode cX3_here 9 = .ok (.invokevirtual 165, 3) := dk_182 0 165 (dk_at dksX3_here_0 9 rfl rfl)
theorem dX3_here_12 : decode cX3_here 12 = .ok (.iload_n 1, 1) := dk_27 (dk_at dksX3_here_0 12 rfl rfl)
theorem dX3_here_13 : decode cX3_here 13 = .ok (.ifCond .eq 10, 3) := dk_153 0 10 (dk_at dksX3_here_0 13 rfl rfl)
theorem dX3_here_16 : decode cX3_here 16 = .ok (.aload_n 0, 1) := dk_42 (dk_at dksX3_here_0 16 rfl rfl)
theorem dX3_here_17 : decode cX3_here 17 = .ok (.invokevirtual 176, 3) := dk_182 0 176 (dk_at dksX3_here_0 17 rfl rfl)
theorem dX3_here_20 : decode cX3_here 20 = .ok (.goto 7, 3) := dk_167 0 7 (dk_at dksX3_here_0 20 rfl rfl)
theorem dX3_here_23 : decode cX3_here 23 = .ok (.aload_n 0, 1) := dk_42 (dk_at dksX3_here_0 23 rfl rfl)
theorem dX3_here_24 : decode cX3_here 24 = .ok (.invokevirtual 179, 3) := dk_182 0 179 (dk_at dksX3_here_1 0 rfl rfl)
theorem dX3_here_27 : decode cX3_here 27 = .ok (.istore_n 2, 1) := dk_61 (dk_at dksX3_here_1 3 rfl rfl)
theorem dX3_here_28 : decode cX3_here 28 = .ok (.iload_n 2, 1) := dk_28 (dk_at dksX3_here_1 4 rfl rfl)
theorem dX3_here_29 : decode cX3_here 29 = .ok (.iconst (-1), 1) := dk_2 (dk_at dksX3_here_1 5 rfl rfl)
theorem dX3_here_30 : decode cX3_here 30 = .ok (.if_icmp .ne 8, 3) := dk_160 0 8 (dk_at dksX3_here_1 6 rfl rfl)
theorem dX3_here_33 : decode cX3_here 33 = .ok (.aload_n 0, 1) := dk_42 (dk_at dksX3_here_1 9 rfl rfl)
theorem dX3_here_34 : decode cX3_here 34 = .ok (.iconst 3, 1) := dk_6 (dk_at dksX3_here_1 10 rfl rfl)
theorem dX3_here_35 : decode cX3_here 35 = .ok (.invokevirtual 165, 3) := dk_182 0 165 (dk_at dksX3_here_1 11 rfl rfl)
theorem dX3_here_38 : decode cX3_here 38 = .ok (.aload_n 0, 1) := dk_42 (dk_at dksX3_here_1 14 rfl rfl)
theorem dX3_here_39 : decode cX3_here 39 = .ok (.getfield 126, 3) := dk_180 0 126 (dk_at dksX3_here_1 15 rfl rfl)
theorem dX3_here_42 : decode cX3_here 42 = .ok (.ifCond .ne 7, 3) := dk_154 0 7 (dk_at dksX3_here_1 18 rfl rfl)
theorem dX3_here_45 : decode cX3_here 45 = .ok (.iload_n 2, 1) := dk_28 (dk_at dksX3_here_1 21 rfl rfl)
theorem dX3_here_46 : decode cX3_here 46 = .ok (.goto 4, 3) := dk_167 0 4 (dk_at dksX3_here_2 0 rfl rfl)
theorem dX3_here_49 : decode cX3_here 49 = .ok (.iconst 0, 1) := dk_3 (dk_at dksX3_here_2 3 rfl rfl)
theorem dX3_here_50 : decode cX3_here 50 = .ok (.ireturn, 1) := dk_172 (dk_at dksX3_here_2 4 rfl rfl)
abbrev cX3_known : ByteArray := prog_18_method_21_code
def yX3_known : MethodName := ⟨RX3, "known", "(Z)I"⟩
def dkwX3_known_0 : List UInt8 := [42, 27, 182, 0, 182, 61, 42, 182, 0, 169, 28, 172]
abbrev dktX3_known_0 : List UInt8 := dkwX3_known_0 ++ []
theorem dksX3_known_0 : cX3_known.data.toList.drop 0 = dktX3_known_0 := by decide +kernel
theorem dX3_known_0 : decode cX3_known 0 = .ok (.aload_n 0, 1) := dk_42 (dk_at dksX3_known_0 0 rfl rfl)
theorem dX3_known_1 : decode cX3_known 1 = .ok (.iload_n 1, 1) := dk_27 (dk_at dksX3_known_0 1 rfl rfl)
theorem dX3_known_2 : decode cX3_known 2 = .ok (.invokevirtual 182, 3) := dk_182 0 182 (dk_at dksX3_known_0 2 rfl rfl)
theorem dX3_known_5 : decode cX3_known 5 = .ok (.istore_n 2, 1) := dk_61 (dk_at dksX3_known_0 5 rfl rfl)
theorem dX3_known_6 : decode cX3_known 6 = .ok (.aload_n 0, 1) := dk_42 (dk_at dksX3_known_0 6 rfl rfl)
theorem dX3_known_7 : decode cX3_known 7 = .ok (.invokevirtual 169, 3) := dk_182 0 169 (dk_at dksX3_known_0 7 rfl rfl)
theorem dX3_known_10 : decode cX3_known 10 = .ok (.iload_n 2, 1) := dk_28 (dk_at dksX3_known_0 10 rfl rfl)
theorem dX3_known_11 : decode cX3_known 11 = .ok (.ireturn, 1) := dk_172 (dk_at dksX3_known_0 11 rfl rfl)
abbrev cX3_readCount : ByteArray := prog_18_method_33_code
def yX3_readCount : MethodName := ⟨RX3, "readCount", "()V"⟩
def dkwX3_readCount_7 : List UInt8 := [42, 180, 0, 13, 16, 26, 27, 96, 21, 4, 79, 42, 180, 0, 13, 5, 92, 46, 4, 96, 79, 177]
abbrev dktX3_readCount_7 : List UInt8 := dkwX3_readCount_7 ++ []
def dkwX3_readCount_6 : List UInt8 := [153, 0, 4, 177, 42, 180, 0, 13, 16, 16, 27, 96, 28, 79, 42, 180, 0, 13, 16, 21, 27, 96, 29, 79]
abbrev dktX3_readCount_6 : List UInt8 := dkwX3_readCount_6 ++ dktX3_readCount_7
def dkwX3_readCount_5 : List UInt8 := [96, 21, 5, 79, 132, 4, 1, 167, 255, 208, 42, 42, 16, 59, 182, 0, 195, 182, 0, 209, 42, 180, 0, 126]
abbrev dktX3_readCount_5 : List UInt8 := dkwX3_readCount_5 ++ dktX3_readCount_6
def dkwX3_readCount_4 : List UInt8 := [182, 0, 232, 54, 5, 42, 180, 0, 126, 154, 0, 22, 42, 180, 0, 13, 16, 31, 7, 27, 104, 96, 21, 4]
abbrev dktX3_readCount_4 : List UInt8 := dkwX3_readCount_4 ++ dktX3_readCount_5
def dkwX3_readCount_3 : List UInt8 := [182, 0, 165, 3, 54, 4, 42, 18, 147, 182, 0, 135, 153, 0, 45, 42, 21, 4, 7, 182, 0, 226, 42]
abbrev dktX3_readCount_3 : List UInt8 := dkwX3_readCount_3 ++ dktX3_readCount_4
def dkwX3_readCount_2 : List UInt8 := [182, 0, 209, 42, 3, 17, 3, 231, 182, 0, 219, 62, 42, 18, 147, 182, 0, 135, 154, 0, 8, 42, 4]
abbrev dktX3_readCount_2 : List UInt8 := dkwX3_readCount_2 ++ dktX3_readCount_3
def dkwX3_readCount_1 : List UInt8 := [18, 143, 182, 0, 135, 182, 0, 209, 42, 3, 17, 3, 231, 182, 0, 219, 61, 42, 42, 18, 145, 182, 0, 135]
abbrev dktX3_readCount_1 : List UInt8 := dkwX3_readCount_1 ++ dktX3_readCount_2
def dkwX3_readCount_0 : List UInt8 := [42, 180, 0, 13, 5, 46, 60, 42, 27, 8, 182, 0, 226, 42, 16, 8, 27, 96, 182, 0, 229, 42, 42]
abbrev dktX3_readCount_0 : List UInt8 := dkwX3_readCount_0 ++ dktX3_readCount_1
theorem dksX3_readCount_0 : cX3_readCount.data.toList.drop 0 = dktX3_readCount_0 := by decide +kernel
theorem dksX3_readCount_1 : cX3_readCount.data.toList.drop 23 = dktX3_readCount_1 := dk_seg dksX3_readCount_0 23 rfl rfl
theorem dksX3_readCount_2 : cX3_readCount.data.toList.drop 47 = dktX3_readCount_2 := dk_seg dksX3_readCount_1 24 rfl rfl
theorem dksX3_readCount_3 : cX3_readCount.data.toList.drop 70 = dktX3_readCount_3 := dk_seg dksX3_readCount_2 23 rfl rfl
theorem dksX3_readCount_4 : cX3_readCount.data.toList.drop 93 = dktX3_readCount_4 := dk_seg dksX3_readCount_3 23 rfl rfl
theorem dksX3_readCount_5 : cX3_readCount.data.toList.drop 117 = dktX3_readCount_5 := dk_seg dksX3_readCount_4 24 rfl rfl
theorem dksX3_readCount_6 : cX3_readCount.data.toList.drop 141 = dktX3_readCount_6 := dk_seg dksX3_readCount_5 24 rfl rfl
theorem dksX3_readCount_7 : cX3_readCount.data.toList.drop 165 = dktX3_readCount_7 := dk_seg dksX3_readCount_6 24 rfl rfl
theorem dX3_readCount_0 : decode cX3_readCount 0 = .ok (.aload_n 0, 1) := dk_42 (dk_at dksX3_readCount_0 0 rfl rfl)
theorem dX3_readCount_1 : decode cX3_readCount 1 = .ok (.getfield 13, 3) := dk_180 0 13 (dk_at dksX3_readCount_0 1 rfl rfl)
theorem dX3_readCount_4 : decode cX3_readCount 4 = .ok (.iconst 2, 1) := dk_5 (dk_at dksX3_readCount_0 4 rfl rfl)
theorem dX3_readCount_5 : decode cX3_readCount 5 = .ok (.iaload, 1) := dk_46 (dk_at dksX3_readCount_0 5 rfl rfl)
theorem dX3_readCount_6 : decode cX3_readCount 6 = .ok (.istore_n 1, 1) := dk_60 (dk_at dksX3_readCount_0 6 rfl rfl)
theorem dX3_readCount_7 : decode cX3_readCount 7 = .ok (.aload_n 0, 1) := dk_42 (dk_at dksX3_readCount_0 7 rfl rfl)
theorem dX3_readCount_8 : decode cX3_readCount 8 = .ok (.iload_n 1, 1) := dk_27 (dk_at dksX3_readCount_0 8 rfl rfl)
theorem dX3_readCount_9 : decode cX3_readCount 9 = .ok (.iconst 5, 1) := dk_8 (dk_at dksX3_readCount_0 9 rfl rfl)
theorem dX3_readCount_10 : decode cX3_readCount 10 = .ok (.invokevirtual 226, 3) := dk_182 0 226 (dk_at dksX3_readCount_0 10 rfl rfl)
theorem dX3_readCount_13 : decode cX3_readCount 13 = .ok (.aload_n 0, 1) := dk_42 (dk_at dksX3_readCount_0 13 rfl rfl)
theorem dX3_readCount_14 : decode cX3_readCount 14 = .ok (.bipush 8, 2) := dk_16 8 (dk_at dksX3_readCount_0 14 rfl rfl)
theorem dX3_readCount_16 : decode cX3_readCount 16 = .ok (.iload_n 1, 1) := dk_27 (dk_at dksX3_readCount_0 16 rfl rfl)
theorem dX3_readCount_17 : decode cX3_readCount 17 = .ok (.iadd, 1) := dk_96 (dk_at dksX3_readCount_0 17 rfl rfl)
theorem dX3_readCount_18 : decode cX3_readCount 18 = .ok (.invokevirtual 229, 3) := dk_182 0 229 (dk_at dksX3_readCount_0 18 rfl rfl)
theorem dX3_readCount_21 : decode cX3_readCount 21 = .ok (.aload_n 0, 1) := dk_42 (dk_at dksX3_readCount_0 21 rfl rfl)
theorem dX3_readCount_22 : decode cX3_readCount 22 = .ok (.aload_n 0, 1) := dk_42 (dk_at dksX3_readCount_0 22 rfl rfl)
theorem dX3_readCount_23 : decode cX3_readCount 23 = .ok (.ldc 143, 2) := dk_18 143 (dk_at dksX3_readCount_1 0 rfl rfl)
theorem dX3_readCount_25 : decode cX3_readCount 25 = .ok (.invokevirtual 135, 3) := dk_182 0 135 (dk_at dksX3_readCount_1 2 rfl rfl)
theorem dX3_readCount_28 : decode cX3_readCount 28 = .ok (.invokevirtual 209, 3) := dk_182 0 209 (dk_at dksX3_readCount_1 5 rfl rfl)
theorem dX3_readCount_31 : decode cX3_readCount 31 = .ok (.aload_n 0, 1) := dk_42 (dk_at dksX3_readCount_1 8 rfl rfl)
theorem dX3_readCount_32 : decode cX3_readCount 32 = .ok (.iconst 0, 1) := dk_3 (dk_at dksX3_readCount_1 9 rfl rfl)
theorem dX3_readCount_33 : decode cX3_readCount 33 = .ok (.sipush 999, 3) := dk_17 3 231 (dk_at dksX3_readCount_1 10 rfl rfl)
theorem dX3_readCount_36 : decode cX3_readCount 36 = .ok (.invokevirtual 219, 3) := dk_182 0 219 (dk_at dksX3_readCount_1 13 rfl rfl)
theorem dX3_readCount_39 : decode cX3_readCount 39 = .ok (.istore_n 2, 1) := dk_61 (dk_at dksX3_readCount_1 16 rfl rfl)
theorem dX3_readCount_40 : decode cX3_readCount 40 = .ok (.aload_n 0, 1) := dk_42 (dk_at dksX3_readCount_1 17 rfl rfl)
theorem dX3_readCount_41 : decode cX3_readCount 41 = .ok (.aload_n 0, 1) := dk_42 (dk_at dksX3_readCount_1 18 rfl rfl)
theorem dX3_readCount_42 : decode cX3_readCount 42 = .ok (.ldc 145, 2) := dk_18 145 (dk_at dksX3_readCount_1 19 rfl rfl)
theorem dX3_readCount_44 : decode cX3_readCount 44 = .ok (.invokevirtual 135, 3) := dk_182 0 135 (dk_at dksX3_readCount_1 21 rfl rfl)
theorem dX3_readCount_47 : decode cX3_readCount 47 = .ok (.invokevirtual 209, 3) := dk_182 0 209 (dk_at dksX3_readCount_2 0 rfl rfl)
theorem dX3_readCount_50 : decode cX3_readCount 50 = .ok (.aload_n 0, 1) := dk_42 (dk_at dksX3_readCount_2 3 rfl rfl)
theorem dX3_readCount_51 : decode cX3_readCount 51 = .ok (.iconst 0, 1) := dk_3 (dk_at dksX3_readCount_2 4 rfl rfl)
theorem dX3_readCount_52 : decode cX3_readCount 52 = .ok (.sipush 999, 3) := dk_17 3 231 (dk_at dksX3_readCount_2 5 rfl rfl)
theorem dX3_readCount_55 : decode cX3_readCount 55 = .ok (.invokevirtual 219, 3) := dk_182 0 219 (dk_at dksX3_readCount_2 8 rfl rfl)
theorem dX3_readCount_58 : decode cX3_readCount 58 = .ok (.istore_n 3, 1) := dk_62 (dk_at dksX3_readCount_2 11 rfl rfl)
theorem dX3_readCount_59 : decode cX3_readCount 59 = .ok (.aload_n 0, 1) := dk_42 (dk_at dksX3_readCount_2 12 rfl rfl)
theorem dX3_readCount_60 : decode cX3_readCount 60 = .ok (.ldc 147, 2) := dk_18 147 (dk_at dksX3_readCount_2 13 rfl rfl)
theorem dX3_readCount_62 : decode cX3_readCount 62 = .ok (.invokevirtual 135, 3) := dk_182 0 135 (dk_at dksX3_readCount_2 15 rfl rfl)
theorem dX3_readCount_65 : decode cX3_readCount 65 = .ok (.ifCond .ne 8, 3) := dk_154 0 8 (dk_at dksX3_readCount_2 18 rfl rfl)
theorem dX3_readCount_68 : decode cX3_readCount 68 = .ok (.aload_n 0, 1) := dk_42 (dk_at dksX3_readCount_2 21 rfl rfl)
theorem dX3_readCount_69 : decode cX3_readCount 69 = .ok (.iconst 1, 1) := dk_4 (dk_at dksX3_readCount_2 22 rfl rfl)
theorem dX3_readCount_70 : decode cX3_readCount 70 = .ok (.invokevirtual 165, 3) := dk_182 0 165 (dk_at dksX3_readCount_3 0 rfl rfl)
theorem dX3_readCount_73 : decode cX3_readCount 73 = .ok (.iconst 0, 1) := dk_3 (dk_at dksX3_readCount_3 3 rfl rfl)
theorem dX3_readCount_74 : decode cX3_readCount 74 = .ok (.istore 4, 2) := dk_54 4 (dk_at dksX3_readCount_3 4 rfl rfl)
theorem dX3_readCount_76 : decode cX3_readCount 76 = .ok (.aload_n 0, 1) := dk_42 (dk_at dksX3_readCount_3 6 rfl rfl)
theorem dX3_readCount_77 : decode cX3_readCount 77 = .ok (.ldc 147, 2) := dk_18 147 (dk_at dksX3_readCount_3 7 rfl rfl)
theorem dX3_readCount_79 : decode cX3_readCount 79 = .ok (.invokevirtual 135, 3) := dk_182 0 135 (dk_at dksX3_readCount_3 9 rfl rfl)
theorem dX3_readCount_82 : decode cX3_readCount 82 = .ok (.ifCond .eq 45, 3) := dk_153 0 45 (dk_at dksX3_readCount_3 12 rfl rfl)
theorem dX3_readCount_85 : decode cX3_readCount 85 = .ok (.aload_n 0, 1) := dk_42 (dk_at dksX3_readCount_3 15 rfl rfl)
theorem dX3_readCount_86 : decode cX3_readCount 86 = .ok (.iload 4, 2) := dk_21 4 (dk_at dksX3_readCount_3 16 rfl rfl)
theorem dX3_readCount_88 : decode cX3_readCount 88 = .ok (.iconst 4, 1) := dk_7 (dk_at dksX3_readCount_3 18 rfl rfl)
theorem dX3_readCount_89 : decode cX3_readCount 89 = .ok (.invokevirtual 226, 3) := dk_182 0 226 (dk_at dksX3_readCount_3 19 rfl rfl)
theorem dX3_readCount_92 : decode cX3_readCount 92 = .ok (.aload_n 0, 1) := dk_42 (dk_at dksX3_readCount_3 22 rfl rfl)
theorem dX3_readCount_93 : decode cX3_readCount 93 = .ok (.invokevirtual 232, 3) := dk_182 0 232 (dk_at dksX3_readCount_4 0 rfl rfl)
theorem dX3_readCount_96 : decode cX3_readCount 96 = .ok (.istore 5, 2) := dk_54 5 (dk_at dksX3_readCount_4 3 rfl rfl)
theorem dX3_readCount_98 : decode cX3_readCount 98 = .ok (.aload_n 0, 1) := dk_42 (dk_at dksX3_readCount_4 5 rfl rfl)
theorem dX3_readCount_99 : decode cX3_readCount 99 = .ok (.getfield 126, 3) := dk_180 0 126 (dk_at dksX3_readCount_4 6 rfl rfl)
theorem dX3_readCount_102 : decode cX3_readCount 102 = .ok (.ifCond .ne 22, 3) := dk_154 0 22 (dk_at dksX3_readCount_4 9 rfl rfl)
theorem dX3_readCount_105 : decode cX3_readCount 105 = .ok (.aload_n 0, 1) := dk_42 (dk_at dksX3_readCount_4 12 rfl rfl)
theorem dX3_readCount_106 : decode cX3_readCount 106 = .ok (.getfield 13, 3) := dk_180 0 13 (dk_at dksX3_readCount_4 13 rfl rfl)
theorem dX3_readCount_109 : decode cX3_readCount 109 = .ok (.bipush 31, 2) := dk_16 31 (dk_at dksX3_readCount_4 16 rfl rfl)
theorem dX3_readCount_111 : decode cX3_readCount 111 = .ok (.iconst 4, 1) := dk_7 (dk_at dksX3_readCount_4 18 rfl rfl)
theorem dX3_readCount_112 : decode cX3_readCount 112 = .ok (.iload_n 1, 1) := dk_27 (dk_at dksX3_readCount_4 19 rfl rfl)
theorem dX3_readCount_113 : decode cX3_readCount 113 = .ok (.imul, 1) := dk_104 (dk_at dksX3_readCount_4 20 rfl rfl)
theorem dX3_readCount_114 : decode cX3_readCount 114 = .ok (.iadd, 1) := dk_96 (dk_at dksX3_readCount_4 21 rfl rfl)
theorem dX3_readCount_115 : decode cX3_readCount 115 = .ok (.iload 4, 2) := dk_21 4 (dk_at dksX3_readCount_4 22 rfl rfl)
theorem dX3_readCount_117 : decode cX3_readCount 117 = .ok (.iadd, 1) := dk_96 (dk_at dksX3_readCount_5 0 rfl rfl)
theorem dX3_readCount_118 : decode cX3_readCount 118 = .ok (.iload 5, 2) := dk_21 5 (dk_at dksX3_readCount_5 1 rfl rfl)
theorem dX3_readCount_120 : decode cX3_readCount 120 = .ok (.iastore, 1) := dk_79 (dk_at dksX3_readCount_5 3 rfl rfl)
theorem dX3_readCount_121 : decode cX3_readCount 121 = .ok (.iinc 4 1, 3) := dk_132 4 1 (dk_at dksX3_readCount_5 4 rfl rfl)
theorem dX3_readCount_124 : decode cX3_readCount 124 = .ok (.goto (-48), 3) := dk_167 255 208 (dk_at dksX3_readCount_5 7 rfl rfl)
theorem dX3_readCount_127 : decode cX3_readCount 127 = .ok (.aload_n 0, 1) := dk_42 (dk_at dksX3_readCount_5 10 rfl rfl)
theorem dX3_readCount_128 : decode cX3_readCount 128 = .ok (.aload_n 0, 1) := dk_42 (dk_at dksX3_readCount_5 11 rfl rfl)
theorem dX3_readCount_129 : decode cX3_readCount 129 = .ok (.bipush 59, 2) := dk_16 59 (dk_at dksX3_readCount_5 12 rfl rfl)
theorem dX3_readCount_131 : decode cX3_readCount 131 = .ok (.invokevirtual 195, 3) := dk_182 0 195 (dk_at dksX3_readCount_5 14 rfl rfl)
theorem dX3_readCount_134 : decode cX3_readCount 134 = .ok (.invokevirtual 209, 3) := dk_182 0 209 (dk_at dksX3_readCount_5 17 rfl rfl)
theorem dX3_readCount_137 : decode cX3_readCount 137 = .ok (.aload_n 0, 1) := dk_42 (dk_at dksX3_readCount_5 20 rfl rfl)
theorem dX3_readCount_138 : decode cX3_readCount 138 = .ok (.getfield 126, 3) := dk_180 0 126 (dk_at dksX3_readCount_5 21 rfl rfl)
theorem dX3_readCount_141 : decode cX3_readCount 141 = .ok (.ifCond .eq 4, 3) := dk_153 0 4 (dk_at dksX3_readCount_6 0 rfl rfl)
theorem dX3_readCount_144 : decode cX3_readCount 144 = .ok (.return_, 1) := dk_177 (dk_at dksX3_readCount_6 3 rfl rfl)
theorem dX3_readCount_145 : decode cX3_readCount 145 = .ok (.aload_n 0, 1) := dk_42 (dk_at dksX3_readCount_6 4 rfl rfl)
theorem dX3_readCount_146 : decode cX3_readCount 146 = .ok (.getfield 13, 3) := dk_180 0 13 (dk_at dksX3_readCount_6 5 rfl rfl)
theorem dX3_readCount_149 : decode cX3_readCount 149 = .ok (.bipush 16, 2) := dk_16 16 (dk_at dksX3_readCount_6 8 rfl rfl)
theorem dX3_readCount_151 : decode cX3_readCount 151 = .ok (.iload_n 1, 1) := dk_27 (dk_at dksX3_readCount_6 10 rfl rfl)
theorem dX3_readCount_152 : decode cX3_readCount 152 = .ok (.iadd, 1) := dk_96 (dk_at dksX3_readCount_6 11 rfl rfl)
theorem dX3_readCount_153 : decode cX3_readCount 153 = .ok (.iload_n 2, 1) := dk_28 (dk_at dksX3_readCount_6 12 rfl rfl)
theorem dX3_readCount_154 : decode cX3_readCount 154 = .ok (.iastore, 1) := dk_79 (dk_at dksX3_readCount_6 13 rfl rfl)
theorem dX3_readCount_155 : decode cX3_readCount 155 = .ok (.aload_n 0, 1) := dk_42 (dk_at dksX3_readCount_6 14 rfl rfl)
theorem dX3_readCount_156 : decode cX3_readCount 156 = .ok (.getfield 13, 3) := dk_180 0 13 (dk_at dksX3_readCount_6 15 rfl rfl)
theorem dX3_readCount_159 : decode cX3_readCount 159 = .ok (.bipush 21, 2) := dk_16 21 (dk_at dksX3_readCount_6 18 rfl rfl)
theorem dX3_readCount_161 : decode cX3_readCount 161 = .ok (.iload_n 1, 1) := dk_27 (dk_at dksX3_readCount_6 20 rfl rfl)
theorem dX3_readCount_162 : decode cX3_readCount 162 = .ok (.iadd, 1) := dk_96 (dk_at dksX3_readCount_6 21 rfl rfl)
theorem dX3_readCount_163 : decode cX3_readCount 163 = .ok (.iload_n 3, 1) := dk_29 (dk_at dksX3_readCount_6 22 rfl rfl)
theorem dX3_readCount_164 : decode cX3_readCount 164 = .ok (.iastore, 1) := dk_79 (dk_at dksX3_readCount_6 23 rfl rfl)
theorem dX3_readCount_165 : decode cX3_readCount 165 = .ok (.aload_n 0, 1) := dk_42 (dk_at dksX3_readCount_7 0 rfl rfl)
theorem dX3_readCount_166 : decode cX3_readCount 166 = .ok (.getfield 13, 3) := dk_180 0 13 (dk_at dksX3_readCount_7 1 rfl rfl)
theorem dX3_readCount_169 : decode cX3_readCount 169 = .ok (.bipush 26, 2) := dk_16 26 (dk_at dksX3_readCount_7 4 rfl rfl)
theorem dX3_readCount_171 : decode cX3_readCount 171 = .ok (.iload_n 1, 1) := dk_27 (dk_at dksX3_readCount_7 6 rfl rfl)
theorem dX3_readCount_172 : decode cX3_readCount 172 = .ok (.iadd, 1) := dk_96 (dk_at dksX3_readCount_7 7 rfl rfl)
theorem dX3_readCount_173 : decode cX3_readCount 173 = .ok (.iload 4, 2) := dk_21 4 (dk_at dksX3_readCount_7 8 rfl rfl)
theorem dX3_readCount_175 : decode cX3_readCount 175 = .ok (.iastore, 1) := dk_79 (dk_at dksX3_readCount_7 10 rfl rfl)
theorem dX3_readCount_176 : decode cX3_readCount 176 = .ok (.aload_n 0, 1) := dk_42 (dk_at dksX3_readCount_7 11 rfl rfl)
theorem dX3_readCount_177 : decode cX3_readCount 177 = .ok (.getfield 13, 3) := dk_180 0 13 (dk_at dksX3_readCount_7 12 rfl rfl)
theorem dX3_readCount_180 : decode cX3_readCount 180 = .ok (.iconst 2, 1) := dk_5 (dk_at dksX3_readCount_7 15 rfl rfl)
theorem dX3_readCount_181 : decode cX3_readCount 181 = .ok (.dup2, 1) := dk_92 (dk_at dksX3_readCount_7 16 rfl rfl)
theorem dX3_readCount_182 : decode cX3_readCount 182 = .ok (.iaload, 1) := dk_46 (dk_at dksX3_readCount_7 17 rfl rfl)
theorem dX3_readCount_183 : decode cX3_readCount 183 = .ok (.iconst 1, 1) := dk_4 (dk_at dksX3_readCount_7 18 rfl rfl)
theorem dX3_readCount_184 : decode cX3_readCount 184 = .ok (.iadd, 1) := dk_96 (dk_at dksX3_readCount_7 19 rfl rfl)
theorem dX3_readCount_185 : decode cX3_readCount 185 = .ok (.iastore, 1) := dk_79 (dk_at dksX3_readCount_7 20 rfl rfl)
theorem dX3_readCount_186 : decode cX3_readCount 186 = .ok (.return_, 1) := dk_177 (dk_at dksX3_readCount_7 21 rfl rfl)
abbrev cX3_readPlea : ByteArray := prog_18_method_34_code
def yX3_readPlea : MethodName := ⟨RX3, "readPlea", "()V"⟩
def dkwX3_readPlea_3 : List UInt8 := [180, 0, 13, 7, 92, 46, 4, 96, 79, 177]
abbrev dktX3_readPlea_3 : List UInt8 := dkwX3_readPlea_3 ++ []
def dkwX3_readPlea_2 : List UInt8 := [180, 0, 13, 7, 46, 96, 27, 79, 42, 180, 0, 13, 16, 72, 42, 180, 0, 13, 7, 46, 96, 28, 79, 42]
abbrev dktX3_readPlea_2 : List UInt8 := dkwX3_readPlea_2 ++ dktX3_readPlea_3
def dkwX3_readPlea_1 : List UInt8 := [42, 16, 59, 182, 0, 195, 182, 0, 209, 42, 180, 0, 126, 154, 0, 43, 42, 180, 0, 13, 16, 66, 42]
abbrev dktX3_readPlea_1 : List UInt8 := dkwX3_readPlea_1 ++ dktX3_readPlea_2
def dkwX3_readPlea_0 : List UInt8 := [42, 42, 180, 0, 13, 7, 46, 16, 6, 182, 0, 226, 42, 3, 182, 0, 216, 60, 42, 182, 0, 232, 61, 42]
abbrev dktX3_readPlea_0 : List UInt8 := dkwX3_readPlea_0 ++ dktX3_readPlea_1
theorem dksX3_readPlea_0 : cX3_readPlea.data.toList.drop 0 = dktX3_readPlea_0 := by decide +kernel
theorem dksX3_readPlea_1 : cX3_readPlea.data.toList.drop 24 = dktX3_readPlea_1 := dk_seg dksX3_readPlea_0 24 rfl rfl
theorem dksX3_readPlea_2 : cX3_readPlea.data.toList.drop 47 = dktX3_readPlea_2 := dk_seg dksX3_readPlea_1 23 rfl rfl
theorem dksX3_readPlea_3 : cX3_readPlea.data.toList.drop 71 = dktX3_readPlea_3 := dk_seg dksX3_readPlea_2 24 rfl rfl
theorem dX3_readPlea_0 : decode cX3_readPlea 0 = .ok (.aload_n 0, 1) := dk_42 (dk_at dksX3_readPlea_0 0 rfl rfl)
theorem dX3_readPlea_1 : decode cX3_readPlea 1 = .ok (.aload_n 0, 1) := dk_42 (dk_at dksX3_readPlea_0 1 rfl rfl)
theorem dX3_readPlea_2 : decode cX3_readPlea 2 = .ok (.getfield 13, 3) := dk_180 0 13 (dk_at dksX3_readPlea_0 2 rfl rfl)
theorem dX3_readPlea_5 : decode cX3_readPlea 5 = .ok (.iconst 4, 1) := dk_7 (dk_at dksX3_readPlea_0 5 rfl rfl)
theorem dX3_readPlea_6 : decode cX3_readPlea 6 = .ok (.iaload, 1) := dk_46 (dk_at dksX3_readPlea_0 6 rfl rfl)
theorem dX3_readPlea_7 : decode cX3_readPlea 7 = .ok (.bipush 6, 2) := dk_16 6 (dk_at dksX3_readPlea_0 7 rfl rfl)
theorem dX3_readPlea_9 : decode cX3_readPlea 9 = .ok (.invokevirtual 226, 3) := dk_182 0 226 (dk_at dksX3_readPlea_0 9 rfl rfl)
theorem dX3_readPlea_12 : decode cX3_readPlea 12 = .ok (.aload_n 0, 1) := dk_42 (dk_at dksX3_readPlea_0 12 rfl rfl)
theorem dX3_readPlea_13 : decode cX3_readPlea 13 = .ok (.iconst 0, 1) := dk_3 (dk_at dksX3_readPlea_0 13 rfl rfl)
theorem dX3_readPlea_14 : decode cX3_readPlea 14 = .ok (.invokevirtual 216, 3) := dk_182 0 216 (dk_at dksX3_readPlea_0 14 rfl rfl)
theorem dX3_readPlea_17 : decode cX3_readPlea 17 = .ok (.istore_n 1, 1) := dk_60 (dk_at dksX3_readPlea_0 17 rfl rfl)
theorem dX3_readPlea_18 : decode cX3_readPlea 18 = .ok (.aload_n 0, 1) := dk_42 (dk_at dksX3_readPlea_0 18 rfl rfl)
theorem dX3_readPlea_19 : decode cX3_readPlea 19 = .ok (.invokevirtual 232, 3) := dk_182 0 232 (dk_at dksX3_readPlea_0 19 rfl rfl)
theorem dX3_readPlea_22 : decode cX3_readPlea 22 = .ok (.istore_n 2, 1) := dk_61 (dk_at dksX3_readPlea_0 22 rfl rfl)
theorem dX3_readPlea_23 : decode cX3_readPlea 23 = .ok (.aload_n 0, 1) := dk_42 (dk_at dksX3_readPlea_0 23 rfl rfl)
theorem dX3_readPlea_24 : decode cX3_readPlea 24 = .ok (.aload_n 0, 1) := dk_42 (dk_at dksX3_readPlea_1 0 rfl rfl)
theorem dX3_readPlea_25 : decode cX3_readPlea 25 = .ok (.bipush 59, 2) := dk_16 59 (dk_at dksX3_readPlea_1 1 rfl rfl)
theorem dX3_readPlea_27 : decode cX3_readPlea 27 = .ok (.invokevirtual 195, 3) := dk_182 0 195 (dk_at dksX3_readPlea_1 3 rfl rfl)
theorem dX3_readPlea_30 : decode cX3_readPlea 30 = .ok (.invokevirtual 209, 3) := dk_182 0 209 (dk_at dksX3_readPlea_1 6 rfl rfl)
theorem dX3_readPlea_33 : decode cX3_readPlea 33 = .ok (.aload_n 0, 1) := dk_42 (dk_at dksX3_readPlea_1 9 rfl rfl)
theorem dX3_readPlea_34 : decode cX3_readPlea 34 = .ok (.getfield 126, 3) := dk_180 0 126 (dk_at dksX3_readPlea_1 10 rfl rfl)
theorem dX3_readPlea_37 : decode cX3_readPlea 37 = .ok (.ifCond .ne 43, 3) := dk_154 0 43 (dk_at dksX3_readPlea_1 13 rfl rfl)
theorem dX3_readPlea_40 : decode cX3_readPlea 40 = .ok (.aload_n 0, 1) := dk_42 (dk_at dksX3_readPlea_1 16 rfl rfl)
theorem dX3_readPlea_41 : decode cX3_readPlea 41 = .ok (.getfield 13, 3) := dk_180 0 13 (dk_at dksX3_readPlea_1 17 rfl rfl)
theorem dX3_readPlea_44 : decode cX3_readPlea 44 = .ok (.bipush 66, 2) := dk_16 66 (dk_at dksX3_readPlea_1 20 rfl rfl)
theorem dX3_readPlea_46 : decode cX3_readPlea 46 = .ok (.aload_n 0, 1) := dk_42 (dk_at dksX3_readPlea_1 22 rfl rfl)
theorem dX3_readPlea_47 : decode cX3_readPlea 47 = .ok (.getfield 13, 3) := dk_180 0 13 (dk_at dksX3_readPlea_2 0 rfl rfl)
theorem dX3_readPlea_50 : decode cX3_readPlea 50 = .ok (.iconst 4, 1) := dk_7 (dk_at dksX3_readPlea_2 3 rfl rfl)
theorem dX3_readPlea_51 : decode cX3_readPlea 51 = .ok (.iaload, 1) := dk_46 (dk_at dksX3_readPlea_2 4 rfl rfl)
theorem dX3_readPlea_52 : decode cX3_readPlea 52 = .ok (.iadd, 1) := dk_96 (dk_at dksX3_readPlea_2 5 rfl rfl)
theorem dX3_readPlea_53 : decode cX3_readPlea 53 = .ok (.iload_n 1, 1) := dk_27 (dk_at dksX3_readPlea_2 6 rfl rfl)
theorem dX3_readPlea_54 : decode cX3_readPlea 54 = .ok (.iastore, 1) := dk_79 (dk_at dksX3_readPlea_2 7 rfl rfl)
theorem dX3_readPlea_55 : decode cX3_readPlea 55 = .ok (.aload_n 0, 1) := dk_42 (dk_at dksX3_readPlea_2 8 rfl rfl)
theorem dX3_readPlea_56 : decode cX3_readPlea 56 = .ok (.getfield 13, 3) := dk_180 0 13 (dk_at dksX3_readPlea_2 9 rfl rfl)
theorem dX3_readPlea_59 : decode cX3_readPlea 59 = .ok (.bipush 72, 2) := dk_16 72 (dk_at dksX3_readPlea_2 12 rfl rfl)
theorem dX3_readPlea_61 : decode cX3_readPlea 61 = .ok (.aload_n 0, 1) := dk_42 (dk_at dksX3_readPlea_2 14 rfl rfl)
theorem dX3_readPlea_62 : decode cX3_readPlea 62 = .ok (.getfield 13, 3) := dk_180 0 13 (dk_at dksX3_readPlea_2 15 rfl rfl)
theorem dX3_readPlea_65 : decode cX3_readPlea 65 = .ok (.iconst 4, 1) := dk_7 (dk_at dksX3_readPlea_2 18 rfl rfl)
theorem dX3_readPlea_66 : decode cX3_readPlea 66 = .ok (.iaload, 1) := dk_46 (dk_at dksX3_readPlea_2 19 rfl rfl)
theorem dX3_readPlea_67 : decode cX3_readPlea 67 = .ok (.iadd, 1) := dk_96 (dk_at dksX3_readPlea_2 20 rfl rfl)
theorem dX3_readPlea_68 : decode cX3_readPlea 68 = .ok (.iload_n 2, 1) := dk_28 (dk_at dksX3_readPlea_2 21 rfl rfl)
theorem dX3_readPlea_69 : decode cX3_readPlea 69 = .ok (.iastore, 1) := dk_79 (dk_at dksX3_readPlea_2 22 rfl rfl)
theorem dX3_readPlea_70 : decode cX3_readPlea 70 = .ok (.aload_n 0, 1) := dk_42 (dk_at dksX3_readPlea_2 23 rfl rfl)
theorem dX3_readPlea_71 : decode cX3_readPlea 71 = .ok (.getfield 13, 3) := dk_180 0 13 (dk_at dksX3_readPlea_3 0 rfl rfl)
theorem dX3_readPlea_74 : decode cX3_readPlea 74 = .ok (.iconst 4, 1) := dk_7 (dk_at dksX3_readPlea_3 3 rfl rfl)
theorem dX3_readPlea_75 : decode cX3_readPlea 75 = .ok (.dup2, 1) := dk_92 (dk_at dksX3_readPlea_3 4 rfl rfl)
theorem dX3_readPlea_76 : decode cX3_readPlea 76 = .ok (.iaload, 1) := dk_46 (dk_at dksX3_readPlea_3 5 rfl rfl)
theorem dX3_readPlea_77 : decode cX3_readPlea 77 = .ok (.iconst 1, 1) := dk_4 (dk_at dksX3_readPlea_3 6 rfl rfl)
theorem dX3_readPlea_78 : decode cX3_readPlea 78 = .ok (.iadd, 1) := dk_96 (dk_at dksX3_readPlea_3 7 rfl rfl)
theorem dX3_readPlea_79 : decode cX3_readPlea 79 = .ok (.iastore, 1) := dk_79 (dk_at dksX3_readPlea_3 8 rfl rfl)
theorem dX3_readPlea_80 : decode cX3_readPlea 80 = .ok (.return_, 1) := dk_177 (dk_at dksX3_readPlea_3 9 rfl rfl)
abbrev cX3_readSays : ByteArray := prog_18_method_35_code
def yX3_readSays : MethodName := ⟨RX3, "readSays", "()V"⟩
def dkwX3_readSays_5 : List UInt8 := [177]
abbrev dktX3_readSays_5 : List UInt8 := dkwX3_readSays_5 ++ []
def dkwX3_readSays_4 : List UInt8 := [79, 42, 180, 0, 13, 16, 56, 27, 96, 92, 46, 28, 153, 0, 9, 4, 29, 120, 167, 0, 4, 3, 128, 79]
abbrev dktX3_readSays_4 : List UInt8 := dkwX3_readSays_4 ++ dktX3_readSays_5
def dkwX3_readSays_3 : List UInt8 := [182, 0, 209, 42, 180, 0, 126, 154, 0, 41, 42, 180, 0, 13, 16, 51, 27, 96, 92, 46, 4, 29, 120, 128]
abbrev dktX3_readSays_3 : List UInt8 := dkwX3_readSays_3 ++ dktX3_readSays_4
def dkwX3_readSays_2 : List UInt8 := [29, 184, 0, 239, 153, 0, 8, 42, 6, 182, 0, 165, 42, 182, 0, 169, 42, 42, 16, 59, 182, 0, 195]
abbrev dktX3_readSays_2 : List UInt8 := dkwX3_readSays_2 ++ dktX3_readSays_3
def dkwX3_readSays_1 : List UInt8 := [61, 28, 154, 0, 7, 42, 182, 0, 162, 42, 4, 182, 0, 182, 62, 42, 180, 0, 13, 16, 51, 27, 96, 46]
abbrev dktX3_readSays_1 : List UInt8 := dkwX3_readSays_1 ++ dktX3_readSays_2
def dkwX3_readSays_0 : List UInt8 := [42, 182, 0, 162, 42, 3, 182, 0, 216, 60, 42, 16, 33, 182, 0, 195, 154, 0, 7, 4, 167, 0, 4, 3]
abbrev dktX3_readSays_0 : List UInt8 := dkwX3_readSays_0 ++ dktX3_readSays_1
theorem dksX3_readSays_0 : cX3_readSays.data.toList.drop 0 = dktX3_readSays_0 := by decide +kernel
theorem dksX3_readSays_1 : cX3_readSays.data.toList.drop 24 = dktX3_readSays_1 := dk_seg dksX3_readSays_0 24 rfl rfl
theorem dksX3_readSays_2 : cX3_readSays.data.toList.drop 48 = dktX3_readSays_2 := dk_seg dksX3_readSays_1 24 rfl rfl
theorem dksX3_readSays_3 : cX3_readSays.data.toList.drop 71 = dktX3_readSays_3 := dk_seg dksX3_readSays_2 23 rfl rfl
theorem dksX3_readSays_4 : cX3_readSays.data.toList.drop 95 = dktX3_readSays_4 := dk_seg dksX3_readSays_3 24 rfl rfl
theorem dksX3_readSays_5 : cX3_readSays.data.toList.drop 119 = dktX3_readSays_5 := dk_seg dksX3_readSays_4 24 rfl rfl
theorem dX3_readSays_0 : decode cX3_readSays 0 = .ok (.aload_n 0, 1) := dk_42 (dk_at dksX3_readSays_0 0 rfl rfl)
theorem dX3_readSays_1 : decode cX3_readSays 1 = .ok (.invokevirtual 162, 3) := dk_182 0 162 (dk_at dksX3_readSays_0 1 rfl rfl)
theorem dX3_readSays_4 : decode cX3_readSays 4 = .ok (.aload_n 0, 1) := dk_42 (dk_at dksX3_readSays_0 4 rfl rfl)
theorem dX3_readSays_5 : decode cX3_readSays 5 = .ok (.iconst 0, 1) := dk_3 (dk_at dksX3_readSays_0 5 rfl rfl)
theorem dX3_readSays_6 : decode cX3_readSays 6 = .ok (.invokevirtual 216, 3) := dk_182 0 216 (dk_at dksX3_readSays_0 6 rfl rfl)
theorem dX3_readSays_9 : decode cX3_readSays 9 = .ok (.istore_n 1, 1) := dk_60 (dk_at dksX3_readSays_0 9 rfl rfl)
theorem dX3_readSays_10 : decode cX3_readSays 10 = .ok (.aload_n 0, 1) := dk_42 (dk_at dksX3_readSays_0 10 rfl rfl)
theorem dX3_readSays_11 : decode cX3_readSays 11 = .ok (.bipush 33, 2) := dk_16 33 (dk_at dksX3_readSays_0 11 rfl rfl)
theorem dX3_readSays_13 : decode cX3_readSays 13 = .ok (.invokevirtual 195, 3) := dk_182 0 195 (dk_at dksX3_readSays_0 13 rfl rfl)
theorem dX3_readSays_16 : decode cX3_readSays 16 = .ok (.ifCond .ne 7, 3) := dk_154 0 7 (dk_at dksX3_readSays_0 16 rfl rfl)
theorem dX3_readSays_19 : decode cX3_readSays 19 = .ok (.iconst 1, 1) := dk_4 (dk_at dksX3_readSays_0 19 rfl rfl)
theorem dX3_readSays_20 : decode cX3_readSays 20 = .ok (.goto 4, 3) := dk_167 0 4 (dk_at dksX3_readSays_0 20 rfl rfl)
theorem dX3_readSays_23 : decode cX3_readSays 23 = .ok (.iconst 0, 1) := dk_3 (dk_at dksX3_readSays_0 23 rfl rfl)
theorem dX3_readSays_24 : decode cX3_readSays 24 = .ok (.istore_n 2, 1) := dk_61 (dk_at dksX3_readSays_1 0 rfl rfl)
theorem dX3_readSays_25 : decode cX3_readSays 25 = .ok (.iload_n 2, 1) := dk_28 (dk_at dksX3_readSays_1 1 rfl rfl)
theorem dX3_readSays_26 : decode cX3_readSays 26 = .ok (.ifCond .ne 7, 3) := dk_154 0 7 (dk_at dksX3_readSays_1 2 rfl rfl)
theorem dX3_readSays_29 : decode cX3_readSays 29 = .ok (.aload_n 0, 1) := dk_42 (dk_at dksX3_readSays_1 5 rfl rfl)
theorem dX3_readSays_30 : decode cX3_readSays 30 = .ok (.invokevirtual 162, 3) := dk_182 0 162 (dk_at dksX3_readSays_1 6 rfl rfl)
theorem dX3_readSays_33 : decode cX3_readSays 33 = .ok (.aload_n 0, 1) := dk_42 (dk_at dksX3_readSays_1 9 rfl rfl)
theorem dX3_readSays_34 : decode cX3_readSays 34 = .ok (.iconst 1, 1) := dk_4 (dk_at dksX3_readSays_1 10 rfl rfl)
theorem dX3_readSays_35 : decode cX3_readSays 35 = .ok (.invokevirtual 182, 3) := dk_182 0 182 (dk_at dksX3_readSays_1 11 rfl rfl)
theorem dX3_readSays_38 : decode cX3_readSays 38 = .ok (.istore_n 3, 1) := dk_62 (dk_at dksX3_readSays_1 14 rfl rfl)
theorem dX3_readSays_39 : decode cX3_readSays 39 = .ok (.aload_n 0, 1) := dk_42 (dk_at dksX3_readSays_1 15 rfl rfl)
theorem dX3_readSays_40 : decode cX3_readSays 40 = .ok (.getfield 13, 3) := dk_180 0 13 (dk_at dksX3_readSays_1 16 rfl rfl)
theorem dX3_readSays_43 : decode cX3_readSays 43 = .ok (.bipush 51, 2) := dk_16 51 (dk_at dksX3_readSays_1 19 rfl rfl)
theorem dX3_readSays_45 : decode cX3_readSays 45 = .ok (.iload_n 1, 1) := dk_27 (dk_at dksX3_readSays_1 21 rfl rfl)
theorem dX3_readSays_46 : decode cX3_readSays 46 = .ok (.iadd, 1) := dk_96 (dk_at dksX3_readSays_1 22 rfl rfl)
theorem dX3_readSays_47 : decode cX3_readSays 47 = .ok (.iaload, 1) := dk_46 (dk_at dksX3_readSays_1 23 rfl rfl)
theorem dX3_readSays_48 : decode cX3_readSays 48 = .ok (.iload_n 3, 1) := dk_29 (dk_at dksX3_readSays_2 0 rfl rfl)
theorem dX3_readSays_49 : decode cX3_readSays 49 = .ok (.invokestatic 239, 3) := dk_184 0 239 (dk_at dksX3_readSays_2 1 rfl rfl)
theorem dX3_readSays_52 : decode cX3_readSays 52 = .ok (.ifCond .eq 8, 3) := dk_153 0 8 (dk_at dksX3_readSays_2 4 rfl rfl)
theorem dX3_readSays_55 : decode cX3_readSays 55 = .ok (.aload_n 0, 1) := dk_42 (dk_at dksX3_readSays_2 7 rfl rfl)
theorem dX3_readSays_56 : decode cX3_readSays 56 = .ok (.iconst 3, 1) := dk_6 (dk_at dksX3_readSays_2 8 rfl rfl)
theorem dX3_readSays_57 : decode cX3_readSays 57 = .ok (.invokevirtual 165, 3) := dk_182 0 165 (dk_at dksX3_readSays_2 9 rfl rfl)
theorem dX3_readSays_60 : decode cX3_readSays 60 = .ok (.aload_n 0, 1) := dk_42 (dk_at dksX3_readSays_2 12 rfl rfl)
theorem dX3_readSays_61 : decode cX3_readSays 61 = .ok (.invokevirtual 169, 3) := dk_182 0 169 (dk_at dksX3_readSays_2 13 rfl rfl)
theorem dX3_readSays_64 : decode cX3_readSays 64 = .ok (.aload_n 0, 1) := dk_42 (dk_at dksX3_readSays_2 16 rfl rfl)
theorem dX3_readSays_65 : decode cX3_readSays 65 = .ok (.aload_n 0, 1) := dk_42 (dk_at dksX3_readSays_2 17 rfl rfl)
theorem dX3_readSays_66 : decode cX3_readSays 66 = .ok (.bipush 59, 2) := dk_16 59 (dk_at dksX3_readSays_2 18 rfl rfl)
theorem dX3_readSays_68 : decode cX3_readSays 68 = .ok (.invokevirtual 195, 3) := dk_182 0 195 (dk_at dksX3_readSays_2 20 rfl rfl)
theorem dX3_readSays_71 : decode cX3_readSays 71 = .ok (.invokevirtual 209, 3) := dk_182 0 209 (dk_at dksX3_readSays_3 0 rfl rfl)
theorem dX3_readSays_74 : decode cX3_readSays 74 = .ok (.aload_n 0, 1) := dk_42 (dk_at dksX3_readSays_3 3 rfl rfl)
theorem dX3_readSays_75 : decode cX3_readSays 75 = .ok (.getfield 126, 3) := dk_180 0 126 (dk_at dksX3_readSays_3 4 rfl rfl)
theorem dX3_readSays_78 : decode cX3_readSays 78 = .ok (.ifCond .ne 41, 3) := dk_154 0 41 (dk_at dksX3_readSays_3 7 rfl rfl)
theorem dX3_readSays_81 : decode cX3_readSays 81 = .ok (.aload_n 0, 1) := dk_42 (dk_at dksX3_readSays_3 10 rfl rfl)
theorem dX3_readSays_82 : decode cX3_readSays 82 = .ok (.getfield 13, 3) := dk_180 0 13 (dk_at dksX3_readSays_3 11 rfl rfl)
theorem dX3_readSays_85 : decode cX3_readSays 85 = .ok (.bipush 51, 2) := dk_16 51 (dk_at dksX3_readSays_3 14 rfl rfl)
theorem dX3_readSays_87 : decode cX3_readSays 87 = .ok (.iload_n 1, 1) := dk_27 (dk_at dksX3_readSays_3 16 rfl rfl)
theorem dX3_readSays_88 : decode cX3_readSays 88 = .ok (.iadd, 1) := dk_96 (dk_at dksX3_readSays_3 17 rfl rfl)
theorem dX3_readSays_89 : decode cX3_readSays 89 = .ok (.dup2, 1) := dk_92 (dk_at dksX3_readSays_3 18 rfl rfl)
theorem dX3_readSays_90 : decode cX3_readSays 90 = .ok (.iaload, 1) := dk_46 (dk_at dksX3_readSays_3 19 rfl rfl)
theorem dX3_readSays_91 : decode cX3_readSays 91 = .ok (.iconst 1, 1) := dk_4 (dk_at dksX3_readSays_3 20 rfl rfl)
theorem dX3_readSays_92 : decode cX3_readSays 92 = .ok (.iload_n 3, 1) := dk_29 (dk_at dksX3_readSays_3 21 rfl rfl)
theorem dX3_readSays_93 : decode cX3_readSays 93 = .ok (.ishl, 1) := dk_120 (dk_at dksX3_readSays_3 22 rfl rfl)
theorem dX3_readSays_94 : decode cX3_readSays 94 = .ok (.ior, 1) := dk_128 (dk_at dksX3_readSays_3 23 rfl rfl)
theorem dX3_readSays_95 : decode cX3_readSays 95 = .ok (.iastore, 1) := dk_79 (dk_at dksX3_readSays_4 0 rfl rfl)
theorem dX3_readSays_96 : decode cX3_readSays 96 = .ok (.aload_n 0, 1) := dk_42 (dk_at dksX3_readSays_4 1 rfl rfl)
theorem dX3_readSays_97 : decode cX3_readSays 97 = .ok (.getfield 13, 3) := dk_180 0 13 (dk_at dksX3_readSays_4 2 rfl rfl)
theorem dX3_readSays_100 : decode cX3_readSays 100 = .ok (.bipush 56, 2) := dk_16 56 (dk_at dksX3_readSays_4 5 rfl rfl)
theorem dX3_readSays_102 : decode cX3_readSays 102 = .ok (.iload_n 1, 1) := dk_27 (dk_at dksX3_readSays_4 7 rfl rfl)
theorem dX3_readSays_103 : decode cX3_readSays 103 = .ok (.iadd, 1) := dk_96 (dk_at dksX3_readSays_4 8 rfl rfl)
theorem dX3_readSays_104 : decode cX3_readSays 104 = .ok (.dup2, 1) := dk_92 (dk_at dksX3_readSays_4 9 rfl rfl)
theorem dX3_readSays_105 : decode cX3_readSays 105 = .ok (.iaload, 1) := dk_46 (dk_at dksX3_readSays_4 10 rfl rfl)
theorem dX3_readSays_106 : decode cX3_readSays 106 = .ok (.iload_n 2, 1) := dk_28 (dk_at dksX3_readSays_4 11 rfl rfl)
theorem dX3_readSays_107 : decode cX3_readSays 107 = .ok (.ifCond .eq 9, 3) := dk_153 0 9 (dk_at dksX3_readSays_4 12 rfl rfl)
theorem dX3_readSays_110 : decode cX3_readSays 110 = .ok (.iconst 1, 1) := dk_4 (dk_at dksX3_readSays_4 15 rfl rfl)
theorem dX3_readSays_111 : decode cX3_readSays 111 = .ok (.iload_n 3, 1) := dk_29 (dk_at dksX3_readSays_4 16 rfl rfl)
theorem dX3_readSays_112 : decode cX3_readSays 112 = .ok (.ishl, 1) := dk_120 (dk_at dksX3_readSays_4 17 rfl rfl)
theorem dX3_readSays_113 : decode cX3_readSays 113 = .ok (.goto 4, 3) := dk_167 0 4 (dk_at dksX3_readSays_4 18 rfl rfl)
theorem dX3_readSays_116 : decode cX3_readSays 116 = .ok (.iconst 0, 1) := dk_3 (dk_at dksX3_readSays_4 21 rfl rfl)
theorem dX3_readSays_117 : decode cX3_readSays 117 = .ok (.ior, 1) := dk_128 (dk_at dksX3_readSays_4 22 rfl rfl)
theorem dX3_readSays_118 : decode cX3_readSays 118 = .ok (.iastore, 1) := dk_79 (dk_at dksX3_readSays_4 23 rfl rfl)
theorem dX3_readSays_119 : decode cX3_readSays 119 = .ok (.return_, 1) := dk_177 (dk_at dksX3_readSays_5 0 rfl rfl)
abbrev cX3_has : ByteArray := prog_18_method_3_code
def yX3_has : MethodName := ⟨RX3, "has", "(II)Z"⟩
def dkwX3_has_0 : List UInt8 := [26, 27, 122, 4, 126, 4, 160, 0, 7, 4, 167, 0, 4, 3, 172]
abbrev dktX3_has_0 : List UInt8 := dkwX3_has_0 ++ []
theorem dksX3_has_0 : cX3_has.data.toList.drop 0 = dktX3_has_0 := by decide +kernel
theorem dX3_has_0 : decode cX3_has 0 = .ok (.iload_n 0, 1) := dk_26 (dk_at dksX3_has_0 0 rfl rfl)
theorem dX3_has_1 : decode cX3_has 1 = .ok (.iload_n 1, 1) := dk_27 (dk_at dksX3_has_0 1 rfl rfl)
theorem dX3_has_2 : decode cX3_has 2 = .ok (.ishr, 1) := dk_122 (dk_at dksX3_has_0 2 rfl rfl)
theorem dX3_has_3 : decode cX3_has 3 = .ok (.iconst 1, 1) := dk_4 (dk_at dksX3_has_0 3 rfl rfl)
theorem dX3_has_4 : decode cX3_has 4 = .ok (.iand, 1) := dk_126 (dk_at dksX3_has_0 4 rfl rfl)
theorem dX3_has_5 : decode cX3_has 5 = .ok (.iconst 1, 1) := dk_4 (dk_at dksX3_has_0 5 rfl rfl)
theorem dX3_has_6 : decode cX3_has 6 = .ok (.if_icmp .ne 7, 3) := dk_160 0 7 (dk_at dksX3_has_0 6 rfl rfl)
theorem dX3_has_9 : decode cX3_has 9 = .ok (.iconst 1, 1) := dk_4 (dk_at dksX3_has_0 9 rfl rfl)
theorem dX3_has_10 : decode cX3_has 10 = .ok (.goto 4, 3) := dk_167 0 4 (dk_at dksX3_has_0 10 rfl rfl)
theorem dX3_has_13 : decode cX3_has 13 = .ok (.iconst 0, 1) := dk_3 (dk_at dksX3_has_0 13 rfl rfl)
theorem dX3_has_14 : decode cX3_has 14 = .ok (.ireturn, 1) := dk_172 (dk_at dksX3_has_0 14 rfl rfl)
abbrev cX3_readSame : ByteArray := prog_18_method_36_code
def yX3_readSame : MethodName := ⟨RX3, "readSame", "()V"⟩
def dkwX3_readSame_3 : List UInt8 := [96, 92, 46, 4, 28, 120, 128, 79, 42, 180, 0, 13, 16, 61, 28, 96, 92, 46, 4, 27, 120, 128, 79, 177]
abbrev dktX3_readSame_3 : List UInt8 := dkwX3_readSame_3 ++ []
def dkwX3_readSame_2 : List UInt8 := [42, 42, 16, 59, 182, 0, 195, 182, 0, 209, 42, 180, 0, 126, 154, 0, 33, 42, 180, 0, 13, 16, 61, 27]
abbrev dktX3_readSame_2 : List UInt8 := dkwX3_readSame_2 ++ dktX3_readSame_3
def dkwX3_readSame_1 : List UInt8 := [180, 0, 13, 16, 61, 27, 96, 46, 28, 184, 0, 239, 153, 0, 8, 42, 6, 182, 0, 165, 42, 182, 0, 169]
abbrev dktX3_readSame_1 : List UInt8 := dkwX3_readSame_1 ++ dktX3_readSame_2
def dkwX3_readSame_0 : List UInt8 := [42, 182, 0, 162, 42, 3, 182, 0, 216, 60, 42, 3, 182, 0, 182, 61, 27, 28, 159, 0, 19, 42]
abbrev dktX3_readSame_0 : List UInt8 := dkwX3_readSame_0 ++ dktX3_readSame_1
theorem dksX3_readSame_0 : cX3_readSame.data.toList.drop 0 = dktX3_readSame_0 := by decide +kernel
theorem dksX3_readSame_1 : cX3_readSame.data.toList.drop 22 = dktX3_readSame_1 := dk_seg dksX3_readSame_0 22 rfl rfl
theorem dksX3_readSame_2 : cX3_readSame.data.toList.drop 46 = dktX3_readSame_2 := dk_seg dksX3_readSame_1 24 rfl rfl
theorem dksX3_readSame_3 : cX3_readSame.data.toList.drop 70 = dktX3_readSame_3 := dk_seg dksX3_readSame_2 24 rfl rfl
theorem dX3_readSame_0 : decode cX3_readSame 0 = .ok (.aload_n 0, 1) := dk_42 (dk_at dksX3_readSame_0 0 rfl rfl)
theorem dX3_readSame_1 : decode cX3_readSame 1 = .ok (.invokevirtual 162, 3) := dk_182 0 162 (dk_at dksX3_readSame_0 1 rfl rfl)
theorem dX3_readSame_4 : decode cX3_readSame 4 = .ok (.aload_n 0, 1) := dk_42 (dk_at dksX3_readSame_0 4 rfl rfl)
theorem dX3_readSame_5 : decode cX3_readSame 5 = .ok (.iconst 0, 1) := dk_3 (dk_at dksX3_readSame_0 5 rfl rfl)
theorem dX3_readSame_6 : decode cX3_readSame 6 = .ok (.invokevirtual 216, 3) := dk_182 0 216 (dk_at dksX3_readSame_0 6 rfl rfl)
theorem dX3_readSame_9 : decode cX3_readSame 9 = .ok (.istore_n 1, 1) := dk_60 (dk_at dksX3_readSame_0 9 rfl rfl)
theorem dX3_readSame_10 : decode cX3_readSame 10 = .ok (.aload_n 0, 1) := dk_42 (dk_at dksX3_readSame_0 10 rfl rfl)
theorem dX3_readSame_11 : decode cX3_readSame 11 = .ok (.iconst 0, 1) := dk_3 (dk_at dksX3_readSame_0 11 rfl rfl)
theorem dX3_readSame_12 : decode cX3_readSame 12 = .ok (.invokevirtual 182, 3) := dk_182 0 182 (dk_at dksX3_readSame_0 12 rfl rfl)
theorem dX3_readSame_15 : decode cX3_readSame 15 = .ok (.istore_n 2, 1) := dk_61 (dk_at dksX3_readSame_0 15 rfl rfl)
theorem dX3_readSame_16 : decode cX3_readSame 16 = .ok (.iload_n 1, 1) := dk_27 (dk_at dksX3_readSame_0 16 rfl rfl)
theorem dX3_readSame_17 : decode cX3_readSame 17 = .ok (.iload_n 2, 1) := dk_28 (dk_at dksX3_readSame_0 17 rfl rfl)
theorem dX3_readSame_18 : decode cX3_readSame 18 = .ok (.if_icmp .eq 19, 3) := dk_159 0 19 (dk_at dksX3_readSame_0 18 rfl rfl)
theorem dX3_readSame_21 : decode cX3_readSame 21 = .ok (.aload_n 0, 1) := dk_42 (dk_at dksX3_readSame_0 21 rfl rfl)
theorem dX3_readSame_22 : decode cX3_readSame 22 = .ok (.getfield 13, 3) := dk_180 0 13 (dk_at dksX3_readSame_1 0 rfl rfl)
theorem dX3_readSame_25 : decode cX3_readSame 25 = .ok (.bipush 61, 2) := dk_16 61 (dk_at dksX3_readSame_1 3 rfl rfl)
theorem dX3_readSame_27 : decode cX3_readSame 27 = .ok (.iload_n 1, 1) := dk_27 (dk_at dksX3_readSame_1 5 rfl rfl)
theorem dX3_readSame_28 : decode cX3_readSame 28 = .ok (.iadd, 1) := dk_96 (dk_at dksX3_readSame_1 6 rfl rfl)
theorem dX3_readSame_29 : decode cX3_readSame 29 = .ok (.iaload, 1) := dk_46 (dk_at dksX3_readSame_1 7 rfl rfl)
theorem dX3_readSame_30 : decode cX3_readSame 30 = .ok (.iload_n 2, 1) := dk_28 (dk_at dksX3_readSame_1 8 rfl rfl)
theorem dX3_readSame_31 : decode cX3_readSame 31 = .ok (.invokestatic 239, 3) := dk_184 0 239 (dk_at dksX3_readSame_1 9 rfl rfl)
theorem dX3_readSame_34 : decode cX3_readSame 34 = .ok (.ifCond .eq 8, 3) := dk_153 0 8 (dk_at dksX3_readSame_1 12 rfl rfl)
theorem dX3_readSame_37 : decode cX3_readSame 37 = .ok (.aload_n 0, 1) := dk_42 (dk_at dksX3_readSame_1 15 rfl rfl)
theorem dX3_readSame_38 : decode cX3_readSame 38 = .ok (.iconst 3, 1) := dk_6 (dk_at dksX3_readSame_1 16 rfl rfl)
theorem dX3_readSame_39 : decode cX3_readSame 39 = .ok (.invokevirtual 165, 3) := dk_182 0 165 (dk_at dksX3_readSame_1 17 rfl rfl)
theorem dX3_readSame_42 : decode cX3_readSame 42 = .ok (.aload_n 0, 1) := dk_42 (dk_at dksX3_readSame_1 20 rfl rfl)
theorem dX3_readSame_43 : decode cX3_readSame 43 = .ok (.invokevirtual 169, 3) := dk_182 0 169 (dk_at dksX3_readSame_1 21 rfl rfl)
theorem dX3_readSame_46 : decode cX3_readSame 46 = .ok (.aload_n 0, 1) := dk_42 (dk_at dksX3_readSame_2 0 rfl rfl)
theorem dX3_readSame_47 : decode cX3_readSame 47 = .ok (.aload_n 0, 1) := dk_42 (dk_at dksX3_readSame_2 1 rfl rfl)
theorem dX3_readSame_48 : decode cX3_readSame 48 = .ok (.bipush 59, 2) := dk_16 59 (dk_at dksX3_readSame_2 2 rfl rfl)
theorem dX3_readSame_50 : decode cX3_readSame 50 = .ok (.invokevirtual 195, 3) := dk_182 0 195 (dk_at dksX3_readSame_2 4 rfl rfl)
theorem dX3_readSame_53 : decode cX3_readSame 53 = .ok (.invokevirtual 209, 3) := dk_182 0 209 (dk_at dksX3_readSame_2 7 rfl rfl)
theorem dX3_readSame_56 : decode cX3_readSame 56 = .ok (.aload_n 0, 1) := dk_42 (dk_at dksX3_readSame_2 10 rfl rfl)
theorem dX3_readSame_57 : decode cX3_readSame 57 = .ok (.getfield 126, 3) := dk_180 0 126 (dk_at dksX3_readSame_2 11 rfl rfl)
theorem dX3_readSame_60 : decode cX3_readSame 60 = .ok (.ifCond .ne 33, 3) := dk_154 0 33 (dk_at dksX3_readSame_2 14 rfl rfl)
theorem dX3_readSame_63 : decode cX3_readSame 63 = .ok (.aload_n 0, 1) := dk_42 (dk_at dksX3_readSame_2 17 rfl rfl)
theorem dX3_readSame_64 : decode cX3_readSame 64 = .ok (.getfield 13, 3) := dk_180 0 13 (dk_at dksX3_readSame_2 18 rfl rfl)
theorem dX3_readSame_67 : decode cX3_readSame 67 = .ok (.bipush 61, 2) := dk_16 61 (dk_at dksX3_readSame_2 21 rfl rfl)
theorem dX3_readSame_69 : decode cX3_readSame 69 = .ok (.iload_n 1, 1) := dk_27 (dk_at dksX3_readSame_2 23 rfl rfl)
theorem dX3_readSame_70 : decode cX3_readSame 70 = .ok (.iadd, 1) := dk_96 (dk_at dksX3_readSame_3 0 rfl rfl)
theorem dX3_readSame_71 : decode cX3_readSame 71 = .ok (.dup2, 1) := dk_92 (dk_at dksX3_readSame_3 1 rfl rfl)
theorem dX3_readSame_72 : decode cX3_readSame 72 = .ok (.iaload, 1) := dk_46 (dk_at dksX3_readSame_3 2 rfl rfl)
theorem dX3_readSame_73 : decode cX3_readSame 73 = .ok (.iconst 1, 1) := dk_4 (dk_at dksX3_readSame_3 3 rfl rfl)
theorem dX3_readSame_74 : decode cX3_readSame 74 = .ok (.iload_n 2, 1) := dk_28 (dk_at dksX3_readSame_3 4 rfl rfl)
theorem dX3_readSame_75 : decode cX3_readSame 75 = .ok (.ishl, 1) := dk_120 (dk_at dksX3_readSame_3 5 rfl rfl)
theorem dX3_readSame_76 : decode cX3_readSame 76 = .ok (.ior, 1) := dk_128 (dk_at dksX3_readSame_3 6 rfl rfl)
theorem dX3_readSame_77 : decode cX3_readSame 77 = .ok (.iastore, 1) := dk_79 (dk_at dksX3_readSame_3 7 rfl rfl)
theorem dX3_readSame_78 : decode cX3_readSame 78 = .ok (.aload_n 0, 1) := dk_42 (dk_at dksX3_readSame_3 8 rfl rfl)
theorem dX3_readSame_79 : decode cX3_readSame 79 = .ok (.getfield 13, 3) := dk_180 0 13 (dk_at dksX3_readSame_3 9 rfl rfl)
theorem dX3_readSame_82 : decode cX3_readSame 82 = .ok (.bipush 61, 2) := dk_16 61 (dk_at dksX3_readSame_3 12 rfl rfl)
theorem dX3_readSame_84 : decode cX3_readSame 84 = .ok (.iload_n 2, 1) := dk_28 (dk_at dksX3_readSame_3 14 rfl rfl)
theorem dX3_readSame_85 : decode cX3_readSame 85 = .ok (.iadd, 1) := dk_96 (dk_at dksX3_readSame_3 15 rfl rfl)
theorem dX3_readSame_86 : decode cX3_readSame 86 = .ok (.dup2, 1) := dk_92 (dk_at dksX3_readSame_3 16 rfl rfl)
theorem dX3_readSame_87 : decode cX3_readSame 87 = .ok (.iaload, 1) := dk_46 (dk_at dksX3_readSame_3 17 rfl rfl)
theorem dX3_readSame_88 : decode cX3_readSame 88 = .ok (.iconst 1, 1) := dk_4 (dk_at dksX3_readSame_3 18 rfl rfl)
theorem dX3_readSame_89 : decode cX3_readSame 89 = .ok (.iload_n 1, 1) := dk_27 (dk_at dksX3_readSame_3 19 rfl rfl)
theorem dX3_readSame_90 : decode cX3_readSame 90 = .ok (.ishl, 1) := dk_120 (dk_at dksX3_readSame_3 20 rfl rfl)
theorem dX3_readSame_91 : decode cX3_readSame 91 = .ok (.ior, 1) := dk_128 (dk_at dksX3_readSame_3 21 rfl rfl)
theorem dX3_readSame_92 : decode cX3_readSame 92 = .ok (.iastore, 1) := dk_79 (dk_at dksX3_readSame_3 22 rfl rfl)
theorem dX3_readSame_93 : decode cX3_readSame 93 = .ok (.return_, 1) := dk_177 (dk_at dksX3_readSame_3 23 rfl rfl)
abbrev cX3_readLimit : ByteArray := prog_18_method_37_code
def yX3_readLimit : MethodName := ⟨RX3, "readLimit", "()V"⟩
def dkwX3_readLimit_2 : List UInt8 := [180, 0, 13, 8, 27, 79, 177]
abbrev dktX3_readLimit_2 : List UInt8 := dkwX3_readLimit_2 ++ []
def dkwX3_readLimit_1 : List UInt8 := [60, 42, 42, 16, 59, 182, 0, 195, 182, 0, 209, 42, 180, 0, 126, 154, 0, 15, 42, 4, 181, 0, 243, 42]
abbrev dktX3_readLimit_1 : List UInt8 := dkwX3_readLimit_1 ++ dktX3_readLimit_2
def dkwX3_readLimit_0 : List UInt8 := [42, 180, 0, 243, 153, 0, 8, 42, 6, 182, 0, 165, 42, 182, 0, 169, 42, 4, 17, 3, 231, 182, 0, 219]
abbrev dktX3_readLimit_0 : List UInt8 := dkwX3_readLimit_0 ++ dktX3_readLimit_1
theorem dksX3_readLimit_0 : cX3_readLimit.data.toList.drop 0 = dktX3_readLimit_0 := by decide +kernel
theorem dksX3_readLimit_1 : cX3_readLimit.data.toList.drop 24 = dktX3_readLimit_1 := dk_seg dksX3_readLimit_0 24 rfl rfl
theorem dksX3_readLimit_2 : cX3_readLimit.data.toList.drop 48 = dktX3_readLimit_2 := dk_seg dksX3_readLimit_1 24 rfl rfl
theorem dX3_readLimit_0 : decode cX3_readLimit 0 = .ok (.aload_n 0, 1) := dk_42 (dk_at dksX3_readLimit_0 0 rfl rfl)
theorem dX3_readLimit_1 : decode cX3_readLimit 1 = .ok (.getfield 243, 3) := dk_180 0 243 (dk_at dksX3_readLimit_0 1 rfl rfl)
theorem dX3_readLimit_4 : decode cX3_readLimit 4 = .ok (.ifCond .eq 8, 3) := dk_153 0 8 (dk_at dksX3_readLimit_0 4 rfl rfl)
theorem dX3_readLimit_7 : decode cX3_readLimit 7 = .ok (.aload_n 0, 1) := dk_42 (dk_at dksX3_readLimit_0 7 rfl rfl)
theorem dX3_readLimit_8 : decode cX3_readLimit 8 = .ok (.iconst 3, 1) := dk_6 (dk_at dksX3_readLimit_0 8 rfl rfl)
theorem dX3_readLimit_9 : decode cX3_readLimit 9 = .ok (.invokevirtual 165, 3) := dk_182 0 165 (dk_at dksX3_readLimit_0 9 rfl rfl)
theorem dX3_readLimit_12 : decode cX3_readLimit 12 = .ok (.aload_n 0, 1) := dk_42 (dk_at dksX3_readLimit_0 12 rfl rfl)
theorem dX3_readLimit_13 : decode cX3_readLimit 13 = .ok (.invokevirtual 169, 3) := dk_182 0 169 (dk_at dksX3_readLimit_0 13 rfl rfl)
theorem dX3_readLimit_16 : decode cX3_readLimit 16 = .ok (.aload_n 0, 1) := dk_42 (dk_at dksX3_readLimit_0 16 rfl rfl)
theorem dX3_readLimit_17 : decode cX3_readLimit 17 = .ok (.iconst 1, 1) := dk_4 (dk_at dksX3_readLimit_0 17 rfl rfl)
theorem dX3_readLimit_18 : decode cX3_readLimit 18 = .ok (.sipush 999, 3) := dk_17 3 231 (dk_at dksX3_readLimit_0 18 rfl rfl)
theorem dX3_readLimit_21 : decode cX3_readLimit 21 = .ok (.invokevirtual 219, 3) := dk_182 0 219 (dk_at dksX3_readLimit_0 21 rfl rfl)
theorem dX3_readLimit_24 : decode cX3_readLimit 24 = .ok (.istore_n 1, 1) := dk_60 (dk_at dksX3_readLimit_1 0 rfl rfl)
theorem dX3_readLimit_25 : decode cX3_readLimit 25 = .ok (.aload_n 0, 1) := dk_42 (dk_at dksX3_readLimit_1 1 rfl rfl)
theorem dX3_readLimit_26 : decode cX3_readLimit 26 = .ok (.aload_n 0, 1) := dk_42 (dk_at dksX3_readLimit_1 2 rfl rfl)
theorem dX3_readLimit_27 : decode cX3_readLimit 27 = .ok (.bipush 59, 2) := dk_16 59 (dk_at dksX3_readLimit_1 3 rfl rfl)
theorem dX3_readLimit_29 : decode cX3_readLimit 29 = .ok (.invokevirtual 195, 3) := dk_182 0 195 (dk_at dksX3_readLimit_1 5 rfl rfl)
theorem dX3_readLimit_32 : decode cX3_readLimit 32 = .ok (.invokevirtual 209, 3) := dk_182 0 209 (dk_at dksX3_readLimit_1 8 rfl rfl)
theorem dX3_readLimit_35 : decode cX3_readLimit 35 = .ok (.aload_n 0, 1) := dk_42 (dk_at dksX3_readLimit_1 11 rfl rfl)
theorem dX3_readLimit_36 : decode cX3_readLimit 36 = .ok (.getfield 126, 3) := dk_180 0 126 (dk_at dksX3_readLimit_1 12 rfl rfl)
theorem dX3_readLimit_39 : decode cX3_readLimit 39 = .ok (.ifCond .ne 15, 3) := dk_154 0 15 (dk_at dksX3_readLimit_1 15 rfl rfl)
theorem dX3_readLimit_42 : decode cX3_readLimit 42 = .ok (.aload_n 0, 1) := dk_42 (dk_at dksX3_readLimit_1 18 rfl rfl)
theorem dX3_readLimit_43 : decode cX3_readLimit 43 = .ok (.iconst 1, 1) := dk_4 (dk_at dksX3_readLimit_1 19 rfl rfl)
theorem dX3_readLimit_44 : decode cX3_readLimit 44 = .ok (.putfield 243, 3) := dk_181 0 243 (dk_at dksX3_readLimit_1 20 rfl rfl)
theorem dX3_readLimit_47 : decode cX3_readLimit 47 = .ok (.aload_n 0, 1) := dk_42 (dk_at dksX3_readLimit_1 23 rfl rfl)
theorem dX3_readLimit_48 : decode cX3_readLimit 48 = .ok (.getfield 13, 3) := dk_180 0 13 (dk_at dksX3_readLimit_2 0 rfl rfl)
theorem dX3_readLimit_51 : decode cX3_readLimit 51 = .ok (.iconst 5, 1) := dk_8 (dk_at dksX3_readLimit_2 3 rfl rfl)
theorem dX3_readLimit_52 : decode cX3_readLimit 52 = .ok (.iload_n 1, 1) := dk_27 (dk_at dksX3_readLimit_2 4 rfl rfl)
theorem dX3_readLimit_53 : decode cX3_readLimit 53 = .ok (.iastore, 1) := dk_79 (dk_at dksX3_readLimit_2 5 rfl rfl)
theorem dX3_readLimit_54 : decode cX3_readLimit 54 = .ok (.return_, 1) := dk_177 (dk_at dksX3_readLimit_2 6 rfl rfl)
abbrev cX3_isRead : ByteArray := prog_18_method_40_code
def yX3_isRead : MethodName := ⟨RX3, "isRead", "()Z"⟩
def dkwX3_isRead_1 : List UInt8 := [181, 0, 39, 42, 180, 0, 126, 154, 0, 7, 4, 167, 0, 4, 3, 172]
abbrev dktX3_isRead_1 : List UInt8 := dkwX3_isRead_1 ++ []
def dkwX3_isRead_0 : List UInt8 := [42, 42, 180, 0, 126, 181, 1, 12, 42, 42, 180, 0, 126, 154, 0, 7, 2, 167, 0, 7, 42, 180, 0, 159]
abbrev dktX3_isRead_0 : List UInt8 := dkwX3_isRead_0 ++ dktX3_isRead_1
theorem dksX3_isRead_0 : cX3_isRead.data.toList.drop 0 = dktX3_isRead_0 := by decide +kernel
theorem dksX3_isRead_1 : cX3_isRead.data.toList.drop 24 = dktX3_isRead_1 := dk_seg dksX3_isRead_0 24 rfl rfl
theorem dX3_isRead_0 : decode cX3_isRead 0 = .ok (.aload_n 0, 1) := dk_42 (dk_at dksX3_isRead_0 0 rfl rfl)
theorem dX3_isRead_1 : decode cX3_isRead 1 = .ok (.aload_n 0, 1) := dk_42 (dk_at dksX3_isRead_0 1 rfl rfl)
theorem dX3_isRead_2 : decode cX3_isRead 2 = .ok (.getfield 126, 3) := dk_180 0 126 (dk_at dksX3_isRead_0 2 rfl rfl)
theorem dX3_isRead_5 : decode cX3_isRead 5 = .ok (.putfield 268, 3) := dk_181 1 12 (dk_at dksX3_isRead_0 5 rfl rfl)
theorem dX3_isRead_8 : decode cX3_isRead 8 = .ok (.aload_n 0, 1) := dk_42 (dk_at dksX3_isRead_0 8 rfl rfl)
theorem dX3_isRead_9 : decode cX3_isRead 9 = .ok (.aload_n 0, 1) := dk_42 (dk_at dksX3_isRead_0 9 rfl rfl)
theorem dX3_isRead_10 : decode cX3_isRead 10 = .ok (.getfield 126, 3) := dk_180 0 126 (dk_at dksX3_isRead_0 10 rfl rfl)
theorem dX3_isRead_13 : decode cX3_isRead 13 = .ok (.ifCond .ne 7, 3) := dk_154 0 7 (dk_at dksX3_isRead_0 13 rfl rfl)
theorem dX3_isRead_16 : decode cX3_isRead 16 = .ok (.iconst (-1), 1) := dk_2 (dk_at dksX3_isRead_0 16 rfl rfl)
theorem dX3_isRead_17 : decode cX3_isRead 17 = .ok (.goto 7, 3) := dk_167 0 7 (dk_at dksX3_isRead_0 17 rfl rfl)
theorem dX3_isRead_20 : decode cX3_isRead 20 = .ok (.aload_n 0, 1) := dk_42 (dk_at dksX3_isRead_0 20 rfl rfl)
theorem dX3_isRead_21 : decode cX3_isRead 21 = .ok (.getfield 159, 3) := dk_180 0 159 (dk_at dksX3_isRead_0 21 rfl rfl)
theorem dX3_isRead_24 : decode cX3_isRead 24 = .ok (.putfield 39, 3) := dk_181 0 39 (dk_at dksX3_isRead_1 0 rfl rfl)
theorem dX3_isRead_27 : decode cX3_isRead 27 = .ok (.aload_n 0, 1) := dk_42 (dk_at dksX3_isRead_1 3 rfl rfl)
theorem dX3_isRead_28 : decode cX3_isRead 28 = .ok (.getfield 126, 3) := dk_180 0 126 (dk_at dksX3_isRead_1 4 rfl rfl)
theorem dX3_isRead_31 : decode cX3_isRead 31 = .ok (.ifCond .ne 7, 3) := dk_154 0 7 (dk_at dksX3_isRead_1 7 rfl rfl)
theorem dX3_isRead_34 : decode cX3_isRead 34 = .ok (.iconst 1, 1) := dk_4 (dk_at dksX3_isRead_1 10 rfl rfl)
theorem dX3_isRead_35 : decode cX3_isRead 35 = .ok (.goto 4, 3) := dk_167 0 4 (dk_at dksX3_isRead_1 11 rfl rfl)
theorem dX3_isRead_38 : decode cX3_isRead 38 = .ok (.iconst 0, 1) := dk_3 (dk_at dksX3_isRead_1 14 rfl rfl)
theorem dX3_isRead_39 : decode cX3_isRead 39 = .ok (.ireturn, 1) := dk_172 (dk_at dksX3_isRead_1 15 rfl rfl)
abbrev cX3_begins : ByteArray := prog_18_method_43_code
def yX3_begins : MethodName := ⟨RX3, "begins", "()V"⟩
def dkwX3_begins_6 : List UInt8 := [180, 0, 32, 4, 3, 84, 42, 3, 181, 1, 34, 42, 182, 0, 79, 177]
abbrev dktX3_begins_6 : List UInt8 := dkwX3_begins_6 ++ []
def dkwX3_begins_5 : List UInt8 := [182, 1, 27, 132, 1, 1, 167, 255, 168, 42, 3, 181, 1, 31, 42, 180, 0, 32, 3, 3, 84, 42]
abbrev dktX3_begins_5 : List UInt8 := dkwX3_begins_5 ++ dktX3_begins_6
def dkwX3_begins_4 : List UInt8 := [46, 182, 1, 27, 42, 27, 8, 42, 180, 0, 7, 16, 56, 27, 96, 46, 182, 1, 27, 42, 27, 16, 7, 27]
abbrev dktX3_begins_4 : List UInt8 := dkwX3_begins_4 ++ dktX3_begins_5
def dkwX3_begins_3 : List UInt8 := [6, 42, 180, 0, 7, 16, 21, 27, 96, 46, 182, 1, 27, 42, 27, 7, 42, 180, 0, 7, 16, 51, 27, 96]
abbrev dktX3_begins_3 : List UInt8 := dkwX3_begins_3 ++ dktX3_begins_4
def dkwX3_begins_2 : List UInt8 := [42, 27, 3, 27, 182, 1, 27, 42, 27, 5, 42, 180, 0, 7, 16, 16, 27, 96, 46, 182, 1, 27, 42, 27]
abbrev dktX3_begins_2 : List UInt8 := dkwX3_begins_2 ++ dktX3_begins_3
def dkwX3_begins_1 : List UInt8 := [180, 0, 23, 16, 18, 42, 180, 0, 7, 5, 46, 79, 3, 60, 27, 42, 180, 0, 7, 5, 46, 162, 0, 84]
abbrev dktX3_begins_1 : List UInt8 := dkwX3_begins_1 ++ dktX3_begins_2
def dkwX3_begins_0 : List UInt8 := [3, 60, 27, 16, 83, 162, 0, 16, 42, 180, 0, 23, 27, 3, 79, 132, 1, 1, 167, 255, 240, 42]
abbrev dktX3_begins_0 : List UInt8 := dkwX3_begins_0 ++ dktX3_begins_1
theorem dksX3_begins_0 : cX3_begins.data.toList.drop 0 = dktX3_begins_0 := by decide +kernel
theorem dksX3_begins_1 : cX3_begins.data.toList.drop 22 = dktX3_begins_1 := dk_seg dksX3_begins_0 22 rfl rfl
theorem dksX3_begins_2 : cX3_begins.data.toList.drop 46 = dktX3_begins_2 := dk_seg dksX3_begins_1 24 rfl rfl
theorem dksX3_begins_3 : cX3_begins.data.toList.drop 70 = dktX3_begins_3 := dk_seg dksX3_begins_2 24 rfl rfl
theorem dksX3_begins_4 : cX3_begins.data.toList.drop 94 = dktX3_begins_4 := dk_seg dksX3_begins_3 24 rfl rfl
theorem dksX3_begins_5 : cX3_begins.data.toList.drop 118 = dktX3_begins_5 := dk_seg dksX3_begins_4 24 rfl rfl
theorem dksX3_begins_6 : cX3_begins.data.toList.drop 140 = dktX3_begins_6 := dk_seg dksX3_begins_5 22 rfl rfl
theorem dX3_begins_0 : decode cX3_begins 0 = .ok (.iconst 0, 1) := dk_3 (dk_at dksX3_begins_0 0 rfl rfl)
theorem dX3_begins_1 : decode cX3_begins 1 = .ok (.istore_n 1, 1) := dk_60 (dk_at dksX3_begins_0 1 rfl rfl)
theorem dX3_begins_2 : decode cX3_begins 2 = .ok (.iload_n 1, 1) := dk_27 (dk_at dksX3_begins_0 2 rfl rfl)
theorem dX3_begins_3 : decode cX3_begins 3 = .ok (.bipush 83, 2) := dk_16 83 (dk_at dksX3_begins_0 3 rfl rfl)
theorem dX3_begins_5 : decode cX3_begins 5 = .ok (.if_icmp .ge 16, 3) := dk_162 0 16 (dk_at dksX3_begins_0 5 rfl rfl)
theorem dX3_begins_8 : decode cX3_begins 8 = .ok (.aload_n 0, 1) := dk_42 (dk_at dksX3_begins_0 8 rfl rfl)
theorem dX3_begins_9 : decode cX3_begins 9 = .ok (.getfield 23, 3) := dk_180 0 23 (dk_at dksX3_begins_0 9 rfl rfl)
theorem dX3_begins_12 : decode cX3_begins 12 = .ok (.iload_n 1, 1) := dk_27 (dk_at dksX3_begins_0 12 rfl rfl)
theorem dX3_begins_13 : decode cX3_begins 13 = .ok (.iconst 0, 1) := dk_3 (dk_at dksX3_begins_0 13 rfl rfl)
theorem dX3_begins_14 : decode cX3_begins 14 = .ok (.iastore, 1) := dk_79 (dk_at dksX3_begins_0 14 rfl rfl)
theorem dX3_begins_15 : decode cX3_begins 15 = .ok (.iinc 1 1, 3) := dk_132 1 1 (dk_at dksX3_begins_0 15 rfl rfl)
theorem dX3_begins_18 : decode cX3_begins 18 = .ok (.goto (-16), 3) := dk_167 255 240 (dk_at dksX3_begins_0 18 rfl rfl)
theorem dX3_begins_21 : decode cX3_begins 21 = .ok (.aload_n 0, 1) := dk_42 (dk_at dksX3_begins_0 21 rfl rfl)
theorem dX3_begins_22 : decode cX3_begins 22 = .ok (.getfield 23, 3) := dk_180 0 23 (dk_at dksX3_begins_1 0 rfl rfl)
theorem dX3_begins_25 : decode cX3_begins 25 = .ok (.bipush 18, 2) := dk_16 18 (dk_at dksX3_begins_1 3 rfl rfl)
theorem dX3_begins_27 : decode cX3_begins 27 = .ok (.aload_n 0, 1) := dk_42 (dk_at dksX3_begins_1 5 rfl rfl)
theorem dX3_begins_28 : decode cX3_begins 28 = .ok (.getfield 7, 3) := dk_180 0 7 (dk_at dksX3_begins_1 6 rfl rfl)
theorem dX3_begins_31 : decode cX3_begins 31 = .ok (.iconst 2, 1) := dk_5 (dk_at dksX3_begins_1 9 rfl rfl)
theorem dX3_begins_32 : decode cX3_begins 32 = .ok (.iaload, 1) := dk_46 (dk_at dksX3_begins_1 10 rfl rfl)
theorem dX3_begins_33 : decode cX3_begins 33 = .ok (.iastore, 1) := dk_79 (dk_at dksX3_begins_1 11 rfl rfl)
theorem dX3_begins_34 : decode cX3_begins 34 = .ok (.iconst 0, 1) := dk_3 (dk_at dksX3_begins_1 12 rfl rfl)
theorem dX3_begins_35 : decode cX3_begins 35 = .ok (.istore_n 1, 1) := dk_60 (dk_at dksX3_begins_1 13 rfl rfl)
theorem dX3_begins_36 : decode cX3_begins 36 = .ok (.iload_n 1, 1) := dk_27 (dk_at dksX3_begins_1 14 rfl rfl)
theorem dX3_begins_37 : decode cX3_begins 37 = .ok (.aload_n 0, 1) := dk_42 (dk_at dksX3_begins_1 15 rfl rfl)
theorem dX3_begins_38 : decode cX3_begins 38 = .ok (.getfield 7, 3) := dk_180 0 7 (dk_at dksX3_begins_1 16 rfl rfl)
theorem dX3_begins_41 : decode cX3_begins 41 = .ok (.iconst 2, 1) := dk_5 (dk_at dksX3_begins_1 19 rfl rfl)
theorem dX3_begins_42 : decode cX3_begins 42 = .ok (.iaload, 1) := dk_46 (dk_at dksX3_begins_1 20 rfl rfl)
theorem dX3_begins_43 : decode cX3_begins 43 = .ok (.if_icmp .ge 84, 3) := dk_162 0 84 (dk_at dksX3_begins_1 21 rfl rfl)
theorem dX3_begins_46 : decode cX3_begins 46 = .ok (.aload_n 0, 1) := dk_42 (dk_at dksX3_begins_2 0 rfl rfl)
theorem dX3_begins_47 : decode cX3_begins 47 = .ok (.iload_n 1, 1) := dk_27 (dk_at dksX3_begins_2 1 rfl rfl)
theorem dX3_begins_48 : decode cX3_begins 48 = .ok (.iconst 0, 1) := dk_3 (dk_at dksX3_begins_2 2 rfl rfl)
theorem dX3_begins_49 : decode cX3_begins 49 = .ok (.iload_n 1, 1) := dk_27 (dk_at dksX3_begins_2 3 rfl rfl)
theorem dX3_begins_50 : decode cX3_begins 50 = .ok (.invokevirtual 283, 3) := dk_182 1 27 (dk_at dksX3_begins_2 4 rfl rfl)
theorem dX3_begins_53 : decode cX3_begins 53 = .ok (.aload_n 0, 1) := dk_42 (dk_at dksX3_begins_2 7 rfl rfl)
theorem dX3_begins_54 : decode cX3_begins 54 = .ok (.iload_n 1, 1) := dk_27 (dk_at dksX3_begins_2 8 rfl rfl)
theorem dX3_begins_55 : decode cX3_begins 55 = .ok (.iconst 2, 1) := dk_5 (dk_at dksX3_begins_2 9 rfl rfl)
theorem dX3_begins_56 : decode cX3_begins 56 = .ok (.aload_n 0, 1) := dk_42 (dk_at dksX3_begins_2 10 rfl rfl)
theorem dX3_begins_57 : decode cX3_begins 57 = .ok (.getfield 7, 3) := dk_180 0 7 (dk_at dksX3_begins_2 11 rfl rfl)
theorem dX3_begins_60 : decode cX3_begins 60 = .ok (.bipush 16, 2) := dk_16 16 (dk_at dksX3_begins_2 14 rfl rfl)
theorem dX3_begins_62 : decode cX3_begins 62 = .ok (.iload_n 1, 1) := dk_27 (dk_at dksX3_begins_2 16 rfl rfl)
theorem dX3_begins_63 : decode cX3_begins 63 = .ok (.iadd, 1) := dk_96 (dk_at dksX3_begins_2 17 rfl rfl)
theorem dX3_begins_64 : decode cX3_begins 64 = .ok (.iaload, 1) := dk_46 (dk_at dksX3_begins_2 18 rfl rfl)
theorem dX3_begins_65 : decode cX3_begins 65 = .ok (.invokevirtual 283, 3) := dk_182 1 27 (dk_at dksX3_begins_2 19 rfl rfl)
theorem dX3_begins_68 : decode cX3_begins 68 = .ok (.aload_n 0, 1) := dk_42 (dk_at dksX3_begins_2 22 rfl rfl)
theorem dX3_begins_69 : decode cX3_begins 69 = .ok (.iload_n 1, 1) := dk_27 (dk_at dksX3_begins_2 23 rfl rfl)
theorem dX3_begins_70 : decode cX3_begins 70 = .ok (.iconst 3, 1) := dk_6 (dk_at dksX3_begins_3 0 rfl rfl)
theorem dX3_begins_71 : decode cX3_begins 71 = .ok (.aload_n 0, 1) := dk_42 (dk_at dksX3_begins_3 1 rfl rfl)
theorem dX3_begins_72 : decode cX3_begins 72 = .ok (.getfield 7, 3) := dk_180 0 7 (dk_at dksX3_begins_3 2 rfl rfl)
theorem dX3_begins_75 : decode cX3_begins 75 = .ok (.bipush 21, 2) := dk_16 21 (dk_at dksX3_begins_3 5 rfl rfl)
theorem dX3_begins_77 : decode cX3_begins 77 = .ok (.iload_n 1, 1) := dk_27 (dk_at dksX3_begins_3 7 rfl rfl)
theorem dX3_begins_78 : decode cX3_begins 78 = .ok (.iadd, 1) := dk_96 (dk_at dksX3_begins_3 8 rfl rfl)
theorem dX3_begins_79 : decode cX3_begins 79 = .ok (.iaload, 1) := dk_46 (dk_at dksX3_begins_3 9 rfl rfl)
theorem dX3_begins_80 : decode cX3_begins 80 = .ok (.invokevirtual 283, 3) := dk_182 1 27 (dk_at dksX3_begins_3 10 rfl rfl)
theorem dX3_begins_83 : decode cX3_begins 83 = .ok (.aload_n 0, 1) := dk_42 (dk_at dksX3_begins_3 13 rfl rfl)
theorem dX3_begins_84 : decode cX3_begins 84 = .ok (.iload_n 1, 1) := dk_27 (dk_at dksX3_begins_3 14 rfl rfl)
theorem dX3_begins_85 : decode cX3_begins 85 = .ok (.iconst 4, 1) := dk_7 (dk_at dksX3_begins_3 15 rfl rfl)
theorem dX3_begins_86 : decode cX3_begins 86 = .ok (.aload_n 0, 1) := dk_42 (dk_at dksX3_begins_3 16 rfl rfl)
theorem dX3_begins_87 : decode cX3_begins 87 = .ok (.getfield 7, 3) := dk_180 0 7 (dk_at dksX3_begins_3 17 rfl rfl)
theorem dX3_begins_90 : decode cX3_begins 90 = .ok (.bipush 51, 2) := dk_16 51 (dk_at dksX3_begins_3 20 rfl rfl)
theorem dX3_begins_92 : decode cX3_begins 92 = .ok (.iload_n 1, 1) := dk_27 (dk_at dksX3_begins_3 22 rfl rfl)
theorem dX3_begins_93 : decode cX3_begins 93 = .ok (.iadd, 1) := dk_96 (dk_at dksX3_begins_3 23 rfl rfl)
theorem dX3_begins_94 : decode cX3_begins 94 = .ok (.iaload, 1) := dk_46 (dk_at dksX3_begins_4 0 rfl rfl)
theorem dX3_begins_95 : decode cX3_begins 95 = .ok (.invokevirtual 283, 3) := dk_182 1 27 (dk_at dksX3_begins_4 1 rfl rfl)
theorem dX3_begins_98 : decode cX3_begins 98 = .ok (.aload_n 0, 1) := dk_42 (dk_at dksX3_begins_4 4 rfl rfl)
theorem dX3_begins_99 : decode cX3_begins 99 = .ok (.iload_n 1, 1) := dk_27 (dk_at dksX3_begins_4 5 rfl rfl)
theorem dX3_begins_100 : decode cX3_begins 100 = .ok (.iconst 5, 1) := dk_8 (dk_at dksX3_begins_4 6 rfl rfl)
theorem dX3_begins_101 : decode cX3_begins 101 = .ok (.aload_n 0, 1) := dk_42 (dk_at dksX3_begins_4 7 rfl rfl)
theorem dX3_begins_102 : decode cX3_begins 102 = .ok (.getfield 7, 3) := dk_180 0 7 (dk_at dksX3_begins_4 8 rfl rfl)
theorem dX3_begins_105 : decode cX3_begins 105 = .ok (.bipush 56, 2) := dk_16 56 (dk_at dksX3_begins_4 11 rfl rfl)
theorem dX3_begins_107 : decode cX3_begins 107 = .ok (.iload_n 1, 1) := dk_27 (dk_at dksX3_begins_4 13 rfl rfl)
theorem dX3_begins_108 : decode cX3_begins 108 = .ok (.iadd, 1) := dk_96 (dk_at dksX3_begins_4 14 rfl rfl)
theorem dX3_begins_109 : decode cX3_begins 109 = .ok (.iaload, 1) := dk_46 (dk_at dksX3_begins_4 15 rfl rfl)
theorem dX3_begins_110 : decode cX3_begins 110 = .ok (.invokevirtual 283, 3) := dk_182 1 27 (dk_at dksX3_begins_4 16 rfl rfl)
theorem dX3_begins_113 : decode cX3_begins 113 = .ok (.aload_n 0, 1) := dk_42 (dk_at dksX3_begins_4 19 rfl rfl)
theorem dX3_begins_114 : decode cX3_begins 114 = .ok (.iload_n 1, 1) := dk_27 (dk_at dksX3_begins_4 20 rfl rfl)
theorem dX3_begins_115 : decode cX3_begins 115 = .ok (.bipush 7, 2) := dk_16 7 (dk_at dksX3_begins_4 21 rfl rfl)
theorem dX3_begins_117 : decode cX3_begins 117 = .ok (.iload_n 1, 1) := dk_27 (dk_at dksX3_begins_4 23 rfl rfl)
theorem dX3_begins_118 : decode cX3_begins 118 = .ok (.invokevirtual 283, 3) := dk_182 1 27 (dk_at dksX3_begins_5 0 rfl rfl)
theorem dX3_begins_121 : decode cX3_begins 121 = .ok (.iinc 1 1, 3) := dk_132 1 1 (dk_at dksX3_begins_5 3 rfl rfl)
theorem dX3_begins_124 : decode cX3_begins 124 = .ok (.goto (-88), 3) := dk_167 255 168 (dk_at dksX3_begins_5 6 rfl rfl)
theorem dX3_begins_127 : decode cX3_begins 127 = .ok (.aload_n 0, 1) := dk_42 (dk_at dksX3_begins_5 9 rfl rfl)
theorem dX3_begins_128 : decode cX3_begins 128 = .ok (.iconst 0, 1) := dk_3 (dk_at dksX3_begins_5 10 rfl rfl)
theorem dX3_begins_129 : decode cX3_begins 129 = .ok (.putfield 287, 3) := dk_181 1 31 (dk_at dksX3_begins_5 11 rfl rfl)
theorem dX3_begins_132 : decode cX3_begins 132 = .ok (.aload_n 0, 1) := dk_42 (dk_at dksX3_begins_5 14 rfl rfl)
theorem dX3_begins_133 : decode cX3_begins 133 = .ok (.getfield 32, 3) := dk_180 0 32 (dk_at dksX3_begins_5 15 rfl rfl)
theorem dX3_begins_136 : decode cX3_begins 136 = .ok (.iconst 0, 1) := dk_3 (dk_at dksX3_begins_5 18 rfl rfl)
theorem dX3_begins_137 : decode cX3_begins 137 = .ok (.iconst 0, 1) := dk_3 (dk_at dksX3_begins_5 19 rfl rfl)
theorem dX3_begins_138 : decode cX3_begins 138 = .ok (.bastore, 1) := dk_84 (dk_at dksX3_begins_5 20 rfl rfl)
theorem dX3_begins_139 : decode cX3_begins 139 = .ok (.aload_n 0, 1) := dk_42 (dk_at dksX3_begins_5 21 rfl rfl)
theorem dX3_begins_140 : decode cX3_begins 140 = .ok (.getfield 32, 3) := dk_180 0 32 (dk_at dksX3_begins_6 0 rfl rfl)
theorem dX3_begins_143 : decode cX3_begins 143 = .ok (.iconst 1, 1) := dk_4 (dk_at dksX3_begins_6 3 rfl rfl)
theorem dX3_begins_144 : decode cX3_begins 144 = .ok (.iconst 0, 1) := dk_3 (dk_at dksX3_begins_6 4 rfl rfl)
theorem dX3_begins_145 : decode cX3_begins 145 = .ok (.bastore, 1) := dk_84 (dk_at dksX3_begins_6 5 rfl rfl)
theorem dX3_begins_146 : decode cX3_begins 146 = .ok (.aload_n 0, 1) := dk_42 (dk_at dksX3_begins_6 6 rfl rfl)
theorem dX3_begins_147 : decode cX3_begins 147 = .ok (.iconst 0, 1) := dk_3 (dk_at dksX3_begins_6 7 rfl rfl)
theorem dX3_begins_148 : decode cX3_begins 148 = .ok (.putfield 290, 3) := dk_181 1 34 (dk_at dksX3_begins_6 8 rfl rfl)
theorem dX3_begins_151 : decode cX3_begins 151 = .ok (.aload_n 0, 1) := dk_42 (dk_at dksX3_begins_6 11 rfl rfl)
theorem dX3_begins_152 : decode cX3_begins 152 = .ok (.invokevirtual 79, 3) := dk_182 0 79 (dk_at dksX3_begins_6 12 rfl rfl)
theorem dX3_begins_155 : decode cX3_begins 155 = .ok (.return_, 1) := dk_177 (dk_at dksX3_begins_6 15 rfl rfl)
abbrev cX3_puts : ByteArray := prog_18_method_56_code
def yX3_puts : MethodName := ⟨RX3, "puts", "(III)V"⟩
def dkwX3_puts_0 : List UInt8 := [42, 180, 0, 23, 16, 19, 16, 8, 27, 104, 96, 28, 96, 29, 79, 177]
abbrev dktX3_puts_0 : List UInt8 := dkwX3_puts_0 ++ []
theorem dksX3_puts_0 : cX3_puts.data.toList.drop 0 = dktX3_puts_0 := by decide +kernel
theorem dX3_puts_0 : decode cX3_puts 0 = .ok (.aload_n 0, 1) := dk_42 (dk_at dksX3_puts_0 0 rfl rfl)
theorem dX3_puts_1 : decode cX3_puts 1 = .ok (.getfield 23, 3) := dk_180 0 23 (dk_at dksX3_puts_0 1 rfl rfl)
theorem dX3_puts_4 : decode cX3_puts 4 = .ok (.bipush 19, 2) := dk_16 19 (dk_at dksX3_puts_0 4 rfl rfl)
theorem dX3_puts_6 : decode cX3_puts 6 = .ok (.bipush 8, 2) := dk_16 8 (dk_at dksX3_puts_0 6 rfl rfl)
theorem dX3_puts_8 : decode cX3_puts 8 = .ok (.iload_n 1, 1) := dk_27 (dk_at dksX3_puts_0 8 rfl rfl)
theorem dX3_puts_9 : decode cX3_puts 9 = .ok (.imul, 1) := dk_104 (dk_at dksX3_puts_0 9 rfl rfl)
theorem dX3_puts_10 : decode cX3_puts 10 = .ok (.iadd, 1) := dk_96 (dk_at dksX3_puts_0 10 rfl rfl)
theorem dX3_puts_11 : decode cX3_puts 11 = .ok (.iload_n 2, 1) := dk_28 (dk_at dksX3_puts_0 11 rfl rfl)
theorem dX3_puts_12 : decode cX3_puts 12 = .ok (.iadd, 1) := dk_96 (dk_at dksX3_puts_0 12 rfl rfl)
theorem dX3_puts_13 : decode cX3_puts 13 = .ok (.iload_n 3, 1) := dk_29 (dk_at dksX3_puts_0 13 rfl rfl)
theorem dX3_puts_14 : decode cX3_puts 14 = .ok (.iastore, 1) := dk_79 (dk_at dksX3_puts_0 14 rfl rfl)
theorem dX3_puts_15 : decode cX3_puts 15 = .ok (.return_, 1) := dk_177 (dk_at dksX3_puts_0 15 rfl rfl)
abbrev cX3_fault : ByteArray := prog_18_method_42_code
def yX3_fault : MethodName := ⟨RX3, "fault", "(I)I"⟩
def dkwX3_fault_1 : List UInt8 := [172]
abbrev dktX3_fault_1 : List UInt8 := dkwX3_fault_1 ++ []
def dkwX3_fault_0 : List UInt8 := [27, 154, 0, 10, 42, 180, 1, 12, 167, 0, 16, 27, 4, 160, 0, 10, 42, 180, 0, 39, 167, 0, 4, 2]
abbrev dktX3_fault_0 : List UInt8 := dkwX3_fault_0 ++ dktX3_fault_1
theorem dksX3_fault_0 : cX3_fault.data.toList.drop 0 = dktX3_fault_0 := by decide +kernel
theorem dksX3_fault_1 : cX3_fault.data.toList.drop 24 = dktX3_fault_1 := dk_seg dksX3_fault_0 24 rfl rfl
theorem dX3_fault_0 : decode cX3_fault 0 = .ok (.iload_n 1, 1) := dk_27 (dk_at dksX3_fault_0 0 rfl rfl)
theorem dX3_fault_1 : decode cX3_fault 1 = .ok (.ifCond .ne 10, 3) := dk_154 0 10 (dk_at dksX3_fault_0 1 rfl rfl)
theorem dX3_fault_4 : decode cX3_fault 4 = .ok (.aload_n 0, 1) := dk_42 (dk_at dksX3_fault_0 4 rfl rfl)
theorem dX3_fault_5 : decode cX3_fault 5 = .ok (.getfield 268, 3) := dk_180 1 12 (dk_at dksX3_fault_0 5 rfl rfl)
theorem dX3_fault_8 : decode cX3_fault 8 = .ok (.goto 16, 3) := dk_167 0 16 (dk_at dksX3_fault_0 8 rfl rfl)
theorem dX3_fault_11 : decode cX3_fault 11 = .ok (.iload_n 1, 1) := dk_27 (dk_at dksX3_fault_0 11 rfl rfl)
theorem dX3_fault_12 : decode cX3_fault 12 = .ok (.iconst 1, 1) := dk_4 (dk_at dksX3_fault_0 12 rfl rfl)
theorem dX3_fault_13 : decode cX3_fault 13 = .ok (.if_icmp .ne 10, 3) := dk_160 0 10 (dk_at dksX3_fault_0 13 rfl rfl)
theorem dX3_fault_16 : decode cX3_fault 16 = .ok (.aload_n 0, 1) := dk_42 (dk_at dksX3_fault_0 16 rfl rfl)
theorem dX3_fault_17 : decode cX3_fault 17 = .ok (.getfield 39, 3) := dk_180 0 39 (dk_at dksX3_fault_0 17 rfl rfl)
theorem dX3_fault_20 : decode cX3_fault 20 = .ok (.goto 4, 3) := dk_167 0 4 (dk_at dksX3_fault_0 20 rfl rfl)
theorem dX3_fault_23 : decode cX3_fault 23 = .ok (.iconst (-1), 1) := dk_2 (dk_at dksX3_fault_0 23 rfl rfl)
theorem dX3_fault_24 : decode cX3_fault 24 = .ok (.ireturn, 1) := dk_172 (dk_at dksX3_fault_1 0 rfl rfl)
abbrev cX3_fact : ByteArray := prog_18_method_75_code
def yX3_fact : MethodName := ⟨RX3, "fact", "(II)I"⟩
def dkwX3_fact_4 : List UInt8 := [172]
abbrev dktX3_fact_4 : List UInt8 := dkwX3_fact_4 ++ []
def dkwX3_fact_3 : List UInt8 := [153, 0, 15, 42, 180, 0, 23, 16, 8, 27, 96, 46, 167, 0, 4, 5, 172, 42, 27, 182, 1, 121, 172, 2]
abbrev dktX3_fact_3 : List UInt8 := dkwX3_fact_3 ++ dktX3_fact_4
def dkwX3_fact_2 : List UInt8 := [42, 180, 0, 7, 16, 8, 27, 96, 46, 172, 42, 180, 0, 23, 3, 27, 96, 46, 172, 42, 27, 182, 1, 70]
abbrev dktX3_fact_2 : List UInt8 := dkwX3_fact_2 ++ dktX3_fact_3
def dkwX3_fact_1 : List UInt8 := [170, 0, 0, 0, 76, 0, 0, 0, 0, 0, 0, 0, 3, 0, 0, 0, 29, 0, 0, 0, 39, 0, 0, 0, 48, 0, 0, 0, 70]
abbrev dktX3_fact_1 : List UInt8 := dkwX3_fact_1 ++ dktX3_fact_2
def dkwX3_fact_0 : List UInt8 := [42, 27, 182, 1, 118, 154, 0, 5, 2, 172, 28]
abbrev dktX3_fact_0 : List UInt8 := dkwX3_fact_0 ++ dktX3_fact_1
theorem dksX3_fact_0 : cX3_fact.data.toList.drop 0 = dktX3_fact_0 := by decide +kernel
theorem dksX3_fact_1 : cX3_fact.data.toList.drop 11 = dktX3_fact_1 := dk_seg dksX3_fact_0 11 rfl rfl
theorem dksX3_fact_2 : cX3_fact.data.toList.drop 40 = dktX3_fact_2 := dk_seg dksX3_fact_1 29 rfl rfl
theorem dksX3_fact_3 : cX3_fact.data.toList.drop 64 = dktX3_fact_3 := dk_seg dksX3_fact_2 24 rfl rfl
theorem dksX3_fact_4 : cX3_fact.data.toList.drop 88 = dktX3_fact_4 := dk_seg dksX3_fact_3 24 rfl rfl
theorem dX3_fact_0 : decode cX3_fact 0 = .ok (.aload_n 0, 1) := dk_42 (dk_at dksX3_fact_0 0 rfl rfl)
theorem dX3_fact_1 : decode cX3_fact 1 = .ok (.iload_n 1, 1) := dk_27 (dk_at dksX3_fact_0 1 rfl rfl)
theorem dX3_fact_2 : decode cX3_fact 2 = .ok (.invokevirtual 374, 3) := dk_182 1 118 (dk_at dksX3_fact_0 2 rfl rfl)
theorem dX3_fact_5 : decode cX3_fact 5 = .ok (.ifCond .ne 5, 3) := dk_154 0 5 (dk_at dksX3_fact_0 5 rfl rfl)
theorem dX3_fact_8 : decode cX3_fact 8 = .ok (.iconst (-1), 1) := dk_2 (dk_at dksX3_fact_0 8 rfl rfl)
theorem dX3_fact_9 : decode cX3_fact 9 = .ok (.ireturn, 1) := dk_172 (dk_at dksX3_fact_0 9 rfl rfl)
theorem dX3_fact_10 : decode cX3_fact 10 = .ok (.iload_n 2, 1) := dk_28 (dk_at dksX3_fact_0 10 rfl rfl)
theorem dX3_fact_11 : decode cX3_fact 11 = .ok (.tableswitch 76 0 3 #[29, 39, 48, 70], 29) := by decide +kernel
theorem dX3_fact_40 : decode cX3_fact 40 = .ok (.aload_n 0, 1) := dk_42 (dk_at dksX3_fact_2 0 rfl rfl)
theorem dX3_fact_41 : decode cX3_fact 41 = .ok (.getfield 7, 3) := dk_180 0 7 (dk_at dksX3_fact_2 1 rfl rfl)
theorem dX3_fact_44 : decode cX3_fact 44 = .ok (.bipush 8, 2) := dk_16 8 (dk_at dksX3_fact_2 4 rfl rfl)
theorem dX3_fact_46 : decode cX3_fact 46 = .ok (.iload_n 1, 1) := dk_27 (dk_at dksX3_fact_2 6 rfl rfl)
theorem dX3_fact_47 : decode cX3_fact 47 = .ok (.iadd, 1) := dk_96 (dk_at dksX3_fact_2 7 rfl rfl)
theorem dX3_fact_48 : decode cX3_fact 48 = .ok (.iaload, 1) := dk_46 (dk_at dksX3_fact_2 8 rfl rfl)
theorem dX3_fact_49 : decode cX3_fact 49 = .ok (.ireturn, 1) := dk_172 (dk_at dksX3_fact_2 9 rfl rfl)
theorem dX3_fact_50 : decode cX3_fact 50 = .ok (.aload_n 0, 1) := dk_42 (dk_at dksX3_fact_2 10 rfl rfl)
theorem dX3_fact_51 : decode cX3_fact 51 = .ok (.getfield 23, 3) := dk_180 0 23 (dk_at dksX3_fact_2 11 rfl rfl)
theorem dX3_fact_54 : decode cX3_fact 54 = .ok (.iconst 0, 1) := dk_3 (dk_at dksX3_fact_2 14 rfl rfl)
theorem dX3_fact_55 : decode cX3_fact 55 = .ok (.iload_n 1, 1) := dk_27 (dk_at dksX3_fact_2 15 rfl rfl)
theorem dX3_fact_56 : decode cX3_fact 56 = .ok (.iadd, 1) := dk_96 (dk_at dksX3_fact_2 16 rfl rfl)
theorem dX3_fact_57 : decode cX3_fact 57 = .ok (.iaload, 1) := dk_46 (dk_at dksX3_fact_2 17 rfl rfl)
theorem dX3_fact_58 : decode cX3_fact 58 = .ok (.ireturn, 1) := dk_172 (dk_at dksX3_fact_2 18 rfl rfl)
theorem dX3_fact_59 : decode cX3_fact 59 = .ok (.aload_n 0, 1) := dk_42 (dk_at dksX3_fact_2 19 rfl rfl)
theorem dX3_fact_60 : decode cX3_fact 60 = .ok (.iload_n 1, 1) := dk_27 (dk_at dksX3_fact_2 20 rfl rfl)
theorem dX3_fact_61 : decode cX3_fact 61 = .ok (.invokevirtual 326, 3) := dk_182 1 70 (dk_at dksX3_fact_2 21 rfl rfl)
theorem dX3_fact_64 : decode cX3_fact 64 = .ok (.ifCond .eq 15, 3) := dk_153 0 15 (dk_at dksX3_fact_3 0 rfl rfl)
theorem dX3_fact_67 : decode cX3_fact 67 = .ok (.aload_n 0, 1) := dk_42 (dk_at dksX3_fact_3 3 rfl rfl)
theorem dX3_fact_68 : decode cX3_fact 68 = .ok (.getfield 23, 3) := dk_180 0 23 (dk_at dksX3_fact_3 4 rfl rfl)
theorem dX3_fact_71 : decode cX3_fact 71 = .ok (.bipush 8, 2) := dk_16 8 (dk_at dksX3_fact_3 7 rfl rfl)
theorem dX3_fact_73 : decode cX3_fact 73 = .ok (.iload_n 1, 1) := dk_27 (dk_at dksX3_fact_3 9 rfl rfl)
theorem dX3_fact_74 : decode cX3_fact 74 = .ok (.iadd, 1) := dk_96 (dk_at dksX3_fact_3 10 rfl rfl)
theorem dX3_fact_75 : decode cX3_fact 75 = .ok (.iaload, 1) := dk_46 (dk_at dksX3_fact_3 11 rfl rfl)
theorem dX3_fact_76 : decode cX3_fact 76 = .ok (.goto 4, 3) := dk_167 0 4 (dk_at dksX3_fact_3 12 rfl rfl)
theorem dX3_fact_79 : decode cX3_fact 79 = .ok (.iconst 2, 1) := dk_5 (dk_at dksX3_fact_3 15 rfl rfl)
theorem dX3_fact_80 : decode cX3_fact 80 = .ok (.ireturn, 1) := dk_172 (dk_at dksX3_fact_3 16 rfl rfl)
theorem dX3_fact_81 : decode cX3_fact 81 = .ok (.aload_n 0, 1) := dk_42 (dk_at dksX3_fact_3 17 rfl rfl)
theorem dX3_fact_82 : decode cX3_fact 82 = .ok (.iload_n 1, 1) := dk_27 (dk_at dksX3_fact_3 18 rfl rfl)
theorem dX3_fact_83 : decode cX3_fact 83 = .ok (.invokevirtual 377, 3) := dk_182 1 121 (dk_at dksX3_fact_3 19 rfl rfl)
theorem dX3_fact_86 : decode cX3_fact 86 = .ok (.ireturn, 1) := dk_172 (dk_at dksX3_fact_3 22 rfl rfl)
theorem dX3_fact_87 : decode cX3_fact 87 = .ok (.iconst (-1), 1) := dk_2 (dk_at dksX3_fact_3 23 rfl rfl)
theorem dX3_fact_88 : decode cX3_fact 88 = .ok (.ireturn, 1) := dk_172 (dk_at dksX3_fact_4 0 rfl rfl)
abbrev cX3_isFact : ByteArray := prog_18_method_57_code
def yX3_isFact : MethodName := ⟨RX3, "isFact", "(I)Z"⟩
def dkwX3_isFact_0 : List UInt8 := [27, 3, 42, 180, 0, 7, 4, 46, 4, 100, 184, 0, 85, 172]
abbrev dktX3_isFact_0 : List UInt8 := dkwX3_isFact_0 ++ []
theorem dksX3_isFact_0 : cX3_isFact.data.toList.drop 0 = dktX3_isFact_0 := by decide +kernel
theorem dX3_isFact_0 : decode cX3_isFact 0 = .ok (.iload_n 1, 1) := dk_27 (dk_at dksX3_isFact_0 0 rfl rfl)
theorem dX3_isFact_1 : decode cX3_isFact 1 = .ok (.iconst 0, 1) := dk_3 (dk_at dksX3_isFact_0 1 rfl rfl)
theorem dX3_isFact_2 : decode cX3_isFact 2 = .ok (.aload_n 0, 1) := dk_42 (dk_at dksX3_isFact_0 2 rfl rfl)
theorem dX3_isFact_3 : decode cX3_isFact 3 = .ok (.getfield 7, 3) := dk_180 0 7 (dk_at dksX3_isFact_0 3 rfl rfl)
theorem dX3_isFact_6 : decode cX3_isFact 6 = .ok (.iconst 1, 1) := dk_4 (dk_at dksX3_isFact_0 6 rfl rfl)
theorem dX3_isFact_7 : decode cX3_isFact 7 = .ok (.iaload, 1) := dk_46 (dk_at dksX3_isFact_0 7 rfl rfl)
theorem dX3_isFact_8 : decode cX3_isFact 8 = .ok (.iconst 1, 1) := dk_4 (dk_at dksX3_isFact_0 8 rfl rfl)
theorem dX3_isFact_9 : decode cX3_isFact 9 = .ok (.isub, 1) := dk_100 (dk_at dksX3_isFact_0 9 rfl rfl)
theorem dX3_isFact_10 : decode cX3_isFact 10 = .ok (.invokestatic 85, 3) := dk_184 0 85 (dk_at dksX3_isFact_0 10 rfl rfl)
theorem dX3_isFact_13 : decode cX3_isFact 13 = .ok (.ireturn, 1) := dk_172 (dk_at dksX3_isFact_0 13 rfl rfl)
abbrev cX3_sayers : ByteArray := prog_18_method_76_code
def yX3_sayers : MethodName := ⟨RX3, "sayers", "(I)I"⟩
def dkwX3_sayers_1 : List UInt8 := [184, 0, 239, 153, 0, 9, 4, 29, 120, 167, 0, 4, 3, 128, 61, 132, 3, 1, 167, 255, 219, 28, 172]
abbrev dktX3_sayers_1 : List UInt8 := dkwX3_sayers_1 ++ []
def dkwX3_sayers_0 : List UInt8 := [3, 61, 3, 62, 29, 42, 180, 0, 23, 16, 18, 46, 162, 0, 32, 28, 42, 29, 7, 182, 1, 83, 27]
abbrev dktX3_sayers_0 : List UInt8 := dkwX3_sayers_0 ++ dktX3_sayers_1
theorem dksX3_sayers_0 : cX3_sayers.data.toList.drop 0 = dktX3_sayers_0 := by decide +kernel
theorem dksX3_sayers_1 : cX3_sayers.data.toList.drop 23 = dktX3_sayers_1 := dk_seg dksX3_sayers_0 23 rfl rfl
theorem dX3_sayers_0 : decode cX3_sayers 0 = .ok (.iconst 0, 1) := dk_3 (dk_at dksX3_sayers_0 0 rfl rfl)
theorem dX3_sayers_1 : decode cX3_sayers 1 = .ok (.istore_n 2, 1) := dk_61 (dk_at dksX3_sayers_0 1 rfl rfl)
theorem dX3_sayers_2 : decode cX3_sayers 2 = .ok (.iconst 0, 1) := dk_3 (dk_at dksX3_sayers_0 2 rfl rfl)
theorem dX3_sayers_3 : decode cX3_sayers 3 = .ok (.istore_n 3, 1) := dk_62 (dk_at dksX3_sayers_0 3 rfl rfl)
theorem dX3_sayers_4 : decode cX3_sayers 4 = .ok (.iload_n 3, 1) := dk_29 (dk_at dksX3_sayers_0 4 rfl rfl)
theorem dX3_sayers_5 : decode cX3_sayers 5 = .ok (.aload_n 0, 1) := dk_42 (dk_at dksX3_sayers_0 5 rfl rfl)
theorem dX3_sayers_6 : decode cX3_sayers 6 = .ok (.getfield 23, 3) := dk_180 0 23 (dk_at dksX3_sayers_0 6 rfl rfl)
theorem dX3_sayers_9 : decode cX3_sayers 9 = .ok (.bipush 18, 2) := dk_16 18 (dk_at dksX3_sayers_0 9 rfl rfl)
theorem dX3_sayers_11 : decode cX3_sayers 11 = .ok (.iaload, 1) := dk_46 (dk_at dksX3_sayers_0 11 rfl rfl)
theorem dX3_sayers_12 : decode cX3_sayers 12 = .ok (.if_icmp .ge 32, 3) := dk_162 0 32 (dk_at dksX3_sayers_0 12 rfl rfl)
theorem dX3_sayers_15 : decode cX3_sayers 15 = .ok (.iload_n 2, 1) := dk_28 (dk_at dksX3_sayers_0 15 rfl rfl)
theorem dX3_sayers_16 : decode cX3_sayers 16 = .ok (.aload_n 0, 1) := dk_42 (dk_at dksX3_sayers_0 16 rfl rfl)
theorem dX3_sayers_17 : decode cX3_sayers 17 = .ok (.iload_n 3, 1) := dk_29 (dk_at dksX3_sayers_0 17 rfl rfl)
theorem dX3_sayers_18 : decode cX3_sayers 18 = .ok (.iconst 4, 1) := dk_7 (dk_at dksX3_sayers_0 18 rfl rfl)
theorem dX3_sayers_19 : decode cX3_sayers 19 = .ok (.invokevirtual 339, 3) := dk_182 1 83 (dk_at dksX3_sayers_0 19 rfl rfl)
theorem dX3_sayers_22 : decode cX3_sayers 22 = .ok (.iload_n 1, 1) := dk_27 (dk_at dksX3_sayers_0 22 rfl rfl)
theorem dX3_sayers_23 : decode cX3_sayers 23 = .ok (.invokestatic 239, 3) := dk_184 0 239 (dk_at dksX3_sayers_1 0 rfl rfl)
theorem dX3_sayers_26 : decode cX3_sayers 26 = .ok (.ifCond .eq 9, 3) := dk_153 0 9 (dk_at dksX3_sayers_1 3 rfl rfl)
theorem dX3_sayers_29 : decode cX3_sayers 29 = .ok (.iconst 1, 1) := dk_4 (dk_at dksX3_sayers_1 6 rfl rfl)
theorem dX3_sayers_30 : decode cX3_sayers 30 = .ok (.iload_n 3, 1) := dk_29 (dk_at dksX3_sayers_1 7 rfl rfl)
theorem dX3_sayers_31 : decode cX3_sayers 31 = .ok (.ishl, 1) := dk_120 (dk_at dksX3_sayers_1 8 rfl rfl)
theorem dX3_sayers_32 : decode cX3_sayers 32 = .ok (.goto 4, 3) := dk_167 0 4 (dk_at dksX3_sayers_1 9 rfl rfl)
theorem dX3_sayers_35 : decode cX3_sayers 35 = .ok (.iconst 0, 1) := dk_3 (dk_at dksX3_sayers_1 12 rfl rfl)
theorem dX3_sayers_36 : decode cX3_sayers 36 = .ok (.ior, 1) := dk_128 (dk_at dksX3_sayers_1 13 rfl rfl)
theorem dX3_sayers_37 : decode cX3_sayers 37 = .ok (.istore_n 2, 1) := dk_61 (dk_at dksX3_sayers_1 14 rfl rfl)
theorem dX3_sayers_38 : decode cX3_sayers 38 = .ok (.iinc 3 1, 3) := dk_132 3 1 (dk_at dksX3_sayers_1 15 rfl rfl)
theorem dX3_sayers_41 : decode cX3_sayers 41 = .ok (.goto (-37), 3) := dk_167 255 219 (dk_at dksX3_sayers_1 18 rfl rfl)
theorem dX3_sayers_44 : decode cX3_sayers 44 = .ok (.iload_n 2, 1) := dk_28 (dk_at dksX3_sayers_1 21 rfl rfl)
theorem dX3_sayers_45 : decode cX3_sayers 45 = .ok (.ireturn, 1) := dk_172 (dk_at dksX3_sayers_1 22 rfl rfl)
abbrev cX3_its : ByteArray := prog_18_method_55_code
def yX3_its : MethodName := ⟨RX3, "its", "(II)I"⟩
def dkwX3_its_0 : List UInt8 := [42, 180, 0, 23, 16, 19, 16, 8, 27, 104, 96, 28, 96, 46, 172]
abbrev dktX3_its_0 : List UInt8 := dkwX3_its_0 ++ []
theorem dksX3_its_0 : cX3_its.data.toList.drop 0 = dktX3_its_0 := by decide +kernel
theorem dX3_its_0 : decode cX3_its 0 = .ok (.aload_n 0, 1) := dk_42 (dk_at dksX3_its_0 0 rfl rfl)
theorem dX3_its_1 : decode cX3_its 1 = .ok (.getfield 23, 3) := dk_180 0 23 (dk_at dksX3_its_0 1 rfl rfl)
theorem dX3_its_4 : decode cX3_its 4 = .ok (.bipush 19, 2) := dk_16 19 (dk_at dksX3_its_0 4 rfl rfl)
theorem dX3_its_6 : decode cX3_its 6 = .ok (.bipush 8, 2) := dk_16 8 (dk_at dksX3_its_0 6 rfl rfl)
theorem dX3_its_8 : decode cX3_its 8 = .ok (.iload_n 1, 1) := dk_27 (dk_at dksX3_its_0 8 rfl rfl)
theorem dX3_its_9 : decode cX3_its 9 = .ok (.imul, 1) := dk_104 (dk_at dksX3_its_0 9 rfl rfl)
theorem dX3_its_10 : decode cX3_its 10 = .ok (.iadd, 1) := dk_96 (dk_at dksX3_its_0 10 rfl rfl)
theorem dX3_its_11 : decode cX3_its 11 = .ok (.iload_n 2, 1) := dk_28 (dk_at dksX3_its_0 11 rfl rfl)
theorem dX3_its_12 : decode cX3_its 12 = .ok (.iadd, 1) := dk_96 (dk_at dksX3_its_0 12 rfl rfl)
theorem dX3_its_13 : decode cX3_its 13 = .ok (.iaload, 1) := dk_46 (dk_at dksX3_its_0 13 rfl rfl)
theorem dX3_its_14 : decode cX3_its 14 = .ok (.ireturn, 1) := dk_172 (dk_at dksX3_its_0 14 rfl rfl)
abbrev cX3_of : ByteArray := prog_18_method_77_code
def yX3_of : MethodName := ⟨RX3, "of", "(II)I"⟩
def dkwX3_of_5 : List UInt8 := [42, 27, 182, 1, 115, 172, 42, 180, 0, 64, 27, 46, 172, 2, 172]
abbrev dktX3_of_5 : List UInt8 := dkwX3_of_5 ++ []
def dkwX3_of_4 : List UInt8 := [182, 1, 97, 172, 42, 27, 182, 1, 105, 172, 42, 27, 7, 182, 1, 83, 172, 42, 27, 8, 182, 1, 83, 172]
abbrev dktX3_of_4 : List UInt8 := dkwX3_of_4 ++ dktX3_of_5
def dkwX3_of_3 : List UInt8 := [180, 0, 61, 27, 46, 172, 42, 27, 6, 182, 1, 83, 42, 180, 0, 61, 27, 46, 96, 172, 42, 27]
abbrev dktX3_of_3 : List UInt8 := dkwX3_of_3 ++ dktX3_of_4
def dkwX3_of_2 : List UInt8 := [42, 27, 5, 182, 1, 83, 172, 42, 27, 6, 182, 1, 83, 172, 42, 27, 4, 182, 1, 83, 172, 42]
abbrev dktX3_of_2 : List UInt8 := dkwX3_of_2 ++ dktX3_of_3
def dkwX3_of_1 : List UInt8 := [170, 0, 0, 0, 138, 0, 0, 0, 0, 0, 0, 0, 10, 0, 0, 0, 57, 0, 0, 0, 64, 0, 0, 0, 71, 0, 0, 0, 78, 0, 0, 0, 85, 0, 0, 0, 99, 0, 0, 0, 105, 0, 0, 0, 111, 0, 0, 0, 118, 0, 0, 0, 125, 0, 0, 0, 131]
abbrev dktX3_of_1 : List UInt8 := dkwX3_of_1 ++ dktX3_of_2
def dkwX3_of_0 : List UInt8 := [42, 27, 182, 1, 124, 154, 0, 5, 2, 172, 42, 182, 1, 108, 42, 182, 1, 127, 28]
abbrev dktX3_of_0 : List UInt8 := dkwX3_of_0 ++ dktX3_of_1
theorem dksX3_of_0 : cX3_of.data.toList.drop 0 = dktX3_of_0 := by decide +kernel
theorem dksX3_of_1 : cX3_of.data.toList.drop 19 = dktX3_of_1 := dk_seg dksX3_of_0 19 rfl rfl
theorem dksX3_of_2 : cX3_of.data.toList.drop 76 = dktX3_of_2 := dk_seg dksX3_of_1 57 rfl rfl
theorem dksX3_of_3 : cX3_of.data.toList.drop 98 = dktX3_of_3 := dk_seg dksX3_of_2 22 rfl rfl
theorem dksX3_of_4 : cX3_of.data.toList.drop 120 = dktX3_of_4 := dk_seg dksX3_of_3 22 rfl rfl
theorem dksX3_of_5 : cX3_of.data.toList.drop 144 = dktX3_of_5 := dk_seg dksX3_of_4 24 rfl rfl
theorem dX3_of_0 : decode cX3_of 0 = .ok (.aload_n 0, 1) := dk_42 (dk_at dksX3_of_0 0 rfl rfl)
theorem dX3_of_1 : decode cX3_of 1 = .ok (.iload_n 1, 1) := dk_27 (dk_at dksX3_of_0 1 rfl rfl)
theorem dX3_of_2 : decode cX3_of 2 = .ok (.invokevirtual 380, 3) := dk_182 1 124 (dk_at dksX3_of_0 2 rfl rfl)
theorem dX3_of_5 : decode cX3_of 5 = .ok (.ifCond .ne 5, 3) := dk_154 0 5 (dk_at dksX3_of_0 5 rfl rfl)
theorem dX3_of_8 : decode cX3_of 8 = .ok (.iconst (-1), 1) := dk_2 (dk_at dksX3_of_0 8 rfl rfl)
theorem dX3_of_9 : decode cX3_of 9 = .ok (.ireturn, 1) := dk_172 (dk_at dksX3_of_0 9 rfl rfl)
theorem dX3_of_10 : decode cX3_of 10 = .ok (.aload_n 0, 1) := dk_42 (dk_at dksX3_of_0 10 rfl rfl)
theorem dX3_of_11 : decode cX3_of 11 = .ok (.invokevirtual 364, 3) := dk_182 1 108 (dk_at dksX3_of_0 11 rfl rfl)
theorem dX3_of_14 : decode cX3_of 14 = .ok (.aload_n 0, 1) := dk_42 (dk_at dksX3_of_0 14 rfl rfl)
theorem dX3_of_15 : decode cX3_of 15 = .ok (.invokevirtual 383, 3) := dk_182 1 127 (dk_at dksX3_of_0 15 rfl rfl)
theorem dX3_of_18 : decode cX3_of 18 = .ok (.iload_n 2, 1) := dk_28 (dk_at dksX3_of_0 18 rfl rfl)
theorem dX3_of_19 : decode cX3_of 19 = .ok (.tableswitch 138 0 10 #[57, 64, 71, 78, 85, 99, 105, 111, 118, 125, 131], 57) := by decide +kernel
theorem dX3_of_76 : decode cX3_of 76 = .ok (.aload_n 0, 1) := dk_42 (dk_at dksX3_of_2 0 rfl rfl)
theorem dX3_of_77 : decode cX3_of 77 = .ok (.iload_n 1, 1) := dk_27 (dk_at dksX3_of_2 1 rfl rfl)
theorem dX3_of_78 : decode cX3_of 78 = .ok (.iconst 2, 1) := dk_5 (dk_at dksX3_of_2 2 rfl rfl)
theorem dX3_of_79 : decode cX3_of 79 = .ok (.invokevirtual 339, 3) := dk_182 1 83 (dk_at dksX3_of_2 3 rfl rfl)
theorem dX3_of_82 : decode cX3_of 82 = .ok (.ireturn, 1) := dk_172 (dk_at dksX3_of_2 6 rfl rfl)
theorem dX3_of_83 : decode cX3_of 83 = .ok (.aload_n 0, 1) := dk_42 (dk_at dksX3_of_2 7 rfl rfl)
theorem dX3_of_84 : decode cX3_of 84 = .ok (.iload_n 1, 1) := dk_27 (dk_at dksX3_of_2 8 rfl rfl)
theorem dX3_of_85 : decode cX3_of 85 = .ok (.iconst 3, 1) := dk_6 (dk_at dksX3_of_2 9 rfl rfl)
theorem dX3_of_86 : decode cX3_of 86 = .ok (.invokevirtual 339, 3) := dk_182 1 83 (dk_at dksX3_of_2 10 rfl rfl)
theorem dX3_of_89 : decode cX3_of 89 = .ok (.ireturn, 1) := dk_172 (dk_at dksX3_of_2 13 rfl rfl)
theorem dX3_of_90 : decode cX3_of 90 = .ok (.aload_n 0, 1) := dk_42 (dk_at dksX3_of_2 14 rfl rfl)
theorem dX3_of_91 : decode cX3_of 91 = .ok (.iload_n 1, 1) := dk_27 (dk_at dksX3_of_2 15 rfl rfl)
theorem dX3_of_92 : decode cX3_of 92 = .ok (.iconst 1, 1) := dk_4 (dk_at dksX3_of_2 16 rfl rfl)
theorem dX3_of_93 : decode cX3_of 93 = .ok (.invokevirtual 339, 3) := dk_182 1 83 (dk_at dksX3_of_2 17 rfl rfl)
theorem dX3_of_96 : decode cX3_of 96 = .ok (.ireturn, 1) := dk_172 (dk_at dksX3_of_2 20 rfl rfl)
theorem dX3_of_97 : decode cX3_of 97 = .ok (.aload_n 0, 1) := dk_42 (dk_at dksX3_of_2 21 rfl rfl)
theorem dX3_of_98 : decode cX3_of 98 = .ok (.getfield 61, 3) := dk_180 0 61 (dk_at dksX3_of_3 0 rfl rfl)
theorem dX3_of_101 : decode cX3_of 101 = .ok (.iload_n 1, 1) := dk_27 (dk_at dksX3_of_3 3 rfl rfl)
theorem dX3_of_102 : decode cX3_of 102 = .ok (.iaload, 1) := dk_46 (dk_at dksX3_of_3 4 rfl rfl)
theorem dX3_of_103 : decode cX3_of 103 = .ok (.ireturn, 1) := dk_172 (dk_at dksX3_of_3 5 rfl rfl)
theorem dX3_of_104 : decode cX3_of 104 = .ok (.aload_n 0, 1) := dk_42 (dk_at dksX3_of_3 6 rfl rfl)
theorem dX3_of_105 : decode cX3_of 105 = .ok (.iload_n 1, 1) := dk_27 (dk_at dksX3_of_3 7 rfl rfl)
theorem dX3_of_106 : decode cX3_of 106 = .ok (.iconst 3, 1) := dk_6 (dk_at dksX3_of_3 8 rfl rfl)
theorem dX3_of_107 : decode cX3_of 107 = .ok (.invokevirtual 339, 3) := dk_182 1 83 (dk_at dksX3_of_3 9 rfl rfl)
theorem dX3_of_110 : decode cX3_of 110 = .ok (.aload_n 0, 1) := dk_42 (dk_at dksX3_of_3 12 rfl rfl)
theorem dX3_of_111 : decode cX3_of 111 = .ok (.getfield 61, 3) := dk_180 0 61 (dk_at dksX3_of_3 13 rfl rfl)
theorem dX3_of_114 : decode cX3_of 114 = .ok (.iload_n 1, 1) := dk_27 (dk_at dksX3_of_3 16 rfl rfl)
theorem dX3_of_115 : decode cX3_of 115 = .ok (.iaload, 1) := dk_46 (dk_at dksX3_of_3 17 rfl rfl)
theorem dX3_of_116 : decode cX3_of 116 = .ok (.iadd, 1) := dk_96 (dk_at dksX3_of_3 18 rfl rfl)
theorem dX3_of_117 : decode cX3_of 117 = .ok (.ireturn, 1) := dk_172 (dk_at dksX3_of_3 19 rfl rfl)
theorem dX3_of_118 : decode cX3_of 118 = .ok (.aload_n 0, 1) := dk_42 (dk_at dksX3_of_3 20 rfl rfl)
theorem dX3_of_119 : decode cX3_of 119 = .ok (.iload_n 1, 1) := dk_27 (dk_at dksX3_of_3 21 rfl rfl)
theorem dX3_of_120 : decode cX3_of 120 = .ok (.invokevirtual 353, 3) := dk_182 1 97 (dk_at dksX3_of_4 0 rfl rfl)
theorem dX3_of_123 : decode cX3_of 123 = .ok (.ireturn, 1) := dk_172 (dk_at dksX3_of_4 3 rfl rfl)
theorem dX3_of_124 : decode cX3_of 124 = .ok (.aload_n 0, 1) := dk_42 (dk_at dksX3_of_4 4 rfl rfl)
theorem dX3_of_125 : decode cX3_of 125 = .ok (.iload_n 1, 1) := dk_27 (dk_at dksX3_of_4 5 rfl rfl)
theorem dX3_of_126 : decode cX3_of 126 = .ok (.invokevirtual 361, 3) := dk_182 1 105 (dk_at dksX3_of_4 6 rfl rfl)
theorem dX3_of_129 : decode cX3_of 129 = .ok (.ireturn, 1) := dk_172 (dk_at dksX3_of_4 9 rfl rfl)
theorem dX3_of_130 : decode cX3_of 130 = .ok (.aload_n 0, 1) := dk_42 (dk_at dksX3_of_4 10 rfl rfl)
theorem dX3_of_131 : decode cX3_of 131 = .ok (.iload_n 1, 1) := dk_27 (dk_at dksX3_of_4 11 rfl rfl)
theorem dX3_of_132 : decode cX3_of 132 = .ok (.iconst 4, 1) := dk_7 (dk_at dksX3_of_4 12 rfl rfl)
theorem dX3_of_133 : decode cX3_of 133 = .ok (.invokevirtual 339, 3) := dk_182 1 83 (dk_at dksX3_of_4 13 rfl rfl)
theorem dX3_of_136 : decode cX3_of 136 = .ok (.ireturn, 1) := dk_172 (dk_at dksX3_of_4 16 rfl rfl)
theorem dX3_of_137 : decode cX3_of 137 = .ok (.aload_n 0, 1) := dk_42 (dk_at dksX3_of_4 17 rfl rfl)
theorem dX3_of_138 : decode cX3_of 138 = .ok (.iload_n 1, 1) := dk_27 (dk_at dksX3_of_4 18 rfl rfl)
theorem dX3_of_139 : decode cX3_of 139 = .ok (.iconst 5, 1) := dk_8 (dk_at dksX3_of_4 19 rfl rfl)
theorem dX3_of_140 : decode cX3_of 140 = .ok (.invokevirtual 339, 3) := dk_182 1 83 (dk_at dksX3_of_4 20 rfl rfl)
theorem dX3_of_143 : decode cX3_of 143 = .ok (.ireturn, 1) := dk_172 (dk_at dksX3_of_4 23 rfl rfl)
theorem dX3_of_144 : decode cX3_of 144 = .ok (.aload_n 0, 1) := dk_42 (dk_at dksX3_of_5 0 rfl rfl)
theorem dX3_of_145 : decode cX3_of 145 = .ok (.iload_n 1, 1) := dk_27 (dk_at dksX3_of_5 1 rfl rfl)
theorem dX3_of_146 : decode cX3_of 146 = .ok (.invokevirtual 371, 3) := dk_182 1 115 (dk_at dksX3_of_5 2 rfl rfl)
theorem dX3_of_149 : decode cX3_of 149 = .ok (.ireturn, 1) := dk_172 (dk_at dksX3_of_5 5 rfl rfl)
theorem dX3_of_150 : decode cX3_of 150 = .ok (.aload_n 0, 1) := dk_42 (dk_at dksX3_of_5 6 rfl rfl)
theorem dX3_of_151 : decode cX3_of 151 = .ok (.getfield 64, 3) := dk_180 0 64 (dk_at dksX3_of_5 7 rfl rfl)
theorem dX3_of_154 : decode cX3_of 154 = .ok (.iload_n 1, 1) := dk_27 (dk_at dksX3_of_5 10 rfl rfl)
theorem dX3_of_155 : decode cX3_of 155 = .ok (.iaload, 1) := dk_46 (dk_at dksX3_of_5 11 rfl rfl)
theorem dX3_of_156 : decode cX3_of 156 = .ok (.ireturn, 1) := dk_172 (dk_at dksX3_of_5 12 rfl rfl)
theorem dX3_of_157 : decode cX3_of 157 = .ok (.iconst (-1), 1) := dk_2 (dk_at dksX3_of_5 13 rfl rfl)
theorem dX3_of_158 : decode cX3_of 158 = .ok (.ireturn, 1) := dk_172 (dk_at dksX3_of_5 14 rfl rfl)
abbrev cX3_isCount : ByteArray := prog_18_method_58_code
def yX3_isCount : MethodName := ⟨RX3, "isCount", "(I)Z"⟩
def dkwX3_isCount_0 : List UInt8 := [27, 3, 42, 180, 0, 23, 16, 18, 46, 4, 100, 184, 0, 85, 172]
abbrev dktX3_isCount_0 : List UInt8 := dkwX3_isCount_0 ++ []
theorem dksX3_isCount_0 : cX3_isCount.data.toList.drop 0 = dktX3_isCount_0 := by decide +kernel
theorem dX3_isCount_0 : decode cX3_isCount 0 = .ok (.iload_n 1, 1) := dk_27 (dk_at dksX3_isCount_0 0 rfl rfl)
theorem dX3_isCount_1 : decode cX3_isCount 1 = .ok (.iconst 0, 1) := dk_3 (dk_at dksX3_isCount_0 1 rfl rfl)
theorem dX3_isCount_2 : decode cX3_isCount 2 = .ok (.aload_n 0, 1) := dk_42 (dk_at dksX3_isCount_0 2 rfl rfl)
theorem dX3_isCount_3 : decode cX3_isCount 3 = .ok (.getfield 23, 3) := dk_180 0 23 (dk_at dksX3_isCount_0 3 rfl rfl)
theorem dX3_isCount_6 : decode cX3_isCount 6 = .ok (.bipush 18, 2) := dk_16 18 (dk_at dksX3_isCount_0 6 rfl rfl)
theorem dX3_isCount_8 : decode cX3_isCount 8 = .ok (.iaload, 1) := dk_46 (dk_at dksX3_isCount_0 8 rfl rfl)
theorem dX3_isCount_9 : decode cX3_isCount 9 = .ok (.iconst 1, 1) := dk_4 (dk_at dksX3_isCount_0 9 rfl rfl)
theorem dX3_isCount_10 : decode cX3_isCount 10 = .ok (.isub, 1) := dk_100 (dk_at dksX3_isCount_0 10 rfl rfl)
theorem dX3_isCount_11 : decode cX3_isCount 11 = .ok (.invokestatic 85, 3) := dk_184 0 85 (dk_at dksX3_isCount_0 11 rfl rfl)
theorem dX3_isCount_14 : decode cX3_isCount 14 = .ok (.ireturn, 1) := dk_172 (dk_at dksX3_isCount_0 14 rfl rfl)
abbrev cX3_laysBacks : ByteArray := prog_18_method_70_code
def yX3_laysBacks : MethodName := ⟨RX3, "laysBacks", "()V"⟩
def dkwX3_laysBacks_3 : List UInt8 := [182, 1, 94, 79, 132, 2, 1, 167, 255, 225, 132, 1, 1, 167, 255, 206, 177]
abbrev dktX3_laysBacks_3 : List UInt8 := dkwX3_laysBacks_3 ++ []
def dkwX3_laysBacks_2 : List UInt8 := [180, 0, 23, 16, 18, 46, 162, 0, 26, 42, 180, 0, 61, 28, 42, 28, 42, 28, 7, 182, 1, 83]
abbrev dktX3_laysBacks_2 : List UInt8 := dkwX3_laysBacks_2 ++ dktX3_laysBacks_3
def dkwX3_laysBacks_1 : List UInt8 := [79, 132, 1, 1, 167, 255, 230, 4, 60, 27, 42, 180, 0, 23, 16, 18, 46, 162, 0, 45, 3, 61, 28, 42]
abbrev dktX3_laysBacks_1 : List UInt8 := dkwX3_laysBacks_1 ++ dktX3_laysBacks_2
def dkwX3_laysBacks_0 : List UInt8 := [3, 60, 27, 42, 180, 0, 23, 16, 18, 46, 162, 0, 21, 42, 180, 0, 61, 27, 42, 27, 4, 182, 1, 83]
abbrev dktX3_laysBacks_0 : List UInt8 := dkwX3_laysBacks_0 ++ dktX3_laysBacks_1
theorem dksX3_laysBacks_0 : cX3_laysBacks.data.toList.drop 0 = dktX3_laysBacks_0 := by decide +kernel
theorem dksX3_laysBacks_1 : cX3_laysBacks.data.toList.drop 24 = dktX3_laysBacks_1 := dk_seg dksX3_laysBacks_0 24 rfl rfl
theorem dksX3_laysBacks_2 : cX3_laysBacks.data.toList.drop 48 = dktX3_laysBacks_2 := dk_seg dksX3_laysBacks_1 24 rfl rfl
theorem dksX3_laysBacks_3 : cX3_laysBacks.data.toList.drop 70 = dktX3_laysBacks_3 := dk_seg dksX3_laysBacks_2 22 rfl rfl
theorem dX3_laysBacks_0 : decode cX3_laysBacks 0 = .ok (.iconst 0, 1) := dk_3 (dk_at dksX3_laysBacks_0 0 rfl rfl)
theorem dX3_laysBacks_1 : decode cX3_laysBacks 1 = .ok (.istore_n 1, 1) := dk_60 (dk_at dksX3_laysBacks_0 1 rfl rfl)
theorem dX3_laysBacks_2 : decode cX3_laysBacks 2 = .ok (.iload_n 1, 1) := dk_27 (dk_at dksX3_laysBacks_0 2 rfl rfl)
theorem dX3_laysBacks_3 : decode cX3_laysBacks 3 = .ok (.aload_n 0, 1) := dk_42 (dk_at dksX3_laysBacks_0 3 rfl rfl)
theorem dX3_laysBacks_4 : decode cX3_laysBacks 4 = .ok (.getfield 23, 3) := dk_180 0 23 (dk_at dksX3_laysBacks_0 4 rfl rfl)
theorem dX3_laysBacks_7 : decode cX3_laysBacks 7 = .ok (.bipush 18, 2) := dk_16 18 (dk_at dksX3_laysBacks_0 7 rfl rfl)
theorem dX3_laysBacks_9 : decode cX3_laysBacks 9 = .ok (.iaload, 1) := dk_46 (dk_at dksX3_laysBacks_0 9 rfl rfl)
theorem dX3_laysBacks_10 : decode cX3_laysBacks 10 = .ok (.if_icmp .ge 21, 3) := dk_162 0 21 (dk_at dksX3_laysBacks_0 10 rfl rfl)
theorem dX3_laysBacks_13 : decode cX3_laysBacks 13 = .ok (.aload_n 0, 1) := dk_42 (dk_at dksX3_laysBacks_0 13 rfl rfl)
theorem dX3_laysBacks_14 : decode cX3_laysBacks 14 = .ok (.getfield 61, 3) := dk_180 0 61 (dk_at dksX3_laysBacks_0 14 rfl rfl)
theorem dX3_laysBacks_17 : decode cX3_laysBacks 17 = .ok (.iload_n 1, 1) := dk_27 (dk_at dksX3_laysBacks_0 17 rfl rfl)
theorem dX3_laysBacks_18 : decode cX3_laysBacks 18 = .ok (.aload_n 0, 1) := dk_42 (dk_at dksX3_laysBacks_0 18 rfl rfl)
theorem dX3_laysBacks_19 : decode cX3_laysBacks 19 = .ok (.iload_n 1, 1) := dk_27 (dk_at dksX3_laysBacks_0 19 rfl rfl)
theorem dX3_laysBacks_20 : decode cX3_laysBacks 20 = .ok (.iconst 1, 1) := dk_4 (dk_at dksX3_laysBacks_0 20 rfl rfl)
theorem dX3_laysBacks_21 : decode cX3_laysBacks 21 = .ok (.invokevirtual 339, 3) := dk_182 1 83 (dk_at dksX3_laysBacks_0 21 rfl rfl)
theorem dX3_laysBacks_24 : decode cX3_laysBacks 24 = .ok (.iastore, 1) := dk_79 (dk_at dksX3_laysBacks_1 0 rfl rfl)
theorem dX3_laysBacks_25 : decode cX3_laysBacks 25 = .ok (.iinc 1 1, 3) := dk_132 1 1 (dk_at dksX3_laysBacks_1 1 rfl rfl)
theorem dX3_laysBacks_28 : decode cX3_laysBacks 28 = .ok (.goto (-26), 3) := dk_167 255 230 (dk_at dksX3_laysBacks_1 4 rfl rfl)
theorem dX3_laysBacks_31 : decode cX3_laysBacks 31 = .ok (.iconst 1, 1) := dk_4 (dk_at dksX3_laysBacks_1 7 rfl rfl)
theorem dX3_laysBacks_32 : decode cX3_laysBacks 32 = .ok (.istore_n 1, 1) := dk_60 (dk_at dksX3_laysBacks_1 8 rfl rfl)
theorem dX3_laysBacks_33 : decode cX3_laysBacks 33 = .ok (.iload_n 1, 1) := dk_27 (dk_at dksX3_laysBacks_1 9 rfl rfl)
theorem dX3_laysBacks_34 : decode cX3_laysBacks 34 = .ok (.aload_n 0, 1) := dk_42 (dk_at dksX3_laysBacks_1 10 rfl rfl)
theorem dX3_laysBacks_35 : decode cX3_laysBacks 35 = .ok (.getfield 23, 3) := dk_180 0 23 (dk_at dksX3_laysBacks_1 11 rfl rfl)
theorem dX3_laysBacks_38 : decode cX3_laysBacks 38 = .ok (.bipush 18, 2) := dk_16 18 (dk_at dksX3_laysBacks_1 14 rfl rfl)
theorem dX3_laysBacks_40 : decode cX3_laysBacks 40 = .ok (.iaload, 1) := dk_46 (dk_at dksX3_laysBacks_1 16 rfl rfl)
theorem dX3_laysBacks_41 : decode cX3_laysBacks 41 = .ok (.if_icmp .ge 45, 3) := dk_162 0 45 (dk_at dksX3_laysBacks_1 17 rfl rfl)
theorem dX3_laysBacks_44 : decode cX3_laysBacks 44 = .ok (.iconst 0, 1) := dk_3 (dk_at dksX3_laysBacks_1 20 rfl rfl)
theorem dX3_laysBacks_45 : decode cX3_laysBacks 45 = .ok (.istore_n 2, 1) := dk_61 (dk_at dksX3_laysBacks_1 21 rfl rfl)
theorem dX3_laysBacks_46 : decode cX3_laysBacks 46 = .ok (.iload_n 2, 1) := dk_28 (dk_at dksX3_laysBacks_1 22 rfl rfl)
theorem dX3_laysBacks_47 : decode cX3_laysBacks 47 = .ok (.aload_n 0, 1) := dk_42 (dk_at dksX3_laysBacks_1 23 rfl rfl)
theorem dX3_laysBacks_48 : decode cX3_laysBacks 48 = .ok (.getfield 23, 3) := dk_180 0 23 (dk_at dksX3_laysBacks_2 0 rfl rfl)
theorem dX3_laysBacks_51 : decode cX3_laysBacks 51 = .ok (.bipush 18, 2) := dk_16 18 (dk_at dksX3_laysBacks_2 3 rfl rfl)
theorem dX3_laysBacks_53 : decode cX3_laysBacks 53 = .ok (.iaload, 1) := dk_46 (dk_at dksX3_laysBacks_2 5 rfl rfl)
theorem dX3_laysBacks_54 : decode cX3_laysBacks 54 = .ok (.if_icmp .ge 26, 3) := dk_162 0 26 (dk_at dksX3_laysBacks_2 6 rfl rfl)
theorem dX3_laysBacks_57 : decode cX3_laysBacks 57 = .ok (.aload_n 0, 1) := dk_42 (dk_at dksX3_laysBacks_2 9 rfl rfl)
theorem dX3_laysBacks_58 : decode cX3_laysBacks 58 = .ok (.getfield 61, 3) := dk_180 0 61 (dk_at dksX3_laysBacks_2 10 rfl rfl)
theorem dX3_laysBacks_61 : decode cX3_laysBacks 61 = .ok (.iload_n 2, 1) := dk_28 (dk_at dksX3_laysBacks_2 13 rfl rfl)
theorem dX3_laysBacks_62 : decode cX3_laysBacks 62 = .ok (.aload_n 0, 1) := dk_42 (dk_at dksX3_laysBacks_2 14 rfl rfl)
theorem dX3_laysBacks_63 : decode cX3_laysBacks 63 = .ok (.iload_n 2, 1) := dk_28 (dk_at dksX3_laysBacks_2 15 rfl rfl)
theorem dX3_laysBacks_64 : decode cX3_laysBacks 64 = .ok (.aload_n 0, 1) := dk_42 (dk_at dksX3_laysBacks_2 16 rfl rfl)
theorem dX3_laysBacks_65 : decode cX3_laysBacks 65 = .ok (.iload_n 2, 1) := dk_28 (dk_at dksX3_laysBacks_2 17 rfl rfl)
theorem dX3_laysBacks_66 : decode cX3_laysBacks 66 = .ok (.iconst 4, 1) := dk_7 (dk_at dksX3_laysBacks_2 18 rfl rfl)
theorem dX3_laysBacks_67 : decode cX3_laysBacks 67 = .ok (.invokevirtual 339, 3) := dk_182 1 83 (dk_at dksX3_laysBacks_2 19 rfl rfl)
theorem dX3_laysBacks_70 : decode cX3_laysBacks 70 = .ok (.invokevirtual 350, 3) := dk_182 1 94 (dk_at dksX3_laysBacks_3 0 rfl rfl)
theorem dX3_laysBacks_73 : decode cX3_laysBacks 73 = .ok (.iastore, 1) := dk_79 (dk_at dksX3_laysBacks_3 3 rfl rfl)
theorem dX3_laysBacks_74 : decode cX3_laysBacks 74 = .ok (.iinc 2 1, 3) := dk_132 2 1 (dk_at dksX3_laysBacks_3 4 rfl rfl)
theorem dX3_laysBacks_77 : decode cX3_laysBacks 77 = .ok (.goto (-31), 3) := dk_167 255 225 (dk_at dksX3_laysBacks_3 7 rfl rfl)
theorem dX3_laysBacks_80 : decode cX3_laysBacks 80 = .ok (.iinc 1 1, 3) := dk_132 1 1 (dk_at dksX3_laysBacks_3 10 rfl rfl)
theorem dX3_laysBacks_83 : decode cX3_laysBacks 83 = .ok (.goto (-50), 3) := dk_167 255 206 (dk_at dksX3_laysBacks_3 13 rfl rfl)
theorem dX3_laysBacks_86 : decode cX3_laysBacks 86 = .ok (.return_, 1) := dk_177 (dk_at dksX3_laysBacks_3 16 rfl rfl)
abbrev cX3_backBy : ByteArray := prog_18_method_69_code
def yX3_backBy : MethodName := ⟨RX3, "backBy", "(II)I"⟩
def dkwX3_backBy_3 : List UInt8 := [180, 0, 61, 21, 4, 46, 184, 1, 89, 62, 132, 4, 1, 167, 255, 184, 29, 172]
abbrev dktX3_backBy_3 : List UInt8 := dkwX3_backBy_3 ++ []
def dkwX3_backBy_2 : List UInt8 := [182, 1, 83, 162, 0, 29, 5, 21, 5, 184, 1, 59, 104, 28, 184, 1, 59, 161, 0, 15, 29, 42]
abbrev dktX3_backBy_2 : List UInt8 := dkwX3_backBy_2 ++ dktX3_backBy_3
def dkwX3_backBy_1 : List UInt8 := [153, 0, 62, 42, 21, 4, 7, 182, 1, 83, 28, 126, 54, 5, 42, 21, 4, 4, 182, 1, 83, 42, 27, 4]
abbrev dktX3_backBy_1 : List UInt8 := dkwX3_backBy_1 ++ dktX3_backBy_2
def dkwX3_backBy_0 : List UInt8 := [42, 27, 4, 182, 1, 83, 62, 3, 54, 4, 21, 4, 42, 180, 0, 23, 16, 18, 46, 162, 0, 66, 28]
abbrev dktX3_backBy_0 : List UInt8 := dkwX3_backBy_0 ++ dktX3_backBy_1
theorem dksX3_backBy_0 : cX3_backBy.data.toList.drop 0 = dktX3_backBy_0 := by decide +kernel
theorem dksX3_backBy_1 : cX3_backBy.data.toList.drop 23 = dktX3_backBy_1 := dk_seg dksX3_backBy_0 23 rfl rfl
theorem dksX3_backBy_2 : cX3_backBy.data.toList.drop 47 = dktX3_backBy_2 := dk_seg dksX3_backBy_1 24 rfl rfl
theorem dksX3_backBy_3 : cX3_backBy.data.toList.drop 69 = dktX3_backBy_3 := dk_seg dksX3_backBy_2 22 rfl rfl
theorem dX3_backBy_0 : decode cX3_backBy 0 = .ok (.aload_n 0, 1) := dk_42 (dk_at dksX3_backBy_0 0 rfl rfl)
theorem dX3_backBy_1 : decode cX3_backBy 1 = .ok (.iload_n 1, 1) := dk_27 (dk_at dksX3_backBy_0 1 rfl rfl)
theorem dX3_backBy_2 : decode cX3_backBy 2 = .ok (.iconst 1, 1) := dk_4 (dk_at dksX3_backBy_0 2 rfl rfl)
theorem dX3_backBy_3 : decode cX3_backBy 3 = .ok (.invokevirtual 339, 3) := dk_182 1 83 (dk_at dksX3_backBy_0 3 rfl rfl)
theorem dX3_backBy_6 : decode cX3_backBy 6 = .ok (.istore_n 3, 1) := dk_62 (dk_at dksX3_backBy_0 6 rfl rfl)
theorem dX3_backBy_7 : decode cX3_backBy 7 = .ok (.iconst 0, 1) := dk_3 (dk_at dksX3_backBy_0 7 rfl rfl)
theorem dX3_backBy_8 : decode cX3_backBy 8 = .ok (.istore 4, 2) := dk_54 4 (dk_at dksX3_backBy_0 8 rfl rfl)
theorem dX3_backBy_10 : decode cX3_backBy 10 = .ok (.iload 4, 2) := dk_21 4 (dk_at dksX3_backBy_0 10 rfl rfl)
theorem dX3_backBy_12 : decode cX3_backBy 12 = .ok (.aload_n 0, 1) := dk_42 (dk_at dksX3_backBy_0 12 rfl rfl)
theorem dX3_backBy_13 : decode cX3_backBy 13 = .ok (.getfield 23, 3) := dk_180 0 23 (dk_at dksX3_backBy_0 13 rfl rfl)
theorem dX3_backBy_16 : decode cX3_backBy 16 = .ok (.bipush 18, 2) := dk_16 18 (dk_at dksX3_backBy_0 16 rfl rfl)
theorem dX3_backBy_18 : decode cX3_backBy 18 = .ok (.iaload, 1) := dk_46 (dk_at dksX3_backBy_0 18 rfl rfl)
theorem dX3_backBy_19 : decode cX3_backBy 19 = .ok (.if_icmp .ge 66, 3) := dk_162 0 66 (dk_at dksX3_backBy_0 19 rfl rfl)
theorem dX3_backBy_22 : decode cX3_backBy 22 = .ok (.iload_n 2, 1) := dk_28 (dk_at dksX3_backBy_0 22 rfl rfl)
theorem dX3_backBy_23 : decode cX3_backBy 23 = .ok (.ifCond .eq 62, 3) := dk_153 0 62 (dk_at dksX3_backBy_1 0 rfl rfl)
theorem dX3_backBy_26 : decode cX3_backBy 26 = .ok (.aload_n 0, 1) := dk_42 (dk_at dksX3_backBy_1 3 rfl rfl)
theorem dX3_backBy_27 : decode cX3_backBy 27 = .ok (.iload 4, 2) := dk_21 4 (dk_at dksX3_backBy_1 4 rfl rfl)
theorem dX3_backBy_29 : decode cX3_backBy 29 = .ok (.iconst 4, 1) := dk_7 (dk_at dksX3_backBy_1 6 rfl rfl)
theorem dX3_backBy_30 : decode cX3_backBy 30 = .ok (.invokevirtual 339, 3) := dk_182 1 83 (dk_at dksX3_backBy_1 7 rfl rfl)
theorem dX3_backBy_33 : decode cX3_backBy 33 = .ok (.iload_n 2, 1) := dk_28 (dk_at dksX3_backBy_1 10 rfl rfl)
theorem dX3_backBy_34 : decode cX3_backBy 34 = .ok (.iand, 1) := dk_126 (dk_at dksX3_backBy_1 11 rfl rfl)
theorem dX3_backBy_35 : decode cX3_backBy 35 = .ok (.istore 5, 2) := dk_54 5 (dk_at dksX3_backBy_1 12 rfl rfl)
theorem dX3_backBy_37 : decode cX3_backBy 37 = .ok (.aload_n 0, 1) := dk_42 (dk_at dksX3_backBy_1 14 rfl rfl)
theorem dX3_backBy_38 : decode cX3_backBy 38 = .ok (.iload 4, 2) := dk_21 4 (dk_at dksX3_backBy_1 15 rfl rfl)
theorem dX3_backBy_40 : decode cX3_backBy 40 = .ok (.iconst 1, 1) := dk_4 (dk_at dksX3_backBy_1 17 rfl rfl)
theorem dX3_backBy_41 : decode cX3_backBy 41 = .ok (.invokevirtual 339, 3) := dk_182 1 83 (dk_at dksX3_backBy_1 18 rfl rfl)
theorem dX3_backBy_44 : decode cX3_backBy 44 = .ok (.aload_n 0, 1) := dk_42 (dk_at dksX3_backBy_1 21 rfl rfl)
theorem dX3_backBy_45 : decode cX3_backBy 45 = .ok (.iload_n 1, 1) := dk_27 (dk_at dksX3_backBy_1 22 rfl rfl)
theorem dX3_backBy_46 : decode cX3_backBy 46 = .ok (.iconst 1, 1) := dk_4 (dk_at dksX3_backBy_1 23 rfl rfl)
theorem dX3_backBy_47 : decode cX3_backBy 47 = .ok (.invokevirtual 339, 3) := dk_182 1 83 (dk_at dksX3_backBy_2 0 rfl rfl)
theorem dX3_backBy_50 : decode cX3_backBy 50 = .ok (.if_icmp .ge 29, 3) := dk_162 0 29 (dk_at dksX3_backBy_2 3 rfl rfl)
theorem dX3_backBy_53 : decode cX3_backBy 53 = .ok (.iconst 2, 1) := dk_5 (dk_at dksX3_backBy_2 6 rfl rfl)
theorem dX3_backBy_54 : decode cX3_backBy 54 = .ok (.iload 5, 2) := dk_21 5 (dk_at dksX3_backBy_2 7 rfl rfl)
theorem dX3_backBy_56 : decode cX3_backBy 56 = .ok (.invokestatic 315, 3) := dk_184 1 59 (dk_at dksX3_backBy_2 9 rfl rfl)
theorem dX3_backBy_59 : decode cX3_backBy 59 = .ok (.imul, 1) := dk_104 (dk_at dksX3_backBy_2 12 rfl rfl)
theorem dX3_backBy_60 : decode cX3_backBy 60 = .ok (.iload_n 2, 1) := dk_28 (dk_at dksX3_backBy_2 13 rfl rfl)
theorem dX3_backBy_61 : decode cX3_backBy 61 = .ok (.invokestatic 315, 3) := dk_184 1 59 (dk_at dksX3_backBy_2 14 rfl rfl)
theorem dX3_backBy_64 : decode cX3_backBy 64 = .ok (.if_icmp .lt 15, 3) := dk_161 0 15 (dk_at dksX3_backBy_2 17 rfl rfl)
theorem dX3_backBy_67 : decode cX3_backBy 67 = .ok (.iload_n 3, 1) := dk_29 (dk_at dksX3_backBy_2 20 rfl rfl)
theorem dX3_backBy_68 : decode cX3_backBy 68 = .ok (.aload_n 0, 1) := dk_42 (dk_at dksX3_backBy_2 21 rfl rfl)
theorem dX3_backBy_69 : decode cX3_backBy 69 = .ok (.getfield 61, 3) := dk_180 0 61 (dk_at dksX3_backBy_3 0 rfl rfl)
theorem dX3_backBy_72 : decode cX3_backBy 72 = .ok (.iload 4, 2) := dk_21 4 (dk_at dksX3_backBy_3 3 rfl rfl)
theorem dX3_backBy_74 : decode cX3_backBy 74 = .ok (.iaload, 1) := dk_46 (dk_at dksX3_backBy_3 5 rfl rfl)
theorem dX3_backBy_75 : decode cX3_backBy 75 = .ok (.invokestatic 345, 3) := dk_184 1 89 (dk_at dksX3_backBy_3 6 rfl rfl)
theorem dX3_backBy_78 : decode cX3_backBy 78 = .ok (.istore_n 3, 1) := dk_62 (dk_at dksX3_backBy_3 9 rfl rfl)
theorem dX3_backBy_79 : decode cX3_backBy 79 = .ok (.iinc 4 1, 3) := dk_132 4 1 (dk_at dksX3_backBy_3 10 rfl rfl)
theorem dX3_backBy_82 : decode cX3_backBy 82 = .ok (.goto (-72), 3) := dk_167 255 184 (dk_at dksX3_backBy_3 13 rfl rfl)
theorem dX3_backBy_85 : decode cX3_backBy 85 = .ok (.iload_n 3, 1) := dk_29 (dk_at dksX3_backBy_3 16 rfl rfl)
theorem dX3_backBy_86 : decode cX3_backBy 86 = .ok (.ireturn, 1) := dk_172 (dk_at dksX3_backBy_3 17 rfl rfl)
abbrev cX3_bits : ByteArray := prog_18_method_4_code
def yX3_bits : MethodName := ⟨RX3, "bits", "(I)I"⟩
def dkwX3_bits_0 : List UInt8 := [3, 60, 26, 61, 28, 153, 0, 15, 132, 1, 1, 28, 28, 4, 100, 126, 61, 167, 255, 243, 27, 172]
abbrev dktX3_bits_0 : List UInt8 := dkwX3_bits_0 ++ []
theorem dksX3_bits_0 : cX3_bits.data.toList.drop 0 = dktX3_bits_0 := by decide +kernel
theorem dX3_bits_0 : decode cX3_bits 0 = .ok (.iconst 0, 1) := dk_3 (dk_at dksX3_bits_0 0 rfl rfl)
theorem dX3_bits_1 : decode cX3_bits 1 = .ok (.istore_n 1, 1) := dk_60 (dk_at dksX3_bits_0 1 rfl rfl)
theorem dX3_bits_2 : decode cX3_bits 2 = .ok (.iload_n 0, 1) := dk_26 (dk_at dksX3_bits_0 2 rfl rfl)
theorem dX3_bits_3 : decode cX3_bits 3 = .ok (.istore_n 2, 1) := dk_61 (dk_at dksX3_bits_0 3 rfl rfl)
theorem dX3_bits_4 : decode cX3_bits 4 = .ok (.iload_n 2, 1) := dk_28 (dk_at dksX3_bits_0 4 rfl rfl)
theorem dX3_bits_5 : decode cX3_bits 5 = .ok (.ifCond .eq 15, 3) := dk_153 0 15 (dk_at dksX3_bits_0 5 rfl rfl)
theorem dX3_bits_8 : decode cX3_bits 8 = .ok (.iinc 1 1, 3) := dk_132 1 1 (dk_at dksX3_bits_0 8 rfl rfl)
theorem dX3_bits_11 : decode cX3_bits 11 = .ok (.iload_n 2, 1) := dk_28 (dk_at dksX3_bits_0 11 rfl rfl)
theorem dX3_bits_12 : decode cX3_bits 12 = .ok (.iload_n 2, 1) := dk_28 (dk_at dksX3_bits_0 12 rfl rfl)
theorem dX3_bits_13 : decode cX3_bits 13 = .ok (.iconst 1, 1) := dk_4 (dk_at dksX3_bits_0 13 rfl rfl)
theorem dX3_bits_14 : decode cX3_bits 14 = .ok (.isub, 1) := dk_100 (dk_at dksX3_bits_0 14 rfl rfl)
theorem dX3_bits_15 : decode cX3_bits 15 = .ok (.iand, 1) := dk_126 (dk_at dksX3_bits_0 15 rfl rfl)
theorem dX3_bits_16 : decode cX3_bits 16 = .ok (.istore_n 2, 1) := dk_61 (dk_at dksX3_bits_0 16 rfl rfl)
theorem dX3_bits_17 : decode cX3_bits 17 = .ok (.goto (-13), 3) := dk_167 255 243 (dk_at dksX3_bits_0 17 rfl rfl)
theorem dX3_bits_20 : decode cX3_bits 20 = .ok (.iload_n 1, 1) := dk_27 (dk_at dksX3_bits_0 20 rfl rfl)
theorem dX3_bits_21 : decode cX3_bits 21 = .ok (.ireturn, 1) := dk_172 (dk_at dksX3_bits_0 21 rfl rfl)
abbrev cX3_laysInjuries : ByteArray := prog_18_method_74_code
def yX3_laysInjuries : MethodName := ⟨RX3, "laysInjuries", "()V"⟩
def dkwX3_laysInjuries_7 : List UInt8 := [167, 255, 117, 177]
abbrev dktX3_laysInjuries_7 : List UInt8 := dkwX3_laysInjuries_7 ++ []
def dkwX3_laysInjuries_6 : List UInt8 := [29, 42, 180, 0, 64, 28, 46, 79, 132, 3, 1, 167, 255, 150, 132, 2, 1, 167, 255, 131, 132, 1, 1]
abbrev dktX3_laysInjuries_6 : List UInt8 := dkwX3_laysInjuries_6 ++ dktX3_laysInjuries_7
def dkwX3_laysInjuries_5 : List UInt8 := [180, 0, 64, 28, 42, 180, 0, 64, 28, 46, 42, 180, 0, 64, 29, 46, 184, 1, 89, 79, 42, 180, 0, 64]
abbrev dktX3_laysInjuries_5 : List UInt8 := dkwX3_laysInjuries_5 ++ dktX3_laysInjuries_6
def dkwX3_laysInjuries_4 : List UInt8 := [28, 96, 46, 29, 184, 0, 239, 153, 0, 7, 4, 167, 0, 4, 3, 54, 4, 21, 4, 153, 0, 36, 42]
abbrev dktX3_laysInjuries_4 : List UInt8 := dkwX3_laysInjuries_4 ++ dktX3_laysInjuries_5
def dkwX3_laysInjuries_3 : List UInt8 := [180, 0, 7, 5, 46, 162, 0, 33, 29, 42, 180, 0, 7, 5, 46, 162, 0, 23, 42, 180, 0, 7, 16, 61]
abbrev dktX3_laysInjuries_3 : List UInt8 := dkwX3_laysInjuries_3 ++ dktX3_laysInjuries_4
def dkwX3_laysInjuries_2 : List UInt8 := [180, 0, 23, 16, 18, 46, 162, 0, 101, 42, 29, 16, 7, 182, 1, 83, 28, 159, 0, 39, 28, 42]
abbrev dktX3_laysInjuries_2 : List UInt8 := dkwX3_laysInjuries_2 ++ dktX3_laysInjuries_3
def dkwX3_laysInjuries_1 : List UInt8 := [16, 8, 162, 0, 139, 3, 61, 28, 42, 180, 0, 23, 16, 18, 46, 162, 0, 120, 3, 62, 29, 42]
abbrev dktX3_laysInjuries_1 : List UInt8 := dkwX3_laysInjuries_1 ++ dktX3_laysInjuries_2
def dkwX3_laysInjuries_0 : List UInt8 := [3, 60, 27, 16, 8, 162, 0, 16, 42, 180, 0, 64, 27, 27, 79, 132, 1, 1, 167, 255, 240, 3, 60, 27]
abbrev dktX3_laysInjuries_0 : List UInt8 := dkwX3_laysInjuries_0 ++ dktX3_laysInjuries_1
theorem dksX3_laysInjuries_0 : cX3_laysInjuries.data.toList.drop 0 = dktX3_laysInjuries_0 := by decide +kernel
theorem dksX3_laysInjuries_1 : cX3_laysInjuries.data.toList.drop 24 = dktX3_laysInjuries_1 := dk_seg dksX3_laysInjuries_0 24 rfl rfl
theorem dksX3_laysInjuries_2 : cX3_laysInjuries.data.toList.drop 46 = dktX3_laysInjuries_2 := dk_seg dksX3_laysInjuries_1 22 rfl rfl
theorem dksX3_laysInjuries_3 : cX3_laysInjuries.data.toList.drop 68 = dktX3_laysInjuries_3 := dk_seg dksX3_laysInjuries_2 22 rfl rfl
theorem dksX3_laysInjuries_4 : cX3_laysInjuries.data.toList.drop 92 = dktX3_laysInjuries_4 := dk_seg dksX3_laysInjuries_3 24 rfl rfl
theorem dksX3_laysInjuries_5 : cX3_laysInjuries.data.toList.drop 115 = dktX3_laysInjuries_5 := dk_seg dksX3_laysInjuries_4 23 rfl rfl
theorem dksX3_laysInjuries_6 : cX3_laysInjuries.data.toList.drop 139 = dktX3_laysInjuries_6 := dk_seg dksX3_laysInjuries_5 24 rfl rfl
theorem dksX3_laysInjuries_7 : cX3_laysInjuries.data.toList.drop 162 = dktX3_laysInjuries_7 := dk_seg dksX3_laysInjuries_6 23 rfl rfl
theorem dX3_laysInjuries_0 : decode cX3_laysInjuries 0 = .ok (.iconst 0, 1) := dk_3 (dk_at dksX3_laysInjuries_0 0 rfl rfl)
theorem dX3_laysInjuries_1 : decode cX3_laysInjuries 1 = .ok (.istore_n 1, 1) := dk_60 (dk_at dksX3_laysInjuries_0 1 rfl rfl)
theorem dX3_laysInjuries_2 : decode cX3_laysInjuries 2 = .ok (.iload_n 1, 1) := dk_27 (dk_at dksX3_laysInjuries_0 2 rfl rfl)
theorem dX3_laysInjuries_3 : decode cX3_laysInjuries 3 = .ok (.bipush 8, 2) := dk_16 8 (dk_at dksX3_laysInjuries_0 3 rfl rfl)
theorem dX3_laysInjuries_5 : decode cX3_laysInjuries 5 = .ok (.if_icmp .ge 16, 3) := dk_162 0 16 (dk_at dksX3_laysInjuries_0 5 rfl rfl)
theorem dX3_laysInjuries_8 : decode cX3_laysInjuries 8 = .ok (.aload_n 0, 1) := dk_42 (dk_at dksX3_laysInjuries_0 8 rfl rfl)
theorem dX3_laysInjuries_9 : decode cX3_laysInjuries 9 = .ok (.getfield 64, 3) := dk_180 0 64 (dk_at dksX3_laysInjuries_0 9 rfl rfl)
theorem dX3_laysInjuries_12 : decode cX3_laysInjuries 12 = .ok (.iload_n 1, 1) := dk_27 (dk_at dksX3_laysInjuries_0 12 rfl rfl)
theorem dX3_laysInjuries_13 : decode cX3_laysInjuries 13 = .ok (.iload_n 1, 1) := dk_27 (dk_at dksX3_laysInjuries_0 13 rfl rfl)
theorem dX3_laysInjuries_14 : decode cX3_laysInjuries 14 = .ok (.iastore, 1) := dk_79 (dk_at dksX3_laysInjuries_0 14 rfl rfl)
theorem dX3_laysInjuries_15 : decode cX3_laysInjuries 15 = .ok (.iinc 1 1, 3) := dk_132 1 1 (dk_at dksX3_laysInjuries_0 15 rfl rfl)
theorem dX3_laysInjuries_18 : decode cX3_laysInjuries 18 = .ok (.goto (-16), 3) := dk_167 255 240 (dk_at dksX3_laysInjuries_0 18 rfl rfl)
theorem dX3_laysInjuries_21 : decode cX3_laysInjuries 21 = .ok (.iconst 0, 1) := dk_3 (dk_at dksX3_laysInjuries_0 21 rfl rfl)
theorem dX3_laysInjuries_22 : decode cX3_laysInjuries 22 = .ok (.istore_n 1, 1) := dk_60 (dk_at dksX3_laysInjuries_0 22 rfl rfl)
theorem dX3_laysInjuries_23 : decode cX3_laysInjuries 23 = .ok (.iload_n 1, 1) := dk_27 (dk_at dksX3_laysInjuries_0 23 rfl rfl)
theorem dX3_laysInjuries_24 : decode cX3_laysInjuries 24 = .ok (.bipush 8, 2) := dk_16 8 (dk_at dksX3_laysInjuries_1 0 rfl rfl)
theorem dX3_laysInjuries_26 : decode cX3_laysInjuries 26 = .ok (.if_icmp .ge 139, 3) := dk_162 0 139 (dk_at dksX3_laysInjuries_1 2 rfl rfl)
theorem dX3_laysInjuries_29 : decode cX3_laysInjuries 29 = .ok (.iconst 0, 1) := dk_3 (dk_at dksX3_laysInjuries_1 5 rfl rfl)
theorem dX3_laysInjuries_30 : decode cX3_laysInjuries 30 = .ok (.istore_n 2, 1) := dk_61 (dk_at dksX3_laysInjuries_1 6 rfl rfl)
theorem dX3_laysInjuries_31 : decode cX3_laysInjuries 31 = .ok (.iload_n 2, 1) := dk_28 (dk_at dksX3_laysInjuries_1 7 rfl rfl)
theorem dX3_laysInjuries_32 : decode cX3_laysInjuries 32 = .ok (.aload_n 0, 1) := dk_42 (dk_at dksX3_laysInjuries_1 8 rfl rfl)
theorem dX3_laysInjuries_33 : decode cX3_laysInjuries 33 = .ok (.getfield 23, 3) := dk_180 0 23 (dk_at dksX3_laysInjuries_1 9 rfl rfl)
theorem dX3_laysInjuries_36 : decode cX3_laysInjuries 36 = .ok (.bipush 18, 2) := dk_16 18 (dk_at dksX3_laysInjuries_1 12 rfl rfl)
theorem dX3_laysInjuries_38 : decode cX3_laysInjuries 38 = .ok (.iaload, 1) := dk_46 (dk_at dksX3_laysInjuries_1 14 rfl rfl)
theorem dX3_laysInjuries_39 : decode cX3_laysInjuries 39 = .ok (.if_icmp .ge 120, 3) := dk_162 0 120 (dk_at dksX3_laysInjuries_1 15 rfl rfl)
theorem dX3_laysInjuries_42 : decode cX3_laysInjuries 42 = .ok (.iconst 0, 1) := dk_3 (dk_at dksX3_laysInjuries_1 18 rfl rfl)
theorem dX3_laysInjuries_43 : decode cX3_laysInjuries 43 = .ok (.istore_n 3, 1) := dk_62 (dk_at dksX3_laysInjuries_1 19 rfl rfl)
theorem dX3_laysInjuries_44 : decode cX3_laysInjuries 44 = .ok (.iload_n 3, 1) := dk_29 (dk_at dksX3_laysInjuries_1 20 rfl rfl)
theorem dX3_laysInjuries_45 : decode cX3_laysInjuries 45 = .ok (.aload_n 0, 1) := dk_42 (dk_at dksX3_laysInjuries_1 21 rfl rfl)
theorem dX3_laysInjuries_46 : decode cX3_laysInjuries 46 = .ok (.getfield 23, 3) := dk_180 0 23 (dk_at dksX3_laysInjuries_2 0 rfl rfl)
theorem dX3_laysInjuries_49 : decode cX3_laysInjuries 49 = .ok (.bipush 18, 2) := dk_16 18 (dk_at dksX3_laysInjuries_2 3 rfl rfl)
theorem dX3_laysInjuries_51 : decode cX3_laysInjuries 51 = .ok (.iaload, 1) := dk_46 (dk_at dksX3_laysInjuries_2 5 rfl rfl)
theorem dX3_laysInjuries_52 : decode cX3_laysInjuries 52 = .ok (.if_icmp .ge 101, 3) := dk_162 0 101 (dk_at dksX3_laysInjuries_2 6 rfl rfl)
theorem dX3_laysInjuries_55 : decode cX3_laysInjuries 55 = .ok (.aload_n 0, 1) := dk_42 (dk_at dksX3_laysInjuries_2 9 rfl rfl)
theorem dX3_laysInjuries_56 : decode cX3_laysInjuries 56 = .ok (.iload_n 3, 1) := dk_29 (dk_at dksX3_laysInjuries_2 10 rfl rfl)
theorem dX3_laysInjuries_57 : decode cX3_laysInjuries 57 = .ok (.bipush 7, 2) := dk_16 7 (dk_at dksX3_laysInjuries_2 11 rfl rfl)
theorem dX3_laysInjuries_59 : decode cX3_laysInjuries 59 = .ok (.invokevirtual 339, 3) := dk_182 1 83 (dk_at dksX3_laysInjuries_2 13 rfl rfl)
theorem dX3_laysInjuries_62 : decode cX3_laysInjuries 62 = .ok (.iload_n 2, 1) := dk_28 (dk_at dksX3_laysInjuries_2 16 rfl rfl)
theorem dX3_laysInjuries_63 : decode cX3_laysInjuries 63 = .ok (.if_icmp .eq 39, 3) := dk_159 0 39 (dk_at dksX3_laysInjuries_2 17 rfl rfl)
theorem dX3_laysInjuries_66 : decode cX3_laysInjuries 66 = .ok (.iload_n 2, 1) := dk_28 (dk_at dksX3_laysInjuries_2 20 rfl rfl)
theorem dX3_laysInjuries_67 : decode cX3_laysInjuries 67 = .ok (.aload_n 0, 1) := dk_42 (dk_at dksX3_laysInjuries_2 21 rfl rfl)
theorem dX3_laysInjuries_68 : decode cX3_laysInjuries 68 = .ok (.getfield 7, 3) := dk_180 0 7 (dk_at dksX3_laysInjuries_3 0 rfl rfl)
theorem dX3_laysInjuries_71 : decode cX3_laysInjuries 71 = .ok (.iconst 2, 1) := dk_5 (dk_at dksX3_laysInjuries_3 3 rfl rfl)
theorem dX3_laysInjuries_72 : decode cX3_laysInjuries 72 = .ok (.iaload, 1) := dk_46 (dk_at dksX3_laysInjuries_3 4 rfl rfl)
theorem dX3_laysInjuries_73 : decode cX3_laysInjuries 73 = .ok (.if_icmp .ge 33, 3) := dk_162 0 33 (dk_at dksX3_laysInjuries_3 5 rfl rfl)
theorem dX3_laysInjuries_76 : decode cX3_laysInjuries 76 = .ok (.iload_n 3, 1) := dk_29 (dk_at dksX3_laysInjuries_3 8 rfl rfl)
theorem dX3_laysInjuries_77 : decode cX3_laysInjuries 77 = .ok (.aload_n 0, 1) := dk_42 (dk_at dksX3_laysInjuries_3 9 rfl rfl)
theorem dX3_laysInjuries_78 : decode cX3_laysInjuries 78 = .ok (.getfield 7, 3) := dk_180 0 7 (dk_at dksX3_laysInjuries_3 10 rfl rfl)
theorem dX3_laysInjuries_81 : decode cX3_laysInjuries 81 = .ok (.iconst 2, 1) := dk_5 (dk_at dksX3_laysInjuries_3 13 rfl rfl)
theorem dX3_laysInjuries_82 : decode cX3_laysInjuries 82 = .ok (.iaload, 1) := dk_46 (dk_at dksX3_laysInjuries_3 14 rfl rfl)
theorem dX3_laysInjuries_83 : decode cX3_laysInjuries 83 = .ok (.if_icmp .ge 23, 3) := dk_162 0 23 (dk_at dksX3_laysInjuries_3 15 rfl rfl)
theorem dX3_laysInjuries_86 : decode cX3_laysInjuries 86 = .ok (.aload_n 0, 1) := dk_42 (dk_at dksX3_laysInjuries_3 18 rfl rfl)
theorem dX3_laysInjuries_87 : decode cX3_laysInjuries 87 = .ok (.getfield 7, 3) := dk_180 0 7 (dk_at dksX3_laysInjuries_3 19 rfl rfl)
theorem dX3_laysInjuries_90 : decode cX3_laysInjuries 90 = .ok (.bipush 61, 2) := dk_16 61 (dk_at dksX3_laysInjuries_3 22 rfl rfl)
theorem dX3_laysInjuries_92 : decode cX3_laysInjuries 92 = .ok (.iload_n 2, 1) := dk_28 (dk_at dksX3_laysInjuries_4 0 rfl rfl)
theorem dX3_laysInjuries_93 : decode cX3_laysInjuries 93 = .ok (.iadd, 1) := dk_96 (dk_at dksX3_laysInjuries_4 1 rfl rfl)
theorem dX3_laysInjuries_94 : decode cX3_laysInjuries 94 = .ok (.iaload, 1) := dk_46 (dk_at dksX3_laysInjuries_4 2 rfl rfl)
theorem dX3_laysInjuries_95 : decode cX3_laysInjuries 95 = .ok (.iload_n 3, 1) := dk_29 (dk_at dksX3_laysInjuries_4 3 rfl rfl)
theorem dX3_laysInjuries_96 : decode cX3_laysInjuries 96 = .ok (.invokestatic 239, 3) := dk_184 0 239 (dk_at dksX3_laysInjuries_4 4 rfl rfl)
theorem dX3_laysInjuries_99 : decode cX3_laysInjuries 99 = .ok (.ifCond .eq 7, 3) := dk_153 0 7 (dk_at dksX3_laysInjuries_4 7 rfl rfl)
theorem dX3_laysInjuries_102 : decode cX3_laysInjuries 102 = .ok (.iconst 1, 1) := dk_4 (dk_at dksX3_laysInjuries_4 10 rfl rfl)
theorem dX3_laysInjuries_103 : decode cX3_laysInjuries 103 = .ok (.goto 4, 3) := dk_167 0 4 (dk_at dksX3_laysInjuries_4 11 rfl rfl)
theorem dX3_laysInjuries_106 : decode cX3_laysInjuries 106 = .ok (.iconst 0, 1) := dk_3 (dk_at dksX3_laysInjuries_4 14 rfl rfl)
theorem dX3_laysInjuries_107 : decode cX3_laysInjuries 107 = .ok (.istore 4, 2) := dk_54 4 (dk_at dksX3_laysInjuries_4 15 rfl rfl)
theorem dX3_laysInjuries_109 : decode cX3_laysInjuries 109 = .ok (.iload 4, 2) := dk_21 4 (dk_at dksX3_laysInjuries_4 17 rfl rfl)
theorem dX3_laysInjuries_111 : decode cX3_laysInjuries 111 = .ok (.ifCond .eq 36, 3) := dk_153 0 36 (dk_at dksX3_laysInjuries_4 19 rfl rfl)
theorem dX3_laysInjuries_114 : decode cX3_laysInjuries 114 = .ok (.aload_n 0, 1) := dk_42 (dk_at dksX3_laysInjuries_4 22 rfl rfl)
theorem dX3_laysInjuries_115 : decode cX3_laysInjuries 115 = .ok (.getfield 64, 3) := dk_180 0 64 (dk_at dksX3_laysInjuries_5 0 rfl rfl)
theorem dX3_laysInjuries_118 : decode cX3_laysInjuries 118 = .ok (.iload_n 2, 1) := dk_28 (dk_at dksX3_laysInjuries_5 3 rfl rfl)
theorem dX3_laysInjuries_119 : decode cX3_laysInjuries 119 = .ok (.aload_n 0, 1) := dk_42 (dk_at dksX3_laysInjuries_5 4 rfl rfl)
theorem dX3_laysInjuries_120 : decode cX3_laysInjuries 120 = .ok (.getfield 64, 3) := dk_180 0 64 (dk_at dksX3_laysInjuries_5 5 rfl rfl)
theorem dX3_laysInjuries_123 : decode cX3_laysInjuries 123 = .ok (.iload_n 2, 1) := dk_28 (dk_at dksX3_laysInjuries_5 8 rfl rfl)
theorem dX3_laysInjuries_124 : decode cX3_laysInjuries 124 = .ok (.iaload, 1) := dk_46 (dk_at dksX3_laysInjuries_5 9 rfl rfl)
theorem dX3_laysInjuries_125 : decode cX3_laysInjuries 125 = .ok (.aload_n 0, 1) := dk_42 (dk_at dksX3_laysInjuries_5 10 rfl rfl)
theorem dX3_laysInjuries_126 : decode cX3_laysInjuries 126 = .ok (.getfield 64, 3) := dk_180 0 64 (dk_at dksX3_laysInjuries_5 11 rfl rfl)
theorem dX3_laysInjuries_129 : decode cX3_laysInjuries 129 = .ok (.iload_n 3, 1) := dk_29 (dk_at dksX3_laysInjuries_5 14 rfl rfl)
theorem dX3_laysInjuries_130 : decode cX3_laysInjuries 130 = .ok (.iaload, 1) := dk_46 (dk_at dksX3_laysInjuries_5 15 rfl rfl)
theorem dX3_laysInjuries_131 : decode cX3_laysInjuries 131 = .ok (.invokestatic 345, 3) := dk_184 1 89 (dk_at dksX3_laysInjuries_5 16 rfl rfl)
theorem dX3_laysInjuries_134 : decode cX3_laysInjuries 134 = .ok (.iastore, 1) := dk_79 (dk_at dksX3_laysInjuries_5 19 rfl rfl)
theorem dX3_laysInjuries_135 : decode cX3_laysInjuries 135 = .ok (.aload_n 0, 1) := dk_42 (dk_at dksX3_laysInjuries_5 20 rfl rfl)
theorem dX3_laysInjuries_136 : decode cX3_laysInjuries 136 = .ok (.getfield 64, 3) := dk_180 0 64 (dk_at dksX3_laysInjuries_5 21 rfl rfl)
theorem dX3_laysInjuries_139 : decode cX3_laysInjuries 139 = .ok (.iload_n 3, 1) := dk_29 (dk_at dksX3_laysInjuries_6 0 rfl rfl)
theorem dX3_laysInjuries_140 : decode cX3_laysInjuries 140 = .ok (.aload_n 0, 1) := dk_42 (dk_at dksX3_laysInjuries_6 1 rfl rfl)
theorem dX3_laysInjuries_141 : decode cX3_laysInjuries 141 = .ok (.getfield 64, 3) := dk_180 0 64 (dk_at dksX3_laysInjuries_6 2 rfl rfl)
theorem dX3_laysInjuries_144 : decode cX3_laysInjuries 144 = .ok (.iload_n 2, 1) := dk_28 (dk_at dksX3_laysInjuries_6 5 rfl rfl)
theorem dX3_laysInjuries_145 : decode cX3_laysInjuries 145 = .ok (.iaload, 1) := dk_46 (dk_at dksX3_laysInjuries_6 6 rfl rfl)
theorem dX3_laysInjuries_146 : decode cX3_laysInjuries 146 = .ok (.iastore, 1) := dk_79 (dk_at dksX3_laysInjuries_6 7 rfl rfl)
theorem dX3_laysInjuries_147 : decode cX3_laysInjuries 147 = .ok (.iinc 3 1, 3) := dk_132 3 1 (dk_at dksX3_laysInjuries_6 8 rfl rfl)
theorem dX3_laysInjuries_150 : decode cX3_laysInjuries 150 = .ok (.goto (-106), 3) := dk_167 255 150 (dk_at dksX3_laysInjuries_6 11 rfl rfl)
theorem dX3_laysInjuries_153 : decode cX3_laysInjuries 153 = .ok (.iinc 2 1, 3) := dk_132 2 1 (dk_at dksX3_laysInjuries_6 14 rfl rfl)
theorem dX3_laysInjuries_156 : decode cX3_laysInjuries 156 = .ok (.goto (-125), 3) := dk_167 255 131 (dk_at dksX3_laysInjuries_6 17 rfl rfl)
theorem dX3_laysInjuries_159 : decode cX3_laysInjuries 159 = .ok (.iinc 1 1, 3) := dk_132 1 1 (dk_at dksX3_laysInjuries_6 20 rfl rfl)
theorem dX3_laysInjuries_162 : decode cX3_laysInjuries 162 = .ok (.goto (-139), 3) := dk_167 255 117 (dk_at dksX3_laysInjuries_7 0 rfl rfl)
theorem dX3_laysInjuries_165 : decode cX3_laysInjuries 165 = .ok (.return_, 1) := dk_177 (dk_at dksX3_laysInjuries_7 3 rfl rfl)
abbrev cX3_needs : ByteArray := prog_18_method_64_code
def yX3_needs : MethodName := ⟨RX3, "needs", "(I)I"⟩
def dkwX3_needs_0 : List UInt8 := [42, 180, 0, 7, 16, 26, 42, 27, 3, 182, 1, 83, 96, 46, 172]
abbrev dktX3_needs_0 : List UInt8 := dkwX3_needs_0 ++ []
theorem dksX3_needs_0 : cX3_needs.data.toList.drop 0 = dktX3_needs_0 := by decide +kernel
theorem dX3_needs_0 : decode cX3_needs 0 = .ok (.aload_n 0, 1) := dk_42 (dk_at dksX3_needs_0 0 rfl rfl)
theorem dX3_needs_1 : decode cX3_needs 1 = .ok (.getfield 7, 3) := dk_180 0 7 (dk_at dksX3_needs_0 1 rfl rfl)
theorem dX3_needs_4 : decode cX3_needs 4 = .ok (.bipush 26, 2) := dk_16 26 (dk_at dksX3_needs_0 4 rfl rfl)
theorem dX3_needs_6 : decode cX3_needs 6 = .ok (.aload_n 0, 1) := dk_42 (dk_at dksX3_needs_0 6 rfl rfl)
theorem dX3_needs_7 : decode cX3_needs 7 = .ok (.iload_n 1, 1) := dk_27 (dk_at dksX3_needs_0 7 rfl rfl)
theorem dX3_needs_8 : decode cX3_needs 8 = .ok (.iconst 0, 1) := dk_3 (dk_at dksX3_needs_0 8 rfl rfl)
theorem dX3_needs_9 : decode cX3_needs 9 = .ok (.invokevirtual 339, 3) := dk_182 1 83 (dk_at dksX3_needs_0 9 rfl rfl)
theorem dX3_needs_12 : decode cX3_needs 12 = .ok (.iadd, 1) := dk_96 (dk_at dksX3_needs_0 12 rfl rfl)
theorem dX3_needs_13 : decode cX3_needs 13 = .ok (.iaload, 1) := dk_46 (dk_at dksX3_needs_0 13 rfl rfl)
theorem dX3_needs_14 : decode cX3_needs 14 = .ok (.ireturn, 1) := dk_172 (dk_at dksX3_needs_0 14 rfl rfl)
abbrev cX3_bars : ByteArray := prog_18_method_67_code
def yX3_bars : MethodName := ⟨RX3, "bars", "(I)I"⟩
def dkwX3_bars_0 : List UInt8 := [3, 61, 42, 27, 28, 182, 1, 86, 2, 159, 0, 9, 132, 2, 1, 167, 255, 243, 28, 172]
abbrev dktX3_bars_0 : List UInt8 := dkwX3_bars_0 ++ []
theorem dksX3_bars_0 : cX3_bars.data.toList.drop 0 = dktX3_bars_0 := by decide +kernel
theorem dX3_bars_0 : decode cX3_bars 0 = .ok (.iconst 0, 1) := dk_3 (dk_at dksX3_bars_0 0 rfl rfl)
theorem dX3_bars_1 : decode cX3_bars 1 = .ok (.istore_n 2, 1) := dk_61 (dk_at dksX3_bars_0 1 rfl rfl)
theorem dX3_bars_2 : decode cX3_bars 2 = .ok (.aload_n 0, 1) := dk_42 (dk_at dksX3_bars_0 2 rfl rfl)
theorem dX3_bars_3 : decode cX3_bars 3 = .ok (.iload_n 1, 1) := dk_27 (dk_at dksX3_bars_0 3 rfl rfl)
theorem dX3_bars_4 : decode cX3_bars 4 = .ok (.iload_n 2, 1) := dk_28 (dk_at dksX3_bars_0 4 rfl rfl)
theorem dX3_bars_5 : decode cX3_bars 5 = .ok (.invokevirtual 342, 3) := dk_182 1 86 (dk_at dksX3_bars_0 5 rfl rfl)
theorem dX3_bars_8 : decode cX3_bars 8 = .ok (.iconst (-1), 1) := dk_2 (dk_at dksX3_bars_0 8 rfl rfl)
theorem dX3_bars_9 : decode cX3_bars 9 = .ok (.if_icmp .eq 9, 3) := dk_159 0 9 (dk_at dksX3_bars_0 9 rfl rfl)
theorem dX3_bars_12 : decode cX3_bars 12 = .ok (.iinc 2 1, 3) := dk_132 2 1 (dk_at dksX3_bars_0 12 rfl rfl)
theorem dX3_bars_15 : decode cX3_bars 15 = .ok (.goto (-13), 3) := dk_167 255 243 (dk_at dksX3_bars_0 15 rfl rfl)
theorem dX3_bars_18 : decode cX3_bars 18 = .ok (.iload_n 2, 1) := dk_28 (dk_at dksX3_bars_0 18 rfl rfl)
theorem dX3_bars_19 : decode cX3_bars 19 = .ok (.ireturn, 1) := dk_172 (dk_at dksX3_bars_0 19 rfl rfl)
abbrev cX3_barOf : ByteArray := prog_18_method_66_code
def yX3_barOf : MethodName := ⟨RX3, "barOf", "(II)I"⟩
def dkwX3_barOf_2 : List UInt8 := [21, 4, 96, 46, 172, 132, 3, 255, 132, 4, 1, 167, 255, 202, 2, 172]
abbrev dktX3_barOf_2 : List UInt8 := dkwX3_barOf_2 ++ []
def dkwX3_barOf_1 : List UInt8 := [96, 46, 42, 27, 3, 182, 1, 83, 159, 0, 6, 167, 0, 21, 29, 154, 0, 14, 42, 180, 0, 7, 16, 72]
abbrev dktX3_barOf_1 : List UInt8 := dkwX3_barOf_1 ++ dktX3_barOf_2
def dkwX3_barOf_0 : List UInt8 := [28, 62, 3, 54, 4, 21, 4, 42, 180, 0, 7, 7, 46, 162, 0, 49, 42, 180, 0, 7, 16, 66, 21, 4]
abbrev dktX3_barOf_0 : List UInt8 := dkwX3_barOf_0 ++ dktX3_barOf_1
theorem dksX3_barOf_0 : cX3_barOf.data.toList.drop 0 = dktX3_barOf_0 := by decide +kernel
theorem dksX3_barOf_1 : cX3_barOf.data.toList.drop 24 = dktX3_barOf_1 := dk_seg dksX3_barOf_0 24 rfl rfl
theorem dksX3_barOf_2 : cX3_barOf.data.toList.drop 48 = dktX3_barOf_2 := dk_seg dksX3_barOf_1 24 rfl rfl
theorem dX3_barOf_0 : decode cX3_barOf 0 = .ok (.iload_n 2, 1) := dk_28 (dk_at dksX3_barOf_0 0 rfl rfl)
theorem dX3_barOf_1 : decode cX3_barOf 1 = .ok (.istore_n 3, 1) := dk_62 (dk_at dksX3_barOf_0 1 rfl rfl)
theorem dX3_barOf_2 : decode cX3_barOf 2 = .ok (.iconst 0, 1) := dk_3 (dk_at dksX3_barOf_0 2 rfl rfl)
theorem dX3_barOf_3 : decode cX3_barOf 3 = .ok (.istore 4, 2) := dk_54 4 (dk_at dksX3_barOf_0 3 rfl rfl)
theorem dX3_barOf_5 : decode cX3_barOf 5 = .ok (.iload 4, 2) := dk_21 4 (dk_at dksX3_barOf_0 5 rfl rfl)
theorem dX3_barOf_7 : decode cX3_barOf 7 = .ok (.aload_n 0, 1) := dk_42 (dk_at dksX3_barOf_0 7 rfl rfl)
theorem dX3_barOf_8 : decode cX3_barOf 8 = .ok (.getfield 7, 3) := dk_180 0 7 (dk_at dksX3_barOf_0 8 rfl rfl)
theorem dX3_barOf_11 : decode cX3_barOf 11 = .ok (.iconst 4, 1) := dk_7 (dk_at dksX3_barOf_0 11 rfl rfl)
theorem dX3_barOf_12 : decode cX3_barOf 12 = .ok (.iaload, 1) := dk_46 (dk_at dksX3_barOf_0 12 rfl rfl)
theorem dX3_barOf_13 : decode cX3_barOf 13 = .ok (.if_icmp .ge 49, 3) := dk_162 0 49 (dk_at dksX3_barOf_0 13 rfl rfl)
theorem dX3_barOf_16 : decode cX3_barOf 16 = .ok (.aload_n 0, 1) := dk_42 (dk_at dksX3_barOf_0 16 rfl rfl)
theorem dX3_barOf_17 : decode cX3_barOf 17 = .ok (.getfield 7, 3) := dk_180 0 7 (dk_at dksX3_barOf_0 17 rfl rfl)
theorem dX3_barOf_20 : decode cX3_barOf 20 = .ok (.bipush 66, 2) := dk_16 66 (dk_at dksX3_barOf_0 20 rfl rfl)
theorem dX3_barOf_22 : decode cX3_barOf 22 = .ok (.iload 4, 2) := dk_21 4 (dk_at dksX3_barOf_0 22 rfl rfl)
theorem dX3_barOf_24 : decode cX3_barOf 24 = .ok (.iadd, 1) := dk_96 (dk_at dksX3_barOf_1 0 rfl rfl)
theorem dX3_barOf_25 : decode cX3_barOf 25 = .ok (.iaload, 1) := dk_46 (dk_at dksX3_barOf_1 1 rfl rfl)
theorem dX3_barOf_26 : decode cX3_barOf 26 = .ok (.aload_n 0, 1) := dk_42 (dk_at dksX3_barOf_1 2 rfl rfl)
theorem dX3_barOf_27 : decode cX3_barOf 27 = .ok (.iload_n 1, 1) := dk_27 (dk_at dksX3_barOf_1 3 rfl rfl)
theorem dX3_barOf_28 : decode cX3_barOf 28 = .ok (.iconst 0, 1) := dk_3 (dk_at dksX3_barOf_1 4 rfl rfl)
theorem dX3_barOf_29 : decode cX3_barOf 29 = .ok (.invokevirtual 339, 3) := dk_182 1 83 (dk_at dksX3_barOf_1 5 rfl rfl)
theorem dX3_barOf_32 : decode cX3_barOf 32 = .ok (.if_icmp .eq 6, 3) := dk_159 0 6 (dk_at dksX3_barOf_1 8 rfl rfl)
theorem dX3_barOf_35 : decode cX3_barOf 35 = .ok (.goto 21, 3) := dk_167 0 21 (dk_at dksX3_barOf_1 11 rfl rfl)
theorem dX3_barOf_38 : decode cX3_barOf 38 = .ok (.iload_n 3, 1) := dk_29 (dk_at dksX3_barOf_1 14 rfl rfl)
theorem dX3_barOf_39 : decode cX3_barOf 39 = .ok (.ifCond .ne 14, 3) := dk_154 0 14 (dk_at dksX3_barOf_1 15 rfl rfl)
theorem dX3_barOf_42 : decode cX3_barOf 42 = .ok (.aload_n 0, 1) := dk_42 (dk_at dksX3_barOf_1 18 rfl rfl)
theorem dX3_barOf_43 : decode cX3_barOf 43 = .ok (.getfield 7, 3) := dk_180 0 7 (dk_at dksX3_barOf_1 19 rfl rfl)
theorem dX3_barOf_46 : decode cX3_barOf 46 = .ok (.bipush 72, 2) := dk_16 72 (dk_at dksX3_barOf_1 22 rfl rfl)
theorem dX3_barOf_48 : decode cX3_barOf 48 = .ok (.iload 4, 2) := dk_21 4 (dk_at dksX3_barOf_2 0 rfl rfl)
theorem dX3_barOf_50 : decode cX3_barOf 50 = .ok (.iadd, 1) := dk_96 (dk_at dksX3_barOf_2 2 rfl rfl)
theorem dX3_barOf_51 : decode cX3_barOf 51 = .ok (.iaload, 1) := dk_46 (dk_at dksX3_barOf_2 3 rfl rfl)
theorem dX3_barOf_52 : decode cX3_barOf 52 = .ok (.ireturn, 1) := dk_172 (dk_at dksX3_barOf_2 4 rfl rfl)
theorem dX3_barOf_53 : decode cX3_barOf 53 = .ok (.iinc 3 (-1), 3) := dk_132 3 255 (dk_at dksX3_barOf_2 5 rfl rfl)
theorem dX3_barOf_56 : decode cX3_barOf 56 = .ok (.iinc 4 1, 3) := dk_132 4 1 (dk_at dksX3_barOf_2 8 rfl rfl)
theorem dX3_barOf_59 : decode cX3_barOf 59 = .ok (.goto (-54), 3) := dk_167 255 202 (dk_at dksX3_barOf_2 11 rfl rfl)
theorem dX3_barOf_62 : decode cX3_barOf 62 = .ok (.iconst (-1), 1) := dk_2 (dk_at dksX3_barOf_2 14 rfl rfl)
theorem dX3_barOf_63 : decode cX3_barOf 63 = .ok (.ireturn, 1) := dk_172 (dk_at dksX3_barOf_2 15 rfl rfl)
abbrev cX3_failing : ByteArray := prog_18_method_72_code
def yX3_failing : MethodName := ⟨RX3, "failing", "(I)I"⟩
def dkwX3_failing_0 : List UInt8 := [42, 182, 1, 108, 42, 27, 42, 27, 7, 182, 1, 83, 42, 27, 8, 182, 1, 83, 182, 1, 111, 172]
abbrev dktX3_failing_0 : List UInt8 := dkwX3_failing_0 ++ []
theorem dksX3_failing_0 : cX3_failing.data.toList.drop 0 = dktX3_failing_0 := by decide +kernel
theorem dX3_failing_0 : decode cX3_failing 0 = .ok (.aload_n 0, 1) := dk_42 (dk_at dksX3_failing_0 0 rfl rfl)
theorem dX3_failing_1 : decode cX3_failing 1 = .ok (.invokevirtual 364, 3) := dk_182 1 108 (dk_at dksX3_failing_0 1 rfl rfl)
theorem dX3_failing_4 : decode cX3_failing 4 = .ok (.aload_n 0, 1) := dk_42 (dk_at dksX3_failing_0 4 rfl rfl)
theorem dX3_failing_5 : decode cX3_failing 5 = .ok (.iload_n 1, 1) := dk_27 (dk_at dksX3_failing_0 5 rfl rfl)
theorem dX3_failing_6 : decode cX3_failing 6 = .ok (.aload_n 0, 1) := dk_42 (dk_at dksX3_failing_0 6 rfl rfl)
theorem dX3_failing_7 : decode cX3_failing 7 = .ok (.iload_n 1, 1) := dk_27 (dk_at dksX3_failing_0 7 rfl rfl)
theorem dX3_failing_8 : decode cX3_failing 8 = .ok (.iconst 4, 1) := dk_7 (dk_at dksX3_failing_0 8 rfl rfl)
theorem dX3_failing_9 : decode cX3_failing 9 = .ok (.invokevirtual 339, 3) := dk_182 1 83 (dk_at dksX3_failing_0 9 rfl rfl)
theorem dX3_failing_12 : decode cX3_failing 12 = .ok (.aload_n 0, 1) := dk_42 (dk_at dksX3_failing_0 12 rfl rfl)
theorem dX3_failing_13 : decode cX3_failing 13 = .ok (.iload_n 1, 1) := dk_27 (dk_at dksX3_failing_0 13 rfl rfl)
theorem dX3_failing_14 : decode cX3_failing 14 = .ok (.iconst 5, 1) := dk_8 (dk_at dksX3_failing_0 14 rfl rfl)
theorem dX3_failing_15 : decode cX3_failing 15 = .ok (.invokevirtual 339, 3) := dk_182 1 83 (dk_at dksX3_failing_0 15 rfl rfl)
theorem dX3_failing_18 : decode cX3_failing 18 = .ok (.invokevirtual 367, 3) := dk_182 1 111 (dk_at dksX3_failing_0 18 rfl rfl)
theorem dX3_failing_21 : decode cX3_failing 21 = .ok (.ireturn, 1) := dk_172 (dk_at dksX3_failing_0 21 rfl rfl)
abbrev cX3_failsBy : ByteArray := prog_18_method_71_code
def yX3_failsBy : MethodName := ⟨RX3, "failsBy", "(III)I"⟩
def dkwX3_failsBy_9 : List UInt8 := [42, 180, 0, 7, 8, 46, 164, 0, 8, 16, 6, 167, 0, 4, 3, 172]
abbrev dktX3_failsBy_9 : List UInt8 := dkwX3_failsBy_9 ++ []
def dkwX3_failsBy_8 : List UInt8 := [153, 0, 5, 8, 172, 132, 6, 1, 167, 255, 205, 42, 27, 6, 182, 1, 83, 42, 27, 28, 182, 1, 94, 96]
abbrev dktX3_failsBy_8 : List UInt8 := dkwX3_failsBy_8 ++ dktX3_failsBy_9
def dkwX3_failsBy_7 : List UInt8 := [182, 1, 86, 182, 1, 102, 154, 0, 21, 42, 42, 180, 0, 55, 42, 27, 21, 6, 182, 1, 86, 182, 1, 102]
abbrev dktX3_failsBy_7 : List UInt8 := dkwX3_failsBy_7 ++ dktX3_failsBy_8
def dkwX3_failsBy_6 : List UInt8 := [3, 54, 6, 21, 6, 42, 27, 182, 1, 105, 162, 0, 47, 42, 42, 180, 0, 58, 42, 27, 21, 6]
abbrev dktX3_failsBy_6 : List UInt8 := dkwX3_failsBy_6 ++ dktX3_failsBy_7
def dkwX3_failsBy_5 : List UInt8 := [167, 255, 183, 21, 4, 154, 0, 8, 21, 5, 153, 0, 14, 21, 4, 153, 0, 7, 6, 167, 0, 4, 7, 172]
abbrev dktX3_failsBy_5 : List UInt8 := dkwX3_failsBy_5 ++ dktX3_failsBy_6
def dkwX3_failsBy_4 : List UInt8 := [27, 21, 6, 182, 1, 99, 182, 1, 62, 154, 0, 7, 4, 167, 0, 4, 3, 54, 5, 132, 6, 1]
abbrev dktX3_failsBy_4 : List UInt8 := dkwX3_failsBy_4 ++ dktX3_failsBy_5
def dkwX3_failsBy_3 : List UInt8 := [182, 1, 102, 154, 0, 7, 4, 167, 0, 4, 3, 54, 4, 21, 5, 154, 0, 21, 42, 42, 180, 0, 55, 42]
abbrev dktX3_failsBy_3 : List UInt8 := dkwX3_failsBy_3 ++ dktX3_failsBy_4
def dkwX3_failsBy_2 : List UInt8 := [182, 1, 97, 162, 0, 69, 21, 4, 154, 0, 21, 42, 42, 180, 0, 58, 42, 27, 21, 6, 182, 1, 99]
abbrev dktX3_failsBy_2 : List UInt8 := dkwX3_failsBy_2 ++ dktX3_failsBy_3
def dkwX3_failsBy_1 : List UInt8 := [180, 0, 58, 184, 1, 66, 154, 0, 5, 5, 172, 3, 54, 4, 3, 54, 5, 3, 54, 6, 21, 6, 42, 27]
abbrev dktX3_failsBy_1 : List UInt8 := dkwX3_failsBy_1 ++ dktX3_failsBy_2
def dkwX3_failsBy_0 : List UInt8 := [42, 27, 16, 6, 182, 1, 83, 4, 160, 0, 5, 4, 172, 42, 42, 180, 0, 58, 28, 29, 182, 1, 79, 42]
abbrev dktX3_failsBy_0 : List UInt8 := dkwX3_failsBy_0 ++ dktX3_failsBy_1
theorem dksX3_failsBy_0 : cX3_failsBy.data.toList.drop 0 = dktX3_failsBy_0 := by decide +kernel
theorem dksX3_failsBy_1 : cX3_failsBy.data.toList.drop 24 = dktX3_failsBy_1 := dk_seg dksX3_failsBy_0 24 rfl rfl
theorem dksX3_failsBy_2 : cX3_failsBy.data.toList.drop 48 = dktX3_failsBy_2 := dk_seg dksX3_failsBy_1 24 rfl rfl
theorem dksX3_failsBy_3 : cX3_failsBy.data.toList.drop 71 = dktX3_failsBy_3 := dk_seg dksX3_failsBy_2 23 rfl rfl
theorem dksX3_failsBy_4 : cX3_failsBy.data.toList.drop 95 = dktX3_failsBy_4 := dk_seg dksX3_failsBy_3 24 rfl rfl
theorem dksX3_failsBy_5 : cX3_failsBy.data.toList.drop 117 = dktX3_failsBy_5 := dk_seg dksX3_failsBy_4 22 rfl rfl
theorem dksX3_failsBy_6 : cX3_failsBy.data.toList.drop 141 = dktX3_failsBy_6 := dk_seg dksX3_failsBy_5 24 rfl rfl
theorem dksX3_failsBy_7 : cX3_failsBy.data.toList.drop 163 = dktX3_failsBy_7 := dk_seg dksX3_failsBy_6 22 rfl rfl
theorem dksX3_failsBy_8 : cX3_failsBy.data.toList.drop 187 = dktX3_failsBy_8 := dk_seg dksX3_failsBy_7 24 rfl rfl
theorem dksX3_failsBy_9 : cX3_failsBy.data.toList.drop 211 = dktX3_failsBy_9 := dk_seg dksX3_failsBy_8 24 rfl rfl
theorem dX3_failsBy_0 : decode cX3_failsBy 0 = .ok (.aload_n 0, 1) := dk_42 (dk_at dksX3_failsBy_0 0 rfl rfl)
theorem dX3_failsBy_1 : decode cX3_failsBy 1 = .ok (.iload_n 1, 1) := dk_27 (dk_at dksX3_failsBy_0 1 rfl rfl)
theorem dX3_failsBy_2 : decode cX3_failsBy 2 = .ok (.bipush 6, 2) := dk_16 6 (dk_at dksX3_failsBy_0 2 rfl rfl)
theorem dX3_failsBy_4 : decode cX3_failsBy 4 = .ok (.invokevirtual 339, 3) := dk_182 1 83 (dk_at dksX3_failsBy_0 4 rfl rfl)
theorem dX3_failsBy_7 : decode cX3_failsBy 7 = .ok (.iconst 1, 1) := dk_4 (dk_at dksX3_failsBy_0 7 rfl rfl)
theorem dX3_failsBy_8 : decode cX3_failsBy 8 = .ok (.if_icmp .ne 5, 3) := dk_160 0 5 (dk_at dksX3_failsBy_0 8 rfl rfl)
theorem dX3_failsBy_11 : decode cX3_failsBy 11 = .ok (.iconst 1, 1) := dk_4 (dk_at dksX3_failsBy_0 11 rfl rfl)
theorem dX3_failsBy_12 : decode cX3_failsBy 12 = .ok (.ireturn, 1) := dk_172 (dk_at dksX3_failsBy_0 12 rfl rfl)
theorem dX3_failsBy_13 : decode cX3_failsBy 13 = .ok (.aload_n 0, 1) := dk_42 (dk_at dksX3_failsBy_0 13 rfl rfl)
theorem dX3_failsBy_14 : decode cX3_failsBy 14 = .ok (.aload_n 0, 1) := dk_42 (dk_at dksX3_failsBy_0 14 rfl rfl)
theorem dX3_failsBy_15 : decode cX3_failsBy 15 = .ok (.getfield 58, 3) := dk_180 0 58 (dk_at dksX3_failsBy_0 15 rfl rfl)
theorem dX3_failsBy_18 : decode cX3_failsBy 18 = .ok (.iload_n 2, 1) := dk_28 (dk_at dksX3_failsBy_0 18 rfl rfl)
theorem dX3_failsBy_19 : decode cX3_failsBy 19 = .ok (.iload_n 3, 1) := dk_29 (dk_at dksX3_failsBy_0 19 rfl rfl)
theorem dX3_failsBy_20 : decode cX3_failsBy 20 = .ok (.invokevirtual 335, 3) := dk_182 1 79 (dk_at dksX3_failsBy_0 20 rfl rfl)
theorem dX3_failsBy_23 : decode cX3_failsBy 23 = .ok (.aload_n 0, 1) := dk_42 (dk_at dksX3_failsBy_0 23 rfl rfl)
theorem dX3_failsBy_24 : decode cX3_failsBy 24 = .ok (.getfield 58, 3) := dk_180 0 58 (dk_at dksX3_failsBy_1 0 rfl rfl)
theorem dX3_failsBy_27 : decode cX3_failsBy 27 = .ok (.invokestatic 322, 3) := dk_184 1 66 (dk_at dksX3_failsBy_1 3 rfl rfl)
theorem dX3_failsBy_30 : decode cX3_failsBy 30 = .ok (.ifCond .ne 5, 3) := dk_154 0 5 (dk_at dksX3_failsBy_1 6 rfl rfl)
theorem dX3_failsBy_33 : decode cX3_failsBy 33 = .ok (.iconst 2, 1) := dk_5 (dk_at dksX3_failsBy_1 9 rfl rfl)
theorem dX3_failsBy_34 : decode cX3_failsBy 34 = .ok (.ireturn, 1) := dk_172 (dk_at dksX3_failsBy_1 10 rfl rfl)
theorem dX3_failsBy_35 : decode cX3_failsBy 35 = .ok (.iconst 0, 1) := dk_3 (dk_at dksX3_failsBy_1 11 rfl rfl)
theorem dX3_failsBy_36 : decode cX3_failsBy 36 = .ok (.istore 4, 2) := dk_54 4 (dk_at dksX3_failsBy_1 12 rfl rfl)
theorem dX3_failsBy_38 : decode cX3_failsBy 38 = .ok (.iconst 0, 1) := dk_3 (dk_at dksX3_failsBy_1 14 rfl rfl)
theorem dX3_failsBy_39 : decode cX3_failsBy 39 = .ok (.istore 5, 2) := dk_54 5 (dk_at dksX3_failsBy_1 15 rfl rfl)
theorem dX3_failsBy_41 : decode cX3_failsBy 41 = .ok (.iconst 0, 1) := dk_3 (dk_at dksX3_failsBy_1 17 rfl rfl)
theorem dX3_failsBy_42 : decode cX3_failsBy 42 = .ok (.istore 6, 2) := dk_54 6 (dk_at dksX3_failsBy_1 18 rfl rfl)
theorem dX3_failsBy_44 : decode cX3_failsBy 44 = .ok (.iload 6, 2) := dk_21 6 (dk_at dksX3_failsBy_1 20 rfl rfl)
theorem dX3_failsBy_46 : decode cX3_failsBy 46 = .ok (.aload_n 0, 1) := dk_42 (dk_at dksX3_failsBy_1 22 rfl rfl)
theorem dX3_failsBy_47 : decode cX3_failsBy 47 = .ok (.iload_n 1, 1) := dk_27 (dk_at dksX3_failsBy_1 23 rfl rfl)
theorem dX3_failsBy_48 : decode cX3_failsBy 48 = .ok (.invokevirtual 353, 3) := dk_182 1 97 (dk_at dksX3_failsBy_2 0 rfl rfl)
theorem dX3_failsBy_51 : decode cX3_failsBy 51 = .ok (.if_icmp .ge 69, 3) := dk_162 0 69 (dk_at dksX3_failsBy_2 3 rfl rfl)
theorem dX3_failsBy_54 : decode cX3_failsBy 54 = .ok (.iload 4, 2) := dk_21 4 (dk_at dksX3_failsBy_2 6 rfl rfl)
theorem dX3_failsBy_56 : decode cX3_failsBy 56 = .ok (.ifCond .ne 21, 3) := dk_154 0 21 (dk_at dksX3_failsBy_2 8 rfl rfl)
theorem dX3_failsBy_59 : decode cX3_failsBy 59 = .ok (.aload_n 0, 1) := dk_42 (dk_at dksX3_failsBy_2 11 rfl rfl)
theorem dX3_failsBy_60 : decode cX3_failsBy 60 = .ok (.aload_n 0, 1) := dk_42 (dk_at dksX3_failsBy_2 12 rfl rfl)
theorem dX3_failsBy_61 : decode cX3_failsBy 61 = .ok (.getfield 58, 3) := dk_180 0 58 (dk_at dksX3_failsBy_2 13 rfl rfl)
theorem dX3_failsBy_64 : decode cX3_failsBy 64 = .ok (.aload_n 0, 1) := dk_42 (dk_at dksX3_failsBy_2 16 rfl rfl)
theorem dX3_failsBy_65 : decode cX3_failsBy 65 = .ok (.iload_n 1, 1) := dk_27 (dk_at dksX3_failsBy_2 17 rfl rfl)
theorem dX3_failsBy_66 : decode cX3_failsBy 66 = .ok (.iload 6, 2) := dk_21 6 (dk_at dksX3_failsBy_2 18 rfl rfl)
theorem dX3_failsBy_68 : decode cX3_failsBy 68 = .ok (.invokevirtual 355, 3) := dk_182 1 99 (dk_at dksX3_failsBy_2 20 rfl rfl)
theorem dX3_failsBy_71 : decode cX3_failsBy 71 = .ok (.invokevirtual 358, 3) := dk_182 1 102 (dk_at dksX3_failsBy_3 0 rfl rfl)
theorem dX3_failsBy_74 : decode cX3_failsBy 74 = .ok (.ifCond .ne 7, 3) := dk_154 0 7 (dk_at dksX3_failsBy_3 3 rfl rfl)
theorem dX3_failsBy_77 : decode cX3_failsBy 77 = .ok (.iconst 1, 1) := dk_4 (dk_at dksX3_failsBy_3 6 rfl rfl)
theorem dX3_failsBy_78 : decode cX3_failsBy 78 = .ok (.goto 4, 3) := dk_167 0 4 (dk_at dksX3_failsBy_3 7 rfl rfl)
theorem dX3_failsBy_81 : decode cX3_failsBy 81 = .ok (.iconst 0, 1) := dk_3 (dk_at dksX3_failsBy_3 10 rfl rfl)
theorem dX3_failsBy_82 : decode cX3_failsBy 82 = .ok (.istore 4, 2) := dk_54 4 (dk_at dksX3_failsBy_3 11 rfl rfl)
theorem dX3_failsBy_84 : decode cX3_failsBy 84 = .ok (.iload 5, 2) := dk_21 5 (dk_at dksX3_failsBy_3 13 rfl rfl)
theorem dX3_failsBy_86 : decode cX3_failsBy 86 = .ok (.ifCond .ne 21, 3) := dk_154 0 21 (dk_at dksX3_failsBy_3 15 rfl rfl)
theorem dX3_failsBy_89 : decode cX3_failsBy 89 = .ok (.aload_n 0, 1) := dk_42 (dk_at dksX3_failsBy_3 18 rfl rfl)
theorem dX3_failsBy_90 : decode cX3_failsBy 90 = .ok (.aload_n 0, 1) := dk_42 (dk_at dksX3_failsBy_3 19 rfl rfl)
theorem dX3_failsBy_91 : decode cX3_failsBy 91 = .ok (.getfield 55, 3) := dk_180 0 55 (dk_at dksX3_failsBy_3 20 rfl rfl)
theorem dX3_failsBy_94 : decode cX3_failsBy 94 = .ok (.aload_n 0, 1) := dk_42 (dk_at dksX3_failsBy_3 23 rfl rfl)
theorem dX3_failsBy_95 : decode cX3_failsBy 95 = .ok (.iload_n 1, 1) := dk_27 (dk_at dksX3_failsBy_4 0 rfl rfl)
theorem dX3_failsBy_96 : decode cX3_failsBy 96 = .ok (.iload 6, 2) := dk_21 6 (dk_at dksX3_failsBy_4 1 rfl rfl)
theorem dX3_failsBy_98 : decode cX3_failsBy 98 = .ok (.invokevirtual 355, 3) := dk_182 1 99 (dk_at dksX3_failsBy_4 3 rfl rfl)
theorem dX3_failsBy_101 : decode cX3_failsBy 101 = .ok (.invokevirtual 318, 3) := dk_182 1 62 (dk_at dksX3_failsBy_4 6 rfl rfl)
theorem dX3_failsBy_104 : decode cX3_failsBy 104 = .ok (.ifCond .ne 7, 3) := dk_154 0 7 (dk_at dksX3_failsBy_4 9 rfl rfl)
theorem dX3_failsBy_107 : decode cX3_failsBy 107 = .ok (.iconst 1, 1) := dk_4 (dk_at dksX3_failsBy_4 12 rfl rfl)
theorem dX3_failsBy_108 : decode cX3_failsBy 108 = .ok (.goto 4, 3) := dk_167 0 4 (dk_at dksX3_failsBy_4 13 rfl rfl)
theorem dX3_failsBy_111 : decode cX3_failsBy 111 = .ok (.iconst 0, 1) := dk_3 (dk_at dksX3_failsBy_4 16 rfl rfl)
theorem dX3_failsBy_112 : decode cX3_failsBy 112 = .ok (.istore 5, 2) := dk_54 5 (dk_at dksX3_failsBy_4 17 rfl rfl)
theorem dX3_failsBy_114 : decode cX3_failsBy 114 = .ok (.iinc 6 1, 3) := dk_132 6 1 (dk_at dksX3_failsBy_4 19 rfl rfl)
theorem dX3_failsBy_117 : decode cX3_failsBy 117 = .ok (.goto (-73), 3) := dk_167 255 183 (dk_at dksX3_failsBy_5 0 rfl rfl)
theorem dX3_failsBy_120 : decode cX3_failsBy 120 = .ok (.iload 4, 2) := dk_21 4 (dk_at dksX3_failsBy_5 3 rfl rfl)
theorem dX3_failsBy_122 : decode cX3_failsBy 122 = .ok (.ifCond .ne 8, 3) := dk_154 0 8 (dk_at dksX3_failsBy_5 5 rfl rfl)
theorem dX3_failsBy_125 : decode cX3_failsBy 125 = .ok (.iload 5, 2) := dk_21 5 (dk_at dksX3_failsBy_5 8 rfl rfl)
theorem dX3_failsBy_127 : decode cX3_failsBy 127 = .ok (.ifCond .eq 14, 3) := dk_153 0 14 (dk_at dksX3_failsBy_5 10 rfl rfl)
theorem dX3_failsBy_130 : decode cX3_failsBy 130 = .ok (.iload 4, 2) := dk_21 4 (dk_at dksX3_failsBy_5 13 rfl rfl)
theorem dX3_failsBy_132 : decode cX3_failsBy 132 = .ok (.ifCond .eq 7, 3) := dk_153 0 7 (dk_at dksX3_failsBy_5 15 rfl rfl)
theorem dX3_failsBy_135 : decode cX3_failsBy 135 = .ok (.iconst 3, 1) := dk_6 (dk_at dksX3_failsBy_5 18 rfl rfl)
theorem dX3_failsBy_136 : decode cX3_failsBy 136 = .ok (.goto 4, 3) := dk_167 0 4 (dk_at dksX3_failsBy_5 19 rfl rfl)
theorem dX3_failsBy_139 : decode cX3_failsBy 139 = .ok (.iconst 4, 1) := dk_7 (dk_at dksX3_failsBy_5 22 rfl rfl)
theorem dX3_failsBy_140 : decode cX3_failsBy 140 = .ok (.ireturn, 1) := dk_172 (dk_at dksX3_failsBy_5 23 rfl rfl)
theorem dX3_failsBy_141 : decode cX3_failsBy 141 = .ok (.iconst 0, 1) := dk_3 (dk_at dksX3_failsBy_6 0 rfl rfl)
theorem dX3_failsBy_142 : decode cX3_failsBy 142 = .ok (.istore 6, 2) := dk_54 6 (dk_at dksX3_failsBy_6 1 rfl rfl)
theorem dX3_failsBy_144 : decode cX3_failsBy 144 = .ok (.iload 6, 2) := dk_21 6 (dk_at dksX3_failsBy_6 3 rfl rfl)
theorem dX3_failsBy_146 : decode cX3_failsBy 146 = .ok (.aload_n 0, 1) := dk_42 (dk_at dksX3_failsBy_6 5 rfl rfl)
theorem dX3_failsBy_147 : decode cX3_failsBy 147 = .ok (.iload_n 1, 1) := dk_27 (dk_at dksX3_failsBy_6 6 rfl rfl)
theorem dX3_failsBy_148 : decode cX3_failsBy 148 = .ok (.invokevirtual 361, 3) := dk_182 1 105 (dk_at dksX3_failsBy_6 7 rfl rfl)
theorem dX3_failsBy_151 : decode cX3_failsBy 151 = .ok (.if_icmp .ge 47, 3) := dk_162 0 47 (dk_at dksX3_failsBy_6 10 rfl rfl)
theorem dX3_failsBy_154 : decode cX3_failsBy 154 = .ok (.aload_n 0, 1) := dk_42 (dk_at dksX3_failsBy_6 13 rfl rfl)
theorem dX3_failsBy_155 : decode cX3_failsBy 155 = .ok (.aload_n 0, 1) := dk_42 (dk_at dksX3_failsBy_6 14 rfl rfl)
theorem dX3_failsBy_156 : decode cX3_failsBy 156 = .ok (.getfield 58, 3) := dk_180 0 58 (dk_at dksX3_failsBy_6 15 rfl rfl)
theorem dX3_failsBy_159 : decode cX3_failsBy 159 = .ok (.aload_n 0, 1) := dk_42 (dk_at dksX3_failsBy_6 18 rfl rfl)
theorem dX3_failsBy_160 : decode cX3_failsBy 160 = .ok (.iload_n 1, 1) := dk_27 (dk_at dksX3_failsBy_6 19 rfl rfl)
theorem dX3_failsBy_161 : decode cX3_failsBy 161 = .ok (.iload 6, 2) := dk_21 6 (dk_at dksX3_failsBy_6 20 rfl rfl)
theorem dX3_failsBy_163 : decode cX3_failsBy 163 = .ok (.invokevirtual 342, 3) := dk_182 1 86 (dk_at dksX3_failsBy_7 0 rfl rfl)
theorem dX3_failsBy_166 : decode cX3_failsBy 166 = .ok (.invokevirtual 358, 3) := dk_182 1 102 (dk_at dksX3_failsBy_7 3 rfl rfl)
theorem dX3_failsBy_169 : decode cX3_failsBy 169 = .ok (.ifCond .ne 21, 3) := dk_154 0 21 (dk_at dksX3_failsBy_7 6 rfl rfl)
theorem dX3_failsBy_172 : decode cX3_failsBy 172 = .ok (.aload_n 0, 1) := dk_42 (dk_at dksX3_failsBy_7 9 rfl rfl)
theorem dX3_failsBy_173 : decode cX3_failsBy 173 = .ok (.aload_n 0, 1) := dk_42 (dk_at dksX3_failsBy_7 10 rfl rfl)
theorem dX3_failsBy_174 : decode cX3_failsBy 174 = .ok (.getfield 55, 3) := dk_180 0 55 (dk_at dksX3_failsBy_7 11 rfl rfl)
theorem dX3_failsBy_177 : decode cX3_failsBy 177 = .ok (.aload_n 0, 1) := dk_42 (dk_at dksX3_failsBy_7 14 rfl rfl)
theorem dX3_failsBy_178 : decode cX3_failsBy 178 = .ok (.iload_n 1, 1) := dk_27 (dk_at dksX3_failsBy_7 15 rfl rfl)
theorem dX3_failsBy_179 : decode cX3_failsBy 179 = .ok (.iload 6, 2) := dk_21 6 (dk_at dksX3_failsBy_7 16 rfl rfl)
theorem dX3_failsBy_181 : decode cX3_failsBy 181 = .ok (.invokevirtual 342, 3) := dk_182 1 86 (dk_at dksX3_failsBy_7 18 rfl rfl)
theorem dX3_failsBy_184 : decode cX3_failsBy 184 = .ok (.invokevirtual 358, 3) := dk_182 1 102 (dk_at dksX3_failsBy_7 21 rfl rfl)
theorem dX3_failsBy_187 : decode cX3_failsBy 187 = .ok (.ifCond .eq 5, 3) := dk_153 0 5 (dk_at dksX3_failsBy_8 0 rfl rfl)
theorem dX3_failsBy_190 : decode cX3_failsBy 190 = .ok (.iconst 5, 1) := dk_8 (dk_at dksX3_failsBy_8 3 rfl rfl)
theorem dX3_failsBy_191 : decode cX3_failsBy 191 = .ok (.ireturn, 1) := dk_172 (dk_at dksX3_failsBy_8 4 rfl rfl)
theorem dX3_failsBy_192 : decode cX3_failsBy 192 = .ok (.iinc 6 1, 3) := dk_132 6 1 (dk_at dksX3_failsBy_8 5 rfl rfl)
theorem dX3_failsBy_195 : decode cX3_failsBy 195 = .ok (.goto (-51), 3) := dk_167 255 205 (dk_at dksX3_failsBy_8 8 rfl rfl)
theorem dX3_failsBy_198 : decode cX3_failsBy 198 = .ok (.aload_n 0, 1) := dk_42 (dk_at dksX3_failsBy_8 11 rfl rfl)
theorem dX3_failsBy_199 : decode cX3_failsBy 199 = .ok (.iload_n 1, 1) := dk_27 (dk_at dksX3_failsBy_8 12 rfl rfl)
theorem dX3_failsBy_200 : decode cX3_failsBy 200 = .ok (.iconst 3, 1) := dk_6 (dk_at dksX3_failsBy_8 13 rfl rfl)
theorem dX3_failsBy_201 : decode cX3_failsBy 201 = .ok (.invokevirtual 339, 3) := dk_182 1 83 (dk_at dksX3_failsBy_8 14 rfl rfl)
theorem dX3_failsBy_204 : decode cX3_failsBy 204 = .ok (.aload_n 0, 1) := dk_42 (dk_at dksX3_failsBy_8 17 rfl rfl)
theorem dX3_failsBy_205 : decode cX3_failsBy 205 = .ok (.iload_n 1, 1) := dk_27 (dk_at dksX3_failsBy_8 18 rfl rfl)
theorem dX3_failsBy_206 : decode cX3_failsBy 206 = .ok (.iload_n 2, 1) := dk_28 (dk_at dksX3_failsBy_8 19 rfl rfl)
theorem dX3_failsBy_207 : decode cX3_failsBy 207 = .ok (.invokevirtual 350, 3) := dk_182 1 94 (dk_at dksX3_failsBy_8 20 rfl rfl)
theorem dX3_failsBy_210 : decode cX3_failsBy 210 = .ok (.iadd, 1) := dk_96 (dk_at dksX3_failsBy_8 23 rfl rfl)
theorem dX3_failsBy_211 : decode cX3_failsBy 211 = .ok (.aload_n 0, 1) := dk_42 (dk_at dksX3_failsBy_9 0 rfl rfl)
theorem dX3_failsBy_212 : decode cX3_failsBy 212 = .ok (.getfield 7, 3) := dk_180 0 7 (dk_at dksX3_failsBy_9 1 rfl rfl)
theorem dX3_failsBy_215 : decode cX3_failsBy 215 = .ok (.iconst 5, 1) := dk_8 (dk_at dksX3_failsBy_9 4 rfl rfl)
theorem dX3_failsBy_216 : decode cX3_failsBy 216 = .ok (.iaload, 1) := dk_46 (dk_at dksX3_failsBy_9 5 rfl rfl)
theorem dX3_failsBy_217 : decode cX3_failsBy 217 = .ok (.if_icmp .le 8, 3) := dk_164 0 8 (dk_at dksX3_failsBy_9 6 rfl rfl)
theorem dX3_failsBy_220 : decode cX3_failsBy 220 = .ok (.bipush 6, 2) := dk_16 6 (dk_at dksX3_failsBy_9 9 rfl rfl)
theorem dX3_failsBy_222 : decode cX3_failsBy 222 = .ok (.goto 4, 3) := dk_167 0 4 (dk_at dksX3_failsBy_9 11 rfl rfl)
theorem dX3_failsBy_225 : decode cX3_failsBy 225 = .ok (.iconst 0, 1) := dk_3 (dk_at dksX3_failsBy_9 14 rfl rfl)
theorem dX3_failsBy_226 : decode cX3_failsBy 226 = .ok (.ireturn, 1) := dk_172 (dk_at dksX3_failsBy_9 15 rfl rfl)
abbrev cX3_many : ByteArray := prog_18_method_52_code
def yX3_many : MethodName := ⟨RX3, "many", "([I)I"⟩
def dkwX3_many_1 : List UInt8 := [167, 255, 238, 27, 172]
abbrev dktX3_many_1 : List UInt8 := dkwX3_many_1 ++ []
def dkwX3_many_0 : List UInt8 := [3, 60, 3, 61, 28, 16, 8, 162, 0, 18, 27, 42, 28, 46, 184, 1, 59, 96, 60, 132, 2, 1]
abbrev dktX3_many_0 : List UInt8 := dkwX3_many_0 ++ dktX3_many_1
theorem dksX3_many_0 : cX3_many.data.toList.drop 0 = dktX3_many_0 := by decide +kernel
theorem dksX3_many_1 : cX3_many.data.toList.drop 22 = dktX3_many_1 := dk_seg dksX3_many_0 22 rfl rfl
theorem dX3_many_0 : decode cX3_many 0 = .ok (.iconst 0, 1) := dk_3 (dk_at dksX3_many_0 0 rfl rfl)
theorem dX3_many_1 : decode cX3_many 1 = .ok (.istore_n 1, 1) := dk_60 (dk_at dksX3_many_0 1 rfl rfl)
theorem dX3_many_2 : decode cX3_many 2 = .ok (.iconst 0, 1) := dk_3 (dk_at dksX3_many_0 2 rfl rfl)
theorem dX3_many_3 : decode cX3_many 3 = .ok (.istore_n 2, 1) := dk_61 (dk_at dksX3_many_0 3 rfl rfl)
theorem dX3_many_4 : decode cX3_many 4 = .ok (.iload_n 2, 1) := dk_28 (dk_at dksX3_many_0 4 rfl rfl)
theorem dX3_many_5 : decode cX3_many 5 = .ok (.bipush 8, 2) := dk_16 8 (dk_at dksX3_many_0 5 rfl rfl)
theorem dX3_many_7 : decode cX3_many 7 = .ok (.if_icmp .ge 18, 3) := dk_162 0 18 (dk_at dksX3_many_0 7 rfl rfl)
theorem dX3_many_10 : decode cX3_many 10 = .ok (.iload_n 1, 1) := dk_27 (dk_at dksX3_many_0 10 rfl rfl)
theorem dX3_many_11 : decode cX3_many 11 = .ok (.aload_n 0, 1) := dk_42 (dk_at dksX3_many_0 11 rfl rfl)
theorem dX3_many_12 : decode cX3_many 12 = .ok (.iload_n 2, 1) := dk_28 (dk_at dksX3_many_0 12 rfl rfl)
theorem dX3_many_13 : decode cX3_many 13 = .ok (.iaload, 1) := dk_46 (dk_at dksX3_many_0 13 rfl rfl)
theorem dX3_many_14 : decode cX3_many 14 = .ok (.invokestatic 315, 3) := dk_184 1 59 (dk_at dksX3_many_0 14 rfl rfl)
theorem dX3_many_17 : decode cX3_many 17 = .ok (.iadd, 1) := dk_96 (dk_at dksX3_many_0 17 rfl rfl)
theorem dX3_many_18 : decode cX3_many 18 = .ok (.istore_n 1, 1) := dk_60 (dk_at dksX3_many_0 18 rfl rfl)
theorem dX3_many_19 : decode cX3_many 19 = .ok (.iinc 2 1, 3) := dk_132 2 1 (dk_at dksX3_many_0 19 rfl rfl)
theorem dX3_many_22 : decode cX3_many 22 = .ok (.goto (-18), 3) := dk_167 255 238 (dk_at dksX3_many_1 0 rfl rfl)
theorem dX3_many_25 : decode cX3_many 25 = .ok (.iload_n 1, 1) := dk_27 (dk_at dksX3_many_1 3 rfl rfl)
theorem dX3_many_26 : decode cX3_many 26 = .ok (.ireturn, 1) := dk_172 (dk_at dksX3_many_1 4 rfl rfl)
abbrev cX3_need : ByteArray := prog_18_method_65_code
def yX3_need : MethodName := ⟨RX3, "need", "(II)I"⟩
def dkwX3_need_0 : List UInt8 := [42, 180, 0, 7, 16, 31, 7, 42, 27, 3, 182, 1, 83, 104, 96, 28, 96, 46, 172]
abbrev dktX3_need_0 : List UInt8 := dkwX3_need_0 ++ []
theorem dksX3_need_0 : cX3_need.data.toList.drop 0 = dktX3_need_0 := by decide +kernel
theorem dX3_need_0 : decode cX3_need 0 = .ok (.aload_n 0, 1) := dk_42 (dk_at dksX3_need_0 0 rfl rfl)
theorem dX3_need_1 : decode cX3_need 1 = .ok (.getfield 7, 3) := dk_180 0 7 (dk_at dksX3_need_0 1 rfl rfl)
theorem dX3_need_4 : decode cX3_need 4 = .ok (.bipush 31, 2) := dk_16 31 (dk_at dksX3_need_0 4 rfl rfl)
theorem dX3_need_6 : decode cX3_need 6 = .ok (.iconst 4, 1) := dk_7 (dk_at dksX3_need_0 6 rfl rfl)
theorem dX3_need_7 : decode cX3_need 7 = .ok (.aload_n 0, 1) := dk_42 (dk_at dksX3_need_0 7 rfl rfl)
theorem dX3_need_8 : decode cX3_need 8 = .ok (.iload_n 1, 1) := dk_27 (dk_at dksX3_need_0 8 rfl rfl)
theorem dX3_need_9 : decode cX3_need 9 = .ok (.iconst 0, 1) := dk_3 (dk_at dksX3_need_0 9 rfl rfl)
theorem dX3_need_10 : decode cX3_need 10 = .ok (.invokevirtual 339, 3) := dk_182 1 83 (dk_at dksX3_need_0 10 rfl rfl)
theorem dX3_need_13 : decode cX3_need 13 = .ok (.imul, 1) := dk_104 (dk_at dksX3_need_0 13 rfl rfl)
theorem dX3_need_14 : decode cX3_need 14 = .ok (.iadd, 1) := dk_96 (dk_at dksX3_need_0 14 rfl rfl)
theorem dX3_need_15 : decode cX3_need 15 = .ok (.iload_n 2, 1) := dk_28 (dk_at dksX3_need_0 15 rfl rfl)
theorem dX3_need_16 : decode cX3_need 16 = .ok (.iadd, 1) := dk_96 (dk_at dksX3_need_0 16 rfl rfl)
theorem dX3_need_17 : decode cX3_need 17 = .ok (.iaload, 1) := dk_46 (dk_at dksX3_need_0 17 rfl rfl)
theorem dX3_need_18 : decode cX3_need 18 = .ok (.ireturn, 1) := dk_172 (dk_at dksX3_need_0 18 rfl rfl)
abbrev cX3_isSure : ByteArray := prog_18_method_54_code
def yX3_isSure : MethodName := ⟨RX3, "isSure", "([II)Z"⟩
def dkwX3_isSure_0 : List UInt8 := [42, 43, 28, 182, 1, 62, 43, 184, 1, 66, 160, 0, 7, 4, 167, 0, 4, 3, 172]
abbrev dktX3_isSure_0 : List UInt8 := dkwX3_isSure_0 ++ []
theorem dksX3_isSure_0 : cX3_isSure.data.toList.drop 0 = dktX3_isSure_0 := by decide +kernel
theorem dX3_isSure_0 : decode cX3_isSure 0 = .ok (.aload_n 0, 1) := dk_42 (dk_at dksX3_isSure_0 0 rfl rfl)
theorem dX3_isSure_1 : decode cX3_isSure 1 = .ok (.aload_n 1, 1) := dk_43 (dk_at dksX3_isSure_0 1 rfl rfl)
theorem dX3_isSure_2 : decode cX3_isSure 2 = .ok (.iload_n 2, 1) := dk_28 (dk_at dksX3_isSure_0 2 rfl rfl)
theorem dX3_isSure_3 : decode cX3_isSure 3 = .ok (.invokevirtual 318, 3) := dk_182 1 62 (dk_at dksX3_isSure_0 3 rfl rfl)
theorem dX3_isSure_6 : decode cX3_isSure 6 = .ok (.aload_n 1, 1) := dk_43 (dk_at dksX3_isSure_0 6 rfl rfl)
theorem dX3_isSure_7 : decode cX3_isSure 7 = .ok (.invokestatic 322, 3) := dk_184 1 66 (dk_at dksX3_isSure_0 7 rfl rfl)
theorem dX3_isSure_10 : decode cX3_isSure 10 = .ok (.if_icmp .ne 7, 3) := dk_160 0 7 (dk_at dksX3_isSure_0 10 rfl rfl)
theorem dX3_isSure_13 : decode cX3_isSure 13 = .ok (.iconst 1, 1) := dk_4 (dk_at dksX3_isSure_0 13 rfl rfl)
theorem dX3_isSure_14 : decode cX3_isSure 14 = .ok (.goto 4, 3) := dk_167 0 4 (dk_at dksX3_isSure_0 14 rfl rfl)
theorem dX3_isSure_17 : decode cX3_isSure 17 = .ok (.iconst 0, 1) := dk_3 (dk_at dksX3_isSure_0 17 rfl rfl)
theorem dX3_isSure_18 : decode cX3_isSure 18 = .ok (.ireturn, 1) := dk_172 (dk_at dksX3_isSure_0 18 rfl rfl)
abbrev cX3_holdsIn : ByteArray := prog_18_method_53_code
def yX3_holdsIn : MethodName := ⟨RX3, "holdsIn", "([II)I"⟩
def dkwX3_holdsIn_1 : List UInt8 := [104, 21, 4, 96, 46, 126, 184, 1, 59, 96, 62, 132, 4, 1, 167, 255, 223, 29, 172]
abbrev dktX3_holdsIn_1 : List UInt8 := dkwX3_holdsIn_1 ++ []
def dkwX3_holdsIn_0 : List UInt8 := [3, 62, 3, 54, 4, 21, 4, 16, 8, 162, 0, 32, 29, 43, 21, 4, 46, 42, 180, 0, 49, 16, 8, 28]
abbrev dktX3_holdsIn_0 : List UInt8 := dkwX3_holdsIn_0 ++ dktX3_holdsIn_1
theorem dksX3_holdsIn_0 : cX3_holdsIn.data.toList.drop 0 = dktX3_holdsIn_0 := by decide +kernel
theorem dksX3_holdsIn_1 : cX3_holdsIn.data.toList.drop 24 = dktX3_holdsIn_1 := dk_seg dksX3_holdsIn_0 24 rfl rfl
theorem dX3_holdsIn_0 : decode cX3_holdsIn 0 = .ok (.iconst 0, 1) := dk_3 (dk_at dksX3_holdsIn_0 0 rfl rfl)
theorem dX3_holdsIn_1 : decode cX3_holdsIn 1 = .ok (.istore_n 3, 1) := dk_62 (dk_at dksX3_holdsIn_0 1 rfl rfl)
theorem dX3_holdsIn_2 : decode cX3_holdsIn 2 = .ok (.iconst 0, 1) := dk_3 (dk_at dksX3_holdsIn_0 2 rfl rfl)
theorem dX3_holdsIn_3 : decode cX3_holdsIn 3 = .ok (.istore 4, 2) := dk_54 4 (dk_at dksX3_holdsIn_0 3 rfl rfl)
theorem dX3_holdsIn_5 : decode cX3_holdsIn 5 = .ok (.iload 4, 2) := dk_21 4 (dk_at dksX3_holdsIn_0 5 rfl rfl)
theorem dX3_holdsIn_7 : decode cX3_holdsIn 7 = .ok (.bipush 8, 2) := dk_16 8 (dk_at dksX3_holdsIn_0 7 rfl rfl)
theorem dX3_holdsIn_9 : decode cX3_holdsIn 9 = .ok (.if_icmp .ge 32, 3) := dk_162 0 32 (dk_at dksX3_holdsIn_0 9 rfl rfl)
theorem dX3_holdsIn_12 : decode cX3_holdsIn 12 = .ok (.iload_n 3, 1) := dk_29 (dk_at dksX3_holdsIn_0 12 rfl rfl)
theorem dX3_holdsIn_13 : decode cX3_holdsIn 13 = .ok (.aload_n 1, 1) := dk_43 (dk_at dksX3_holdsIn_0 13 rfl rfl)
theorem dX3_holdsIn_14 : decode cX3_holdsIn 14 = .ok (.iload 4, 2) := dk_21 4 (dk_at dksX3_holdsIn_0 14 rfl rfl)
theorem dX3_holdsIn_16 : decode cX3_holdsIn 16 = .ok (.iaload, 1) := dk_46 (dk_at dksX3_holdsIn_0 16 rfl rfl)
theorem dX3_holdsIn_17 : decode cX3_holdsIn 17 = .ok (.aload_n 0, 1) := dk_42 (dk_at dksX3_holdsIn_0 17 rfl rfl)
theorem dX3_holdsIn_18 : decode cX3_holdsIn 18 = .ok (.getfield 49, 3) := dk_180 0 49 (dk_at dksX3_holdsIn_0 18 rfl rfl)
theorem dX3_holdsIn_21 : decode cX3_holdsIn 21 = .ok (.bipush 8, 2) := dk_16 8 (dk_at dksX3_holdsIn_0 21 rfl rfl)
theorem dX3_holdsIn_23 : decode cX3_holdsIn 23 = .ok (.iload_n 2, 1) := dk_28 (dk_at dksX3_holdsIn_0 23 rfl rfl)
theorem dX3_holdsIn_24 : decode cX3_holdsIn 24 = .ok (.imul, 1) := dk_104 (dk_at dksX3_holdsIn_1 0 rfl rfl)
theorem dX3_holdsIn_25 : decode cX3_holdsIn 25 = .ok (.iload 4, 2) := dk_21 4 (dk_at dksX3_holdsIn_1 1 rfl rfl)
theorem dX3_holdsIn_27 : decode cX3_holdsIn 27 = .ok (.iadd, 1) := dk_96 (dk_at dksX3_holdsIn_1 3 rfl rfl)
theorem dX3_holdsIn_28 : decode cX3_holdsIn 28 = .ok (.iaload, 1) := dk_46 (dk_at dksX3_holdsIn_1 4 rfl rfl)
theorem dX3_holdsIn_29 : decode cX3_holdsIn 29 = .ok (.iand, 1) := dk_126 (dk_at dksX3_holdsIn_1 5 rfl rfl)
theorem dX3_holdsIn_30 : decode cX3_holdsIn 30 = .ok (.invokestatic 315, 3) := dk_184 1 59 (dk_at dksX3_holdsIn_1 6 rfl rfl)
theorem dX3_holdsIn_33 : decode cX3_holdsIn 33 = .ok (.iadd, 1) := dk_96 (dk_at dksX3_holdsIn_1 9 rfl rfl)
theorem dX3_holdsIn_34 : decode cX3_holdsIn 34 = .ok (.istore_n 3, 1) := dk_62 (dk_at dksX3_holdsIn_1 10 rfl rfl)
theorem dX3_holdsIn_35 : decode cX3_holdsIn 35 = .ok (.iinc 4 1, 3) := dk_132 4 1 (dk_at dksX3_holdsIn_1 11 rfl rfl)
theorem dX3_holdsIn_38 : decode cX3_holdsIn 38 = .ok (.goto (-33), 3) := dk_167 255 223 (dk_at dksX3_holdsIn_1 14 rfl rfl)
theorem dX3_holdsIn_41 : decode cX3_holdsIn 41 = .ok (.iload_n 3, 1) := dk_29 (dk_at dksX3_holdsIn_1 17 rfl rfl)
theorem dX3_holdsIn_42 : decode cX3_holdsIn 42 = .ok (.ireturn, 1) := dk_172 (dk_at dksX3_holdsIn_1 18 rfl rfl)
abbrev cX3_element : ByteArray := prog_18_method_82_code
def yX3_element : MethodName := ⟨RX3, "element", "(III)I"⟩
def dkwX3_element_2 : List UInt8 := [172]
abbrev dktX3_element_2 : List UInt8 := dkwX3_element_2 ++ []
def dkwX3_element_1 : List UInt8 := [3, 5, 184, 0, 85, 153, 0, 18, 42, 42, 27, 28, 182, 1, 99, 27, 29, 182, 1, 139, 167, 0, 4, 2]
abbrev dktX3_element_1 : List UInt8 := dkwX3_element_1 ++ dktX3_element_2
def dkwX3_element_0 : List UInt8 := [42, 27, 182, 1, 124, 153, 0, 42, 28, 3, 42, 27, 182, 1, 97, 4, 100, 184, 0, 85, 153, 0, 27, 29]
abbrev dktX3_element_0 : List UInt8 := dkwX3_element_0 ++ dktX3_element_1
theorem dksX3_element_0 : cX3_element.data.toList.drop 0 = dktX3_element_0 := by decide +kernel
theorem dksX3_element_1 : cX3_element.data.toList.drop 24 = dktX3_element_1 := dk_seg dksX3_element_0 24 rfl rfl
theorem dksX3_element_2 : cX3_element.data.toList.drop 48 = dktX3_element_2 := dk_seg dksX3_element_1 24 rfl rfl
theorem dX3_element_0 : decode cX3_element 0 = .ok (.aload_n 0, 1) := dk_42 (dk_at dksX3_element_0 0 rfl rfl)
theorem dX3_element_1 : decode cX3_element 1 = .ok (.iload_n 1, 1) := dk_27 (dk_at dksX3_element_0 1 rfl rfl)
theorem dX3_element_2 : decode cX3_element 2 = .ok (.invokevirtual 380, 3) := dk_182 1 124 (dk_at dksX3_element_0 2 rfl rfl)
theorem dX3_element_5 : decode cX3_element 5 = .ok (.ifCond .eq 42, 3) := dk_153 0 42 (dk_at dksX3_element_0 5 rfl rfl)
theorem dX3_element_8 : decode cX3_element 8 = .ok (.iload_n 2, 1) := dk_28 (dk_at dksX3_element_0 8 rfl rfl)
theorem dX3_element_9 : decode cX3_element 9 = .ok (.iconst 0, 1) := dk_3 (dk_at dksX3_element_0 9 rfl rfl)
theorem dX3_element_10 : decode cX3_element 10 = .ok (.aload_n 0, 1) := dk_42 (dk_at dksX3_element_0 10 rfl rfl)
theorem dX3_element_11 : decode cX3_element 11 = .ok (.iload_n 1, 1) := dk_27 (dk_at dksX3_element_0 11 rfl rfl)
theorem dX3_element_12 : decode cX3_element 12 = .ok (.invokevirtual 353, 3) := dk_182 1 97 (dk_at dksX3_element_0 12 rfl rfl)
theorem dX3_element_15 : decode cX3_element 15 = .ok (.iconst 1, 1) := dk_4 (dk_at dksX3_element_0 15 rfl rfl)
theorem dX3_element_16 : decode cX3_element 16 = .ok (.isub, 1) := dk_100 (dk_at dksX3_element_0 16 rfl rfl)
theorem dX3_element_17 : decode cX3_element 17 = .ok (.invokestatic 85, 3) := dk_184 0 85 (dk_at dksX3_element_0 17 rfl rfl)
theorem dX3_element_20 : decode cX3_element 20 = .ok (.ifCond .eq 27, 3) := dk_153 0 27 (dk_at dksX3_element_0 20 rfl rfl)
theorem dX3_element_23 : decode cX3_element 23 = .ok (.iload_n 3, 1) := dk_29 (dk_at dksX3_element_0 23 rfl rfl)
theorem dX3_element_24 : decode cX3_element 24 = .ok (.iconst 0, 1) := dk_3 (dk_at dksX3_element_1 0 rfl rfl)
theorem dX3_element_25 : decode cX3_element 25 = .ok (.iconst 2, 1) := dk_5 (dk_at dksX3_element_1 1 rfl rfl)
theorem dX3_element_26 : decode cX3_element 26 = .ok (.invokestatic 85, 3) := dk_184 0 85 (dk_at dksX3_element_1 2 rfl rfl)
theorem dX3_element_29 : decode cX3_element 29 = .ok (.ifCond .eq 18, 3) := dk_153 0 18 (dk_at dksX3_element_1 5 rfl rfl)
theorem dX3_element_32 : decode cX3_element 32 = .ok (.aload_n 0, 1) := dk_42 (dk_at dksX3_element_1 8 rfl rfl)
theorem dX3_element_33 : decode cX3_element 33 = .ok (.aload_n 0, 1) := dk_42 (dk_at dksX3_element_1 9 rfl rfl)
theorem dX3_element_34 : decode cX3_element 34 = .ok (.iload_n 1, 1) := dk_27 (dk_at dksX3_element_1 10 rfl rfl)
theorem dX3_element_35 : decode cX3_element 35 = .ok (.iload_n 2, 1) := dk_28 (dk_at dksX3_element_1 11 rfl rfl)
theorem dX3_element_36 : decode cX3_element 36 = .ok (.invokevirtual 355, 3) := dk_182 1 99 (dk_at dksX3_element_1 12 rfl rfl)
theorem dX3_element_39 : decode cX3_element 39 = .ok (.iload_n 1, 1) := dk_27 (dk_at dksX3_element_1 15 rfl rfl)
theorem dX3_element_40 : decode cX3_element 40 = .ok (.iload_n 3, 1) := dk_29 (dk_at dksX3_element_1 16 rfl rfl)
theorem dX3_element_41 : decode cX3_element 41 = .ok (.invokevirtual 395, 3) := dk_182 1 139 (dk_at dksX3_element_1 17 rfl rfl)
theorem dX3_element_44 : decode cX3_element 44 = .ok (.goto 4, 3) := dk_167 0 4 (dk_at dksX3_element_1 20 rfl rfl)
theorem dX3_element_47 : decode cX3_element 47 = .ok (.iconst (-1), 1) := dk_2 (dk_at dksX3_element_1 23 rfl rfl)
theorem dX3_element_48 : decode cX3_element 48 = .ok (.ireturn, 1) := dk_172 (dk_at dksX3_element_2 0 rfl rfl)
abbrev cX3_tellsOf : ByteArray := prog_18_method_81_code
def yX3_tellsOf : MethodName := ⟨RX3, "tellsOf", "(III)I"⟩
def dkwX3_tellsOf_3 : List UInt8 := [167, 0, 20, 21, 4, 42, 180, 0, 55, 184, 1, 66, 160, 0, 7, 4, 167, 0, 4, 5, 172]
abbrev dktX3_tellsOf_3 : List UInt8 := dkwX3_tellsOf_3 ++ []
def dkwX3_tellsOf_2 : List UInt8 := [4, 167, 0, 4, 3, 172, 42, 42, 180, 0, 55, 27, 182, 1, 62, 54, 4, 21, 4, 154, 0, 7, 3]
abbrev dktX3_tellsOf_2 : List UInt8 := dkwX3_tellsOf_2 ++ dktX3_tellsOf_3
def dkwX3_tellsOf_1 : List UInt8 := [182, 1, 83, 42, 28, 8, 182, 1, 83, 182, 1, 79, 42, 42, 180, 0, 58, 27, 182, 1, 102, 153, 0, 7]
abbrev dktX3_tellsOf_1 : List UInt8 := dkwX3_tellsOf_1 ++ dktX3_tellsOf_2
def dkwX3_tellsOf_0 : List UInt8 := [29, 154, 0, 10, 42, 27, 28, 182, 1, 136, 172, 29, 4, 160, 0, 41, 42, 42, 180, 0, 58, 42, 28, 7]
abbrev dktX3_tellsOf_0 : List UInt8 := dkwX3_tellsOf_0 ++ dktX3_tellsOf_1
theorem dksX3_tellsOf_0 : cX3_tellsOf.data.toList.drop 0 = dktX3_tellsOf_0 := by decide +kernel
theorem dksX3_tellsOf_1 : cX3_tellsOf.data.toList.drop 24 = dktX3_tellsOf_1 := dk_seg dksX3_tellsOf_0 24 rfl rfl
theorem dksX3_tellsOf_2 : cX3_tellsOf.data.toList.drop 48 = dktX3_tellsOf_2 := dk_seg dksX3_tellsOf_1 24 rfl rfl
theorem dksX3_tellsOf_3 : cX3_tellsOf.data.toList.drop 71 = dktX3_tellsOf_3 := dk_seg dksX3_tellsOf_2 23 rfl rfl
theorem dX3_tellsOf_0 : decode cX3_tellsOf 0 = .ok (.iload_n 3, 1) := dk_29 (dk_at dksX3_tellsOf_0 0 rfl rfl)
theorem dX3_tellsOf_1 : decode cX3_tellsOf 1 = .ok (.ifCond .ne 10, 3) := dk_154 0 10 (dk_at dksX3_tellsOf_0 1 rfl rfl)
theorem dX3_tellsOf_4 : decode cX3_tellsOf 4 = .ok (.aload_n 0, 1) := dk_42 (dk_at dksX3_tellsOf_0 4 rfl rfl)
theorem dX3_tellsOf_5 : decode cX3_tellsOf 5 = .ok (.iload_n 1, 1) := dk_27 (dk_at dksX3_tellsOf_0 5 rfl rfl)
theorem dX3_tellsOf_6 : decode cX3_tellsOf 6 = .ok (.iload_n 2, 1) := dk_28 (dk_at dksX3_tellsOf_0 6 rfl rfl)
theorem dX3_tellsOf_7 : decode cX3_tellsOf 7 = .ok (.invokevirtual 392, 3) := dk_182 1 136 (dk_at dksX3_tellsOf_0 7 rfl rfl)
theorem dX3_tellsOf_10 : decode cX3_tellsOf 10 = .ok (.ireturn, 1) := dk_172 (dk_at dksX3_tellsOf_0 10 rfl rfl)
theorem dX3_tellsOf_11 : decode cX3_tellsOf 11 = .ok (.iload_n 3, 1) := dk_29 (dk_at dksX3_tellsOf_0 11 rfl rfl)
theorem dX3_tellsOf_12 : decode cX3_tellsOf 12 = .ok (.iconst 1, 1) := dk_4 (dk_at dksX3_tellsOf_0 12 rfl rfl)
theorem dX3_tellsOf_13 : decode cX3_tellsOf 13 = .ok (.if_icmp .ne 41, 3) := dk_160 0 41 (dk_at dksX3_tellsOf_0 13 rfl rfl)
theorem dX3_tellsOf_16 : decode cX3_tellsOf 16 = .ok (.aload_n 0, 1) := dk_42 (dk_at dksX3_tellsOf_0 16 rfl rfl)
theorem dX3_tellsOf_17 : decode cX3_tellsOf 17 = .ok (.aload_n 0, 1) := dk_42 (dk_at dksX3_tellsOf_0 17 rfl rfl)
theorem dX3_tellsOf_18 : decode cX3_tellsOf 18 = .ok (.getfield 58, 3) := dk_180 0 58 (dk_at dksX3_tellsOf_0 18 rfl rfl)
theorem dX3_tellsOf_21 : decode cX3_tellsOf 21 = .ok (.aload_n 0, 1) := dk_42 (dk_at dksX3_tellsOf_0 21 rfl rfl)
theorem dX3_tellsOf_22 : decode cX3_tellsOf 22 = .ok (.iload_n 2, 1) := dk_28 (dk_at dksX3_tellsOf_0 22 rfl rfl)
theorem dX3_tellsOf_23 : decode cX3_tellsOf 23 = .ok (.iconst 4, 1) := dk_7 (dk_at dksX3_tellsOf_0 23 rfl rfl)
theorem dX3_tellsOf_24 : decode cX3_tellsOf 24 = .ok (.invokevirtual 339, 3) := dk_182 1 83 (dk_at dksX3_tellsOf_1 0 rfl rfl)
theorem dX3_tellsOf_27 : decode cX3_tellsOf 27 = .ok (.aload_n 0, 1) := dk_42 (dk_at dksX3_tellsOf_1 3 rfl rfl)
theorem dX3_tellsOf_28 : decode cX3_tellsOf 28 = .ok (.iload_n 2, 1) := dk_28 (dk_at dksX3_tellsOf_1 4 rfl rfl)
theorem dX3_tellsOf_29 : decode cX3_tellsOf 29 = .ok (.iconst 5, 1) := dk_8 (dk_at dksX3_tellsOf_1 5 rfl rfl)
theorem dX3_tellsOf_30 : decode cX3_tellsOf 30 = .ok (.invokevirtual 339, 3) := dk_182 1 83 (dk_at dksX3_tellsOf_1 6 rfl rfl)
theorem dX3_tellsOf_33 : decode cX3_tellsOf 33 = .ok (.invokevirtual 335, 3) := dk_182 1 79 (dk_at dksX3_tellsOf_1 9 rfl rfl)
theorem dX3_tellsOf_36 : decode cX3_tellsOf 36 = .ok (.aload_n 0, 1) := dk_42 (dk_at dksX3_tellsOf_1 12 rfl rfl)
theorem dX3_tellsOf_37 : decode cX3_tellsOf 37 = .ok (.aload_n 0, 1) := dk_42 (dk_at dksX3_tellsOf_1 13 rfl rfl)
theorem dX3_tellsOf_38 : decode cX3_tellsOf 38 = .ok (.getfield 58, 3) := dk_180 0 58 (dk_at dksX3_tellsOf_1 14 rfl rfl)
theorem dX3_tellsOf_41 : decode cX3_tellsOf 41 = .ok (.iload_n 1, 1) := dk_27 (dk_at dksX3_tellsOf_1 17 rfl rfl)
theorem dX3_tellsOf_42 : decode cX3_tellsOf 42 = .ok (.invokevirtual 358, 3) := dk_182 1 102 (dk_at dksX3_tellsOf_1 18 rfl rfl)
theorem dX3_tellsOf_45 : decode cX3_tellsOf 45 = .ok (.ifCond .eq 7, 3) := dk_153 0 7 (dk_at dksX3_tellsOf_1 21 rfl rfl)
theorem dX3_tellsOf_48 : decode cX3_tellsOf 48 = .ok (.iconst 1, 1) := dk_4 (dk_at dksX3_tellsOf_2 0 rfl rfl)
theorem dX3_tellsOf_49 : decode cX3_tellsOf 49 = .ok (.goto 4, 3) := dk_167 0 4 (dk_at dksX3_tellsOf_2 1 rfl rfl)
theorem dX3_tellsOf_52 : decode cX3_tellsOf 52 = .ok (.iconst 0, 1) := dk_3 (dk_at dksX3_tellsOf_2 4 rfl rfl)
theorem dX3_tellsOf_53 : decode cX3_tellsOf 53 = .ok (.ireturn, 1) := dk_172 (dk_at dksX3_tellsOf_2 5 rfl rfl)
theorem dX3_tellsOf_54 : decode cX3_tellsOf 54 = .ok (.aload_n 0, 1) := dk_42 (dk_at dksX3_tellsOf_2 6 rfl rfl)
theorem dX3_tellsOf_55 : decode cX3_tellsOf 55 = .ok (.aload_n 0, 1) := dk_42 (dk_at dksX3_tellsOf_2 7 rfl rfl)
theorem dX3_tellsOf_56 : decode cX3_tellsOf 56 = .ok (.getfield 55, 3) := dk_180 0 55 (dk_at dksX3_tellsOf_2 8 rfl rfl)
theorem dX3_tellsOf_59 : decode cX3_tellsOf 59 = .ok (.iload_n 1, 1) := dk_27 (dk_at dksX3_tellsOf_2 11 rfl rfl)
theorem dX3_tellsOf_60 : decode cX3_tellsOf 60 = .ok (.invokevirtual 318, 3) := dk_182 1 62 (dk_at dksX3_tellsOf_2 12 rfl rfl)
theorem dX3_tellsOf_63 : decode cX3_tellsOf 63 = .ok (.istore 4, 2) := dk_54 4 (dk_at dksX3_tellsOf_2 15 rfl rfl)
theorem dX3_tellsOf_65 : decode cX3_tellsOf 65 = .ok (.iload 4, 2) := dk_21 4 (dk_at dksX3_tellsOf_2 17 rfl rfl)
theorem dX3_tellsOf_67 : decode cX3_tellsOf 67 = .ok (.ifCond .ne 7, 3) := dk_154 0 7 (dk_at dksX3_tellsOf_2 19 rfl rfl)
theorem dX3_tellsOf_70 : decode cX3_tellsOf 70 = .ok (.iconst 0, 1) := dk_3 (dk_at dksX3_tellsOf_2 22 rfl rfl)
theorem dX3_tellsOf_71 : decode cX3_tellsOf 71 = .ok (.goto 20, 3) := dk_167 0 20 (dk_at dksX3_tellsOf_3 0 rfl rfl)
theorem dX3_tellsOf_74 : decode cX3_tellsOf 74 = .ok (.iload 4, 2) := dk_21 4 (dk_at dksX3_tellsOf_3 3 rfl rfl)
theorem dX3_tellsOf_76 : decode cX3_tellsOf 76 = .ok (.aload_n 0, 1) := dk_42 (dk_at dksX3_tellsOf_3 5 rfl rfl)
theorem dX3_tellsOf_77 : decode cX3_tellsOf 77 = .ok (.getfield 55, 3) := dk_180 0 55 (dk_at dksX3_tellsOf_3 6 rfl rfl)
theorem dX3_tellsOf_80 : decode cX3_tellsOf 80 = .ok (.invokestatic 322, 3) := dk_184 1 66 (dk_at dksX3_tellsOf_3 9 rfl rfl)
theorem dX3_tellsOf_83 : decode cX3_tellsOf 83 = .ok (.if_icmp .ne 7, 3) := dk_160 0 7 (dk_at dksX3_tellsOf_3 12 rfl rfl)
theorem dX3_tellsOf_86 : decode cX3_tellsOf 86 = .ok (.iconst 1, 1) := dk_4 (dk_at dksX3_tellsOf_3 15 rfl rfl)
theorem dX3_tellsOf_87 : decode cX3_tellsOf 87 = .ok (.goto 4, 3) := dk_167 0 4 (dk_at dksX3_tellsOf_3 16 rfl rfl)
theorem dX3_tellsOf_90 : decode cX3_tellsOf 90 = .ok (.iconst 2, 1) := dk_5 (dk_at dksX3_tellsOf_3 19 rfl rfl)
theorem dX3_tellsOf_91 : decode cX3_tellsOf 91 = .ok (.ireturn, 1) := dk_172 (dk_at dksX3_tellsOf_3 20 rfl rfl)
abbrev cX3_seen : ByteArray := prog_18_method_79_code
def yX3_seen : MethodName := ⟨RX3, "seen", "(II)I"⟩
def dkwX3_seen_13 : List UInt8 := [184, 1, 133, 184, 1, 130, 79, 132, 4, 1, 167, 254, 210, 42, 180, 0, 43, 3, 46, 172]
abbrev dktX3_seen_13 : List UInt8 := dkwX3_seen_13 ++ []
def dkwX3_seen_12 : List UInt8 := [160, 0, 13, 21, 7, 21, 8, 184, 1, 133, 167, 0, 19, 21, 7, 184, 1, 130, 21, 8, 184, 1, 130]
abbrev dktX3_seen_12 : List UInt8 := dkwX3_seen_12 ++ dktX3_seen_13
def dkwX3_seen_11 : List UInt8 := [100, 46, 54, 7, 42, 180, 0, 43, 29, 46, 54, 8, 42, 180, 0, 43, 29, 4, 100, 21, 5, 5]
abbrev dktX3_seen_11 : List UInt8 := dkwX3_seen_11 ++ dktX3_seen_12
def dkwX3_seen_10 : List UInt8 := [162, 0, 7, 3, 167, 0, 4, 5, 79, 132, 3, 1, 167, 0, 64, 132, 3, 255, 42, 180, 0, 43, 29, 4]
abbrev dktX3_seen_10 : List UInt8 := dkwX3_seen_10 ++ dktX3_seen_11
def dkwX3_seen_9 : List UInt8 := [21, 6, 16, 10, 108, 161, 0, 7, 4, 167, 0, 21, 21, 7, 21, 8, 96, 21, 6, 16, 10, 108]
abbrev dktX3_seen_9 : List UInt8 := dkwX3_seen_9 ++ dktX3_seen_10
def dkwX3_seen_8 : List UInt8 := [160, 0, 7, 4, 167, 0, 4, 3, 96, 54, 8, 132, 9, 1, 167, 255, 200, 42, 180, 0, 43, 29, 21, 7]
abbrev dktX3_seen_8 : List UInt8 := dkwX3_seen_8 ++ dktX3_seen_9
def dkwX3_seen_7 : List UInt8 := [29, 46, 4, 160, 0, 7, 4, 167, 0, 4, 3, 96, 54, 7, 21, 8, 42, 180, 0, 43, 29, 46, 5]
abbrev dktX3_seen_7 : List UInt8 := dkwX3_seen_7 ++ dktX3_seen_8
def dkwX3_seen_6 : List UInt8 := [54, 8, 3, 54, 9, 21, 9, 21, 6, 16, 10, 112, 162, 0, 52, 132, 3, 255, 21, 7, 42, 180, 0, 43]
abbrev dktX3_seen_6 : List UInt8 := dkwX3_seen_6 ++ dktX3_seen_7
def dkwX3_seen_5 : List UInt8 := [180, 0, 43, 29, 4, 100, 46, 184, 1, 130, 79, 167, 0, 182, 21, 5, 7, 160, 0, 115, 3, 54, 7, 3]
abbrev dktX3_seen_5 : List UInt8 := dkwX3_seen_5 ++ dktX3_seen_6
def dkwX3_seen_4 : List UInt8 := [122, 4, 126, 79, 132, 3, 1, 167, 0, 210, 21, 5, 4, 160, 0, 25, 42, 180, 0, 43, 29, 4, 100, 42]
abbrev dktX3_seen_4 : List UInt8 := dkwX3_seen_4 ++ dktX3_seen_5
def dkwX3_seen_3 : List UInt8 := [7, 182, 1, 83, 21, 6, 184, 0, 239, 154, 0, 7, 5, 167, 0, 14, 42, 28, 8, 182, 1, 83, 21, 6]
abbrev dktX3_seen_3 : List UInt8 := dkwX3_seen_3 ++ dktX3_seen_4
def dkwX3_seen_2 : List UInt8 := [17, 0, 150, 21, 4, 96, 46, 16, 100, 112, 54, 6, 21, 5, 154, 0, 44, 42, 180, 0, 43, 29, 42, 28]
abbrev dktX3_seen_2 : List UInt8 := dkwX3_seen_2 ++ dktX3_seen_3
def dkwX3_seen_1 : List UInt8 := [162, 1, 38, 42, 180, 0, 7, 17, 0, 150, 21, 4, 96, 46, 16, 100, 108, 54, 5, 42, 180, 0, 7]
abbrev dktX3_seen_1 : List UInt8 := dkwX3_seen_1 ++ dktX3_seen_2
def dkwX3_seen_0 : List UInt8 := [3, 62, 42, 180, 0, 7, 16, 84, 27, 96, 46, 54, 4, 21, 4, 42, 180, 0, 7, 16, 117, 27, 96, 46]
abbrev dktX3_seen_0 : List UInt8 := dkwX3_seen_0 ++ dktX3_seen_1
theorem dksX3_seen_0 : cX3_seen.data.toList.drop 0 = dktX3_seen_0 := by decide +kernel
theorem dksX3_seen_1 : cX3_seen.data.toList.drop 24 = dktX3_seen_1 := dk_seg dksX3_seen_0 24 rfl rfl
theorem dksX3_seen_2 : cX3_seen.data.toList.drop 47 = dktX3_seen_2 := dk_seg dksX3_seen_1 23 rfl rfl
theorem dksX3_seen_3 : cX3_seen.data.toList.drop 71 = dktX3_seen_3 := dk_seg dksX3_seen_2 24 rfl rfl
theorem dksX3_seen_4 : cX3_seen.data.toList.drop 95 = dktX3_seen_4 := dk_seg dksX3_seen_3 24 rfl rfl
theorem dksX3_seen_5 : cX3_seen.data.toList.drop 119 = dktX3_seen_5 := dk_seg dksX3_seen_4 24 rfl rfl
theorem dksX3_seen_6 : cX3_seen.data.toList.drop 143 = dktX3_seen_6 := dk_seg dksX3_seen_5 24 rfl rfl
theorem dksX3_seen_7 : cX3_seen.data.toList.drop 167 = dktX3_seen_7 := dk_seg dksX3_seen_6 24 rfl rfl
theorem dksX3_seen_8 : cX3_seen.data.toList.drop 190 = dktX3_seen_8 := dk_seg dksX3_seen_7 23 rfl rfl
theorem dksX3_seen_9 : cX3_seen.data.toList.drop 214 = dktX3_seen_9 := dk_seg dksX3_seen_8 24 rfl rfl
theorem dksX3_seen_10 : cX3_seen.data.toList.drop 236 = dktX3_seen_10 := dk_seg dksX3_seen_9 22 rfl rfl
theorem dksX3_seen_11 : cX3_seen.data.toList.drop 260 = dktX3_seen_11 := dk_seg dksX3_seen_10 24 rfl rfl
theorem dksX3_seen_12 : cX3_seen.data.toList.drop 282 = dktX3_seen_12 := dk_seg dksX3_seen_11 22 rfl rfl
theorem dksX3_seen_13 : cX3_seen.data.toList.drop 305 = dktX3_seen_13 := dk_seg dksX3_seen_12 23 rfl rfl
theorem dX3_seen_0 : decode cX3_seen 0 = .ok (.iconst 0, 1) := dk_3 (dk_at dksX3_seen_0 0 rfl rfl)
theorem dX3_seen_1 : decode cX3_seen 1 = .ok (.istore_n 3, 1) := dk_62 (dk_at dksX3_seen_0 1 rfl rfl)
theorem dX3_seen_2 : decode cX3_seen 2 = .ok (.aload_n 0, 1) := dk_42 (dk_at dksX3_seen_0 2 rfl rfl)
theorem dX3_seen_3 : decode cX3_seen 3 = .ok (.getfield 7, 3) := dk_180 0 7 (dk_at dksX3_seen_0 3 rfl rfl)
theorem dX3_seen_6 : decode cX3_seen 6 = .ok (.bipush 84, 2) := dk_16 84 (dk_at dksX3_seen_0 6 rfl rfl)
theorem dX3_seen_8 : decode cX3_seen 8 = .ok (.iload_n 1, 1) := dk_27 (dk_at dksX3_seen_0 8 rfl rfl)
theorem dX3_seen_9 : decode cX3_seen 9 = .ok (.iadd, 1) := dk_96 (dk_at dksX3_seen_0 9 rfl rfl)
theorem dX3_seen_10 : decode cX3_seen 10 = .ok (.iaload, 1) := dk_46 (dk_at dksX3_seen_0 10 rfl rfl)
theorem dX3_seen_11 : decode cX3_seen 11 = .ok (.istore 4, 2) := dk_54 4 (dk_at dksX3_seen_0 11 rfl rfl)
theorem dX3_seen_13 : decode cX3_seen 13 = .ok (.iload 4, 2) := dk_21 4 (dk_at dksX3_seen_0 13 rfl rfl)
theorem dX3_seen_15 : decode cX3_seen 15 = .ok (.aload_n 0, 1) := dk_42 (dk_at dksX3_seen_0 15 rfl rfl)
theorem dX3_seen_16 : decode cX3_seen 16 = .ok (.getfield 7, 3) := dk_180 0 7 (dk_at dksX3_seen_0 16 rfl rfl)
theorem dX3_seen_19 : decode cX3_seen 19 = .ok (.bipush 117, 2) := dk_16 117 (dk_at dksX3_seen_0 19 rfl rfl)
theorem dX3_seen_21 : decode cX3_seen 21 = .ok (.iload_n 1, 1) := dk_27 (dk_at dksX3_seen_0 21 rfl rfl)
theorem dX3_seen_22 : decode cX3_seen 22 = .ok (.iadd, 1) := dk_96 (dk_at dksX3_seen_0 22 rfl rfl)
theorem dX3_seen_23 : decode cX3_seen 23 = .ok (.iaload, 1) := dk_46 (dk_at dksX3_seen_0 23 rfl rfl)
theorem dX3_seen_24 : decode cX3_seen 24 = .ok (.if_icmp .ge 294, 3) := dk_162 1 38 (dk_at dksX3_seen_1 0 rfl rfl)
theorem dX3_seen_27 : decode cX3_seen 27 = .ok (.aload_n 0, 1) := dk_42 (dk_at dksX3_seen_1 3 rfl rfl)
theorem dX3_seen_28 : decode cX3_seen 28 = .ok (.getfield 7, 3) := dk_180 0 7 (dk_at dksX3_seen_1 4 rfl rfl)
theorem dX3_seen_31 : decode cX3_seen 31 = .ok (.sipush 150, 3) := dk_17 0 150 (dk_at dksX3_seen_1 7 rfl rfl)
theorem dX3_seen_34 : decode cX3_seen 34 = .ok (.iload 4, 2) := dk_21 4 (dk_at dksX3_seen_1 10 rfl rfl)
theorem dX3_seen_36 : decode cX3_seen 36 = .ok (.iadd, 1) := dk_96 (dk_at dksX3_seen_1 12 rfl rfl)
theorem dX3_seen_37 : decode cX3_seen 37 = .ok (.iaload, 1) := dk_46 (dk_at dksX3_seen_1 13 rfl rfl)
theorem dX3_seen_38 : decode cX3_seen 38 = .ok (.bipush 100, 2) := dk_16 100 (dk_at dksX3_seen_1 14 rfl rfl)
theorem dX3_seen_40 : decode cX3_seen 40 = .ok (.idiv, 1) := dk_108 (dk_at dksX3_seen_1 16 rfl rfl)
theorem dX3_seen_41 : decode cX3_seen 41 = .ok (.istore 5, 2) := dk_54 5 (dk_at dksX3_seen_1 17 rfl rfl)
theorem dX3_seen_43 : decode cX3_seen 43 = .ok (.aload_n 0, 1) := dk_42 (dk_at dksX3_seen_1 19 rfl rfl)
theorem dX3_seen_44 : decode cX3_seen 44 = .ok (.getfield 7, 3) := dk_180 0 7 (dk_at dksX3_seen_1 20 rfl rfl)
theorem dX3_seen_47 : decode cX3_seen 47 = .ok (.sipush 150, 3) := dk_17 0 150 (dk_at dksX3_seen_2 0 rfl rfl)
theorem dX3_seen_50 : decode cX3_seen 50 = .ok (.iload 4, 2) := dk_21 4 (dk_at dksX3_seen_2 3 rfl rfl)
theorem dX3_seen_52 : decode cX3_seen 52 = .ok (.iadd, 1) := dk_96 (dk_at dksX3_seen_2 5 rfl rfl)
theorem dX3_seen_53 : decode cX3_seen 53 = .ok (.iaload, 1) := dk_46 (dk_at dksX3_seen_2 6 rfl rfl)
theorem dX3_seen_54 : decode cX3_seen 54 = .ok (.bipush 100, 2) := dk_16 100 (dk_at dksX3_seen_2 7 rfl rfl)
theorem dX3_seen_56 : decode cX3_seen 56 = .ok (.irem, 1) := dk_112 (dk_at dksX3_seen_2 9 rfl rfl)
theorem dX3_seen_57 : decode cX3_seen 57 = .ok (.istore 6, 2) := dk_54 6 (dk_at dksX3_seen_2 10 rfl rfl)
theorem dX3_seen_59 : decode cX3_seen 59 = .ok (.iload 5, 2) := dk_21 5 (dk_at dksX3_seen_2 12 rfl rfl)
theorem dX3_seen_61 : decode cX3_seen 61 = .ok (.ifCond .ne 44, 3) := dk_154 0 44 (dk_at dksX3_seen_2 14 rfl rfl)
theorem dX3_seen_64 : decode cX3_seen 64 = .ok (.aload_n 0, 1) := dk_42 (dk_at dksX3_seen_2 17 rfl rfl)
theorem dX3_seen_65 : decode cX3_seen 65 = .ok (.getfield 43, 3) := dk_180 0 43 (dk_at dksX3_seen_2 18 rfl rfl)
theorem dX3_seen_68 : decode cX3_seen 68 = .ok (.iload_n 3, 1) := dk_29 (dk_at dksX3_seen_2 21 rfl rfl)
theorem dX3_seen_69 : decode cX3_seen 69 = .ok (.aload_n 0, 1) := dk_42 (dk_at dksX3_seen_2 22 rfl rfl)
theorem dX3_seen_70 : decode cX3_seen 70 = .ok (.iload_n 2, 1) := dk_28 (dk_at dksX3_seen_2 23 rfl rfl)
theorem dX3_seen_71 : decode cX3_seen 71 = .ok (.iconst 4, 1) := dk_7 (dk_at dksX3_seen_3 0 rfl rfl)
theorem dX3_seen_72 : decode cX3_seen 72 = .ok (.invokevirtual 339, 3) := dk_182 1 83 (dk_at dksX3_seen_3 1 rfl rfl)
theorem dX3_seen_75 : decode cX3_seen 75 = .ok (.iload 6, 2) := dk_21 6 (dk_at dksX3_seen_3 4 rfl rfl)
theorem dX3_seen_77 : decode cX3_seen 77 = .ok (.invokestatic 239, 3) := dk_184 0 239 (dk_at dksX3_seen_3 6 rfl rfl)
theorem dX3_seen_80 : decode cX3_seen 80 = .ok (.ifCond .ne 7, 3) := dk_154 0 7 (dk_at dksX3_seen_3 9 rfl rfl)
theorem dX3_seen_83 : decode cX3_seen 83 = .ok (.iconst 2, 1) := dk_5 (dk_at dksX3_seen_3 12 rfl rfl)
theorem dX3_seen_84 : decode cX3_seen 84 = .ok (.goto 14, 3) := dk_167 0 14 (dk_at dksX3_seen_3 13 rfl rfl)
theorem dX3_seen_87 : decode cX3_seen 87 = .ok (.aload_n 0, 1) := dk_42 (dk_at dksX3_seen_3 16 rfl rfl)
theorem dX3_seen_88 : decode cX3_seen 88 = .ok (.iload_n 2, 1) := dk_28 (dk_at dksX3_seen_3 17 rfl rfl)
theorem dX3_seen_89 : decode cX3_seen 89 = .ok (.iconst 5, 1) := dk_8 (dk_at dksX3_seen_3 18 rfl rfl)
theorem dX3_seen_90 : decode cX3_seen 90 = .ok (.invokevirtual 339, 3) := dk_182 1 83 (dk_at dksX3_seen_3 19 rfl rfl)
theorem dX3_seen_93 : decode cX3_seen 93 = .ok (.iload 6, 2) := dk_21 6 (dk_at dksX3_seen_3 22 rfl rfl)
theorem dX3_seen_95 : decode cX3_seen 95 = .ok (.ishr, 1) := dk_122 (dk_at dksX3_seen_4 0 rfl rfl)
theorem dX3_seen_96 : decode cX3_seen 96 = .ok (.iconst 1, 1) := dk_4 (dk_at dksX3_seen_4 1 rfl rfl)
theorem dX3_seen_97 : decode cX3_seen 97 = .ok (.iand, 1) := dk_126 (dk_at dksX3_seen_4 2 rfl rfl)
theorem dX3_seen_98 : decode cX3_seen 98 = .ok (.iastore, 1) := dk_79 (dk_at dksX3_seen_4 3 rfl rfl)
theorem dX3_seen_99 : decode cX3_seen 99 = .ok (.iinc 3 1, 3) := dk_132 3 1 (dk_at dksX3_seen_4 4 rfl rfl)
theorem dX3_seen_102 : decode cX3_seen 102 = .ok (.goto 210, 3) := dk_167 0 210 (dk_at dksX3_seen_4 7 rfl rfl)
theorem dX3_seen_105 : decode cX3_seen 105 = .ok (.iload 5, 2) := dk_21 5 (dk_at dksX3_seen_4 10 rfl rfl)
theorem dX3_seen_107 : decode cX3_seen 107 = .ok (.iconst 1, 1) := dk_4 (dk_at dksX3_seen_4 12 rfl rfl)
theorem dX3_seen_108 : decode cX3_seen 108 = .ok (.if_icmp .ne 25, 3) := dk_160 0 25 (dk_at dksX3_seen_4 13 rfl rfl)
theorem dX3_seen_111 : decode cX3_seen 111 = .ok (.aload_n 0, 1) := dk_42 (dk_at dksX3_seen_4 16 rfl rfl)
theorem dX3_seen_112 : decode cX3_seen 112 = .ok (.getfield 43, 3) := dk_180 0 43 (dk_at dksX3_seen_4 17 rfl rfl)
theorem dX3_seen_115 : decode cX3_seen 115 = .ok (.iload_n 3, 1) := dk_29 (dk_at dksX3_seen_4 20 rfl rfl)
theorem dX3_seen_116 : decode cX3_seen 116 = .ok (.iconst 1, 1) := dk_4 (dk_at dksX3_seen_4 21 rfl rfl)
theorem dX3_seen_117 : decode cX3_seen 117 = .ok (.isub, 1) := dk_100 (dk_at dksX3_seen_4 22 rfl rfl)
theorem dX3_seen_118 : decode cX3_seen 118 = .ok (.aload_n 0, 1) := dk_42 (dk_at dksX3_seen_4 23 rfl rfl)
theorem dX3_seen_119 : decode cX3_seen 119 = .ok (.getfield 43, 3) := dk_180 0 43 (dk_at dksX3_seen_5 0 rfl rfl)
theorem dX3_seen_122 : decode cX3_seen 122 = .ok (.iload_n 3, 1) := dk_29 (dk_at dksX3_seen_5 3 rfl rfl)
theorem dX3_seen_123 : decode cX3_seen 123 = .ok (.iconst 1, 1) := dk_4 (dk_at dksX3_seen_5 4 rfl rfl)
theorem dX3_seen_124 : decode cX3_seen 124 = .ok (.isub, 1) := dk_100 (dk_at dksX3_seen_5 5 rfl rfl)
theorem dX3_seen_125 : decode cX3_seen 125 = .ok (.iaload, 1) := dk_46 (dk_at dksX3_seen_5 6 rfl rfl)
theorem dX3_seen_126 : decode cX3_seen 126 = .ok (.invokestatic 386, 3) := dk_184 1 130 (dk_at dksX3_seen_5 7 rfl rfl)
theorem dX3_seen_129 : decode cX3_seen 129 = .ok (.iastore, 1) := dk_79 (dk_at dksX3_seen_5 10 rfl rfl)
theorem dX3_seen_130 : decode cX3_seen 130 = .ok (.goto 182, 3) := dk_167 0 182 (dk_at dksX3_seen_5 11 rfl rfl)
theorem dX3_seen_133 : decode cX3_seen 133 = .ok (.iload 5, 2) := dk_21 5 (dk_at dksX3_seen_5 14 rfl rfl)
theorem dX3_seen_135 : decode cX3_seen 135 = .ok (.iconst 4, 1) := dk_7 (dk_at dksX3_seen_5 16 rfl rfl)
theorem dX3_seen_136 : decode cX3_seen 136 = .ok (.if_icmp .ne 115, 3) := dk_160 0 115 (dk_at dksX3_seen_5 17 rfl rfl)
theorem dX3_seen_139 : decode cX3_seen 139 = .ok (.iconst 0, 1) := dk_3 (dk_at dksX3_seen_5 20 rfl rfl)
theorem dX3_seen_140 : decode cX3_seen 140 = .ok (.istore 7, 2) := dk_54 7 (dk_at dksX3_seen_5 21 rfl rfl)
theorem dX3_seen_142 : decode cX3_seen 142 = .ok (.iconst 0, 1) := dk_3 (dk_at dksX3_seen_5 23 rfl rfl)
theorem dX3_seen_143 : decode cX3_seen 143 = .ok (.istore 8, 2) := dk_54 8 (dk_at dksX3_seen_6 0 rfl rfl)
theorem dX3_seen_145 : decode cX3_seen 145 = .ok (.iconst 0, 1) := dk_3 (dk_at dksX3_seen_6 2 rfl rfl)
theorem dX3_seen_146 : decode cX3_seen 146 = .ok (.istore 9, 2) := dk_54 9 (dk_at dksX3_seen_6 3 rfl rfl)
theorem dX3_seen_148 : decode cX3_seen 148 = .ok (.iload 9, 2) := dk_21 9 (dk_at dksX3_seen_6 5 rfl rfl)
theorem dX3_seen_150 : decode cX3_seen 150 = .ok (.iload 6, 2) := dk_21 6 (dk_at dksX3_seen_6 7 rfl rfl)
theorem dX3_seen_152 : decode cX3_seen 152 = .ok (.bipush 10, 2) := dk_16 10 (dk_at dksX3_seen_6 9 rfl rfl)
theorem dX3_seen_154 : decode cX3_seen 154 = .ok (.irem, 1) := dk_112 (dk_at dksX3_seen_6 11 rfl rfl)
theorem dX3_seen_155 : decode cX3_seen 155 = .ok (.if_icmp .ge 52, 3) := dk_162 0 52 (dk_at dksX3_seen_6 12 rfl rfl)
theorem dX3_seen_158 : decode cX3_seen 158 = .ok (.iinc 3 (-1), 3) := dk_132 3 255 (dk_at dksX3_seen_6 15 rfl rfl)
theorem dX3_seen_161 : decode cX3_seen 161 = .ok (.iload 7, 2) := dk_21 7 (dk_at dksX3_seen_6 18 rfl rfl)
theorem dX3_seen_163 : decode cX3_seen 163 = .ok (.aload_n 0, 1) := dk_42 (dk_at dksX3_seen_6 20 rfl rfl)
theorem dX3_seen_164 : decode cX3_seen 164 = .ok (.getfield 43, 3) := dk_180 0 43 (dk_at dksX3_seen_6 21 rfl rfl)
theorem dX3_seen_167 : decode cX3_seen 167 = .ok (.iload_n 3, 1) := dk_29 (dk_at dksX3_seen_7 0 rfl rfl)
theorem dX3_seen_168 : decode cX3_seen 168 = .ok (.iaload, 1) := dk_46 (dk_at dksX3_seen_7 1 rfl rfl)
theorem dX3_seen_169 : decode cX3_seen 169 = .ok (.iconst 1, 1) := dk_4 (dk_at dksX3_seen_7 2 rfl rfl)
theorem dX3_seen_170 : decode cX3_seen 170 = .ok (.if_icmp .ne 7, 3) := dk_160 0 7 (dk_at dksX3_seen_7 3 rfl rfl)
theorem dX3_seen_173 : decode cX3_seen 173 = .ok (.iconst 1, 1) := dk_4 (dk_at dksX3_seen_7 6 rfl rfl)
theorem dX3_seen_174 : decode cX3_seen 174 = .ok (.goto 4, 3) := dk_167 0 4 (dk_at dksX3_seen_7 7 rfl rfl)
theorem dX3_seen_177 : decode cX3_seen 177 = .ok (.iconst 0, 1) := dk_3 (dk_at dksX3_seen_7 10 rfl rfl)
theorem dX3_seen_178 : decode cX3_seen 178 = .ok (.iadd, 1) := dk_96 (dk_at dksX3_seen_7 11 rfl rfl)
theorem dX3_seen_179 : decode cX3_seen 179 = .ok (.istore 7, 2) := dk_54 7 (dk_at dksX3_seen_7 12 rfl rfl)
theorem dX3_seen_181 : decode cX3_seen 181 = .ok (.iload 8, 2) := dk_21 8 (dk_at dksX3_seen_7 14 rfl rfl)
theorem dX3_seen_183 : decode cX3_seen 183 = .ok (.aload_n 0, 1) := dk_42 (dk_at dksX3_seen_7 16 rfl rfl)
theorem dX3_seen_184 : decode cX3_seen 184 = .ok (.getfield 43, 3) := dk_180 0 43 (dk_at dksX3_seen_7 17 rfl rfl)
theorem dX3_seen_187 : decode cX3_seen 187 = .ok (.iload_n 3, 1) := dk_29 (dk_at dksX3_seen_7 20 rfl rfl)
theorem dX3_seen_188 : decode cX3_seen 188 = .ok (.iaload, 1) := dk_46 (dk_at dksX3_seen_7 21 rfl rfl)
theorem dX3_seen_189 : decode cX3_seen 189 = .ok (.iconst 2, 1) := dk_5 (dk_at dksX3_seen_7 22 rfl rfl)
theorem dX3_seen_190 : decode cX3_seen 190 = .ok (.if_icmp .ne 7, 3) := dk_160 0 7 (dk_at dksX3_seen_8 0 rfl rfl)
theorem dX3_seen_193 : decode cX3_seen 193 = .ok (.iconst 1, 1) := dk_4 (dk_at dksX3_seen_8 3 rfl rfl)
theorem dX3_seen_194 : decode cX3_seen 194 = .ok (.goto 4, 3) := dk_167 0 4 (dk_at dksX3_seen_8 4 rfl rfl)
theorem dX3_seen_197 : decode cX3_seen 197 = .ok (.iconst 0, 1) := dk_3 (dk_at dksX3_seen_8 7 rfl rfl)
theorem dX3_seen_198 : decode cX3_seen 198 = .ok (.iadd, 1) := dk_96 (dk_at dksX3_seen_8 8 rfl rfl)
theorem dX3_seen_199 : decode cX3_seen 199 = .ok (.istore 8, 2) := dk_54 8 (dk_at dksX3_seen_8 9 rfl rfl)
theorem dX3_seen_201 : decode cX3_seen 201 = .ok (.iinc 9 1, 3) := dk_132 9 1 (dk_at dksX3_seen_8 11 rfl rfl)
theorem dX3_seen_204 : decode cX3_seen 204 = .ok (.goto (-56), 3) := dk_167 255 200 (dk_at dksX3_seen_8 14 rfl rfl)
theorem dX3_seen_207 : decode cX3_seen 207 = .ok (.aload_n 0, 1) := dk_42 (dk_at dksX3_seen_8 17 rfl rfl)
theorem dX3_seen_208 : decode cX3_seen 208 = .ok (.getfield 43, 3) := dk_180 0 43 (dk_at dksX3_seen_8 18 rfl rfl)
theorem dX3_seen_211 : decode cX3_seen 211 = .ok (.iload_n 3, 1) := dk_29 (dk_at dksX3_seen_8 21 rfl rfl)
theorem dX3_seen_212 : decode cX3_seen 212 = .ok (.iload 7, 2) := dk_21 7 (dk_at dksX3_seen_8 22 rfl rfl)
theorem dX3_seen_214 : decode cX3_seen 214 = .ok (.iload 6, 2) := dk_21 6 (dk_at dksX3_seen_9 0 rfl rfl)
theorem dX3_seen_216 : decode cX3_seen 216 = .ok (.bipush 10, 2) := dk_16 10 (dk_at dksX3_seen_9 2 rfl rfl)
theorem dX3_seen_218 : decode cX3_seen 218 = .ok (.idiv, 1) := dk_108 (dk_at dksX3_seen_9 4 rfl rfl)
theorem dX3_seen_219 : decode cX3_seen 219 = .ok (.if_icmp .lt 7, 3) := dk_161 0 7 (dk_at dksX3_seen_9 5 rfl rfl)
theorem dX3_seen_222 : decode cX3_seen 222 = .ok (.iconst 1, 1) := dk_4 (dk_at dksX3_seen_9 8 rfl rfl)
theorem dX3_seen_223 : decode cX3_seen 223 = .ok (.goto 21, 3) := dk_167 0 21 (dk_at dksX3_seen_9 9 rfl rfl)
theorem dX3_seen_226 : decode cX3_seen 226 = .ok (.iload 7, 2) := dk_21 7 (dk_at dksX3_seen_9 12 rfl rfl)
theorem dX3_seen_228 : decode cX3_seen 228 = .ok (.iload 8, 2) := dk_21 8 (dk_at dksX3_seen_9 14 rfl rfl)
theorem dX3_seen_230 : decode cX3_seen 230 = .ok (.iadd, 1) := dk_96 (dk_at dksX3_seen_9 16 rfl rfl)
theorem dX3_seen_231 : decode cX3_seen 231 = .ok (.iload 6, 2) := dk_21 6 (dk_at dksX3_seen_9 17 rfl rfl)
theorem dX3_seen_233 : decode cX3_seen 233 = .ok (.bipush 10, 2) := dk_16 10 (dk_at dksX3_seen_9 19 rfl rfl)
theorem dX3_seen_235 : decode cX3_seen 235 = .ok (.idiv, 1) := dk_108 (dk_at dksX3_seen_9 21 rfl rfl)
theorem dX3_seen_236 : decode cX3_seen 236 = .ok (.if_icmp .ge 7, 3) := dk_162 0 7 (dk_at dksX3_seen_10 0 rfl rfl)
theorem dX3_seen_239 : decode cX3_seen 239 = .ok (.iconst 0, 1) := dk_3 (dk_at dksX3_seen_10 3 rfl rfl)
theorem dX3_seen_240 : decode cX3_seen 240 = .ok (.goto 4, 3) := dk_167 0 4 (dk_at dksX3_seen_10 4 rfl rfl)
theorem dX3_seen_243 : decode cX3_seen 243 = .ok (.iconst 2, 1) := dk_5 (dk_at dksX3_seen_10 7 rfl rfl)
theorem dX3_seen_244 : decode cX3_seen 244 = .ok (.iastore, 1) := dk_79 (dk_at dksX3_seen_10 8 rfl rfl)
theorem dX3_seen_245 : decode cX3_seen 245 = .ok (.iinc 3 1, 3) := dk_132 3 1 (dk_at dksX3_seen_10 9 rfl rfl)
theorem dX3_seen_248 : decode cX3_seen 248 = .ok (.goto 64, 3) := dk_167 0 64 (dk_at dksX3_seen_10 12 rfl rfl)
theorem dX3_seen_251 : decode cX3_seen 251 = .ok (.iinc 3 (-1), 3) := dk_132 3 255 (dk_at dksX3_seen_10 15 rfl rfl)
theorem dX3_seen_254 : decode cX3_seen 254 = .ok (.aload_n 0, 1) := dk_42 (dk_at dksX3_seen_10 18 rfl rfl)
theorem dX3_seen_255 : decode cX3_seen 255 = .ok (.getfield 43, 3) := dk_180 0 43 (dk_at dksX3_seen_10 19 rfl rfl)
theorem dX3_seen_258 : decode cX3_seen 258 = .ok (.iload_n 3, 1) := dk_29 (dk_at dksX3_seen_10 22 rfl rfl)
theorem dX3_seen_259 : decode cX3_seen 259 = .ok (.iconst 1, 1) := dk_4 (dk_at dksX3_seen_10 23 rfl rfl)
theorem dX3_seen_260 : decode cX3_seen 260 = .ok (.isub, 1) := dk_100 (dk_at dksX3_seen_11 0 rfl rfl)
theorem dX3_seen_261 : decode cX3_seen 261 = .ok (.iaload, 1) := dk_46 (dk_at dksX3_seen_11 1 rfl rfl)
theorem dX3_seen_262 : decode cX3_seen 262 = .ok (.istore 7, 2) := dk_54 7 (dk_at dksX3_seen_11 2 rfl rfl)
theorem dX3_seen_264 : decode cX3_seen 264 = .ok (.aload_n 0, 1) := dk_42 (dk_at dksX3_seen_11 4 rfl rfl)
theorem dX3_seen_265 : decode cX3_seen 265 = .ok (.getfield 43, 3) := dk_180 0 43 (dk_at dksX3_seen_11 5 rfl rfl)
theorem dX3_seen_268 : decode cX3_seen 268 = .ok (.iload_n 3, 1) := dk_29 (dk_at dksX3_seen_11 8 rfl rfl)
theorem dX3_seen_269 : decode cX3_seen 269 = .ok (.iaload, 1) := dk_46 (dk_at dksX3_seen_11 9 rfl rfl)
theorem dX3_seen_270 : decode cX3_seen 270 = .ok (.istore 8, 2) := dk_54 8 (dk_at dksX3_seen_11 10 rfl rfl)
theorem dX3_seen_272 : decode cX3_seen 272 = .ok (.aload_n 0, 1) := dk_42 (dk_at dksX3_seen_11 12 rfl rfl)
theorem dX3_seen_273 : decode cX3_seen 273 = .ok (.getfield 43, 3) := dk_180 0 43 (dk_at dksX3_seen_11 13 rfl rfl)
theorem dX3_seen_276 : decode cX3_seen 276 = .ok (.iload_n 3, 1) := dk_29 (dk_at dksX3_seen_11 16 rfl rfl)
theorem dX3_seen_277 : decode cX3_seen 277 = .ok (.iconst 1, 1) := dk_4 (dk_at dksX3_seen_11 17 rfl rfl)
theorem dX3_seen_278 : decode cX3_seen 278 = .ok (.isub, 1) := dk_100 (dk_at dksX3_seen_11 18 rfl rfl)
theorem dX3_seen_279 : decode cX3_seen 279 = .ok (.iload 5, 2) := dk_21 5 (dk_at dksX3_seen_11 19 rfl rfl)
theorem dX3_seen_281 : decode cX3_seen 281 = .ok (.iconst 2, 1) := dk_5 (dk_at dksX3_seen_11 21 rfl rfl)
theorem dX3_seen_282 : decode cX3_seen 282 = .ok (.if_icmp .ne 13, 3) := dk_160 0 13 (dk_at dksX3_seen_12 0 rfl rfl)
theorem dX3_seen_285 : decode cX3_seen 285 = .ok (.iload 7, 2) := dk_21 7 (dk_at dksX3_seen_12 3 rfl rfl)
theorem dX3_seen_287 : decode cX3_seen 287 = .ok (.iload 8, 2) := dk_21 8 (dk_at dksX3_seen_12 5 rfl rfl)
theorem dX3_seen_289 : decode cX3_seen 289 = .ok (.invokestatic 389, 3) := dk_184 1 133 (dk_at dksX3_seen_12 7 rfl rfl)
theorem dX3_seen_292 : decode cX3_seen 292 = .ok (.goto 19, 3) := dk_167 0 19 (dk_at dksX3_seen_12 10 rfl rfl)
theorem dX3_seen_295 : decode cX3_seen 295 = .ok (.iload 7, 2) := dk_21 7 (dk_at dksX3_seen_12 13 rfl rfl)
theorem dX3_seen_297 : decode cX3_seen 297 = .ok (.invokestatic 386, 3) := dk_184 1 130 (dk_at dksX3_seen_12 15 rfl rfl)
theorem dX3_seen_300 : decode cX3_seen 300 = .ok (.iload 8, 2) := dk_21 8 (dk_at dksX3_seen_12 18 rfl rfl)
theorem dX3_seen_302 : decode cX3_seen 302 = .ok (.invokestatic 386, 3) := dk_184 1 130 (dk_at dksX3_seen_12 20 rfl rfl)
theorem dX3_seen_305 : decode cX3_seen 305 = .ok (.invokestatic 389, 3) := dk_184 1 133 (dk_at dksX3_seen_13 0 rfl rfl)
theorem dX3_seen_308 : decode cX3_seen 308 = .ok (.invokestatic 386, 3) := dk_184 1 130 (dk_at dksX3_seen_13 3 rfl rfl)
theorem dX3_seen_311 : decode cX3_seen 311 = .ok (.iastore, 1) := dk_79 (dk_at dksX3_seen_13 6 rfl rfl)
theorem dX3_seen_312 : decode cX3_seen 312 = .ok (.iinc 4 1, 3) := dk_132 4 1 (dk_at dksX3_seen_13 7 rfl rfl)
theorem dX3_seen_315 : decode cX3_seen 315 = .ok (.goto (-302), 3) := dk_167 254 210 (dk_at dksX3_seen_13 10 rfl rfl)
theorem dX3_seen_318 : decode cX3_seen 318 = .ok (.aload_n 0, 1) := dk_42 (dk_at dksX3_seen_13 13 rfl rfl)
theorem dX3_seen_319 : decode cX3_seen 319 = .ok (.getfield 43, 3) := dk_180 0 43 (dk_at dksX3_seen_13 14 rfl rfl)
theorem dX3_seen_322 : decode cX3_seen 322 = .ok (.iconst 0, 1) := dk_3 (dk_at dksX3_seen_13 17 rfl rfl)
theorem dX3_seen_323 : decode cX3_seen 323 = .ok (.iaload, 1) := dk_46 (dk_at dksX3_seen_13 18 rfl rfl)
theorem dX3_seen_324 : decode cX3_seen 324 = .ok (.ireturn, 1) := dk_172 (dk_at dksX3_seen_13 19 rfl rfl)
abbrev cX3_turned : ByteArray := prog_18_method_80_code
def yX3_turned : MethodName := ⟨RX3, "turned", "(I)I"⟩
def dkwX3_turned_0 : List UInt8 := [26, 5, 160, 0, 7, 5, 167, 0, 6, 4, 26, 100, 172]
abbrev dktX3_turned_0 : List UInt8 := dkwX3_turned_0 ++ []
theorem dksX3_turned_0 : cX3_turned.data.toList.drop 0 = dktX3_turned_0 := by decide +kernel
theorem dX3_turned_0 : decode cX3_turned 0 = .ok (.iload_n 0, 1) := dk_26 (dk_at dksX3_turned_0 0 rfl rfl)
theorem dX3_turned_1 : decode cX3_turned 1 = .ok (.iconst 2, 1) := dk_5 (dk_at dksX3_turned_0 1 rfl rfl)
theorem dX3_turned_2 : decode cX3_turned 2 = .ok (.if_icmp .ne 7, 3) := dk_160 0 7 (dk_at dksX3_turned_0 2 rfl rfl)
theorem dX3_turned_5 : decode cX3_turned 5 = .ok (.iconst 2, 1) := dk_5 (dk_at dksX3_turned_0 5 rfl rfl)
theorem dX3_turned_6 : decode cX3_turned 6 = .ok (.goto 6, 3) := dk_167 0 6 (dk_at dksX3_turned_0 6 rfl rfl)
theorem dX3_turned_9 : decode cX3_turned 9 = .ok (.iconst 1, 1) := dk_4 (dk_at dksX3_turned_0 9 rfl rfl)
theorem dX3_turned_10 : decode cX3_turned 10 = .ok (.iload_n 0, 1) := dk_26 (dk_at dksX3_turned_0 10 rfl rfl)
theorem dX3_turned_11 : decode cX3_turned 11 = .ok (.isub, 1) := dk_100 (dk_at dksX3_turned_0 11 rfl rfl)
theorem dX3_turned_12 : decode cX3_turned 12 = .ok (.ireturn, 1) := dk_172 (dk_at dksX3_turned_0 12 rfl rfl)
abbrev cX3_andOf : ByteArray := prog_18_method_78_code
def yX3_andOf : MethodName := ⟨RX3, "andOf", "(II)I"⟩
def dkwX3_andOf_1 : List UInt8 := [167, 0, 4, 5, 172]
abbrev dktX3_andOf_1 : List UInt8 := dkwX3_andOf_1 ++ []
def dkwX3_andOf_0 : List UInt8 := [26, 153, 0, 7, 27, 154, 0, 7, 3, 167, 0, 18, 26, 4, 160, 0, 12, 27, 4, 160, 0, 7, 4]
abbrev dktX3_andOf_0 : List UInt8 := dkwX3_andOf_0 ++ dktX3_andOf_1
theorem dksX3_andOf_0 : cX3_andOf.data.toList.drop 0 = dktX3_andOf_0 := by decide +kernel
theorem dksX3_andOf_1 : cX3_andOf.data.toList.drop 23 = dktX3_andOf_1 := dk_seg dksX3_andOf_0 23 rfl rfl
theorem dX3_andOf_0 : decode cX3_andOf 0 = .ok (.iload_n 0, 1) := dk_26 (dk_at dksX3_andOf_0 0 rfl rfl)
theorem dX3_andOf_1 : decode cX3_andOf 1 = .ok (.ifCond .eq 7, 3) := dk_153 0 7 (dk_at dksX3_andOf_0 1 rfl rfl)
theorem dX3_andOf_4 : decode cX3_andOf 4 = .ok (.iload_n 1, 1) := dk_27 (dk_at dksX3_andOf_0 4 rfl rfl)
theorem dX3_andOf_5 : decode cX3_andOf 5 = .ok (.ifCond .ne 7, 3) := dk_154 0 7 (dk_at dksX3_andOf_0 5 rfl rfl)
theorem dX3_andOf_8 : decode cX3_andOf 8 = .ok (.iconst 0, 1) := dk_3 (dk_at dksX3_andOf_0 8 rfl rfl)
theorem dX3_andOf_9 : decode cX3_andOf 9 = .ok (.goto 18, 3) := dk_167 0 18 (dk_at dksX3_andOf_0 9 rfl rfl)
theorem dX3_andOf_12 : decode cX3_andOf 12 = .ok (.iload_n 0, 1) := dk_26 (dk_at dksX3_andOf_0 12 rfl rfl)
theorem dX3_andOf_13 : decode cX3_andOf 13 = .ok (.iconst 1, 1) := dk_4 (dk_at dksX3_andOf_0 13 rfl rfl)
theorem dX3_andOf_14 : decode cX3_andOf 14 = .ok (.if_icmp .ne 12, 3) := dk_160 0 12 (dk_at dksX3_andOf_0 14 rfl rfl)
theorem dX3_andOf_17 : decode cX3_andOf 17 = .ok (.iload_n 1, 1) := dk_27 (dk_at dksX3_andOf_0 17 rfl rfl)
theorem dX3_andOf_18 : decode cX3_andOf 18 = .ok (.iconst 1, 1) := dk_4 (dk_at dksX3_andOf_0 18 rfl rfl)
theorem dX3_andOf_19 : decode cX3_andOf 19 = .ok (.if_icmp .ne 7, 3) := dk_160 0 7 (dk_at dksX3_andOf_0 19 rfl rfl)
theorem dX3_andOf_22 : decode cX3_andOf 22 = .ok (.iconst 1, 1) := dk_4 (dk_at dksX3_andOf_0 22 rfl rfl)
theorem dX3_andOf_23 : decode cX3_andOf 23 = .ok (.goto 4, 3) := dk_167 0 4 (dk_at dksX3_andOf_1 0 rfl rfl)
theorem dX3_andOf_26 : decode cX3_andOf 26 = .ok (.iconst 2, 1) := dk_5 (dk_at dksX3_andOf_1 3 rfl rfl)
theorem dX3_andOf_27 : decode cX3_andOf 27 = .ok (.ireturn, 1) := dk_172 (dk_at dksX3_andOf_1 4 rfl rfl)
abbrev cX3_bar : ByteArray := prog_18_method_83_code
def yX3_bar : MethodName := ⟨RX3, "bar", "(III)I"⟩
def dkwX3_bar_2 : List UInt8 := [172]
abbrev dktX3_bar_2 : List UInt8 := dkwX3_bar_2 ++ []
def dkwX3_bar_1 : List UInt8 := [3, 5, 184, 0, 85, 153, 0, 18, 42, 42, 27, 28, 182, 1, 86, 27, 29, 182, 1, 139, 167, 0, 4, 2]
abbrev dktX3_bar_1 : List UInt8 := dkwX3_bar_1 ++ dktX3_bar_2
def dkwX3_bar_0 : List UInt8 := [42, 27, 182, 1, 124, 153, 0, 42, 28, 3, 42, 27, 182, 1, 105, 4, 100, 184, 0, 85, 153, 0, 27, 29]
abbrev dktX3_bar_0 : List UInt8 := dkwX3_bar_0 ++ dktX3_bar_1
theorem dksX3_bar_0 : cX3_bar.data.toList.drop 0 = dktX3_bar_0 := by decide +kernel
theorem dksX3_bar_1 : cX3_bar.data.toList.drop 24 = dktX3_bar_1 := dk_seg dksX3_bar_0 24 rfl rfl
theorem dksX3_bar_2 : cX3_bar.data.toList.drop 48 = dktX3_bar_2 := dk_seg dksX3_bar_1 24 rfl rfl
theorem dX3_bar_0 : decode cX3_bar 0 = .ok (.aload_n 0, 1) := dk_42 (dk_at dksX3_bar_0 0 rfl rfl)
theorem dX3_bar_1 : decode cX3_bar 1 = .ok (.iload_n 1, 1) := dk_27 (dk_at dksX3_bar_0 1 rfl rfl)
theorem dX3_bar_2 : decode cX3_bar 2 = .ok (.invokevirtual 380, 3) := dk_182 1 124 (dk_at dksX3_bar_0 2 rfl rfl)
theorem dX3_bar_5 : decode cX3_bar 5 = .ok (.ifCond .eq 42, 3) := dk_153 0 42 (dk_at dksX3_bar_0 5 rfl rfl)
theorem dX3_bar_8 : decode cX3_bar 8 = .ok (.iload_n 2, 1) := dk_28 (dk_at dksX3_bar_0 8 rfl rfl)
theorem dX3_bar_9 : decode cX3_bar 9 = .ok (.iconst 0, 1) := dk_3 (dk_at dksX3_bar_0 9 rfl rfl)
theorem dX3_bar_10 : decode cX3_bar 10 = .ok (.aload_n 0, 1) := dk_42 (dk_at dksX3_bar_0 10 rfl rfl)
theorem dX3_bar_11 : decode cX3_bar 11 = .ok (.iload_n 1, 1) := dk_27 (dk_at dksX3_bar_0 11 rfl rfl)
theorem dX3_bar_12 : decode cX3_bar 12 = .ok (.invokevirtual 361, 3) := dk_182 1 105 (dk_at dksX3_bar_0 12 rfl rfl)
theorem dX3_bar_15 : decode cX3_bar 15 = .ok (.iconst 1, 1) := dk_4 (dk_at dksX3_bar_0 15 rfl rfl)
theorem dX3_bar_16 : decode cX3_bar 16 = .ok (.isub, 1) := dk_100 (dk_at dksX3_bar_0 16 rfl rfl)
theorem dX3_bar_17 : decode cX3_bar 17 = .ok (.invokestatic 85, 3) := dk_184 0 85 (dk_at dksX3_bar_0 17 rfl rfl)
theorem dX3_bar_20 : decode cX3_bar 20 = .ok (.ifCond .eq 27, 3) := dk_153 0 27 (dk_at dksX3_bar_0 20 rfl rfl)
theorem dX3_bar_23 : decode cX3_bar 23 = .ok (.iload_n 3, 1) := dk_29 (dk_at dksX3_bar_0 23 rfl rfl)
theorem dX3_bar_24 : decode cX3_bar 24 = .ok (.iconst 0, 1) := dk_3 (dk_at dksX3_bar_1 0 rfl rfl)
theorem dX3_bar_25 : decode cX3_bar 25 = .ok (.iconst 2, 1) := dk_5 (dk_at dksX3_bar_1 1 rfl rfl)
theorem dX3_bar_26 : decode cX3_bar 26 = .ok (.invokestatic 85, 3) := dk_184 0 85 (dk_at dksX3_bar_1 2 rfl rfl)
theorem dX3_bar_29 : decode cX3_bar 29 = .ok (.ifCond .eq 18, 3) := dk_153 0 18 (dk_at dksX3_bar_1 5 rfl rfl)
theorem dX3_bar_32 : decode cX3_bar 32 = .ok (.aload_n 0, 1) := dk_42 (dk_at dksX3_bar_1 8 rfl rfl)
theorem dX3_bar_33 : decode cX3_bar 33 = .ok (.aload_n 0, 1) := dk_42 (dk_at dksX3_bar_1 9 rfl rfl)
theorem dX3_bar_34 : decode cX3_bar 34 = .ok (.iload_n 1, 1) := dk_27 (dk_at dksX3_bar_1 10 rfl rfl)
theorem dX3_bar_35 : decode cX3_bar 35 = .ok (.iload_n 2, 1) := dk_28 (dk_at dksX3_bar_1 11 rfl rfl)
theorem dX3_bar_36 : decode cX3_bar 36 = .ok (.invokevirtual 342, 3) := dk_182 1 86 (dk_at dksX3_bar_1 12 rfl rfl)
theorem dX3_bar_39 : decode cX3_bar 39 = .ok (.iload_n 1, 1) := dk_27 (dk_at dksX3_bar_1 15 rfl rfl)
theorem dX3_bar_40 : decode cX3_bar 40 = .ok (.iload_n 3, 1) := dk_29 (dk_at dksX3_bar_1 16 rfl rfl)
theorem dX3_bar_41 : decode cX3_bar 41 = .ok (.invokevirtual 395, 3) := dk_182 1 139 (dk_at dksX3_bar_1 17 rfl rfl)
theorem dX3_bar_44 : decode cX3_bar 44 = .ok (.goto 4, 3) := dk_167 0 4 (dk_at dksX3_bar_1 20 rfl rfl)
theorem dX3_bar_47 : decode cX3_bar 47 = .ok (.iconst (-1), 1) := dk_2 (dk_at dksX3_bar_1 23 rfl rfl)
theorem dX3_bar_48 : decode cX3_bar 48 = .ok (.ireturn, 1) := dk_172 (dk_at dksX3_bar_2 0 rfl rfl)
abbrev cX3_answer : ByteArray := prog_18_method_88_code
def yX3_answer : MethodName := ⟨RX3, "answer", "(II)I"⟩
def dkwX3_answer_4 : List UInt8 := [28, 28, 4, 160, 0, 7, 4, 167, 0, 4, 3, 182, 1, 151, 42, 182, 1, 154, 172]
abbrev dktX3_answer_4 : List UInt8 := dkwX3_answer_4 ++ []
def dkwX3_answer_3 : List UInt8 := [182, 1, 145, 154, 0, 6, 16, 252, 172, 42, 182, 1, 148, 42, 27, 28, 5, 162, 0, 7, 4, 167, 0, 4]
abbrev dktX3_answer_3 : List UInt8 := dkwX3_answer_3 ++ dktX3_answer_4
def dkwX3_answer_2 : List UInt8 := [180, 0, 23, 3, 27, 96, 46, 28, 160, 0, 6, 16, 253, 172, 28, 5, 162, 0, 15, 42, 27, 28]
abbrev dktX3_answer_2 : List UInt8 := dkwX3_answer_2 ++ dktX3_answer_3
def dkwX3_answer_1 : List UInt8 := [16, 16, 46, 4, 160, 0, 6, 16, 254, 172, 42, 27, 182, 1, 70, 154, 0, 20, 28, 4, 164, 0, 18, 42]
abbrev dktX3_answer_1 : List UInt8 := dkwX3_answer_1 ++ dktX3_answer_2
def dkwX3_answer_0 : List UInt8 := [42, 27, 182, 1, 118, 153, 0, 12, 28, 3, 6, 184, 0, 85, 154, 0, 5, 2, 172, 42, 180, 0, 23]
abbrev dktX3_answer_0 : List UInt8 := dkwX3_answer_0 ++ dktX3_answer_1
theorem dksX3_answer_0 : cX3_answer.data.toList.drop 0 = dktX3_answer_0 := by decide +kernel
theorem dksX3_answer_1 : cX3_answer.data.toList.drop 23 = dktX3_answer_1 := dk_seg dksX3_answer_0 23 rfl rfl
theorem dksX3_answer_2 : cX3_answer.data.toList.drop 47 = dktX3_answer_2 := dk_seg dksX3_answer_1 24 rfl rfl
theorem dksX3_answer_3 : cX3_answer.data.toList.drop 69 = dktX3_answer_3 := dk_seg dksX3_answer_2 22 rfl rfl
theorem dksX3_answer_4 : cX3_answer.data.toList.drop 93 = dktX3_answer_4 := dk_seg dksX3_answer_3 24 rfl rfl
theorem dX3_answer_0 : decode cX3_answer 0 = .ok (.aload_n 0, 1) := dk_42 (dk_at dksX3_answer_0 0 rfl rfl)
theorem dX3_answer_1 : decode cX3_answer 1 = .ok (.iload_n 1, 1) := dk_27 (dk_at dksX3_answer_0 1 rfl rfl)
theorem dX3_answer_2 : decode cX3_answer 2 = .ok (.invokevirtual 374, 3) := dk_182 1 118 (dk_at dksX3_answer_0 2 rfl rfl)
theorem dX3_answer_5 : decode cX3_answer 5 = .ok (.ifCond .eq 12, 3) := dk_153 0 12 (dk_at dksX3_answer_0 5 rfl rfl)
theorem dX3_answer_8 : decode cX3_answer 8 = .ok (.iload_n 2, 1) := dk_28 (dk_at dksX3_answer_0 8 rfl rfl)
theorem dX3_answer_9 : decode cX3_answer 9 = .ok (.iconst 0, 1) := dk_3 (dk_at dksX3_answer_0 9 rfl rfl)
theorem dX3_answer_10 : decode cX3_answer 10 = .ok (.iconst 3, 1) := dk_6 (dk_at dksX3_answer_0 10 rfl rfl)
theorem dX3_answer_11 : decode cX3_answer 11 = .ok (.invokestatic 85, 3) := dk_184 0 85 (dk_at dksX3_answer_0 11 rfl rfl)
theorem dX3_answer_14 : decode cX3_answer 14 = .ok (.ifCond .ne 5, 3) := dk_154 0 5 (dk_at dksX3_answer_0 14 rfl rfl)
theorem dX3_answer_17 : decode cX3_answer 17 = .ok (.iconst (-1), 1) := dk_2 (dk_at dksX3_answer_0 17 rfl rfl)
theorem dX3_answer_18 : decode cX3_answer 18 = .ok (.ireturn, 1) := dk_172 (dk_at dksX3_answer_0 18 rfl rfl)
theorem dX3_answer_19 : decode cX3_answer 19 = .ok (.aload_n 0, 1) := dk_42 (dk_at dksX3_answer_0 19 rfl rfl)
theorem dX3_answer_20 : decode cX3_answer 20 = .ok (.getfield 23, 3) := dk_180 0 23 (dk_at dksX3_answer_0 20 rfl rfl)
theorem dX3_answer_23 : decode cX3_answer 23 = .ok (.bipush 16, 2) := dk_16 16 (dk_at dksX3_answer_1 0 rfl rfl)
theorem dX3_answer_25 : decode cX3_answer 25 = .ok (.iaload, 1) := dk_46 (dk_at dksX3_answer_1 2 rfl rfl)
theorem dX3_answer_26 : decode cX3_answer 26 = .ok (.iconst 1, 1) := dk_4 (dk_at dksX3_answer_1 3 rfl rfl)
theorem dX3_answer_27 : decode cX3_answer 27 = .ok (.if_icmp .ne 6, 3) := dk_160 0 6 (dk_at dksX3_answer_1 4 rfl rfl)
theorem dX3_answer_30 : decode cX3_answer 30 = .ok (.bipush (-2), 2) := dk_16 254 (dk_at dksX3_answer_1 7 rfl rfl)
theorem dX3_answer_32 : decode cX3_answer 32 = .ok (.ireturn, 1) := dk_172 (dk_at dksX3_answer_1 9 rfl rfl)
theorem dX3_answer_33 : decode cX3_answer 33 = .ok (.aload_n 0, 1) := dk_42 (dk_at dksX3_answer_1 10 rfl rfl)
theorem dX3_answer_34 : decode cX3_answer 34 = .ok (.iload_n 1, 1) := dk_27 (dk_at dksX3_answer_1 11 rfl rfl)
theorem dX3_answer_35 : decode cX3_answer 35 = .ok (.invokevirtual 326, 3) := dk_182 1 70 (dk_at dksX3_answer_1 12 rfl rfl)
theorem dX3_answer_38 : decode cX3_answer 38 = .ok (.ifCond .ne 20, 3) := dk_154 0 20 (dk_at dksX3_answer_1 15 rfl rfl)
theorem dX3_answer_41 : decode cX3_answer 41 = .ok (.iload_n 2, 1) := dk_28 (dk_at dksX3_answer_1 18 rfl rfl)
theorem dX3_answer_42 : decode cX3_answer 42 = .ok (.iconst 1, 1) := dk_4 (dk_at dksX3_answer_1 19 rfl rfl)
theorem dX3_answer_43 : decode cX3_answer 43 = .ok (.if_icmp .le 18, 3) := dk_164 0 18 (dk_at dksX3_answer_1 20 rfl rfl)
theorem dX3_answer_46 : decode cX3_answer 46 = .ok (.aload_n 0, 1) := dk_42 (dk_at dksX3_answer_1 23 rfl rfl)
theorem dX3_answer_47 : decode cX3_answer 47 = .ok (.getfield 23, 3) := dk_180 0 23 (dk_at dksX3_answer_2 0 rfl rfl)
theorem dX3_answer_50 : decode cX3_answer 50 = .ok (.iconst 0, 1) := dk_3 (dk_at dksX3_answer_2 3 rfl rfl)
theorem dX3_answer_51 : decode cX3_answer 51 = .ok (.iload_n 1, 1) := dk_27 (dk_at dksX3_answer_2 4 rfl rfl)
theorem dX3_answer_52 : decode cX3_answer 52 = .ok (.iadd, 1) := dk_96 (dk_at dksX3_answer_2 5 rfl rfl)
theorem dX3_answer_53 : decode cX3_answer 53 = .ok (.iaload, 1) := dk_46 (dk_at dksX3_answer_2 6 rfl rfl)
theorem dX3_answer_54 : decode cX3_answer 54 = .ok (.iload_n 2, 1) := dk_28 (dk_at dksX3_answer_2 7 rfl rfl)
theorem dX3_answer_55 : decode cX3_answer 55 = .ok (.if_icmp .ne 6, 3) := dk_160 0 6 (dk_at dksX3_answer_2 8 rfl rfl)
theorem dX3_answer_58 : decode cX3_answer 58 = .ok (.bipush (-3), 2) := dk_16 253 (dk_at dksX3_answer_2 11 rfl rfl)
theorem dX3_answer_60 : decode cX3_answer 60 = .ok (.ireturn, 1) := dk_172 (dk_at dksX3_answer_2 13 rfl rfl)
theorem dX3_answer_61 : decode cX3_answer 61 = .ok (.iload_n 2, 1) := dk_28 (dk_at dksX3_answer_2 14 rfl rfl)
theorem dX3_answer_62 : decode cX3_answer 62 = .ok (.iconst 2, 1) := dk_5 (dk_at dksX3_answer_2 15 rfl rfl)
theorem dX3_answer_63 : decode cX3_answer 63 = .ok (.if_icmp .ge 15, 3) := dk_162 0 15 (dk_at dksX3_answer_2 16 rfl rfl)
theorem dX3_answer_66 : decode cX3_answer 66 = .ok (.aload_n 0, 1) := dk_42 (dk_at dksX3_answer_2 19 rfl rfl)
theorem dX3_answer_67 : decode cX3_answer 67 = .ok (.iload_n 1, 1) := dk_27 (dk_at dksX3_answer_2 20 rfl rfl)
theorem dX3_answer_68 : decode cX3_answer 68 = .ok (.iload_n 2, 1) := dk_28 (dk_at dksX3_answer_2 21 rfl rfl)
theorem dX3_answer_69 : decode cX3_answer 69 = .ok (.invokevirtual 401, 3) := dk_182 1 145 (dk_at dksX3_answer_3 0 rfl rfl)
theorem dX3_answer_72 : decode cX3_answer 72 = .ok (.ifCond .ne 6, 3) := dk_154 0 6 (dk_at dksX3_answer_3 3 rfl rfl)
theorem dX3_answer_75 : decode cX3_answer 75 = .ok (.bipush (-4), 2) := dk_16 252 (dk_at dksX3_answer_3 6 rfl rfl)
theorem dX3_answer_77 : decode cX3_answer 77 = .ok (.ireturn, 1) := dk_172 (dk_at dksX3_answer_3 8 rfl rfl)
theorem dX3_answer_78 : decode cX3_answer 78 = .ok (.aload_n 0, 1) := dk_42 (dk_at dksX3_answer_3 9 rfl rfl)
theorem dX3_answer_79 : decode cX3_answer 79 = .ok (.invokevirtual 404, 3) := dk_182 1 148 (dk_at dksX3_answer_3 10 rfl rfl)
theorem dX3_answer_82 : decode cX3_answer 82 = .ok (.aload_n 0, 1) := dk_42 (dk_at dksX3_answer_3 13 rfl rfl)
theorem dX3_answer_83 : decode cX3_answer 83 = .ok (.iload_n 1, 1) := dk_27 (dk_at dksX3_answer_3 14 rfl rfl)
theorem dX3_answer_84 : decode cX3_answer 84 = .ok (.iload_n 2, 1) := dk_28 (dk_at dksX3_answer_3 15 rfl rfl)
theorem dX3_answer_85 : decode cX3_answer 85 = .ok (.iconst 2, 1) := dk_5 (dk_at dksX3_answer_3 16 rfl rfl)
theorem dX3_answer_86 : decode cX3_answer 86 = .ok (.if_icmp .ge 7, 3) := dk_162 0 7 (dk_at dksX3_answer_3 17 rfl rfl)
theorem dX3_answer_89 : decode cX3_answer 89 = .ok (.iconst 1, 1) := dk_4 (dk_at dksX3_answer_3 20 rfl rfl)
theorem dX3_answer_90 : decode cX3_answer 90 = .ok (.goto 4, 3) := dk_167 0 4 (dk_at dksX3_answer_3 21 rfl rfl)
theorem dX3_answer_93 : decode cX3_answer 93 = .ok (.iload_n 2, 1) := dk_28 (dk_at dksX3_answer_4 0 rfl rfl)
theorem dX3_answer_94 : decode cX3_answer 94 = .ok (.iload_n 2, 1) := dk_28 (dk_at dksX3_answer_4 1 rfl rfl)
theorem dX3_answer_95 : decode cX3_answer 95 = .ok (.iconst 1, 1) := dk_4 (dk_at dksX3_answer_4 2 rfl rfl)
theorem dX3_answer_96 : decode cX3_answer 96 = .ok (.if_icmp .ne 7, 3) := dk_160 0 7 (dk_at dksX3_answer_4 3 rfl rfl)
theorem dX3_answer_99 : decode cX3_answer 99 = .ok (.iconst 1, 1) := dk_4 (dk_at dksX3_answer_4 6 rfl rfl)
theorem dX3_answer_100 : decode cX3_answer 100 = .ok (.goto 4, 3) := dk_167 0 4 (dk_at dksX3_answer_4 7 rfl rfl)
theorem dX3_answer_103 : decode cX3_answer 103 = .ok (.iconst 0, 1) := dk_3 (dk_at dksX3_answer_4 10 rfl rfl)
theorem dX3_answer_104 : decode cX3_answer 104 = .ok (.invokevirtual 407, 3) := dk_182 1 151 (dk_at dksX3_answer_4 11 rfl rfl)
theorem dX3_answer_107 : decode cX3_answer 107 = .ok (.aload_n 0, 1) := dk_42 (dk_at dksX3_answer_4 14 rfl rfl)
theorem dX3_answer_108 : decode cX3_answer 108 = .ok (.invokevirtual 410, 3) := dk_182 1 154 (dk_at dksX3_answer_4 15 rfl rfl)
theorem dX3_answer_111 : decode cX3_answer 111 = .ok (.ireturn, 1) := dk_172 (dk_at dksX3_answer_4 18 rfl rfl)
abbrev cX3_isSomeBy : ByteArray := prog_18_method_86_code
def yX3_isSomeBy : MethodName := ⟨RX3, "isSomeBy", "(II)Z"⟩
def dkwX3_isSomeBy_1 : List UInt8 := [160, 0, 5, 4, 172, 132, 3, 1, 167, 255, 227, 3, 172]
abbrev dktX3_isSomeBy_1 : List UInt8 := dkwX3_isSomeBy_1 ++ []
def dkwX3_isSomeBy_0 : List UInt8 := [3, 62, 29, 17, 1, 0, 162, 0, 28, 42, 29, 182, 1, 142, 153, 0, 14, 29, 27, 122, 4, 126, 28]
abbrev dktX3_isSomeBy_0 : List UInt8 := dkwX3_isSomeBy_0 ++ dktX3_isSomeBy_1
theorem dksX3_isSomeBy_0 : cX3_isSomeBy.data.toList.drop 0 = dktX3_isSomeBy_0 := by decide +kernel
theorem dksX3_isSomeBy_1 : cX3_isSomeBy.data.toList.drop 23 = dktX3_isSomeBy_1 := dk_seg dksX3_isSomeBy_0 23 rfl rfl
theorem dX3_isSomeBy_0 : decode cX3_isSomeBy 0 = .ok (.iconst 0, 1) := dk_3 (dk_at dksX3_isSomeBy_0 0 rfl rfl)
theorem dX3_isSomeBy_1 : decode cX3_isSomeBy 1 = .ok (.istore_n 3, 1) := dk_62 (dk_at dksX3_isSomeBy_0 1 rfl rfl)
theorem dX3_isSomeBy_2 : decode cX3_isSomeBy 2 = .ok (.iload_n 3, 1) := dk_29 (dk_at dksX3_isSomeBy_0 2 rfl rfl)
theorem dX3_isSomeBy_3 : decode cX3_isSomeBy 3 = .ok (.sipush 256, 3) := dk_17 1 0 (dk_at dksX3_isSomeBy_0 3 rfl rfl)
theorem dX3_isSomeBy_6 : decode cX3_isSomeBy 6 = .ok (.if_icmp .ge 28, 3) := dk_162 0 28 (dk_at dksX3_isSomeBy_0 6 rfl rfl)
theorem dX3_isSomeBy_9 : decode cX3_isSomeBy 9 = .ok (.aload_n 0, 1) := dk_42 (dk_at dksX3_isSomeBy_0 9 rfl rfl)
theorem dX3_isSomeBy_10 : decode cX3_isSomeBy 10 = .ok (.iload_n 3, 1) := dk_29 (dk_at dksX3_isSomeBy_0 10 rfl rfl)
theorem dX3_isSomeBy_11 : decode cX3_isSomeBy 11 = .ok (.invokevirtual 398, 3) := dk_182 1 142 (dk_at dksX3_isSomeBy_0 11 rfl rfl)
theorem dX3_isSomeBy_14 : decode cX3_isSomeBy 14 = .ok (.ifCond .eq 14, 3) := dk_153 0 14 (dk_at dksX3_isSomeBy_0 14 rfl rfl)
theorem dX3_isSomeBy_17 : decode cX3_isSomeBy 17 = .ok (.iload_n 3, 1) := dk_29 (dk_at dksX3_isSomeBy_0 17 rfl rfl)
theorem dX3_isSomeBy_18 : decode cX3_isSomeBy 18 = .ok (.iload_n 1, 1) := dk_27 (dk_at dksX3_isSomeBy_0 18 rfl rfl)
theorem dX3_isSomeBy_19 : decode cX3_isSomeBy 19 = .ok (.ishr, 1) := dk_122 (dk_at dksX3_isSomeBy_0 19 rfl rfl)
theorem dX3_isSomeBy_20 : decode cX3_isSomeBy 20 = .ok (.iconst 1, 1) := dk_4 (dk_at dksX3_isSomeBy_0 20 rfl rfl)
theorem dX3_isSomeBy_21 : decode cX3_isSomeBy 21 = .ok (.iand, 1) := dk_126 (dk_at dksX3_isSomeBy_0 21 rfl rfl)
theorem dX3_isSomeBy_22 : decode cX3_isSomeBy 22 = .ok (.iload_n 2, 1) := dk_28 (dk_at dksX3_isSomeBy_0 22 rfl rfl)
theorem dX3_isSomeBy_23 : decode cX3_isSomeBy 23 = .ok (.if_icmp .ne 5, 3) := dk_160 0 5 (dk_at dksX3_isSomeBy_1 0 rfl rfl)
theorem dX3_isSomeBy_26 : decode cX3_isSomeBy 26 = .ok (.iconst 1, 1) := dk_4 (dk_at dksX3_isSomeBy_1 3 rfl rfl)
theorem dX3_isSomeBy_27 : decode cX3_isSomeBy 27 = .ok (.ireturn, 1) := dk_172 (dk_at dksX3_isSomeBy_1 4 rfl rfl)
theorem dX3_isSomeBy_28 : decode cX3_isSomeBy 28 = .ok (.iinc 3 1, 3) := dk_132 3 1 (dk_at dksX3_isSomeBy_1 5 rfl rfl)
theorem dX3_isSomeBy_31 : decode cX3_isSomeBy 31 = .ok (.goto (-29), 3) := dk_167 255 227 (dk_at dksX3_isSomeBy_1 8 rfl rfl)
theorem dX3_isSomeBy_34 : decode cX3_isSomeBy 34 = .ok (.iconst 0, 1) := dk_3 (dk_at dksX3_isSomeBy_1 11 rfl rfl)
theorem dX3_isSomeBy_35 : decode cX3_isSomeBy 35 = .ok (.ireturn, 1) := dk_172 (dk_at dksX3_isSomeBy_1 12 rfl rfl)
abbrev cX3_isLeft : ByteArray := prog_18_method_63_code
def yX3_isLeft : MethodName := ⟨RX3, "isLeft", "(I)Z"⟩
def dkwX3_isLeft_0 : List UInt8 := [42, 180, 0, 55, 3, 27, 184, 1, 55, 172]
abbrev dktX3_isLeft_0 : List UInt8 := dkwX3_isLeft_0 ++ []
theorem dksX3_isLeft_0 : cX3_isLeft.data.toList.drop 0 = dktX3_isLeft_0 := by decide +kernel
theorem dX3_isLeft_0 : decode cX3_isLeft 0 = .ok (.aload_n 0, 1) := dk_42 (dk_at dksX3_isLeft_0 0 rfl rfl)
theorem dX3_isLeft_1 : decode cX3_isLeft 1 = .ok (.getfield 55, 3) := dk_180 0 55 (dk_at dksX3_isLeft_0 1 rfl rfl)
theorem dX3_isLeft_4 : decode cX3_isLeft 4 = .ok (.iconst 0, 1) := dk_3 (dk_at dksX3_isLeft_0 4 rfl rfl)
theorem dX3_isLeft_5 : decode cX3_isLeft 5 = .ok (.iload_n 1, 1) := dk_27 (dk_at dksX3_isLeft_0 5 rfl rfl)
theorem dX3_isLeft_6 : decode cX3_isLeft 6 = .ok (.invokestatic 311, 3) := dk_184 1 55 (dk_at dksX3_isLeft_0 6 rfl rfl)
theorem dX3_isLeft_9 : decode cX3_isLeft 9 = .ok (.ireturn, 1) := dk_172 (dk_at dksX3_isLeft_0 9 rfl rfl)
abbrev cX3_keepsAct : ByteArray := prog_18_method_84_code
def yX3_keepsAct : MethodName := ⟨RX3, "keepsAct", "()V"⟩
def dkwX3_keepsAct_3 : List UInt8 := [42, 180, 0, 23, 27, 46, 79, 132, 1, 1, 167, 255, 227, 42, 89, 180, 1, 31, 4, 96, 181, 1, 31, 177]
abbrev dktX3_keepsAct_3 : List UInt8 := dkwX3_keepsAct_3 ++ []
def dkwX3_keepsAct_2 : List UInt8 := [181, 1, 31, 3, 60, 27, 16, 83, 162, 0, 29, 42, 180, 0, 26, 16, 83, 42, 180, 1, 31, 104, 27, 96]
abbrev dktX3_keepsAct_2 : List UInt8 := dkwX3_keepsAct_2 ++ dktX3_keepsAct_3
def dkwX3_keepsAct_1 : List UInt8 := [16, 83, 100, 42, 180, 0, 26, 27, 46, 79, 132, 1, 1, 167, 255, 231, 42, 89, 180, 1, 31, 4, 100]
abbrev dktX3_keepsAct_1 : List UInt8 := dkwX3_keepsAct_1 ++ dktX3_keepsAct_2
def dkwX3_keepsAct_0 : List UInt8 := [42, 180, 1, 31, 16, 16, 160, 0, 44, 16, 83, 60, 27, 17, 5, 48, 162, 0, 24, 42, 180, 0, 26, 27]
abbrev dktX3_keepsAct_0 : List UInt8 := dkwX3_keepsAct_0 ++ dktX3_keepsAct_1
theorem dksX3_keepsAct_0 : cX3_keepsAct.data.toList.drop 0 = dktX3_keepsAct_0 := by decide +kernel
theorem dksX3_keepsAct_1 : cX3_keepsAct.data.toList.drop 24 = dktX3_keepsAct_1 := dk_seg dksX3_keepsAct_0 24 rfl rfl
theorem dksX3_keepsAct_2 : cX3_keepsAct.data.toList.drop 47 = dktX3_keepsAct_2 := dk_seg dksX3_keepsAct_1 23 rfl rfl
theorem dksX3_keepsAct_3 : cX3_keepsAct.data.toList.drop 71 = dktX3_keepsAct_3 := dk_seg dksX3_keepsAct_2 24 rfl rfl
theorem dX3_keepsAct_0 : decode cX3_keepsAct 0 = .ok (.aload_n 0, 1) := dk_42 (dk_at dksX3_keepsAct_0 0 rfl rfl)
theorem dX3_keepsAct_1 : decode cX3_keepsAct 1 = .ok (.getfield 287, 3) := dk_180 1 31 (dk_at dksX3_keepsAct_0 1 rfl rfl)
theorem dX3_keepsAct_4 : decode cX3_keepsAct 4 = .ok (.bipush 16, 2) := dk_16 16 (dk_at dksX3_keepsAct_0 4 rfl rfl)
theorem dX3_keepsAct_6 : decode cX3_keepsAct 6 = .ok (.if_icmp .ne 44, 3) := dk_160 0 44 (dk_at dksX3_keepsAct_0 6 rfl rfl)
theorem dX3_keepsAct_9 : decode cX3_keepsAct 9 = .ok (.bipush 83, 2) := dk_16 83 (dk_at dksX3_keepsAct_0 9 rfl rfl)
theorem dX3_keepsAct_11 : decode cX3_keepsAct 11 = .ok (.istore_n 1, 1) := dk_60 (dk_at dksX3_keepsAct_0 11 rfl rfl)
theorem dX3_keepsAct_12 : decode cX3_keepsAct 12 = .ok (.iload_n 1, 1) := dk_27 (dk_at dksX3_keepsAct_0 12 rfl rfl)
theorem dX3_keepsAct_13 : decode cX3_keepsAct 13 = .ok (.sipush 1328, 3) := dk_17 5 48 (dk_at dksX3_keepsAct_0 13 rfl rfl)
theorem dX3_keepsAct_16 : decode cX3_keepsAct 16 = .ok (.if_icmp .ge 24, 3) := dk_162 0 24 (dk_at dksX3_keepsAct_0 16 rfl rfl)
theorem dX3_keepsAct_19 : decode cX3_keepsAct 19 = .ok (.aload_n 0, 1) := dk_42 (dk_at dksX3_keepsAct_0 19 rfl rfl)
theorem dX3_keepsAct_20 : decode cX3_keepsAct 20 = .ok (.getfield 26, 3) := dk_180 0 26 (dk_at dksX3_keepsAct_0 20 rfl rfl)
theorem dX3_keepsAct_23 : decode cX3_keepsAct 23 = .ok (.iload_n 1, 1) := dk_27 (dk_at dksX3_keepsAct_0 23 rfl rfl)
theorem dX3_keepsAct_24 : decode cX3_keepsAct 24 = .ok (.bipush 83, 2) := dk_16 83 (dk_at dksX3_keepsAct_1 0 rfl rfl)
theorem dX3_keepsAct_26 : decode cX3_keepsAct 26 = .ok (.isub, 1) := dk_100 (dk_at dksX3_keepsAct_1 2 rfl rfl)
theorem dX3_keepsAct_27 : decode cX3_keepsAct 27 = .ok (.aload_n 0, 1) := dk_42 (dk_at dksX3_keepsAct_1 3 rfl rfl)
theorem dX3_keepsAct_28 : decode cX3_keepsAct 28 = .ok (.getfield 26, 3) := dk_180 0 26 (dk_at dksX3_keepsAct_1 4 rfl rfl)
theorem dX3_keepsAct_31 : decode cX3_keepsAct 31 = .ok (.iload_n 1, 1) := dk_27 (dk_at dksX3_keepsAct_1 7 rfl rfl)
theorem dX3_keepsAct_32 : decode cX3_keepsAct 32 = .ok (.iaload, 1) := dk_46 (dk_at dksX3_keepsAct_1 8 rfl rfl)
theorem dX3_keepsAct_33 : decode cX3_keepsAct 33 = .ok (.iastore, 1) := dk_79 (dk_at dksX3_keepsAct_1 9 rfl rfl)
theorem dX3_keepsAct_34 : decode cX3_keepsAct 34 = .ok (.iinc 1 1, 3) := dk_132 1 1 (dk_at dksX3_keepsAct_1 10 rfl rfl)
theorem dX3_keepsAct_37 : decode cX3_keepsAct 37 = .ok (.goto (-25), 3) := dk_167 255 231 (dk_at dksX3_keepsAct_1 13 rfl rfl)
theorem dX3_keepsAct_40 : decode cX3_keepsAct 40 = .ok (.aload_n 0, 1) := dk_42 (dk_at dksX3_keepsAct_1 16 rfl rfl)
theorem dX3_keepsAct_41 : decode cX3_keepsAct 41 = .ok (.dup, 1) := dk_89 (dk_at dksX3_keepsAct_1 17 rfl rfl)
theorem dX3_keepsAct_42 : decode cX3_keepsAct 42 = .ok (.getfield 287, 3) := dk_180 1 31 (dk_at dksX3_keepsAct_1 18 rfl rfl)
theorem dX3_keepsAct_45 : decode cX3_keepsAct 45 = .ok (.iconst 1, 1) := dk_4 (dk_at dksX3_keepsAct_1 21 rfl rfl)
theorem dX3_keepsAct_46 : decode cX3_keepsAct 46 = .ok (.isub, 1) := dk_100 (dk_at dksX3_keepsAct_1 22 rfl rfl)
theorem dX3_keepsAct_47 : decode cX3_keepsAct 47 = .ok (.putfield 287, 3) := dk_181 1 31 (dk_at dksX3_keepsAct_2 0 rfl rfl)
theorem dX3_keepsAct_50 : decode cX3_keepsAct 50 = .ok (.iconst 0, 1) := dk_3 (dk_at dksX3_keepsAct_2 3 rfl rfl)
theorem dX3_keepsAct_51 : decode cX3_keepsAct 51 = .ok (.istore_n 1, 1) := dk_60 (dk_at dksX3_keepsAct_2 4 rfl rfl)
theorem dX3_keepsAct_52 : decode cX3_keepsAct 52 = .ok (.iload_n 1, 1) := dk_27 (dk_at dksX3_keepsAct_2 5 rfl rfl)
theorem dX3_keepsAct_53 : decode cX3_keepsAct 53 = .ok (.bipush 83, 2) := dk_16 83 (dk_at dksX3_keepsAct_2 6 rfl rfl)
theorem dX3_keepsAct_55 : decode cX3_keepsAct 55 = .ok (.if_icmp .ge 29, 3) := dk_162 0 29 (dk_at dksX3_keepsAct_2 8 rfl rfl)
theorem dX3_keepsAct_58 : decode cX3_keepsAct 58 = .ok (.aload_n 0, 1) := dk_42 (dk_at dksX3_keepsAct_2 11 rfl rfl)
theorem dX3_keepsAct_59 : decode cX3_keepsAct 59 = .ok (.getfield 26, 3) := dk_180 0 26 (dk_at dksX3_keepsAct_2 12 rfl rfl)
theorem dX3_keepsAct_62 : decode cX3_keepsAct 62 = .ok (.bipush 83, 2) := dk_16 83 (dk_at dksX3_keepsAct_2 15 rfl rfl)
theorem dX3_keepsAct_64 : decode cX3_keepsAct 64 = .ok (.aload_n 0, 1) := dk_42 (dk_at dksX3_keepsAct_2 17 rfl rfl)
theorem dX3_keepsAct_65 : decode cX3_keepsAct 65 = .ok (.getfield 287, 3) := dk_180 1 31 (dk_at dksX3_keepsAct_2 18 rfl rfl)
theorem dX3_keepsAct_68 : decode cX3_keepsAct 68 = .ok (.imul, 1) := dk_104 (dk_at dksX3_keepsAct_2 21 rfl rfl)
theorem dX3_keepsAct_69 : decode cX3_keepsAct 69 = .ok (.iload_n 1, 1) := dk_27 (dk_at dksX3_keepsAct_2 22 rfl rfl)
theorem dX3_keepsAct_70 : decode cX3_keepsAct 70 = .ok (.iadd, 1) := dk_96 (dk_at dksX3_keepsAct_2 23 rfl rfl)
theorem dX3_keepsAct_71 : decode cX3_keepsAct 71 = .ok (.aload_n 0, 1) := dk_42 (dk_at dksX3_keepsAct_3 0 rfl rfl)
theorem dX3_keepsAct_72 : decode cX3_keepsAct 72 = .ok (.getfield 23, 3) := dk_180 0 23 (dk_at dksX3_keepsAct_3 1 rfl rfl)
theorem dX3_keepsAct_75 : decode cX3_keepsAct 75 = .ok (.iload_n 1, 1) := dk_27 (dk_at dksX3_keepsAct_3 4 rfl rfl)
theorem dX3_keepsAct_76 : decode cX3_keepsAct 76 = .ok (.iaload, 1) := dk_46 (dk_at dksX3_keepsAct_3 5 rfl rfl)
theorem dX3_keepsAct_77 : decode cX3_keepsAct 77 = .ok (.iastore, 1) := dk_79 (dk_at dksX3_keepsAct_3 6 rfl rfl)
theorem dX3_keepsAct_78 : decode cX3_keepsAct 78 = .ok (.iinc 1 1, 3) := dk_132 1 1 (dk_at dksX3_keepsAct_3 7 rfl rfl)
theorem dX3_keepsAct_81 : decode cX3_keepsAct 81 = .ok (.goto (-29), 3) := dk_167 255 227 (dk_at dksX3_keepsAct_3 10 rfl rfl)
theorem dX3_keepsAct_84 : decode cX3_keepsAct 84 = .ok (.aload_n 0, 1) := dk_42 (dk_at dksX3_keepsAct_3 13 rfl rfl)
theorem dX3_keepsAct_85 : decode cX3_keepsAct 85 = .ok (.dup, 1) := dk_89 (dk_at dksX3_keepsAct_3 14 rfl rfl)
theorem dX3_keepsAct_86 : decode cX3_keepsAct 86 = .ok (.getfield 287, 3) := dk_180 1 31 (dk_at dksX3_keepsAct_3 15 rfl rfl)
theorem dX3_keepsAct_89 : decode cX3_keepsAct 89 = .ok (.iconst 1, 1) := dk_4 (dk_at dksX3_keepsAct_3 18 rfl rfl)
theorem dX3_keepsAct_90 : decode cX3_keepsAct 90 = .ok (.iadd, 1) := dk_96 (dk_at dksX3_keepsAct_3 19 rfl rfl)
theorem dX3_keepsAct_91 : decode cX3_keepsAct 91 = .ok (.putfield 287, 3) := dk_181 1 31 (dk_at dksX3_keepsAct_3 20 rfl rfl)
theorem dX3_keepsAct_94 : decode cX3_keepsAct 94 = .ok (.return_, 1) := dk_177 (dk_at dksX3_keepsAct_3 23 rfl rfl)
abbrev cX3_makes : ByteArray := prog_18_method_87_code
def yX3_makes : MethodName := ⟨RX3, "makes", "(III)V"⟩
def dkwX3_makes_0 : List UInt8 := [42, 180, 0, 23, 3, 27, 96, 28, 79, 42, 180, 0, 23, 16, 8, 27, 96, 29, 79, 42, 182, 1, 52, 177]
abbrev dktX3_makes_0 : List UInt8 := dkwX3_makes_0 ++ []
theorem dksX3_makes_0 : cX3_makes.data.toList.drop 0 = dktX3_makes_0 := by decide +kernel
theorem dX3_makes_0 : decode cX3_makes 0 = .ok (.aload_n 0, 1) := dk_42 (dk_at dksX3_makes_0 0 rfl rfl)
theorem dX3_makes_1 : decode cX3_makes 1 = .ok (.getfield 23, 3) := dk_180 0 23 (dk_at dksX3_makes_0 1 rfl rfl)
theorem dX3_makes_4 : decode cX3_makes 4 = .ok (.iconst 0, 1) := dk_3 (dk_at dksX3_makes_0 4 rfl rfl)
theorem dX3_makes_5 : decode cX3_makes 5 = .ok (.iload_n 1, 1) := dk_27 (dk_at dksX3_makes_0 5 rfl rfl)
theorem dX3_makes_6 : decode cX3_makes 6 = .ok (.iadd, 1) := dk_96 (dk_at dksX3_makes_0 6 rfl rfl)
theorem dX3_makes_7 : decode cX3_makes 7 = .ok (.iload_n 2, 1) := dk_28 (dk_at dksX3_makes_0 7 rfl rfl)
theorem dX3_makes_8 : decode cX3_makes 8 = .ok (.iastore, 1) := dk_79 (dk_at dksX3_makes_0 8 rfl rfl)
theorem dX3_makes_9 : decode cX3_makes 9 = .ok (.aload_n 0, 1) := dk_42 (dk_at dksX3_makes_0 9 rfl rfl)
theorem dX3_makes_10 : decode cX3_makes 10 = .ok (.getfield 23, 3) := dk_180 0 23 (dk_at dksX3_makes_0 10 rfl rfl)
theorem dX3_makes_13 : decode cX3_makes 13 = .ok (.bipush 8, 2) := dk_16 8 (dk_at dksX3_makes_0 13 rfl rfl)
theorem dX3_makes_15 : decode cX3_makes 15 = .ok (.iload_n 1, 1) := dk_27 (dk_at dksX3_makes_0 15 rfl rfl)
theorem dX3_makes_16 : decode cX3_makes 16 = .ok (.iadd, 1) := dk_96 (dk_at dksX3_makes_0 16 rfl rfl)
theorem dX3_makes_17 : decode cX3_makes 17 = .ok (.iload_n 3, 1) := dk_29 (dk_at dksX3_makes_0 17 rfl rfl)
theorem dX3_makes_18 : decode cX3_makes 18 = .ok (.iastore, 1) := dk_79 (dk_at dksX3_makes_0 18 rfl rfl)
theorem dX3_makes_19 : decode cX3_makes 19 = .ok (.aload_n 0, 1) := dk_42 (dk_at dksX3_makes_0 19 rfl rfl)
theorem dX3_makes_20 : decode cX3_makes 20 = .ok (.invokevirtual 308, 3) := dk_182 1 52 (dk_at dksX3_makes_0 20 rfl rfl)
theorem dX3_makes_23 : decode cX3_makes 23 = .ok (.return_, 1) := dk_177 (dk_at dksX3_makes_0 23 rfl rfl)
abbrev cX3_answered : ByteArray := prog_18_method_85_code
def yX3_answered : MethodName := ⟨RX3, "answered", "()I"⟩
def dkwX3_answered_1 : List UInt8 := [153, 0, 7, 4, 167, 0, 4, 3, 96, 60, 132, 2, 1, 167, 255, 224, 27, 172]
abbrev dktX3_answered_1 : List UInt8 := dkwX3_answered_1 ++ []
def dkwX3_answered_0 : List UInt8 := [3, 60, 3, 61, 28, 42, 180, 0, 7, 4, 46, 162, 0, 28, 27, 42, 180, 0, 23, 3, 28, 96, 46]
abbrev dktX3_answered_0 : List UInt8 := dkwX3_answered_0 ++ dktX3_answered_1
theorem dksX3_answered_0 : cX3_answered.data.toList.drop 0 = dktX3_answered_0 := by decide +kernel
theorem dksX3_answered_1 : cX3_answered.data.toList.drop 23 = dktX3_answered_1 := dk_seg dksX3_answered_0 23 rfl rfl
theorem dX3_answered_0 : decode cX3_answered 0 = .ok (.iconst 0, 1) := dk_3 (dk_at dksX3_answered_0 0 rfl rfl)
theorem dX3_answered_1 : decode cX3_answered 1 = .ok (.istore_n 1, 1) := dk_60 (dk_at dksX3_answered_0 1 rfl rfl)
theorem dX3_answered_2 : decode cX3_answered 2 = .ok (.iconst 0, 1) := dk_3 (dk_at dksX3_answered_0 2 rfl rfl)
theorem dX3_answered_3 : decode cX3_answered 3 = .ok (.istore_n 2, 1) := dk_61 (dk_at dksX3_answered_0 3 rfl rfl)
theorem dX3_answered_4 : decode cX3_answered 4 = .ok (.iload_n 2, 1) := dk_28 (dk_at dksX3_answered_0 4 rfl rfl)
theorem dX3_answered_5 : decode cX3_answered 5 = .ok (.aload_n 0, 1) := dk_42 (dk_at dksX3_answered_0 5 rfl rfl)
theorem dX3_answered_6 : decode cX3_answered 6 = .ok (.getfield 7, 3) := dk_180 0 7 (dk_at dksX3_answered_0 6 rfl rfl)
theorem dX3_answered_9 : decode cX3_answered 9 = .ok (.iconst 1, 1) := dk_4 (dk_at dksX3_answered_0 9 rfl rfl)
theorem dX3_answered_10 : decode cX3_answered 10 = .ok (.iaload, 1) := dk_46 (dk_at dksX3_answered_0 10 rfl rfl)
theorem dX3_answered_11 : decode cX3_answered 11 = .ok (.if_icmp .ge 28, 3) := dk_162 0 28 (dk_at dksX3_answered_0 11 rfl rfl)
theorem dX3_answered_14 : decode cX3_answered 14 = .ok (.iload_n 1, 1) := dk_27 (dk_at dksX3_answered_0 14 rfl rfl)
theorem dX3_answered_15 : decode cX3_answered 15 = .ok (.aload_n 0, 1) := dk_42 (dk_at dksX3_answered_0 15 rfl rfl)
theorem dX3_answered_16 : decode cX3_answered 16 = .ok (.getfield 23, 3) := dk_180 0 23 (dk_at dksX3_answered_0 16 rfl rfl)
theorem dX3_answered_19 : decode cX3_answered 19 = .ok (.iconst 0, 1) := dk_3 (dk_at dksX3_answered_0 19 rfl rfl)
theorem dX3_answered_20 : decode cX3_answered 20 = .ok (.iload_n 2, 1) := dk_28 (dk_at dksX3_answered_0 20 rfl rfl)
theorem dX3_answered_21 : decode cX3_answered 21 = .ok (.iadd, 1) := dk_96 (dk_at dksX3_answered_0 21 rfl rfl)
theorem dX3_answered_22 : decode cX3_answered 22 = .ok (.iaload, 1) := dk_46 (dk_at dksX3_answered_0 22 rfl rfl)
theorem dX3_answered_23 : decode cX3_answered 23 = .ok (.ifCond .eq 7, 3) := dk_153 0 7 (dk_at dksX3_answered_1 0 rfl rfl)
theorem dX3_answered_26 : decode cX3_answered 26 = .ok (.iconst 1, 1) := dk_4 (dk_at dksX3_answered_1 3 rfl rfl)
theorem dX3_answered_27 : decode cX3_answered 27 = .ok (.goto 4, 3) := dk_167 0 4 (dk_at dksX3_answered_1 4 rfl rfl)
theorem dX3_answered_30 : decode cX3_answered 30 = .ok (.iconst 0, 1) := dk_3 (dk_at dksX3_answered_1 7 rfl rfl)
theorem dX3_answered_31 : decode cX3_answered 31 = .ok (.iadd, 1) := dk_96 (dk_at dksX3_answered_1 8 rfl rfl)
theorem dX3_answered_32 : decode cX3_answered 32 = .ok (.istore_n 1, 1) := dk_60 (dk_at dksX3_answered_1 9 rfl rfl)
theorem dX3_answered_33 : decode cX3_answered 33 = .ok (.iinc 2 1, 3) := dk_132 2 1 (dk_at dksX3_answered_1 10 rfl rfl)
theorem dX3_answered_36 : decode cX3_answered 36 = .ok (.goto (-32), 3) := dk_167 255 224 (dk_at dksX3_answered_1 13 rfl rfl)
theorem dX3_answered_39 : decode cX3_answered 39 = .ok (.iload_n 1, 1) := dk_27 (dk_at dksX3_answered_1 16 rfl rfl)
theorem dX3_answered_40 : decode cX3_answered 40 = .ok (.ireturn, 1) := dk_172 (dk_at dksX3_answered_1 17 rfl rfl)
abbrev cX3_withdraw : ByteArray := prog_18_method_89_code
def yX3_withdraw : MethodName := ⟨RX3, "withdraw", "(I)I"⟩
def dkwX3_withdraw_2 : List UInt8 := [182, 1, 151, 42, 182, 1, 154, 172]
abbrev dktX3_withdraw_2 : List UInt8 := dkwX3_withdraw_2 ++ []
def dkwX3_withdraw_1 : List UInt8 := [42, 180, 0, 23, 3, 27, 96, 46, 4, 159, 0, 6, 16, 253, 172, 42, 182, 1, 148, 42, 27, 3, 3]
abbrev dktX3_withdraw_1 : List UInt8 := dkwX3_withdraw_1 ++ dktX3_withdraw_2
def dkwX3_withdraw_0 : List UInt8 := [42, 27, 182, 1, 118, 154, 0, 5, 2, 172, 42, 180, 0, 23, 16, 16, 46, 4, 160, 0, 6, 16, 254, 172]
abbrev dktX3_withdraw_0 : List UInt8 := dkwX3_withdraw_0 ++ dktX3_withdraw_1
theorem dksX3_withdraw_0 : cX3_withdraw.data.toList.drop 0 = dktX3_withdraw_0 := by decide +kernel
theorem dksX3_withdraw_1 : cX3_withdraw.data.toList.drop 24 = dktX3_withdraw_1 := dk_seg dksX3_withdraw_0 24 rfl rfl
theorem dksX3_withdraw_2 : cX3_withdraw.data.toList.drop 47 = dktX3_withdraw_2 := dk_seg dksX3_withdraw_1 23 rfl rfl
theorem dX3_withdraw_0 : decode cX3_withdraw 0 = .ok (.aload_n 0, 1) := dk_42 (dk_at dksX3_withdraw_0 0 rfl rfl)
theorem dX3_withdraw_1 : decode cX3_withdraw 1 = .ok (.iload_n 1, 1) := dk_27 (dk_at dksX3_withdraw_0 1 rfl rfl)
theorem dX3_withdraw_2 : decode cX3_withdraw 2 = .ok (.invokevirtual 374, 3) := dk_182 1 118 (dk_at dksX3_withdraw_0 2 rfl rfl)
theorem dX3_withdraw_5 : decode cX3_withdraw 5 = .ok (.ifCond .ne 5, 3) := dk_154 0 5 (dk_at dksX3_withdraw_0 5 rfl rfl)
theorem dX3_withdraw_8 : decode cX3_withdraw 8 = .ok (.iconst (-1), 1) := dk_2 (dk_at dksX3_withdraw_0 8 rfl rfl)
theorem dX3_withdraw_9 : decode cX3_withdraw 9 = .ok (.ireturn, 1) := dk_172 (dk_at dksX3_withdraw_0 9 rfl rfl)
theorem dX3_withdraw_10 : decode cX3_withdraw 10 = .ok (.aload_n 0, 1) := dk_42 (dk_at dksX3_withdraw_0 10 rfl rfl)
theorem dX3_withdraw_11 : decode cX3_withdraw 11 = .ok (.getfield 23, 3) := dk_180 0 23 (dk_at dksX3_withdraw_0 11 rfl rfl)
theorem dX3_withdraw_14 : decode cX3_withdraw 14 = .ok (.bipush 16, 2) := dk_16 16 (dk_at dksX3_withdraw_0 14 rfl rfl)
theorem dX3_withdraw_16 : decode cX3_withdraw 16 = .ok (.iaload, 1) := dk_46 (dk_at dksX3_withdraw_0 16 rfl rfl)
theorem dX3_withdraw_17 : decode cX3_withdraw 17 = .ok (.iconst 1, 1) := dk_4 (dk_at dksX3_withdraw_0 17 rfl rfl)
theorem dX3_withdraw_18 : decode cX3_withdraw 18 = .ok (.if_icmp .ne 6, 3) := dk_160 0 6 (dk_at dksX3_withdraw_0 18 rfl rfl)
theorem dX3_withdraw_21 : decode cX3_withdraw 21 = .ok (.bipush (-2), 2) := dk_16 254 (dk_at dksX3_withdraw_0 21 rfl rfl)
theorem dX3_withdraw_23 : decode cX3_withdraw 23 = .ok (.ireturn, 1) := dk_172 (dk_at dksX3_withdraw_0 23 rfl rfl)
theorem dX3_withdraw_24 : decode cX3_withdraw 24 = .ok (.aload_n 0, 1) := dk_42 (dk_at dksX3_withdraw_1 0 rfl rfl)
theorem dX3_withdraw_25 : decode cX3_withdraw 25 = .ok (.getfield 23, 3) := dk_180 0 23 (dk_at dksX3_withdraw_1 1 rfl rfl)
theorem dX3_withdraw_28 : decode cX3_withdraw 28 = .ok (.iconst 0, 1) := dk_3 (dk_at dksX3_withdraw_1 4 rfl rfl)
theorem dX3_withdraw_29 : decode cX3_withdraw 29 = .ok (.iload_n 1, 1) := dk_27 (dk_at dksX3_withdraw_1 5 rfl rfl)
theorem dX3_withdraw_30 : decode cX3_withdraw 30 = .ok (.iadd, 1) := dk_96 (dk_at dksX3_withdraw_1 6 rfl rfl)
theorem dX3_withdraw_31 : decode cX3_withdraw 31 = .ok (.iaload, 1) := dk_46 (dk_at dksX3_withdraw_1 7 rfl rfl)
theorem dX3_withdraw_32 : decode cX3_withdraw 32 = .ok (.iconst 1, 1) := dk_4 (dk_at dksX3_withdraw_1 8 rfl rfl)
theorem dX3_withdraw_33 : decode cX3_withdraw 33 = .ok (.if_icmp .eq 6, 3) := dk_159 0 6 (dk_at dksX3_withdraw_1 9 rfl rfl)
theorem dX3_withdraw_36 : decode cX3_withdraw 36 = .ok (.bipush (-3), 2) := dk_16 253 (dk_at dksX3_withdraw_1 12 rfl rfl)
theorem dX3_withdraw_38 : decode cX3_withdraw 38 = .ok (.ireturn, 1) := dk_172 (dk_at dksX3_withdraw_1 14 rfl rfl)
theorem dX3_withdraw_39 : decode cX3_withdraw 39 = .ok (.aload_n 0, 1) := dk_42 (dk_at dksX3_withdraw_1 15 rfl rfl)
theorem dX3_withdraw_40 : decode cX3_withdraw 40 = .ok (.invokevirtual 404, 3) := dk_182 1 148 (dk_at dksX3_withdraw_1 16 rfl rfl)
theorem dX3_withdraw_43 : decode cX3_withdraw 43 = .ok (.aload_n 0, 1) := dk_42 (dk_at dksX3_withdraw_1 19 rfl rfl)
theorem dX3_withdraw_44 : decode cX3_withdraw 44 = .ok (.iload_n 1, 1) := dk_27 (dk_at dksX3_withdraw_1 20 rfl rfl)
theorem dX3_withdraw_45 : decode cX3_withdraw 45 = .ok (.iconst 0, 1) := dk_3 (dk_at dksX3_withdraw_1 21 rfl rfl)
theorem dX3_withdraw_46 : decode cX3_withdraw 46 = .ok (.iconst 0, 1) := dk_3 (dk_at dksX3_withdraw_1 22 rfl rfl)
theorem dX3_withdraw_47 : decode cX3_withdraw 47 = .ok (.invokevirtual 407, 3) := dk_182 1 151 (dk_at dksX3_withdraw_2 0 rfl rfl)
theorem dX3_withdraw_50 : decode cX3_withdraw 50 = .ok (.aload_n 0, 1) := dk_42 (dk_at dksX3_withdraw_2 3 rfl rfl)
theorem dX3_withdraw_51 : decode cX3_withdraw 51 = .ok (.invokevirtual 410, 3) := dk_182 1 154 (dk_at dksX3_withdraw_2 4 rfl rfl)
theorem dX3_withdraw_54 : decode cX3_withdraw 54 = .ok (.ireturn, 1) := dk_172 (dk_at dksX3_withdraw_2 7 rfl rfl)
abbrev cX3_close : ByteArray := prog_18_method_91_code
def yX3_close : MethodName := ⟨RX3, "close", "()I"⟩
def dkwX3_close_5 : List UInt8 := [60, 132, 2, 1, 167, 255, 158, 42, 180, 0, 23, 16, 16, 4, 79, 27, 172]
abbrev dktX3_close_5 : List UInt8 := dkwX3_close_5 ++ []
def dkwX3_close_4 : List UInt8 := [153, 0, 8, 21, 4, 167, 0, 4, 3, 182, 1, 151, 27, 21, 5, 153, 0, 7, 4, 167, 0, 4, 3, 96]
abbrev dktX3_close_4 : List UInt8 := dkwX3_close_4 ++ dktX3_close_5
def dkwX3_close_3 : List UInt8 := [28, 21, 4, 182, 1, 145, 54, 5, 42, 28, 21, 5, 153, 0, 7, 4, 167, 0, 4, 6, 21, 5]
abbrev dktX3_close_3 : List UInt8 := dkwX3_close_3 ++ dktX3_close_4
def dkwX3_close_2 : List UInt8 := [154, 0, 71, 29, 2, 160, 0, 6, 167, 0, 63, 42, 29, 8, 182, 1, 83, 28, 122, 4, 126, 54, 4, 42]
abbrev dktX3_close_2 : List UInt8 := dkwX3_close_2 ++ dktX3_close_3
def dkwX3_close_1 : List UInt8 := [180, 0, 7, 4, 46, 162, 0, 94, 42, 28, 182, 1, 157, 62, 42, 180, 0, 23, 3, 28, 96, 46]
abbrev dktX3_close_1 : List UInt8 := dkwX3_close_1 ++ dktX3_close_2
def dkwX3_close_0 : List UInt8 := [42, 180, 0, 23, 16, 16, 46, 4, 160, 0, 6, 16, 254, 172, 42, 182, 1, 148, 3, 60, 3, 61, 28, 42]
abbrev dktX3_close_0 : List UInt8 := dkwX3_close_0 ++ dktX3_close_1
theorem dksX3_close_0 : cX3_close.data.toList.drop 0 = dktX3_close_0 := by decide +kernel
theorem dksX3_close_1 : cX3_close.data.toList.drop 24 = dktX3_close_1 := dk_seg dksX3_close_0 24 rfl rfl
theorem dksX3_close_2 : cX3_close.data.toList.drop 46 = dktX3_close_2 := dk_seg dksX3_close_1 22 rfl rfl
theorem dksX3_close_3 : cX3_close.data.toList.drop 70 = dktX3_close_3 := dk_seg dksX3_close_2 24 rfl rfl
theorem dksX3_close_4 : cX3_close.data.toList.drop 92 = dktX3_close_4 := dk_seg dksX3_close_3 22 rfl rfl
theorem dksX3_close_5 : cX3_close.data.toList.drop 116 = dktX3_close_5 := dk_seg dksX3_close_4 24 rfl rfl
theorem dX3_close_0 : decode cX3_close 0 = .ok (.aload_n 0, 1) := dk_42 (dk_at dksX3_close_0 0 rfl rfl)
theorem dX3_close_1 : decode cX3_close 1 = .ok (.getfield 23, 3) := dk_180 0 23 (dk_at dksX3_close_0 1 rfl rfl)
theorem dX3_close_4 : decode cX3_close 4 = .ok (.bipush 16, 2) := dk_16 16 (dk_at dksX3_close_0 4 rfl rfl)
theorem dX3_close_6 : decode cX3_close 6 = .ok (.iaload, 1) := dk_46 (dk_at dksX3_close_0 6 rfl rfl)
theorem dX3_close_7 : decode cX3_close 7 = .ok (.iconst 1, 1) := dk_4 (dk_at dksX3_close_0 7 rfl rfl)
theorem dX3_close_8 : decode cX3_close 8 = .ok (.if_icmp .ne 6, 3) := dk_160 0 6 (dk_at dksX3_close_0 8 rfl rfl)
theorem dX3_close_11 : decode cX3_close 11 = .ok (.bipush (-2), 2) := dk_16 254 (dk_at dksX3_close_0 11 rfl rfl)
theorem dX3_close_13 : decode cX3_close 13 = .ok (.ireturn, 1) := dk_172 (dk_at dksX3_close_0 13 rfl rfl)
theorem dX3_close_14 : decode cX3_close 14 = .ok (.aload_n 0, 1) := dk_42 (dk_at dksX3_close_0 14 rfl rfl)
theorem dX3_close_15 : decode cX3_close 15 = .ok (.invokevirtual 404, 3) := dk_182 1 148 (dk_at dksX3_close_0 15 rfl rfl)
theorem dX3_close_18 : decode cX3_close 18 = .ok (.iconst 0, 1) := dk_3 (dk_at dksX3_close_0 18 rfl rfl)
theorem dX3_close_19 : decode cX3_close 19 = .ok (.istore_n 1, 1) := dk_60 (dk_at dksX3_close_0 19 rfl rfl)
theorem dX3_close_20 : decode cX3_close 20 = .ok (.iconst 0, 1) := dk_3 (dk_at dksX3_close_0 20 rfl rfl)
theorem dX3_close_21 : decode cX3_close 21 = .ok (.istore_n 2, 1) := dk_61 (dk_at dksX3_close_0 21 rfl rfl)
theorem dX3_close_22 : decode cX3_close 22 = .ok (.iload_n 2, 1) := dk_28 (dk_at dksX3_close_0 22 rfl rfl)
theorem dX3_close_23 : decode cX3_close 23 = .ok (.aload_n 0, 1) := dk_42 (dk_at dksX3_close_0 23 rfl rfl)
theorem dX3_close_24 : decode cX3_close 24 = .ok (.getfield 7, 3) := dk_180 0 7 (dk_at dksX3_close_1 0 rfl rfl)
theorem dX3_close_27 : decode cX3_close 27 = .ok (.iconst 1, 1) := dk_4 (dk_at dksX3_close_1 3 rfl rfl)
theorem dX3_close_28 : decode cX3_close 28 = .ok (.iaload, 1) := dk_46 (dk_at dksX3_close_1 4 rfl rfl)
theorem dX3_close_29 : decode cX3_close 29 = .ok (.if_icmp .ge 94, 3) := dk_162 0 94 (dk_at dksX3_close_1 5 rfl rfl)
theorem dX3_close_32 : decode cX3_close 32 = .ok (.aload_n 0, 1) := dk_42 (dk_at dksX3_close_1 8 rfl rfl)
theorem dX3_close_33 : decode cX3_close 33 = .ok (.iload_n 2, 1) := dk_28 (dk_at dksX3_close_1 9 rfl rfl)
theorem dX3_close_34 : decode cX3_close 34 = .ok (.invokevirtual 413, 3) := dk_182 1 157 (dk_at dksX3_close_1 10 rfl rfl)
theorem dX3_close_37 : decode cX3_close 37 = .ok (.istore_n 3, 1) := dk_62 (dk_at dksX3_close_1 13 rfl rfl)
theorem dX3_close_38 : decode cX3_close 38 = .ok (.aload_n 0, 1) := dk_42 (dk_at dksX3_close_1 14 rfl rfl)
theorem dX3_close_39 : decode cX3_close 39 = .ok (.getfield 23, 3) := dk_180 0 23 (dk_at dksX3_close_1 15 rfl rfl)
theorem dX3_close_42 : decode cX3_close 42 = .ok (.iconst 0, 1) := dk_3 (dk_at dksX3_close_1 18 rfl rfl)
theorem dX3_close_43 : decode cX3_close 43 = .ok (.iload_n 2, 1) := dk_28 (dk_at dksX3_close_1 19 rfl rfl)
theorem dX3_close_44 : decode cX3_close 44 = .ok (.iadd, 1) := dk_96 (dk_at dksX3_close_1 20 rfl rfl)
theorem dX3_close_45 : decode cX3_close 45 = .ok (.iaload, 1) := dk_46 (dk_at dksX3_close_1 21 rfl rfl)
theorem dX3_close_46 : decode cX3_close 46 = .ok (.ifCond .ne 71, 3) := dk_154 0 71 (dk_at dksX3_close_2 0 rfl rfl)
theorem dX3_close_49 : decode cX3_close 49 = .ok (.iload_n 3, 1) := dk_29 (dk_at dksX3_close_2 3 rfl rfl)
theorem dX3_close_50 : decode cX3_close 50 = .ok (.iconst (-1), 1) := dk_2 (dk_at dksX3_close_2 4 rfl rfl)
theorem dX3_close_51 : decode cX3_close 51 = .ok (.if_icmp .ne 6, 3) := dk_160 0 6 (dk_at dksX3_close_2 5 rfl rfl)
theorem dX3_close_54 : decode cX3_close 54 = .ok (.goto 63, 3) := dk_167 0 63 (dk_at dksX3_close_2 8 rfl rfl)
theorem dX3_close_57 : decode cX3_close 57 = .ok (.aload_n 0, 1) := dk_42 (dk_at dksX3_close_2 11 rfl rfl)
theorem dX3_close_58 : decode cX3_close 58 = .ok (.iload_n 3, 1) := dk_29 (dk_at dksX3_close_2 12 rfl rfl)
theorem dX3_close_59 : decode cX3_close 59 = .ok (.iconst 5, 1) := dk_8 (dk_at dksX3_close_2 13 rfl rfl)
theorem dX3_close_60 : decode cX3_close 60 = .ok (.invokevirtual 339, 3) := dk_182 1 83 (dk_at dksX3_close_2 14 rfl rfl)
theorem dX3_close_63 : decode cX3_close 63 = .ok (.iload_n 2, 1) := dk_28 (dk_at dksX3_close_2 17 rfl rfl)
theorem dX3_close_64 : decode cX3_close 64 = .ok (.ishr, 1) := dk_122 (dk_at dksX3_close_2 18 rfl rfl)
theorem dX3_close_65 : decode cX3_close 65 = .ok (.iconst 1, 1) := dk_4 (dk_at dksX3_close_2 19 rfl rfl)
theorem dX3_close_66 : decode cX3_close 66 = .ok (.iand, 1) := dk_126 (dk_at dksX3_close_2 20 rfl rfl)
theorem dX3_close_67 : decode cX3_close 67 = .ok (.istore 4, 2) := dk_54 4 (dk_at dksX3_close_2 21 rfl rfl)
theorem dX3_close_69 : decode cX3_close 69 = .ok (.aload_n 0, 1) := dk_42 (dk_at dksX3_close_2 23 rfl rfl)
theorem dX3_close_70 : decode cX3_close 70 = .ok (.iload_n 2, 1) := dk_28 (dk_at dksX3_close_3 0 rfl rfl)
theorem dX3_close_71 : decode cX3_close 71 = .ok (.iload 4, 2) := dk_21 4 (dk_at dksX3_close_3 1 rfl rfl)
theorem dX3_close_73 : decode cX3_close 73 = .ok (.invokevirtual 401, 3) := dk_182 1 145 (dk_at dksX3_close_3 3 rfl rfl)
theorem dX3_close_76 : decode cX3_close 76 = .ok (.istore 5, 2) := dk_54 5 (dk_at dksX3_close_3 6 rfl rfl)
theorem dX3_close_78 : decode cX3_close 78 = .ok (.aload_n 0, 1) := dk_42 (dk_at dksX3_close_3 8 rfl rfl)
theorem dX3_close_79 : decode cX3_close 79 = .ok (.iload_n 2, 1) := dk_28 (dk_at dksX3_close_3 9 rfl rfl)
theorem dX3_close_80 : decode cX3_close 80 = .ok (.iload 5, 2) := dk_21 5 (dk_at dksX3_close_3 10 rfl rfl)
theorem dX3_close_82 : decode cX3_close 82 = .ok (.ifCond .eq 7, 3) := dk_153 0 7 (dk_at dksX3_close_3 12 rfl rfl)
theorem dX3_close_85 : decode cX3_close 85 = .ok (.iconst 1, 1) := dk_4 (dk_at dksX3_close_3 15 rfl rfl)
theorem dX3_close_86 : decode cX3_close 86 = .ok (.goto 4, 3) := dk_167 0 4 (dk_at dksX3_close_3 16 rfl rfl)
theorem dX3_close_89 : decode cX3_close 89 = .ok (.iconst 3, 1) := dk_6 (dk_at dksX3_close_3 19 rfl rfl)
theorem dX3_close_90 : decode cX3_close 90 = .ok (.iload 5, 2) := dk_21 5 (dk_at dksX3_close_3 20 rfl rfl)
theorem dX3_close_92 : decode cX3_close 92 = .ok (.ifCond .eq 8, 3) := dk_153 0 8 (dk_at dksX3_close_4 0 rfl rfl)
theorem dX3_close_95 : decode cX3_close 95 = .ok (.iload 4, 2) := dk_21 4 (dk_at dksX3_close_4 3 rfl rfl)
theorem dX3_close_97 : decode cX3_close 97 = .ok (.goto 4, 3) := dk_167 0 4 (dk_at dksX3_close_4 5 rfl rfl)
theorem dX3_close_100 : decode cX3_close 100 = .ok (.iconst 0, 1) := dk_3 (dk_at dksX3_close_4 8 rfl rfl)
theorem dX3_close_101 : decode cX3_close 101 = .ok (.invokevirtual 407, 3) := dk_182 1 151 (dk_at dksX3_close_4 9 rfl rfl)
theorem dX3_close_104 : decode cX3_close 104 = .ok (.iload_n 1, 1) := dk_27 (dk_at dksX3_close_4 12 rfl rfl)
theorem dX3_close_105 : decode cX3_close 105 = .ok (.iload 5, 2) := dk_21 5 (dk_at dksX3_close_4 13 rfl rfl)
theorem dX3_close_107 : decode cX3_close 107 = .ok (.ifCond .eq 7, 3) := dk_153 0 7 (dk_at dksX3_close_4 15 rfl rfl)
theorem dX3_close_110 : decode cX3_close 110 = .ok (.iconst 1, 1) := dk_4 (dk_at dksX3_close_4 18 rfl rfl)
theorem dX3_close_111 : decode cX3_close 111 = .ok (.goto 4, 3) := dk_167 0 4 (dk_at dksX3_close_4 19 rfl rfl)
theorem dX3_close_114 : decode cX3_close 114 = .ok (.iconst 0, 1) := dk_3 (dk_at dksX3_close_4 22 rfl rfl)
theorem dX3_close_115 : decode cX3_close 115 = .ok (.iadd, 1) := dk_96 (dk_at dksX3_close_4 23 rfl rfl)
theorem dX3_close_116 : decode cX3_close 116 = .ok (.istore_n 1, 1) := dk_60 (dk_at dksX3_close_5 0 rfl rfl)
theorem dX3_close_117 : decode cX3_close 117 = .ok (.iinc 2 1, 3) := dk_132 2 1 (dk_at dksX3_close_5 1 rfl rfl)
theorem dX3_close_120 : decode cX3_close 120 = .ok (.goto (-98), 3) := dk_167 255 158 (dk_at dksX3_close_5 4 rfl rfl)
theorem dX3_close_123 : decode cX3_close 123 = .ok (.aload_n 0, 1) := dk_42 (dk_at dksX3_close_5 7 rfl rfl)
theorem dX3_close_124 : decode cX3_close 124 = .ok (.getfield 23, 3) := dk_180 0 23 (dk_at dksX3_close_5 8 rfl rfl)
theorem dX3_close_127 : decode cX3_close 127 = .ok (.bipush 16, 2) := dk_16 16 (dk_at dksX3_close_5 11 rfl rfl)
theorem dX3_close_129 : decode cX3_close 129 = .ok (.iconst 1, 1) := dk_4 (dk_at dksX3_close_5 13 rfl rfl)
theorem dX3_close_130 : decode cX3_close 130 = .ok (.iastore, 1) := dk_79 (dk_at dksX3_close_5 14 rfl rfl)
theorem dX3_close_131 : decode cX3_close 131 = .ok (.iload_n 1, 1) := dk_27 (dk_at dksX3_close_5 15 rfl rfl)
theorem dX3_close_132 : decode cX3_close 132 = .ok (.ireturn, 1) := dk_172 (dk_at dksX3_close_5 16 rfl rfl)
abbrev cX3_firstSayer : ByteArray := prog_18_method_90_code
def yX3_firstSayer : MethodName := ⟨RX3, "firstSayer", "(I)I"⟩
def dkwX3_firstSayer_1 : List UInt8 := [28, 7, 182, 1, 83, 27, 184, 0, 239, 153, 0, 5, 28, 172, 132, 2, 1, 167, 255, 217, 2, 172]
abbrev dktX3_firstSayer_1 : List UInt8 := dkwX3_firstSayer_1 ++ []
def dkwX3_firstSayer_0 : List UInt8 := [3, 61, 28, 42, 180, 0, 23, 16, 18, 46, 162, 0, 34, 42, 28, 16, 6, 182, 1, 83, 154, 0, 18, 42]
abbrev dktX3_firstSayer_0 : List UInt8 := dkwX3_firstSayer_0 ++ dktX3_firstSayer_1
theorem dksX3_firstSayer_0 : cX3_firstSayer.data.toList.drop 0 = dktX3_firstSayer_0 := by decide +kernel
theorem dksX3_firstSayer_1 : cX3_firstSayer.data.toList.drop 24 = dktX3_firstSayer_1 := dk_seg dksX3_firstSayer_0 24 rfl rfl
theorem dX3_firstSayer_0 : decode cX3_firstSayer 0 = .ok (.iconst 0, 1) := dk_3 (dk_at dksX3_firstSayer_0 0 rfl rfl)
theorem dX3_firstSayer_1 : decode cX3_firstSayer 1 = .ok (.istore_n 2, 1) := dk_61 (dk_at dksX3_firstSayer_0 1 rfl rfl)
theorem dX3_firstSayer_2 : decode cX3_firstSayer 2 = .ok (.iload_n 2, 1) := dk_28 (dk_at dksX3_firstSayer_0 2 rfl rfl)
theorem dX3_firstSayer_3 : decode cX3_firstSayer 3 = .ok (.aload_n 0, 1) := dk_42 (dk_at dksX3_firstSayer_0 3 rfl rfl)
theorem dX3_firstSayer_4 : decode cX3_firstSayer 4 = .ok (.getfield 23, 3) := dk_180 0 23 (dk_at dksX3_firstSayer_0 4 rfl rfl)
theorem dX3_firstSayer_7 : decode cX3_firstSayer 7 = .ok (.bipush 18, 2) := dk_16 18 (dk_at dksX3_firstSayer_0 7 rfl rfl)
theorem dX3_firstSayer_9 : decode cX3_firstSayer 9 = .ok (.iaload, 1) := dk_46 (dk_at dksX3_firstSayer_0 9 rfl rfl)
theorem dX3_firstSayer_10 : decode cX3_firstSayer 10 = .ok (.if_icmp .ge 34, 3) := dk_162 0 34 (dk_at dksX3_firstSayer_0 10 rfl rfl)
theorem dX3_firstSayer_13 : decode cX3_firstSayer 13 = .ok (.aload_n 0, 1) := dk_42 (dk_at dksX3_firstSayer_0 13 rfl rfl)
theorem dX3_firstSayer_14 : decode cX3_firstSayer 14 = .ok (.iload_n 2, 1) := dk_28 (dk_at dksX3_firstSayer_0 14 rfl rfl)
theorem dX3_firstSayer_15 : decode cX3_firstSayer 15 = .ok (.bipush 6, 2) := dk_16 6 (dk_at dksX3_firstSayer_0 15 rfl rfl)
theorem dX3_firstSayer_17 : decode cX3_firstSayer 17 = .ok (.invokevirtual 339, 3) := dk_182 1 83 (dk_at dksX3_firstSayer_0 17 rfl rfl)
theorem dX3_firstSayer_20 : decode cX3_firstSayer 20 = .ok (.ifCond .ne 18, 3) := dk_154 0 18 (dk_at dksX3_firstSayer_0 20 rfl rfl)
theorem dX3_firstSayer_23 : decode cX3_firstSayer 23 = .ok (.aload_n 0, 1) := dk_42 (dk_at dksX3_firstSayer_0 23 rfl rfl)
theorem dX3_firstSayer_24 : decode cX3_firstSayer 24 = .ok (.iload_n 2, 1) := dk_28 (dk_at dksX3_firstSayer_1 0 rfl rfl)
theorem dX3_firstSayer_25 : decode cX3_firstSayer 25 = .ok (.iconst 4, 1) := dk_7 (dk_at dksX3_firstSayer_1 1 rfl rfl)
theorem dX3_firstSayer_26 : decode cX3_firstSayer 26 = .ok (.invokevirtual 339, 3) := dk_182 1 83 (dk_at dksX3_firstSayer_1 2 rfl rfl)
theorem dX3_firstSayer_29 : decode cX3_firstSayer 29 = .ok (.iload_n 1, 1) := dk_27 (dk_at dksX3_firstSayer_1 5 rfl rfl)
theorem dX3_firstSayer_30 : decode cX3_firstSayer 30 = .ok (.invokestatic 239, 3) := dk_184 0 239 (dk_at dksX3_firstSayer_1 6 rfl rfl)
theorem dX3_firstSayer_33 : decode cX3_firstSayer 33 = .ok (.ifCond .eq 5, 3) := dk_153 0 5 (dk_at dksX3_firstSayer_1 9 rfl rfl)
theorem dX3_firstSayer_36 : decode cX3_firstSayer 36 = .ok (.iload_n 2, 1) := dk_28 (dk_at dksX3_firstSayer_1 12 rfl rfl)
theorem dX3_firstSayer_37 : decode cX3_firstSayer 37 = .ok (.ireturn, 1) := dk_172 (dk_at dksX3_firstSayer_1 13 rfl rfl)
theorem dX3_firstSayer_38 : decode cX3_firstSayer 38 = .ok (.iinc 2 1, 3) := dk_132 2 1 (dk_at dksX3_firstSayer_1 14 rfl rfl)
theorem dX3_firstSayer_41 : decode cX3_firstSayer 41 = .ok (.goto (-39), 3) := dk_167 255 217 (dk_at dksX3_firstSayer_1 17 rfl rfl)
theorem dX3_firstSayer_44 : decode cX3_firstSayer 44 = .ok (.iconst (-1), 1) := dk_2 (dk_at dksX3_firstSayer_1 20 rfl rfl)
theorem dX3_firstSayer_45 : decode cX3_firstSayer 45 = .ok (.ireturn, 1) := dk_172 (dk_at dksX3_firstSayer_1 21 rfl rfl)
abbrev cX3_find : ByteArray := prog_18_method_92_code
def yX3_find : MethodName := ⟨RX3, "find", "(IZ)I"⟩
def dkwX3_find_3 : List UInt8 := [182, 1, 151, 42, 180, 0, 7, 4, 46, 42, 182, 1, 73, 184, 1, 59, 100, 172]
abbrev dktX3_find_3 : List UInt8 := dkwX3_find_3 ++ []
def dkwX3_find_2 : List UInt8 := [154, 0, 6, 16, 252, 172, 42, 182, 1, 148, 42, 27, 7, 28, 153, 0, 7, 4, 167, 0, 4, 3]
abbrev dktX3_find_2 : List UInt8 := dkwX3_find_2 ++ dktX3_find_3
def dkwX3_find_1 : List UInt8 := [27, 182, 1, 70, 153, 0, 6, 16, 253, 172, 42, 27, 28, 153, 0, 7, 4, 167, 0, 4, 3, 182, 1, 145]
abbrev dktX3_find_1 : List UInt8 := dkwX3_find_1 ++ dktX3_find_2
def dkwX3_find_0 : List UInt8 := [42, 27, 182, 1, 118, 154, 0, 5, 2, 172, 42, 180, 0, 23, 16, 16, 46, 154, 0, 6, 16, 254, 172, 42]
abbrev dktX3_find_0 : List UInt8 := dkwX3_find_0 ++ dktX3_find_1
theorem dksX3_find_0 : cX3_find.data.toList.drop 0 = dktX3_find_0 := by decide +kernel
theorem dksX3_find_1 : cX3_find.data.toList.drop 24 = dktX3_find_1 := dk_seg dksX3_find_0 24 rfl rfl
theorem dksX3_find_2 : cX3_find.data.toList.drop 48 = dktX3_find_2 := dk_seg dksX3_find_1 24 rfl rfl
theorem dksX3_find_3 : cX3_find.data.toList.drop 70 = dktX3_find_3 := dk_seg dksX3_find_2 22 rfl rfl
theorem dX3_find_0 : decode cX3_find 0 = .ok (.aload_n 0, 1) := dk_42 (dk_at dksX3_find_0 0 rfl rfl)
theorem dX3_find_1 : decode cX3_find 1 = .ok (.iload_n 1, 1) := dk_27 (dk_at dksX3_find_0 1 rfl rfl)
theorem dX3_find_2 : decode cX3_find 2 = .ok (.invokevirtual 374, 3) := dk_182 1 118 (dk_at dksX3_find_0 2 rfl rfl)
theorem dX3_find_5 : decode cX3_find 5 = .ok (.ifCond .ne 5, 3) := dk_154 0 5 (dk_at dksX3_find_0 5 rfl rfl)
theorem dX3_find_8 : decode cX3_find 8 = .ok (.iconst (-1), 1) := dk_2 (dk_at dksX3_find_0 8 rfl rfl)
theorem dX3_find_9 : decode cX3_find 9 = .ok (.ireturn, 1) := dk_172 (dk_at dksX3_find_0 9 rfl rfl)
theorem dX3_find_10 : decode cX3_find 10 = .ok (.aload_n 0, 1) := dk_42 (dk_at dksX3_find_0 10 rfl rfl)
theorem dX3_find_11 : decode cX3_find 11 = .ok (.getfield 23, 3) := dk_180 0 23 (dk_at dksX3_find_0 11 rfl rfl)
theorem dX3_find_14 : decode cX3_find 14 = .ok (.bipush 16, 2) := dk_16 16 (dk_at dksX3_find_0 14 rfl rfl)
theorem dX3_find_16 : decode cX3_find 16 = .ok (.iaload, 1) := dk_46 (dk_at dksX3_find_0 16 rfl rfl)
theorem dX3_find_17 : decode cX3_find 17 = .ok (.ifCond .ne 6, 3) := dk_154 0 6 (dk_at dksX3_find_0 17 rfl rfl)
theorem dX3_find_20 : decode cX3_find 20 = .ok (.bipush (-2), 2) := dk_16 254 (dk_at dksX3_find_0 20 rfl rfl)
theorem dX3_find_22 : decode cX3_find 22 = .ok (.ireturn, 1) := dk_172 (dk_at dksX3_find_0 22 rfl rfl)
theorem dX3_find_23 : decode cX3_find 23 = .ok (.aload_n 0, 1) := dk_42 (dk_at dksX3_find_0 23 rfl rfl)
theorem dX3_find_24 : decode cX3_find 24 = .ok (.iload_n 1, 1) := dk_27 (dk_at dksX3_find_1 0 rfl rfl)
theorem dX3_find_25 : decode cX3_find 25 = .ok (.invokevirtual 326, 3) := dk_182 1 70 (dk_at dksX3_find_1 1 rfl rfl)
theorem dX3_find_28 : decode cX3_find 28 = .ok (.ifCond .eq 6, 3) := dk_153 0 6 (dk_at dksX3_find_1 4 rfl rfl)
theorem dX3_find_31 : decode cX3_find 31 = .ok (.bipush (-3), 2) := dk_16 253 (dk_at dksX3_find_1 7 rfl rfl)
theorem dX3_find_33 : decode cX3_find 33 = .ok (.ireturn, 1) := dk_172 (dk_at dksX3_find_1 9 rfl rfl)
theorem dX3_find_34 : decode cX3_find 34 = .ok (.aload_n 0, 1) := dk_42 (dk_at dksX3_find_1 10 rfl rfl)
theorem dX3_find_35 : decode cX3_find 35 = .ok (.iload_n 1, 1) := dk_27 (dk_at dksX3_find_1 11 rfl rfl)
theorem dX3_find_36 : decode cX3_find 36 = .ok (.iload_n 2, 1) := dk_28 (dk_at dksX3_find_1 12 rfl rfl)
theorem dX3_find_37 : decode cX3_find 37 = .ok (.ifCond .eq 7, 3) := dk_153 0 7 (dk_at dksX3_find_1 13 rfl rfl)
theorem dX3_find_40 : decode cX3_find 40 = .ok (.iconst 1, 1) := dk_4 (dk_at dksX3_find_1 16 rfl rfl)
theorem dX3_find_41 : decode cX3_find 41 = .ok (.goto 4, 3) := dk_167 0 4 (dk_at dksX3_find_1 17 rfl rfl)
theorem dX3_find_44 : decode cX3_find 44 = .ok (.iconst 0, 1) := dk_3 (dk_at dksX3_find_1 20 rfl rfl)
theorem dX3_find_45 : decode cX3_find 45 = .ok (.invokevirtual 401, 3) := dk_182 1 145 (dk_at dksX3_find_1 21 rfl rfl)
theorem dX3_find_48 : decode cX3_find 48 = .ok (.ifCond .ne 6, 3) := dk_154 0 6 (dk_at dksX3_find_2 0 rfl rfl)
theorem dX3_find_51 : decode cX3_find 51 = .ok (.bipush (-4), 2) := dk_16 252 (dk_at dksX3_find_2 3 rfl rfl)
theorem dX3_find_53 : decode cX3_find 53 = .ok (.ireturn, 1) := dk_172 (dk_at dksX3_find_2 5 rfl rfl)
theorem dX3_find_54 : decode cX3_find 54 = .ok (.aload_n 0, 1) := dk_42 (dk_at dksX3_find_2 6 rfl rfl)
theorem dX3_find_55 : decode cX3_find 55 = .ok (.invokevirtual 404, 3) := dk_182 1 148 (dk_at dksX3_find_2 7 rfl rfl)
theorem dX3_find_58 : decode cX3_find 58 = .ok (.aload_n 0, 1) := dk_42 (dk_at dksX3_find_2 10 rfl rfl)
theorem dX3_find_59 : decode cX3_find 59 = .ok (.iload_n 1, 1) := dk_27 (dk_at dksX3_find_2 11 rfl rfl)
theorem dX3_find_60 : decode cX3_find 60 = .ok (.iconst 4, 1) := dk_7 (dk_at dksX3_find_2 12 rfl rfl)
theorem dX3_find_61 : decode cX3_find 61 = .ok (.iload_n 2, 1) := dk_28 (dk_at dksX3_find_2 13 rfl rfl)
theorem dX3_find_62 : decode cX3_find 62 = .ok (.ifCond .eq 7, 3) := dk_153 0 7 (dk_at dksX3_find_2 14 rfl rfl)
theorem dX3_find_65 : decode cX3_find 65 = .ok (.iconst 1, 1) := dk_4 (dk_at dksX3_find_2 17 rfl rfl)
theorem dX3_find_66 : decode cX3_find 66 = .ok (.goto 4, 3) := dk_167 0 4 (dk_at dksX3_find_2 18 rfl rfl)
theorem dX3_find_69 : decode cX3_find 69 = .ok (.iconst 0, 1) := dk_3 (dk_at dksX3_find_2 21 rfl rfl)
theorem dX3_find_70 : decode cX3_find 70 = .ok (.invokevirtual 407, 3) := dk_182 1 151 (dk_at dksX3_find_3 0 rfl rfl)
theorem dX3_find_73 : decode cX3_find 73 = .ok (.aload_n 0, 1) := dk_42 (dk_at dksX3_find_3 3 rfl rfl)
theorem dX3_find_74 : decode cX3_find 74 = .ok (.getfield 7, 3) := dk_180 0 7 (dk_at dksX3_find_3 4 rfl rfl)
theorem dX3_find_77 : decode cX3_find 77 = .ok (.iconst 1, 1) := dk_4 (dk_at dksX3_find_3 7 rfl rfl)
theorem dX3_find_78 : decode cX3_find 78 = .ok (.iaload, 1) := dk_46 (dk_at dksX3_find_3 8 rfl rfl)
theorem dX3_find_79 : decode cX3_find 79 = .ok (.aload_n 0, 1) := dk_42 (dk_at dksX3_find_3 9 rfl rfl)
theorem dX3_find_80 : decode cX3_find 80 = .ok (.invokevirtual 329, 3) := dk_182 1 73 (dk_at dksX3_find_3 10 rfl rfl)
theorem dX3_find_83 : decode cX3_find 83 = .ok (.invokestatic 315, 3) := dk_184 1 59 (dk_at dksX3_find_3 13 rfl rfl)
theorem dX3_find_86 : decode cX3_find 86 = .ok (.isub, 1) := dk_100 (dk_at dksX3_find_3 16 rfl rfl)
theorem dX3_find_87 : decode cX3_find 87 = .ok (.ireturn, 1) := dk_172 (dk_at dksX3_find_3 17 rfl rfl)
abbrev cX3_say : ByteArray := prog_18_method_93_code
def yX3_say : MethodName := ⟨RX3, "say", "(III)I"⟩
def dkwX3_say_7 : List UInt8 := [160, 0, 9, 4, 28, 120, 167, 0, 4, 3, 128, 182, 1, 27, 42, 27, 7, 182, 1, 83, 184, 1, 59, 172]
abbrev dktX3_say_7 : List UInt8 := dkwX3_say_7 ++ []
def dkwX3_say_6 : List UInt8 := [167, 0, 4, 3, 128, 182, 1, 27, 42, 27, 8, 42, 27, 8, 182, 1, 83, 21, 5, 126, 29, 4]
abbrev dktX3_say_6 : List UInt8 := dkwX3_say_6 ++ dktX3_say_7
def dkwX3_say_5 : List UInt8 := [130, 54, 5, 42, 27, 7, 42, 27, 7, 182, 1, 83, 21, 5, 126, 29, 5, 162, 0, 9, 4, 28, 120]
abbrev dktX3_say_5 : List UInt8 := dkwX3_say_5 ++ dktX3_say_6
def dkwX3_say_4 : List UInt8 := [42, 180, 0, 23, 16, 8, 28, 96, 46, 29, 159, 0, 6, 16, 252, 172, 42, 182, 1, 148, 4, 28, 120, 2]
abbrev dktX3_say_4 : List UInt8 := dkwX3_say_4 ++ dktX3_say_5
def dkwX3_say_3 : List UInt8 := [54, 4, 21, 4, 29, 160, 0, 6, 16, 253, 172, 29, 5, 162, 0, 27, 42, 28, 182, 1, 70, 153, 0, 19]
abbrev dktX3_say_3 : List UInt8 := dkwX3_say_3 ++ dktX3_say_4
def dkwX3_say_2 : List UInt8 := [182, 1, 83, 28, 184, 0, 239, 154, 0, 7, 5, 167, 0, 13, 42, 27, 8, 182, 1, 83, 28, 122, 4, 126]
abbrev dktX3_say_2 : List UInt8 := dkwX3_say_2 ++ dktX3_say_3
def dkwX3_say_1 : List UInt8 := [154, 0, 5, 2, 172, 42, 27, 16, 6, 182, 1, 83, 4, 160, 0, 6, 16, 254, 172, 42, 27, 7]
abbrev dktX3_say_1 : List UInt8 := dkwX3_say_1 ++ dktX3_say_2
def dkwX3_say_0 : List UInt8 := [42, 27, 182, 1, 124, 153, 0, 20, 42, 28, 182, 1, 118, 153, 0, 12, 29, 3, 5, 184, 0, 85]
abbrev dktX3_say_0 : List UInt8 := dkwX3_say_0 ++ dktX3_say_1
theorem dksX3_say_0 : cX3_say.data.toList.drop 0 = dktX3_say_0 := by decide +kernel
theorem dksX3_say_1 : cX3_say.data.toList.drop 22 = dktX3_say_1 := dk_seg dksX3_say_0 22 rfl rfl
theorem dksX3_say_2 : cX3_say.data.toList.drop 44 = dktX3_say_2 := dk_seg dksX3_say_1 22 rfl rfl
theorem dksX3_say_3 : cX3_say.data.toList.drop 68 = dktX3_say_3 := dk_seg dksX3_say_2 24 rfl rfl
theorem dksX3_say_4 : cX3_say.data.toList.drop 92 = dktX3_say_4 := dk_seg dksX3_say_3 24 rfl rfl
theorem dksX3_say_5 : cX3_say.data.toList.drop 116 = dktX3_say_5 := dk_seg dksX3_say_4 24 rfl rfl
theorem dksX3_say_6 : cX3_say.data.toList.drop 139 = dktX3_say_6 := dk_seg dksX3_say_5 23 rfl rfl
theorem dksX3_say_7 : cX3_say.data.toList.drop 161 = dktX3_say_7 := dk_seg dksX3_say_6 22 rfl rfl
theorem dX3_say_0 : decode cX3_say 0 = .ok (.aload_n 0, 1) := dk_42 (dk_at dksX3_say_0 0 rfl rfl)
theorem dX3_say_1 : decode cX3_say 1 = .ok (.iload_n 1, 1) := dk_27 (dk_at dksX3_say_0 1 rfl rfl)
theorem dX3_say_2 : decode cX3_say 2 = .ok (.invokevirtual 380, 3) := dk_182 1 124 (dk_at dksX3_say_0 2 rfl rfl)
theorem dX3_say_5 : decode cX3_say 5 = .ok (.ifCond .eq 20, 3) := dk_153 0 20 (dk_at dksX3_say_0 5 rfl rfl)
theorem dX3_say_8 : decode cX3_say 8 = .ok (.aload_n 0, 1) := dk_42 (dk_at dksX3_say_0 8 rfl rfl)
theorem dX3_say_9 : decode cX3_say 9 = .ok (.iload_n 2, 1) := dk_28 (dk_at dksX3_say_0 9 rfl rfl)
theorem dX3_say_10 : decode cX3_say 10 = .ok (.invokevirtual 374, 3) := dk_182 1 118 (dk_at dksX3_say_0 10 rfl rfl)
theorem dX3_say_13 : decode cX3_say 13 = .ok (.ifCond .eq 12, 3) := dk_153 0 12 (dk_at dksX3_say_0 13 rfl rfl)
theorem dX3_say_16 : decode cX3_say 16 = .ok (.iload_n 3, 1) := dk_29 (dk_at dksX3_say_0 16 rfl rfl)
theorem dX3_say_17 : decode cX3_say 17 = .ok (.iconst 0, 1) := dk_3 (dk_at dksX3_say_0 17 rfl rfl)
theorem dX3_say_18 : decode cX3_say 18 = .ok (.iconst 2, 1) := dk_5 (dk_at dksX3_say_0 18 rfl rfl)
theorem dX3_say_19 : decode cX3_say 19 = .ok (.invokestatic 85, 3) := dk_184 0 85 (dk_at dksX3_say_0 19 rfl rfl)
theorem dX3_say_22 : decode cX3_say 22 = .ok (.ifCond .ne 5, 3) := dk_154 0 5 (dk_at dksX3_say_1 0 rfl rfl)
theorem dX3_say_25 : decode cX3_say 25 = .ok (.iconst (-1), 1) := dk_2 (dk_at dksX3_say_1 3 rfl rfl)
theorem dX3_say_26 : decode cX3_say 26 = .ok (.ireturn, 1) := dk_172 (dk_at dksX3_say_1 4 rfl rfl)
theorem dX3_say_27 : decode cX3_say 27 = .ok (.aload_n 0, 1) := dk_42 (dk_at dksX3_say_1 5 rfl rfl)
theorem dX3_say_28 : decode cX3_say 28 = .ok (.iload_n 1, 1) := dk_27 (dk_at dksX3_say_1 6 rfl rfl)
theorem dX3_say_29 : decode cX3_say 29 = .ok (.bipush 6, 2) := dk_16 6 (dk_at dksX3_say_1 7 rfl rfl)
theorem dX3_say_31 : decode cX3_say 31 = .ok (.invokevirtual 339, 3) := dk_182 1 83 (dk_at dksX3_say_1 9 rfl rfl)
theorem dX3_say_34 : decode cX3_say 34 = .ok (.iconst 1, 1) := dk_4 (dk_at dksX3_say_1 12 rfl rfl)
theorem dX3_say_35 : decode cX3_say 35 = .ok (.if_icmp .ne 6, 3) := dk_160 0 6 (dk_at dksX3_say_1 13 rfl rfl)
theorem dX3_say_38 : decode cX3_say 38 = .ok (.bipush (-2), 2) := dk_16 254 (dk_at dksX3_say_1 16 rfl rfl)
theorem dX3_say_40 : decode cX3_say 40 = .ok (.ireturn, 1) := dk_172 (dk_at dksX3_say_1 18 rfl rfl)
theorem dX3_say_41 : decode cX3_say 41 = .ok (.aload_n 0, 1) := dk_42 (dk_at dksX3_say_1 19 rfl rfl)
theorem dX3_say_42 : decode cX3_say 42 = .ok (.iload_n 1, 1) := dk_27 (dk_at dksX3_say_1 20 rfl rfl)
theorem dX3_say_43 : decode cX3_say 43 = .ok (.iconst 4, 1) := dk_7 (dk_at dksX3_say_1 21 rfl rfl)
theorem dX3_say_44 : decode cX3_say 44 = .ok (.invokevirtual 339, 3) := dk_182 1 83 (dk_at dksX3_say_2 0 rfl rfl)
theorem dX3_say_47 : decode cX3_say 47 = .ok (.iload_n 2, 1) := dk_28 (dk_at dksX3_say_2 3 rfl rfl)
theorem dX3_say_48 : decode cX3_say 48 = .ok (.invokestatic 239, 3) := dk_184 0 239 (dk_at dksX3_say_2 4 rfl rfl)
theorem dX3_say_51 : decode cX3_say 51 = .ok (.ifCond .ne 7, 3) := dk_154 0 7 (dk_at dksX3_say_2 7 rfl rfl)
theorem dX3_say_54 : decode cX3_say 54 = .ok (.iconst 2, 1) := dk_5 (dk_at dksX3_say_2 10 rfl rfl)
theorem dX3_say_55 : decode cX3_say 55 = .ok (.goto 13, 3) := dk_167 0 13 (dk_at dksX3_say_2 11 rfl rfl)
theorem dX3_say_58 : decode cX3_say 58 = .ok (.aload_n 0, 1) := dk_42 (dk_at dksX3_say_2 14 rfl rfl)
theorem dX3_say_59 : decode cX3_say 59 = .ok (.iload_n 1, 1) := dk_27 (dk_at dksX3_say_2 15 rfl rfl)
theorem dX3_say_60 : decode cX3_say 60 = .ok (.iconst 5, 1) := dk_8 (dk_at dksX3_say_2 16 rfl rfl)
theorem dX3_say_61 : decode cX3_say 61 = .ok (.invokevirtual 339, 3) := dk_182 1 83 (dk_at dksX3_say_2 17 rfl rfl)
theorem dX3_say_64 : decode cX3_say 64 = .ok (.iload_n 2, 1) := dk_28 (dk_at dksX3_say_2 20 rfl rfl)
theorem dX3_say_65 : decode cX3_say 65 = .ok (.ishr, 1) := dk_122 (dk_at dksX3_say_2 21 rfl rfl)
theorem dX3_say_66 : decode cX3_say 66 = .ok (.iconst 1, 1) := dk_4 (dk_at dksX3_say_2 22 rfl rfl)
theorem dX3_say_67 : decode cX3_say 67 = .ok (.iand, 1) := dk_126 (dk_at dksX3_say_2 23 rfl rfl)
theorem dX3_say_68 : decode cX3_say 68 = .ok (.istore 4, 2) := dk_54 4 (dk_at dksX3_say_3 0 rfl rfl)
theorem dX3_say_70 : decode cX3_say 70 = .ok (.iload 4, 2) := dk_21 4 (dk_at dksX3_say_3 2 rfl rfl)
theorem dX3_say_72 : decode cX3_say 72 = .ok (.iload_n 3, 1) := dk_29 (dk_at dksX3_say_3 4 rfl rfl)
theorem dX3_say_73 : decode cX3_say 73 = .ok (.if_icmp .ne 6, 3) := dk_160 0 6 (dk_at dksX3_say_3 5 rfl rfl)
theorem dX3_say_76 : decode cX3_say 76 = .ok (.bipush (-3), 2) := dk_16 253 (dk_at dksX3_say_3 8 rfl rfl)
theorem dX3_say_78 : decode cX3_say 78 = .ok (.ireturn, 1) := dk_172 (dk_at dksX3_say_3 10 rfl rfl)
theorem dX3_say_79 : decode cX3_say 79 = .ok (.iload_n 3, 1) := dk_29 (dk_at dksX3_say_3 11 rfl rfl)
theorem dX3_say_80 : decode cX3_say 80 = .ok (.iconst 2, 1) := dk_5 (dk_at dksX3_say_3 12 rfl rfl)
theorem dX3_say_81 : decode cX3_say 81 = .ok (.if_icmp .ge 27, 3) := dk_162 0 27 (dk_at dksX3_say_3 13 rfl rfl)
theorem dX3_say_84 : decode cX3_say 84 = .ok (.aload_n 0, 1) := dk_42 (dk_at dksX3_say_3 16 rfl rfl)
theorem dX3_say_85 : decode cX3_say 85 = .ok (.iload_n 2, 1) := dk_28 (dk_at dksX3_say_3 17 rfl rfl)
theorem dX3_say_86 : decode cX3_say 86 = .ok (.invokevirtual 326, 3) := dk_182 1 70 (dk_at dksX3_say_3 18 rfl rfl)
theorem dX3_say_89 : decode cX3_say 89 = .ok (.ifCond .eq 19, 3) := dk_153 0 19 (dk_at dksX3_say_3 21 rfl rfl)
theorem dX3_say_92 : decode cX3_say 92 = .ok (.aload_n 0, 1) := dk_42 (dk_at dksX3_say_4 0 rfl rfl)
theorem dX3_say_93 : decode cX3_say 93 = .ok (.getfield 23, 3) := dk_180 0 23 (dk_at dksX3_say_4 1 rfl rfl)
theorem dX3_say_96 : decode cX3_say 96 = .ok (.bipush 8, 2) := dk_16 8 (dk_at dksX3_say_4 4 rfl rfl)
theorem dX3_say_98 : decode cX3_say 98 = .ok (.iload_n 2, 1) := dk_28 (dk_at dksX3_say_4 6 rfl rfl)
theorem dX3_say_99 : decode cX3_say 99 = .ok (.iadd, 1) := dk_96 (dk_at dksX3_say_4 7 rfl rfl)
theorem dX3_say_100 : decode cX3_say 100 = .ok (.iaload, 1) := dk_46 (dk_at dksX3_say_4 8 rfl rfl)
theorem dX3_say_101 : decode cX3_say 101 = .ok (.iload_n 3, 1) := dk_29 (dk_at dksX3_say_4 9 rfl rfl)
theorem dX3_say_102 : decode cX3_say 102 = .ok (.if_icmp .eq 6, 3) := dk_159 0 6 (dk_at dksX3_say_4 10 rfl rfl)
theorem dX3_say_105 : decode cX3_say 105 = .ok (.bipush (-4), 2) := dk_16 252 (dk_at dksX3_say_4 13 rfl rfl)
theorem dX3_say_107 : decode cX3_say 107 = .ok (.ireturn, 1) := dk_172 (dk_at dksX3_say_4 15 rfl rfl)
theorem dX3_say_108 : decode cX3_say 108 = .ok (.aload_n 0, 1) := dk_42 (dk_at dksX3_say_4 16 rfl rfl)
theorem dX3_say_109 : decode cX3_say 109 = .ok (.invokevirtual 404, 3) := dk_182 1 148 (dk_at dksX3_say_4 17 rfl rfl)
theorem dX3_say_112 : decode cX3_say 112 = .ok (.iconst 1, 1) := dk_4 (dk_at dksX3_say_4 20 rfl rfl)
theorem dX3_say_113 : decode cX3_say 113 = .ok (.iload_n 2, 1) := dk_28 (dk_at dksX3_say_4 21 rfl rfl)
theorem dX3_say_114 : decode cX3_say 114 = .ok (.ishl, 1) := dk_120 (dk_at dksX3_say_4 22 rfl rfl)
theorem dX3_say_115 : decode cX3_say 115 = .ok (.iconst (-1), 1) := dk_2 (dk_at dksX3_say_4 23 rfl rfl)
theorem dX3_say_116 : decode cX3_say 116 = .ok (.ixor, 1) := dk_130 (dk_at dksX3_say_5 0 rfl rfl)
theorem dX3_say_117 : decode cX3_say 117 = .ok (.istore 5, 2) := dk_54 5 (dk_at dksX3_say_5 1 rfl rfl)
theorem dX3_say_119 : decode cX3_say 119 = .ok (.aload_n 0, 1) := dk_42 (dk_at dksX3_say_5 3 rfl rfl)
theorem dX3_say_120 : decode cX3_say 120 = .ok (.iload_n 1, 1) := dk_27 (dk_at dksX3_say_5 4 rfl rfl)
theorem dX3_say_121 : decode cX3_say 121 = .ok (.iconst 4, 1) := dk_7 (dk_at dksX3_say_5 5 rfl rfl)
theorem dX3_say_122 : decode cX3_say 122 = .ok (.aload_n 0, 1) := dk_42 (dk_at dksX3_say_5 6 rfl rfl)
theorem dX3_say_123 : decode cX3_say 123 = .ok (.iload_n 1, 1) := dk_27 (dk_at dksX3_say_5 7 rfl rfl)
theorem dX3_say_124 : decode cX3_say 124 = .ok (.iconst 4, 1) := dk_7 (dk_at dksX3_say_5 8 rfl rfl)
theorem dX3_say_125 : decode cX3_say 125 = .ok (.invokevirtual 339, 3) := dk_182 1 83 (dk_at dksX3_say_5 9 rfl rfl)
theorem dX3_say_128 : decode cX3_say 128 = .ok (.iload 5, 2) := dk_21 5 (dk_at dksX3_say_5 12 rfl rfl)
theorem dX3_say_130 : decode cX3_say 130 = .ok (.iand, 1) := dk_126 (dk_at dksX3_say_5 14 rfl rfl)
theorem dX3_say_131 : decode cX3_say 131 = .ok (.iload_n 3, 1) := dk_29 (dk_at dksX3_say_5 15 rfl rfl)
theorem dX3_say_132 : decode cX3_say 132 = .ok (.iconst 2, 1) := dk_5 (dk_at dksX3_say_5 16 rfl rfl)
theorem dX3_say_133 : decode cX3_say 133 = .ok (.if_icmp .ge 9, 3) := dk_162 0 9 (dk_at dksX3_say_5 17 rfl rfl)
theorem dX3_say_136 : decode cX3_say 136 = .ok (.iconst 1, 1) := dk_4 (dk_at dksX3_say_5 20 rfl rfl)
theorem dX3_say_137 : decode cX3_say 137 = .ok (.iload_n 2, 1) := dk_28 (dk_at dksX3_say_5 21 rfl rfl)
theorem dX3_say_138 : decode cX3_say 138 = .ok (.ishl, 1) := dk_120 (dk_at dksX3_say_5 22 rfl rfl)
theorem dX3_say_139 : decode cX3_say 139 = .ok (.goto 4, 3) := dk_167 0 4 (dk_at dksX3_say_6 0 rfl rfl)
theorem dX3_say_142 : decode cX3_say 142 = .ok (.iconst 0, 1) := dk_3 (dk_at dksX3_say_6 3 rfl rfl)
theorem dX3_say_143 : decode cX3_say 143 = .ok (.ior, 1) := dk_128 (dk_at dksX3_say_6 4 rfl rfl)
theorem dX3_say_144 : decode cX3_say 144 = .ok (.invokevirtual 283, 3) := dk_182 1 27 (dk_at dksX3_say_6 5 rfl rfl)
theorem dX3_say_147 : decode cX3_say 147 = .ok (.aload_n 0, 1) := dk_42 (dk_at dksX3_say_6 8 rfl rfl)
theorem dX3_say_148 : decode cX3_say 148 = .ok (.iload_n 1, 1) := dk_27 (dk_at dksX3_say_6 9 rfl rfl)
theorem dX3_say_149 : decode cX3_say 149 = .ok (.iconst 5, 1) := dk_8 (dk_at dksX3_say_6 10 rfl rfl)
theorem dX3_say_150 : decode cX3_say 150 = .ok (.aload_n 0, 1) := dk_42 (dk_at dksX3_say_6 11 rfl rfl)
theorem dX3_say_151 : decode cX3_say 151 = .ok (.iload_n 1, 1) := dk_27 (dk_at dksX3_say_6 12 rfl rfl)
theorem dX3_say_152 : decode cX3_say 152 = .ok (.iconst 5, 1) := dk_8 (dk_at dksX3_say_6 13 rfl rfl)
theorem dX3_say_153 : decode cX3_say 153 = .ok (.invokevirtual 339, 3) := dk_182 1 83 (dk_at dksX3_say_6 14 rfl rfl)
theorem dX3_say_156 : decode cX3_say 156 = .ok (.iload 5, 2) := dk_21 5 (dk_at dksX3_say_6 17 rfl rfl)
theorem dX3_say_158 : decode cX3_say 158 = .ok (.iand, 1) := dk_126 (dk_at dksX3_say_6 19 rfl rfl)
theorem dX3_say_159 : decode cX3_say 159 = .ok (.iload_n 3, 1) := dk_29 (dk_at dksX3_say_6 20 rfl rfl)
theorem dX3_say_160 : decode cX3_say 160 = .ok (.iconst 1, 1) := dk_4 (dk_at dksX3_say_6 21 rfl rfl)
theorem dX3_say_161 : decode cX3_say 161 = .ok (.if_icmp .ne 9, 3) := dk_160 0 9 (dk_at dksX3_say_7 0 rfl rfl)
theorem dX3_say_164 : decode cX3_say 164 = .ok (.iconst 1, 1) := dk_4 (dk_at dksX3_say_7 3 rfl rfl)
theorem dX3_say_165 : decode cX3_say 165 = .ok (.iload_n 2, 1) := dk_28 (dk_at dksX3_say_7 4 rfl rfl)
theorem dX3_say_166 : decode cX3_say 166 = .ok (.ishl, 1) := dk_120 (dk_at dksX3_say_7 5 rfl rfl)
theorem dX3_say_167 : decode cX3_say 167 = .ok (.goto 4, 3) := dk_167 0 4 (dk_at dksX3_say_7 6 rfl rfl)
theorem dX3_say_170 : decode cX3_say 170 = .ok (.iconst 0, 1) := dk_3 (dk_at dksX3_say_7 9 rfl rfl)
theorem dX3_say_171 : decode cX3_say 171 = .ok (.ior, 1) := dk_128 (dk_at dksX3_say_7 10 rfl rfl)
theorem dX3_say_172 : decode cX3_say 172 = .ok (.invokevirtual 283, 3) := dk_182 1 27 (dk_at dksX3_say_7 11 rfl rfl)
theorem dX3_say_175 : decode cX3_say 175 = .ok (.aload_n 0, 1) := dk_42 (dk_at dksX3_say_7 14 rfl rfl)
theorem dX3_say_176 : decode cX3_say 176 = .ok (.iload_n 1, 1) := dk_27 (dk_at dksX3_say_7 15 rfl rfl)
theorem dX3_say_177 : decode cX3_say 177 = .ok (.iconst 4, 1) := dk_7 (dk_at dksX3_say_7 16 rfl rfl)
theorem dX3_say_178 : decode cX3_say 178 = .ok (.invokevirtual 339, 3) := dk_182 1 83 (dk_at dksX3_say_7 17 rfl rfl)
theorem dX3_say_181 : decode cX3_say 181 = .ok (.invokestatic 315, 3) := dk_184 1 59 (dk_at dksX3_say_7 20 rfl rfl)
theorem dX3_say_184 : decode cX3_say 184 = .ok (.ireturn, 1) := dk_172 (dk_at dksX3_say_7 23 rfl rfl)
abbrev cX3_add : ByteArray := prog_18_method_94_code
def yX3_add : MethodName := ⟨RX3, "add", "(III)I"⟩
def dkwX3_add_6 : List UInt8 := [27, 182, 1, 27, 21, 4, 172]
abbrev dktX3_add_6 : List UInt8 := dkwX3_add_6 ++ []
def dkwX3_add_5 : List UInt8 := [182, 1, 27, 42, 21, 4, 5, 28, 182, 1, 27, 42, 21, 4, 6, 29, 182, 1, 27, 42, 21, 4, 16, 7]
abbrev dktX3_add_5 : List UInt8 := dkwX3_add_5 ++ dktX3_add_6
def dkwX3_add_4 : List UInt8 := [42, 21, 4, 3, 42, 27, 3, 182, 1, 83, 182, 1, 27, 42, 21, 4, 4, 42, 180, 0, 23, 16, 17, 46]
abbrev dktX3_add_4 : List UInt8 := dkwX3_add_4 ++ dktX3_add_5
def dkwX3_add_3 : List UInt8 := [54, 5, 21, 5, 16, 8, 162, 0, 18, 42, 21, 4, 21, 5, 3, 182, 1, 27, 132, 5, 1, 167, 255, 237]
abbrev dktX3_add_3 : List UInt8 := dkwX3_add_3 ++ dktX3_add_4
def dkwX3_add_2 : List UInt8 := [182, 1, 148, 42, 180, 0, 23, 16, 18, 46, 54, 4, 42, 180, 0, 23, 16, 18, 92, 46, 4, 96, 79, 3]
abbrev dktX3_add_2 : List UInt8 := dkwX3_add_2 ++ dktX3_add_3
def dkwX3_add_1 : List UInt8 := [184, 0, 85, 154, 0, 5, 2, 172, 42, 180, 0, 23, 16, 18, 46, 16, 8, 160, 0, 6, 16, 254, 172, 42]
abbrev dktX3_add_1 : List UInt8 := dkwX3_add_1 ++ dktX3_add_2
def dkwX3_add_0 : List UInt8 := [42, 27, 182, 1, 124, 153, 0, 25, 28, 3, 17, 3, 231, 184, 0, 85, 153, 0, 14, 29, 3, 17, 3, 231]
abbrev dktX3_add_0 : List UInt8 := dkwX3_add_0 ++ dktX3_add_1
theorem dksX3_add_0 : cX3_add.data.toList.drop 0 = dktX3_add_0 := by decide +kernel
theorem dksX3_add_1 : cX3_add.data.toList.drop 24 = dktX3_add_1 := dk_seg dksX3_add_0 24 rfl rfl
theorem dksX3_add_2 : cX3_add.data.toList.drop 48 = dktX3_add_2 := dk_seg dksX3_add_1 24 rfl rfl
theorem dksX3_add_3 : cX3_add.data.toList.drop 72 = dktX3_add_3 := dk_seg dksX3_add_2 24 rfl rfl
theorem dksX3_add_4 : cX3_add.data.toList.drop 96 = dktX3_add_4 := dk_seg dksX3_add_3 24 rfl rfl
theorem dksX3_add_5 : cX3_add.data.toList.drop 120 = dktX3_add_5 := dk_seg dksX3_add_4 24 rfl rfl
theorem dksX3_add_6 : cX3_add.data.toList.drop 144 = dktX3_add_6 := dk_seg dksX3_add_5 24 rfl rfl
theorem dX3_add_0 : decode cX3_add 0 = .ok (.aload_n 0, 1) := dk_42 (dk_at dksX3_add_0 0 rfl rfl)
theorem dX3_add_1 : decode cX3_add 1 = .ok (.iload_n 1, 1) := dk_27 (dk_at dksX3_add_0 1 rfl rfl)
theorem dX3_add_2 : decode cX3_add 2 = .ok (.invokevirtual 380, 3) := dk_182 1 124 (dk_at dksX3_add_0 2 rfl rfl)
theorem dX3_add_5 : decode cX3_add 5 = .ok (.ifCond .eq 25, 3) := dk_153 0 25 (dk_at dksX3_add_0 5 rfl rfl)
theorem dX3_add_8 : decode cX3_add 8 = .ok (.iload_n 2, 1) := dk_28 (dk_at dksX3_add_0 8 rfl rfl)
theorem dX3_add_9 : decode cX3_add 9 = .ok (.iconst 0, 1) := dk_3 (dk_at dksX3_add_0 9 rfl rfl)
theorem dX3_add_10 : decode cX3_add 10 = .ok (.sipush 999, 3) := dk_17 3 231 (dk_at dksX3_add_0 10 rfl rfl)
theorem dX3_add_13 : decode cX3_add 13 = .ok (.invokestatic 85, 3) := dk_184 0 85 (dk_at dksX3_add_0 13 rfl rfl)
theorem dX3_add_16 : decode cX3_add 16 = .ok (.ifCond .eq 14, 3) := dk_153 0 14 (dk_at dksX3_add_0 16 rfl rfl)
theorem dX3_add_19 : decode cX3_add 19 = .ok (.iload_n 3, 1) := dk_29 (dk_at dksX3_add_0 19 rfl rfl)
theorem dX3_add_20 : decode cX3_add 20 = .ok (.iconst 0, 1) := dk_3 (dk_at dksX3_add_0 20 rfl rfl)
theorem dX3_add_21 : decode cX3_add 21 = .ok (.sipush 999, 3) := dk_17 3 231 (dk_at dksX3_add_0 21 rfl rfl)
theorem dX3_add_24 : decode cX3_add 24 = .ok (.invokestatic 85, 3) := dk_184 0 85 (dk_at dksX3_add_1 0 rfl rfl)
theorem dX3_add_27 : decode cX3_add 27 = .ok (.ifCond .ne 5, 3) := dk_154 0 5 (dk_at dksX3_add_1 3 rfl rfl)
theorem dX3_add_30 : decode cX3_add 30 = .ok (.iconst (-1), 1) := dk_2 (dk_at dksX3_add_1 6 rfl rfl)
theorem dX3_add_31 : decode cX3_add 31 = .ok (.ireturn, 1) := dk_172 (dk_at dksX3_add_1 7 rfl rfl)
theorem dX3_add_32 : decode cX3_add 32 = .ok (.aload_n 0, 1) := dk_42 (dk_at dksX3_add_1 8 rfl rfl)
theorem dX3_add_33 : decode cX3_add 33 = .ok (.getfield 23, 3) := dk_180 0 23 (dk_at dksX3_add_1 9 rfl rfl)
theorem dX3_add_36 : decode cX3_add 36 = .ok (.bipush 18, 2) := dk_16 18 (dk_at dksX3_add_1 12 rfl rfl)
theorem dX3_add_38 : decode cX3_add 38 = .ok (.iaload, 1) := dk_46 (dk_at dksX3_add_1 14 rfl rfl)
theorem dX3_add_39 : decode cX3_add 39 = .ok (.bipush 8, 2) := dk_16 8 (dk_at dksX3_add_1 15 rfl rfl)
theorem dX3_add_41 : decode cX3_add 41 = .ok (.if_icmp .ne 6, 3) := dk_160 0 6 (dk_at dksX3_add_1 17 rfl rfl)
theorem dX3_add_44 : decode cX3_add 44 = .ok (.bipush (-2), 2) := dk_16 254 (dk_at dksX3_add_1 20 rfl rfl)
theorem dX3_add_46 : decode cX3_add 46 = .ok (.ireturn, 1) := dk_172 (dk_at dksX3_add_1 22 rfl rfl)
theorem dX3_add_47 : decode cX3_add 47 = .ok (.aload_n 0, 1) := dk_42 (dk_at dksX3_add_1 23 rfl rfl)
theorem dX3_add_48 : decode cX3_add 48 = .ok (.invokevirtual 404, 3) := dk_182 1 148 (dk_at dksX3_add_2 0 rfl rfl)
theorem dX3_add_51 : decode cX3_add 51 = .ok (.aload_n 0, 1) := dk_42 (dk_at dksX3_add_2 3 rfl rfl)
theorem dX3_add_52 : decode cX3_add 52 = .ok (.getfield 23, 3) := dk_180 0 23 (dk_at dksX3_add_2 4 rfl rfl)
theorem dX3_add_55 : decode cX3_add 55 = .ok (.bipush 18, 2) := dk_16 18 (dk_at dksX3_add_2 7 rfl rfl)
theorem dX3_add_57 : decode cX3_add 57 = .ok (.iaload, 1) := dk_46 (dk_at dksX3_add_2 9 rfl rfl)
theorem dX3_add_58 : decode cX3_add 58 = .ok (.istore 4, 2) := dk_54 4 (dk_at dksX3_add_2 10 rfl rfl)
theorem dX3_add_60 : decode cX3_add 60 = .ok (.aload_n 0, 1) := dk_42 (dk_at dksX3_add_2 12 rfl rfl)
theorem dX3_add_61 : decode cX3_add 61 = .ok (.getfield 23, 3) := dk_180 0 23 (dk_at dksX3_add_2 13 rfl rfl)
theorem dX3_add_64 : decode cX3_add 64 = .ok (.bipush 18, 2) := dk_16 18 (dk_at dksX3_add_2 16 rfl rfl)
theorem dX3_add_66 : decode cX3_add 66 = .ok (.dup2, 1) := dk_92 (dk_at dksX3_add_2 18 rfl rfl)
theorem dX3_add_67 : decode cX3_add 67 = .ok (.iaload, 1) := dk_46 (dk_at dksX3_add_2 19 rfl rfl)
theorem dX3_add_68 : decode cX3_add 68 = .ok (.iconst 1, 1) := dk_4 (dk_at dksX3_add_2 20 rfl rfl)
theorem dX3_add_69 : decode cX3_add 69 = .ok (.iadd, 1) := dk_96 (dk_at dksX3_add_2 21 rfl rfl)
theorem dX3_add_70 : decode cX3_add 70 = .ok (.iastore, 1) := dk_79 (dk_at dksX3_add_2 22 rfl rfl)
theorem dX3_add_71 : decode cX3_add 71 = .ok (.iconst 0, 1) := dk_3 (dk_at dksX3_add_2 23 rfl rfl)
theorem dX3_add_72 : decode cX3_add 72 = .ok (.istore 5, 2) := dk_54 5 (dk_at dksX3_add_3 0 rfl rfl)
theorem dX3_add_74 : decode cX3_add 74 = .ok (.iload 5, 2) := dk_21 5 (dk_at dksX3_add_3 2 rfl rfl)
theorem dX3_add_76 : decode cX3_add 76 = .ok (.bipush 8, 2) := dk_16 8 (dk_at dksX3_add_3 4 rfl rfl)
theorem dX3_add_78 : decode cX3_add 78 = .ok (.if_icmp .ge 18, 3) := dk_162 0 18 (dk_at dksX3_add_3 6 rfl rfl)
theorem dX3_add_81 : decode cX3_add 81 = .ok (.aload_n 0, 1) := dk_42 (dk_at dksX3_add_3 9 rfl rfl)
theorem dX3_add_82 : decode cX3_add 82 = .ok (.iload 4, 2) := dk_21 4 (dk_at dksX3_add_3 10 rfl rfl)
theorem dX3_add_84 : decode cX3_add 84 = .ok (.iload 5, 2) := dk_21 5 (dk_at dksX3_add_3 12 rfl rfl)
theorem dX3_add_86 : decode cX3_add 86 = .ok (.iconst 0, 1) := dk_3 (dk_at dksX3_add_3 14 rfl rfl)
theorem dX3_add_87 : decode cX3_add 87 = .ok (.invokevirtual 283, 3) := dk_182 1 27 (dk_at dksX3_add_3 15 rfl rfl)
theorem dX3_add_90 : decode cX3_add 90 = .ok (.iinc 5 1, 3) := dk_132 5 1 (dk_at dksX3_add_3 18 rfl rfl)
theorem dX3_add_93 : decode cX3_add 93 = .ok (.goto (-19), 3) := dk_167 255 237 (dk_at dksX3_add_3 21 rfl rfl)
theorem dX3_add_96 : decode cX3_add 96 = .ok (.aload_n 0, 1) := dk_42 (dk_at dksX3_add_4 0 rfl rfl)
theorem dX3_add_97 : decode cX3_add 97 = .ok (.iload 4, 2) := dk_21 4 (dk_at dksX3_add_4 1 rfl rfl)
theorem dX3_add_99 : decode cX3_add 99 = .ok (.iconst 0, 1) := dk_3 (dk_at dksX3_add_4 3 rfl rfl)
theorem dX3_add_100 : decode cX3_add 100 = .ok (.aload_n 0, 1) := dk_42 (dk_at dksX3_add_4 4 rfl rfl)
theorem dX3_add_101 : decode cX3_add 101 = .ok (.iload_n 1, 1) := dk_27 (dk_at dksX3_add_4 5 rfl rfl)
theorem dX3_add_102 : decode cX3_add 102 = .ok (.iconst 0, 1) := dk_3 (dk_at dksX3_add_4 6 rfl rfl)
theorem dX3_add_103 : decode cX3_add 103 = .ok (.invokevirtual 339, 3) := dk_182 1 83 (dk_at dksX3_add_4 7 rfl rfl)
theorem dX3_add_106 : decode cX3_add 106 = .ok (.invokevirtual 283, 3) := dk_182 1 27 (dk_at dksX3_add_4 10 rfl rfl)
theorem dX3_add_109 : decode cX3_add 109 = .ok (.aload_n 0, 1) := dk_42 (dk_at dksX3_add_4 13 rfl rfl)
theorem dX3_add_110 : decode cX3_add 110 = .ok (.iload 4, 2) := dk_21 4 (dk_at dksX3_add_4 14 rfl rfl)
theorem dX3_add_112 : decode cX3_add 112 = .ok (.iconst 1, 1) := dk_4 (dk_at dksX3_add_4 16 rfl rfl)
theorem dX3_add_113 : decode cX3_add 113 = .ok (.aload_n 0, 1) := dk_42 (dk_at dksX3_add_4 17 rfl rfl)
theorem dX3_add_114 : decode cX3_add 114 = .ok (.getfield 23, 3) := dk_180 0 23 (dk_at dksX3_add_4 18 rfl rfl)
theorem dX3_add_117 : decode cX3_add 117 = .ok (.bipush 17, 2) := dk_16 17 (dk_at dksX3_add_4 21 rfl rfl)
theorem dX3_add_119 : decode cX3_add 119 = .ok (.iaload, 1) := dk_46 (dk_at dksX3_add_4 23 rfl rfl)
theorem dX3_add_120 : decode cX3_add 120 = .ok (.invokevirtual 283, 3) := dk_182 1 27 (dk_at dksX3_add_5 0 rfl rfl)
theorem dX3_add_123 : decode cX3_add 123 = .ok (.aload_n 0, 1) := dk_42 (dk_at dksX3_add_5 3 rfl rfl)
theorem dX3_add_124 : decode cX3_add 124 = .ok (.iload 4, 2) := dk_21 4 (dk_at dksX3_add_5 4 rfl rfl)
theorem dX3_add_126 : decode cX3_add 126 = .ok (.iconst 2, 1) := dk_5 (dk_at dksX3_add_5 6 rfl rfl)
theorem dX3_add_127 : decode cX3_add 127 = .ok (.iload_n 2, 1) := dk_28 (dk_at dksX3_add_5 7 rfl rfl)
theorem dX3_add_128 : decode cX3_add 128 = .ok (.invokevirtual 283, 3) := dk_182 1 27 (dk_at dksX3_add_5 8 rfl rfl)
theorem dX3_add_131 : decode cX3_add 131 = .ok (.aload_n 0, 1) := dk_42 (dk_at dksX3_add_5 11 rfl rfl)
theorem dX3_add_132 : decode cX3_add 132 = .ok (.iload 4, 2) := dk_21 4 (dk_at dksX3_add_5 12 rfl rfl)
theorem dX3_add_134 : decode cX3_add 134 = .ok (.iconst 3, 1) := dk_6 (dk_at dksX3_add_5 14 rfl rfl)
theorem dX3_add_135 : decode cX3_add 135 = .ok (.iload_n 3, 1) := dk_29 (dk_at dksX3_add_5 15 rfl rfl)
theorem dX3_add_136 : decode cX3_add 136 = .ok (.invokevirtual 283, 3) := dk_182 1 27 (dk_at dksX3_add_5 16 rfl rfl)
theorem dX3_add_139 : decode cX3_add 139 = .ok (.aload_n 0, 1) := dk_42 (dk_at dksX3_add_5 19 rfl rfl)
theorem dX3_add_140 : decode cX3_add 140 = .ok (.iload 4, 2) := dk_21 4 (dk_at dksX3_add_5 20 rfl rfl)
theorem dX3_add_142 : decode cX3_add 142 = .ok (.bipush 7, 2) := dk_16 7 (dk_at dksX3_add_5 22 rfl rfl)
theorem dX3_add_144 : decode cX3_add 144 = .ok (.iload_n 1, 1) := dk_27 (dk_at dksX3_add_6 0 rfl rfl)
theorem dX3_add_145 : decode cX3_add 145 = .ok (.invokevirtual 283, 3) := dk_182 1 27 (dk_at dksX3_add_6 1 rfl rfl)
theorem dX3_add_148 : decode cX3_add 148 = .ok (.iload 4, 2) := dk_21 4 (dk_at dksX3_add_6 4 rfl rfl)
theorem dX3_add_150 : decode cX3_add 150 = .ok (.ireturn, 1) := dk_172 (dk_at dksX3_add_6 6 rfl rfl)
abbrev cX3_strike : ByteArray := prog_18_method_95_code
def yX3_strike : MethodName := ⟨RX3, "strike", "(I)I"⟩
def dkwX3_strike_2 : List UInt8 := [162, 0, 21, 28, 4, 42, 29, 16, 6, 182, 1, 83, 100, 96, 61, 132, 3, 1, 167, 255, 230, 28, 172]
abbrev dktX3_strike_2 : List UInt8 := dkwX3_strike_2 ++ []
def dkwX3_strike_1 : List UInt8 := [42, 182, 1, 148, 42, 27, 16, 6, 4, 182, 1, 27, 3, 61, 3, 62, 29, 42, 180, 0, 23, 16, 18, 46]
abbrev dktX3_strike_1 : List UInt8 := dkwX3_strike_1 ++ dktX3_strike_2
def dkwX3_strike_0 : List UInt8 := [42, 27, 182, 1, 124, 154, 0, 5, 2, 172, 42, 27, 16, 6, 182, 1, 83, 4, 160, 0, 6, 16, 254, 172]
abbrev dktX3_strike_0 : List UInt8 := dkwX3_strike_0 ++ dktX3_strike_1
theorem dksX3_strike_0 : cX3_strike.data.toList.drop 0 = dktX3_strike_0 := by decide +kernel
theorem dksX3_strike_1 : cX3_strike.data.toList.drop 24 = dktX3_strike_1 := dk_seg dksX3_strike_0 24 rfl rfl
theorem dksX3_strike_2 : cX3_strike.data.toList.drop 48 = dktX3_strike_2 := dk_seg dksX3_strike_1 24 rfl rfl
theorem dX3_strike_0 : decode cX3_strike 0 = .ok (.aload_n 0, 1) := dk_42 (dk_at dksX3_strike_0 0 rfl rfl)
theorem dX3_strike_1 : decode cX3_strike 1 = .ok (.iload_n 1, 1) := dk_27 (dk_at dksX3_strike_0 1 rfl rfl)
theorem dX3_strike_2 : decode cX3_strike 2 = .ok (.invokevirtual 380, 3) := dk_182 1 124 (dk_at dksX3_strike_0 2 rfl rfl)
theorem dX3_strike_5 : decode cX3_strike 5 = .ok (.ifCond .ne 5, 3) := dk_154 0 5 (dk_at dksX3_strike_0 5 rfl rfl)
theorem dX3_strike_8 : decode cX3_strike 8 = .ok (.iconst (-1), 1) := dk_2 (dk_at dksX3_strike_0 8 rfl rfl)
theorem dX3_strike_9 : decode cX3_strike 9 = .ok (.ireturn, 1) := dk_172 (dk_at dksX3_strike_0 9 rfl rfl)
theorem dX3_strike_10 : decode cX3_strike 10 = .ok (.aload_n 0, 1) := dk_42 (dk_at dksX3_strike_0 10 rfl rfl)
theorem dX3_strike_11 : decode cX3_strike 11 = .ok (.iload_n 1, 1) := dk_27 (dk_at dksX3_strike_0 11 rfl rfl)
theorem dX3_strike_12 : decode cX3_strike 12 = .ok (.bipush 6, 2) := dk_16 6 (dk_at dksX3_strike_0 12 rfl rfl)
theorem dX3_strike_14 : decode cX3_strike 14 = .ok (.invokevirtual 339, 3) := dk_182 1 83 (dk_at dksX3_strike_0 14 rfl rfl)
theorem dX3_strike_17 : decode cX3_strike 17 = .ok (.iconst 1, 1) := dk_4 (dk_at dksX3_strike_0 17 rfl rfl)
theorem dX3_strike_18 : decode cX3_strike 18 = .ok (.if_icmp .ne 6, 3) := dk_160 0 6 (dk_at dksX3_strike_0 18 rfl rfl)
theorem dX3_strike_21 : decode cX3_strike 21 = .ok (.bipush (-2), 2) := dk_16 254 (dk_at dksX3_strike_0 21 rfl rfl)
theorem dX3_strike_23 : decode cX3_strike 23 = .ok (.ireturn, 1) := dk_172 (dk_at dksX3_strike_0 23 rfl rfl)
theorem dX3_strike_24 : decode cX3_strike 24 = .ok (.aload_n 0, 1) := dk_42 (dk_at dksX3_strike_1 0 rfl rfl)
theorem dX3_strike_25 : decode cX3_strike 25 = .ok (.invokevirtual 404, 3) := dk_182 1 148 (dk_at dksX3_strike_1 1 rfl rfl)
theorem dX3_strike_28 : decode cX3_strike 28 = .ok (.aload_n 0, 1) := dk_42 (dk_at dksX3_strike_1 4 rfl rfl)
theorem dX3_strike_29 : decode cX3_strike 29 = .ok (.iload_n 1, 1) := dk_27 (dk_at dksX3_strike_1 5 rfl rfl)
theorem dX3_strike_30 : decode cX3_strike 30 = .ok (.bipush 6, 2) := dk_16 6 (dk_at dksX3_strike_1 6 rfl rfl)
theorem dX3_strike_32 : decode cX3_strike 32 = .ok (.iconst 1, 1) := dk_4 (dk_at dksX3_strike_1 8 rfl rfl)
theorem dX3_strike_33 : decode cX3_strike 33 = .ok (.invokevirtual 283, 3) := dk_182 1 27 (dk_at dksX3_strike_1 9 rfl rfl)
theorem dX3_strike_36 : decode cX3_strike 36 = .ok (.iconst 0, 1) := dk_3 (dk_at dksX3_strike_1 12 rfl rfl)
theorem dX3_strike_37 : decode cX3_strike 37 = .ok (.istore_n 2, 1) := dk_61 (dk_at dksX3_strike_1 13 rfl rfl)
theorem dX3_strike_38 : decode cX3_strike 38 = .ok (.iconst 0, 1) := dk_3 (dk_at dksX3_strike_1 14 rfl rfl)
theorem dX3_strike_39 : decode cX3_strike 39 = .ok (.istore_n 3, 1) := dk_62 (dk_at dksX3_strike_1 15 rfl rfl)
theorem dX3_strike_40 : decode cX3_strike 40 = .ok (.iload_n 3, 1) := dk_29 (dk_at dksX3_strike_1 16 rfl rfl)
theorem dX3_strike_41 : decode cX3_strike 41 = .ok (.aload_n 0, 1) := dk_42 (dk_at dksX3_strike_1 17 rfl rfl)
theorem dX3_strike_42 : decode cX3_strike 42 = .ok (.getfield 23, 3) := dk_180 0 23 (dk_at dksX3_strike_1 18 rfl rfl)
theorem dX3_strike_45 : decode cX3_strike 45 = .ok (.bipush 18, 2) := dk_16 18 (dk_at dksX3_strike_1 21 rfl rfl)
theorem dX3_strike_47 : decode cX3_strike 47 = .ok (.iaload, 1) := dk_46 (dk_at dksX3_strike_1 23 rfl rfl)
theorem dX3_strike_48 : decode cX3_strike 48 = .ok (.if_icmp .ge 21, 3) := dk_162 0 21 (dk_at dksX3_strike_2 0 rfl rfl)
theorem dX3_strike_51 : decode cX3_strike 51 = .ok (.iload_n 2, 1) := dk_28 (dk_at dksX3_strike_2 3 rfl rfl)
theorem dX3_strike_52 : decode cX3_strike 52 = .ok (.iconst 1, 1) := dk_4 (dk_at dksX3_strike_2 4 rfl rfl)
theorem dX3_strike_53 : decode cX3_strike 53 = .ok (.aload_n 0, 1) := dk_42 (dk_at dksX3_strike_2 5 rfl rfl)
theorem dX3_strike_54 : decode cX3_strike 54 = .ok (.iload_n 3, 1) := dk_29 (dk_at dksX3_strike_2 6 rfl rfl)
theorem dX3_strike_55 : decode cX3_strike 55 = .ok (.bipush 6, 2) := dk_16 6 (dk_at dksX3_strike_2 7 rfl rfl)
theorem dX3_strike_57 : decode cX3_strike 57 = .ok (.invokevirtual 339, 3) := dk_182 1 83 (dk_at dksX3_strike_2 9 rfl rfl)
theorem dX3_strike_60 : decode cX3_strike 60 = .ok (.isub, 1) := dk_100 (dk_at dksX3_strike_2 12 rfl rfl)
theorem dX3_strike_61 : decode cX3_strike 61 = .ok (.iadd, 1) := dk_96 (dk_at dksX3_strike_2 13 rfl rfl)
theorem dX3_strike_62 : decode cX3_strike 62 = .ok (.istore_n 2, 1) := dk_61 (dk_at dksX3_strike_2 14 rfl rfl)
theorem dX3_strike_63 : decode cX3_strike 63 = .ok (.iinc 3 1, 3) := dk_132 3 1 (dk_at dksX3_strike_2 15 rfl rfl)
theorem dX3_strike_66 : decode cX3_strike 66 = .ok (.goto (-26), 3) := dk_167 255 230 (dk_at dksX3_strike_2 18 rfl rfl)
theorem dX3_strike_69 : decode cX3_strike 69 = .ok (.iload_n 2, 1) := dk_28 (dk_at dksX3_strike_2 21 rfl rfl)
theorem dX3_strike_70 : decode cX3_strike 70 = .ok (.ireturn, 1) := dk_172 (dk_at dksX3_strike_2 22 rfl rfl)
abbrev cX3_days : ByteArray := prog_18_method_96_code
def yX3_days : MethodName := ⟨RX3, "days", "(I)I"⟩
def dkwX3_days_2 : List UInt8 := [42, 180, 0, 23, 16, 17, 46, 172]
abbrev dktX3_days_2 : List UInt8 := dkwX3_days_2 ++ []
def dkwX3_days_1 : List UInt8 := [17, 39, 15, 164, 0, 6, 16, 254, 172, 42, 182, 1, 148, 42, 180, 0, 23, 16, 17, 92, 46, 27, 96, 79]
abbrev dktX3_days_1 : List UInt8 := dkwX3_days_1 ++ dktX3_days_2
def dkwX3_days_0 : List UInt8 := [27, 4, 17, 3, 231, 184, 0, 85, 154, 0, 5, 2, 172, 42, 180, 0, 23, 16, 17, 46, 27, 96]
abbrev dktX3_days_0 : List UInt8 := dkwX3_days_0 ++ dktX3_days_1
theorem dksX3_days_0 : cX3_days.data.toList.drop 0 = dktX3_days_0 := by decide +kernel
theorem dksX3_days_1 : cX3_days.data.toList.drop 22 = dktX3_days_1 := dk_seg dksX3_days_0 22 rfl rfl
theorem dksX3_days_2 : cX3_days.data.toList.drop 46 = dktX3_days_2 := dk_seg dksX3_days_1 24 rfl rfl
theorem dX3_days_0 : decode cX3_days 0 = .ok (.iload_n 1, 1) := dk_27 (dk_at dksX3_days_0 0 rfl rfl)
theorem dX3_days_1 : decode cX3_days 1 = .ok (.iconst 1, 1) := dk_4 (dk_at dksX3_days_0 1 rfl rfl)
theorem dX3_days_2 : decode cX3_days 2 = .ok (.sipush 999, 3) := dk_17 3 231 (dk_at dksX3_days_0 2 rfl rfl)
theorem dX3_days_5 : decode cX3_days 5 = .ok (.invokestatic 85, 3) := dk_184 0 85 (dk_at dksX3_days_0 5 rfl rfl)
theorem dX3_days_8 : decode cX3_days 8 = .ok (.ifCond .ne 5, 3) := dk_154 0 5 (dk_at dksX3_days_0 8 rfl rfl)
theorem dX3_days_11 : decode cX3_days 11 = .ok (.iconst (-1), 1) := dk_2 (dk_at dksX3_days_0 11 rfl rfl)
theorem dX3_days_12 : decode cX3_days 12 = .ok (.ireturn, 1) := dk_172 (dk_at dksX3_days_0 12 rfl rfl)
theorem dX3_days_13 : decode cX3_days 13 = .ok (.aload_n 0, 1) := dk_42 (dk_at dksX3_days_0 13 rfl rfl)
theorem dX3_days_14 : decode cX3_days 14 = .ok (.getfield 23, 3) := dk_180 0 23 (dk_at dksX3_days_0 14 rfl rfl)
theorem dX3_days_17 : decode cX3_days 17 = .ok (.bipush 17, 2) := dk_16 17 (dk_at dksX3_days_0 17 rfl rfl)
theorem dX3_days_19 : decode cX3_days 19 = .ok (.iaload, 1) := dk_46 (dk_at dksX3_days_0 19 rfl rfl)
theorem dX3_days_20 : decode cX3_days 20 = .ok (.iload_n 1, 1) := dk_27 (dk_at dksX3_days_0 20 rfl rfl)
theorem dX3_days_21 : decode cX3_days 21 = .ok (.iadd, 1) := dk_96 (dk_at dksX3_days_0 21 rfl rfl)
theorem dX3_days_22 : decode cX3_days 22 = .ok (.sipush 9999, 3) := dk_17 39 15 (dk_at dksX3_days_1 0 rfl rfl)
theorem dX3_days_25 : decode cX3_days 25 = .ok (.if_icmp .le 6, 3) := dk_164 0 6 (dk_at dksX3_days_1 3 rfl rfl)
theorem dX3_days_28 : decode cX3_days 28 = .ok (.bipush (-2), 2) := dk_16 254 (dk_at dksX3_days_1 6 rfl rfl)
theorem dX3_days_30 : decode cX3_days 30 = .ok (.ireturn, 1) := dk_172 (dk_at dksX3_days_1 8 rfl rfl)
theorem dX3_days_31 : decode cX3_days 31 = .ok (.aload_n 0, 1) := dk_42 (dk_at dksX3_days_1 9 rfl rfl)
theorem dX3_days_32 : decode cX3_days 32 = .ok (.invokevirtual 404, 3) := dk_182 1 148 (dk_at dksX3_days_1 10 rfl rfl)
theorem dX3_days_35 : decode cX3_days 35 = .ok (.aload_n 0, 1) := dk_42 (dk_at dksX3_days_1 13 rfl rfl)
theorem dX3_days_36 : decode cX3_days 36 = .ok (.getfield 23, 3) := dk_180 0 23 (dk_at dksX3_days_1 14 rfl rfl)
theorem dX3_days_39 : decode cX3_days 39 = .ok (.bipush 17, 2) := dk_16 17 (dk_at dksX3_days_1 17 rfl rfl)
theorem dX3_days_41 : decode cX3_days 41 = .ok (.dup2, 1) := dk_92 (dk_at dksX3_days_1 19 rfl rfl)
theorem dX3_days_42 : decode cX3_days 42 = .ok (.iaload, 1) := dk_46 (dk_at dksX3_days_1 20 rfl rfl)
theorem dX3_days_43 : decode cX3_days 43 = .ok (.iload_n 1, 1) := dk_27 (dk_at dksX3_days_1 21 rfl rfl)
theorem dX3_days_44 : decode cX3_days 44 = .ok (.iadd, 1) := dk_96 (dk_at dksX3_days_1 22 rfl rfl)
theorem dX3_days_45 : decode cX3_days 45 = .ok (.iastore, 1) := dk_79 (dk_at dksX3_days_1 23 rfl rfl)
theorem dX3_days_46 : decode cX3_days 46 = .ok (.aload_n 0, 1) := dk_42 (dk_at dksX3_days_2 0 rfl rfl)
theorem dX3_days_47 : decode cX3_days 47 = .ok (.getfield 23, 3) := dk_180 0 23 (dk_at dksX3_days_2 1 rfl rfl)
theorem dX3_days_50 : decode cX3_days 50 = .ok (.bipush 17, 2) := dk_16 17 (dk_at dksX3_days_2 4 rfl rfl)
theorem dX3_days_52 : decode cX3_days 52 = .ok (.iaload, 1) := dk_46 (dk_at dksX3_days_2 6 rfl rfl)
theorem dX3_days_53 : decode cX3_days 53 = .ok (.ireturn, 1) := dk_172 (dk_at dksX3_days_2 7 rfl rfl)
abbrev cX3_undo : ByteArray := prog_18_method_97_code
def yX3_undo : MethodName := ⟨RX3, "undo", "()I"⟩
def dkwX3_undo_2 : List UInt8 := [132, 1, 1, 167, 255, 227, 42, 182, 1, 52, 42, 180, 1, 31, 172]
abbrev dktX3_undo_2 : List UInt8 := dkwX3_undo_2 ++ []
def dkwX3_undo_1 : List UInt8 := [162, 0, 29, 42, 180, 0, 23, 27, 42, 180, 0, 26, 16, 83, 42, 180, 1, 31, 104, 27, 96, 46, 79]
abbrev dktX3_undo_1 : List UInt8 := dkwX3_undo_1 ++ dktX3_undo_2
def dkwX3_undo_0 : List UInt8 := [42, 180, 1, 31, 154, 0, 5, 2, 172, 42, 89, 180, 1, 31, 4, 100, 181, 1, 31, 3, 60, 27, 16, 83]
abbrev dktX3_undo_0 : List UInt8 := dkwX3_undo_0 ++ dktX3_undo_1
theorem dksX3_undo_0 : cX3_undo.data.toList.drop 0 = dktX3_undo_0 := by decide +kernel
theorem dksX3_undo_1 : cX3_undo.data.toList.drop 24 = dktX3_undo_1 := dk_seg dksX3_undo_0 24 rfl rfl
theorem dksX3_undo_2 : cX3_undo.data.toList.drop 47 = dktX3_undo_2 := dk_seg dksX3_undo_1 23 rfl rfl
theorem dX3_undo_0 : decode cX3_undo 0 = .ok (.aload_n 0, 1) := dk_42 (dk_at dksX3_undo_0 0 rfl rfl)
theorem dX3_undo_1 : decode cX3_undo 1 = .ok (.getfield 287, 3) := dk_180 1 31 (dk_at dksX3_undo_0 1 rfl rfl)
theorem dX3_undo_4 : decode cX3_undo 4 = .ok (.ifCond .ne 5, 3) := dk_154 0 5 (dk_at dksX3_undo_0 4 rfl rfl)
theorem dX3_undo_7 : decode cX3_undo 7 = .ok (.iconst (-1), 1) := dk_2 (dk_at dksX3_undo_0 7 rfl rfl)
theorem dX3_undo_8 : decode cX3_undo 8 = .ok (.ireturn, 1) := dk_172 (dk_at dksX3_undo_0 8 rfl rfl)
theorem dX3_undo_9 : decode cX3_undo 9 = .ok (.aload_n 0, 1) := dk_42 (dk_at dksX3_undo_0 9 rfl rfl)
theorem dX3_undo_10 : decode cX3_undo 10 = .ok (.dup, 1) := dk_89 (dk_at dksX3_undo_0 10 rfl rfl)
theorem dX3_undo_11 : decode cX3_undo 11 = .ok (.getfield 287, 3) := dk_180 1 31 (dk_at dksX3_undo_0 11 rfl rfl)
theorem dX3_undo_14 : decode cX3_undo 14 = .ok (.iconst 1, 1) := dk_4 (dk_at dksX3_undo_0 14 rfl rfl)
theorem dX3_undo_15 : decode cX3_undo 15 = .ok (.isub, 1) := dk_100 (dk_at dksX3_undo_0 15 rfl rfl)
theorem dX3_undo_16 : decode cX3_undo 16 = .ok (.putfield 287, 3) := dk_181 1 31 (dk_at dksX3_undo_0 16 rfl rfl)
theorem dX3_undo_19 : decode cX3_undo 19 = .ok (.iconst 0, 1) := dk_3 (dk_at dksX3_undo_0 19 rfl rfl)
theorem dX3_undo_20 : decode cX3_undo 20 = .ok (.istore_n 1, 1) := dk_60 (dk_at dksX3_undo_0 20 rfl rfl)
theorem dX3_undo_21 : decode cX3_undo 21 = .ok (.iload_n 1, 1) := dk_27 (dk_at dksX3_undo_0 21 rfl rfl)
theorem dX3_undo_22 : decode cX3_undo 22 = .ok (.bipush 83, 2) := dk_16 83 (dk_at dksX3_undo_0 22 rfl rfl)
theorem dX3_undo_24 : decode cX3_undo 24 = .ok (.if_icmp .ge 29, 3) := dk_162 0 29 (dk_at dksX3_undo_1 0 rfl rfl)
theorem dX3_undo_27 : decode cX3_undo 27 = .ok (.aload_n 0, 1) := dk_42 (dk_at dksX3_undo_1 3 rfl rfl)
theorem dX3_undo_28 : decode cX3_undo 28 = .ok (.getfield 23, 3) := dk_180 0 23 (dk_at dksX3_undo_1 4 rfl rfl)
theorem dX3_undo_31 : decode cX3_undo 31 = .ok (.iload_n 1, 1) := dk_27 (dk_at dksX3_undo_1 7 rfl rfl)
theorem dX3_undo_32 : decode cX3_undo 32 = .ok (.aload_n 0, 1) := dk_42 (dk_at dksX3_undo_1 8 rfl rfl)
theorem dX3_undo_33 : decode cX3_undo 33 = .ok (.getfield 26, 3) := dk_180 0 26 (dk_at dksX3_undo_1 9 rfl rfl)
theorem dX3_undo_36 : decode cX3_undo 36 = .ok (.bipush 83, 2) := dk_16 83 (dk_at dksX3_undo_1 12 rfl rfl)
theorem dX3_undo_38 : decode cX3_undo 38 = .ok (.aload_n 0, 1) := dk_42 (dk_at dksX3_undo_1 14 rfl rfl)
theorem dX3_undo_39 : decode cX3_undo 39 = .ok (.getfield 287, 3) := dk_180 1 31 (dk_at dksX3_undo_1 15 rfl rfl)
theorem dX3_undo_42 : decode cX3_undo 42 = .ok (.imul, 1) := dk_104 (dk_at dksX3_undo_1 18 rfl rfl)
theorem dX3_undo_43 : decode cX3_undo 43 = .ok (.iload_n 1, 1) := dk_27 (dk_at dksX3_undo_1 19 rfl rfl)
theorem dX3_undo_44 : decode cX3_undo 44 = .ok (.iadd, 1) := dk_96 (dk_at dksX3_undo_1 20 rfl rfl)
theorem dX3_undo_45 : decode cX3_undo 45 = .ok (.iaload, 1) := dk_46 (dk_at dksX3_undo_1 21 rfl rfl)
theorem dX3_undo_46 : decode cX3_undo 46 = .ok (.iastore, 1) := dk_79 (dk_at dksX3_undo_1 22 rfl rfl)
theorem dX3_undo_47 : decode cX3_undo 47 = .ok (.iinc 1 1, 3) := dk_132 1 1 (dk_at dksX3_undo_2 0 rfl rfl)
theorem dX3_undo_50 : decode cX3_undo 50 = .ok (.goto (-29), 3) := dk_167 255 227 (dk_at dksX3_undo_2 3 rfl rfl)
theorem dX3_undo_53 : decode cX3_undo 53 = .ok (.aload_n 0, 1) := dk_42 (dk_at dksX3_undo_2 6 rfl rfl)
theorem dX3_undo_54 : decode cX3_undo 54 = .ok (.invokevirtual 308, 3) := dk_182 1 52 (dk_at dksX3_undo_2 7 rfl rfl)
theorem dX3_undo_57 : decode cX3_undo 57 = .ok (.aload_n 0, 1) := dk_42 (dk_at dksX3_undo_2 10 rfl rfl)
theorem dX3_undo_58 : decode cX3_undo 58 = .ok (.getfield 287, 3) := dk_180 1 31 (dk_at dksX3_undo_2 11 rfl rfl)
theorem dX3_undo_61 : decode cX3_undo 61 = .ok (.ireturn, 1) := dk_172 (dk_at dksX3_undo_2 14 rfl rfl)
abbrev cX3_keep : ByteArray := prog_18_method_98_code
def yX3_keep : MethodName := ⟨RX3, "keep", "(I)Z"⟩
def dkwX3_keep_2 : List UInt8 := [167, 255, 230, 4, 172]
abbrev dktX3_keep_2 : List UInt8 := dkwX3_keep_2 ++ []
def dkwX3_keep_1 : List UInt8 := [162, 0, 26, 42, 180, 0, 29, 16, 83, 27, 104, 28, 96, 42, 180, 0, 23, 28, 46, 79, 132, 2, 1]
abbrev dktX3_keep_1 : List UInt8 := dkwX3_keep_1 ++ dktX3_keep_2
def dkwX3_keep_0 : List UInt8 := [27, 3, 4, 184, 0, 85, 154, 0, 5, 3, 172, 42, 180, 0, 32, 27, 4, 84, 3, 61, 28, 16, 83]
abbrev dktX3_keep_0 : List UInt8 := dkwX3_keep_0 ++ dktX3_keep_1
theorem dksX3_keep_0 : cX3_keep.data.toList.drop 0 = dktX3_keep_0 := by decide +kernel
theorem dksX3_keep_1 : cX3_keep.data.toList.drop 23 = dktX3_keep_1 := dk_seg dksX3_keep_0 23 rfl rfl
theorem dksX3_keep_2 : cX3_keep.data.toList.drop 46 = dktX3_keep_2 := dk_seg dksX3_keep_1 23 rfl rfl
theorem dX3_keep_0 : decode cX3_keep 0 = .ok (.iload_n 1, 1) := dk_27 (dk_at dksX3_keep_0 0 rfl rfl)
theorem dX3_keep_1 : decode cX3_keep 1 = .ok (.iconst 0, 1) := dk_3 (dk_at dksX3_keep_0 1 rfl rfl)
theorem dX3_keep_2 : decode cX3_keep 2 = .ok (.iconst 1, 1) := dk_4 (dk_at dksX3_keep_0 2 rfl rfl)
theorem dX3_keep_3 : decode cX3_keep 3 = .ok (.invokestatic 85, 3) := dk_184 0 85 (dk_at dksX3_keep_0 3 rfl rfl)
theorem dX3_keep_6 : decode cX3_keep 6 = .ok (.ifCond .ne 5, 3) := dk_154 0 5 (dk_at dksX3_keep_0 6 rfl rfl)
theorem dX3_keep_9 : decode cX3_keep 9 = .ok (.iconst 0, 1) := dk_3 (dk_at dksX3_keep_0 9 rfl rfl)
theorem dX3_keep_10 : decode cX3_keep 10 = .ok (.ireturn, 1) := dk_172 (dk_at dksX3_keep_0 10 rfl rfl)
theorem dX3_keep_11 : decode cX3_keep 11 = .ok (.aload_n 0, 1) := dk_42 (dk_at dksX3_keep_0 11 rfl rfl)
theorem dX3_keep_12 : decode cX3_keep 12 = .ok (.getfield 32, 3) := dk_180 0 32 (dk_at dksX3_keep_0 12 rfl rfl)
theorem dX3_keep_15 : decode cX3_keep 15 = .ok (.iload_n 1, 1) := dk_27 (dk_at dksX3_keep_0 15 rfl rfl)
theorem dX3_keep_16 : decode cX3_keep 16 = .ok (.iconst 1, 1) := dk_4 (dk_at dksX3_keep_0 16 rfl rfl)
theorem dX3_keep_17 : decode cX3_keep 17 = .ok (.bastore, 1) := dk_84 (dk_at dksX3_keep_0 17 rfl rfl)
theorem dX3_keep_18 : decode cX3_keep 18 = .ok (.iconst 0, 1) := dk_3 (dk_at dksX3_keep_0 18 rfl rfl)
theorem dX3_keep_19 : decode cX3_keep 19 = .ok (.istore_n 2, 1) := dk_61 (dk_at dksX3_keep_0 19 rfl rfl)
theorem dX3_keep_20 : decode cX3_keep 20 = .ok (.iload_n 2, 1) := dk_28 (dk_at dksX3_keep_0 20 rfl rfl)
theorem dX3_keep_21 : decode cX3_keep 21 = .ok (.bipush 83, 2) := dk_16 83 (dk_at dksX3_keep_0 21 rfl rfl)
theorem dX3_keep_23 : decode cX3_keep 23 = .ok (.if_icmp .ge 26, 3) := dk_162 0 26 (dk_at dksX3_keep_1 0 rfl rfl)
theorem dX3_keep_26 : decode cX3_keep 26 = .ok (.aload_n 0, 1) := dk_42 (dk_at dksX3_keep_1 3 rfl rfl)
theorem dX3_keep_27 : decode cX3_keep 27 = .ok (.getfield 29, 3) := dk_180 0 29 (dk_at dksX3_keep_1 4 rfl rfl)
theorem dX3_keep_30 : decode cX3_keep 30 = .ok (.bipush 83, 2) := dk_16 83 (dk_at dksX3_keep_1 7 rfl rfl)
theorem dX3_keep_32 : decode cX3_keep 32 = .ok (.iload_n 1, 1) := dk_27 (dk_at dksX3_keep_1 9 rfl rfl)
theorem dX3_keep_33 : decode cX3_keep 33 = .ok (.imul, 1) := dk_104 (dk_at dksX3_keep_1 10 rfl rfl)
theorem dX3_keep_34 : decode cX3_keep 34 = .ok (.iload_n 2, 1) := dk_28 (dk_at dksX3_keep_1 11 rfl rfl)
theorem dX3_keep_35 : decode cX3_keep 35 = .ok (.iadd, 1) := dk_96 (dk_at dksX3_keep_1 12 rfl rfl)
theorem dX3_keep_36 : decode cX3_keep 36 = .ok (.aload_n 0, 1) := dk_42 (dk_at dksX3_keep_1 13 rfl rfl)
theorem dX3_keep_37 : decode cX3_keep 37 = .ok (.getfield 23, 3) := dk_180 0 23 (dk_at dksX3_keep_1 14 rfl rfl)
theorem dX3_keep_40 : decode cX3_keep 40 = .ok (.iload_n 2, 1) := dk_28 (dk_at dksX3_keep_1 17 rfl rfl)
theorem dX3_keep_41 : decode cX3_keep 41 = .ok (.iaload, 1) := dk_46 (dk_at dksX3_keep_1 18 rfl rfl)
theorem dX3_keep_42 : decode cX3_keep 42 = .ok (.iastore, 1) := dk_79 (dk_at dksX3_keep_1 19 rfl rfl)
theorem dX3_keep_43 : decode cX3_keep 43 = .ok (.iinc 2 1, 3) := dk_132 2 1 (dk_at dksX3_keep_1 20 rfl rfl)
theorem dX3_keep_46 : decode cX3_keep 46 = .ok (.goto (-26), 3) := dk_167 255 230 (dk_at dksX3_keep_2 0 rfl rfl)
theorem dX3_keep_49 : decode cX3_keep 49 = .ok (.iconst 1, 1) := dk_4 (dk_at dksX3_keep_2 3 rfl rfl)
theorem dX3_keep_50 : decode cX3_keep 50 = .ok (.ireturn, 1) := dk_172 (dk_at dksX3_keep_2 4 rfl rfl)
abbrev cX3_again : ByteArray := prog_18_method_99_code
def yX3_again : MethodName := ⟨RX3, "again", "(I)Z"⟩
def dkwX3_again_2 : List UInt8 := [79, 132, 2, 1, 167, 255, 230, 42, 182, 1, 52, 4, 172]
abbrev dktX3_again_2 : List UInt8 := dkwX3_again_2 ++ []
def dkwX3_again_1 : List UInt8 := [3, 61, 28, 16, 83, 162, 0, 26, 42, 180, 0, 23, 28, 42, 180, 0, 29, 16, 83, 27, 104, 28, 96, 46]
abbrev dktX3_again_1 : List UInt8 := dkwX3_again_1 ++ dktX3_again_2
def dkwX3_again_0 : List UInt8 := [27, 3, 4, 184, 0, 85, 153, 0, 12, 42, 180, 0, 32, 27, 51, 154, 0, 5, 3, 172, 42, 182, 1, 148]
abbrev dktX3_again_0 : List UInt8 := dkwX3_again_0 ++ dktX3_again_1
theorem dksX3_again_0 : cX3_again.data.toList.drop 0 = dktX3_again_0 := by decide +kernel
theorem dksX3_again_1 : cX3_again.data.toList.drop 24 = dktX3_again_1 := dk_seg dksX3_again_0 24 rfl rfl
theorem dksX3_again_2 : cX3_again.data.toList.drop 48 = dktX3_again_2 := dk_seg dksX3_again_1 24 rfl rfl
theorem dX3_again_0 : decode cX3_again 0 = .ok (.iload_n 1, 1) := dk_27 (dk_at dksX3_again_0 0 rfl rfl)
theorem dX3_again_1 : decode cX3_again 1 = .ok (.iconst 0, 1) := dk_3 (dk_at dksX3_again_0 1 rfl rfl)
theorem dX3_again_2 : decode cX3_again 2 = .ok (.iconst 1, 1) := dk_4 (dk_at dksX3_again_0 2 rfl rfl)
theorem dX3_again_3 : decode cX3_again 3 = .ok (.invokestatic 85, 3) := dk_184 0 85 (dk_at dksX3_again_0 3 rfl rfl)
theorem dX3_again_6 : decode cX3_again 6 = .ok (.ifCond .eq 12, 3) := dk_153 0 12 (dk_at dksX3_again_0 6 rfl rfl)
theorem dX3_again_9 : decode cX3_again 9 = .ok (.aload_n 0, 1) := dk_42 (dk_at dksX3_again_0 9 rfl rfl)
theorem dX3_again_10 : decode cX3_again 10 = .ok (.getfield 32, 3) := dk_180 0 32 (dk_at dksX3_again_0 10 rfl rfl)
theorem dX3_again_13 : decode cX3_again 13 = .ok (.iload_n 1, 1) := dk_27 (dk_at dksX3_again_0 13 rfl rfl)
theorem dX3_again_14 : decode cX3_again 14 = .ok (.baload, 1) := dk_51 (dk_at dksX3_again_0 14 rfl rfl)
theorem dX3_again_15 : decode cX3_again 15 = .ok (.ifCond .ne 5, 3) := dk_154 0 5 (dk_at dksX3_again_0 15 rfl rfl)
theorem dX3_again_18 : decode cX3_again 18 = .ok (.iconst 0, 1) := dk_3 (dk_at dksX3_again_0 18 rfl rfl)
theorem dX3_again_19 : decode cX3_again 19 = .ok (.ireturn, 1) := dk_172 (dk_at dksX3_again_0 19 rfl rfl)
theorem dX3_again_20 : decode cX3_again 20 = .ok (.aload_n 0, 1) := dk_42 (dk_at dksX3_again_0 20 rfl rfl)
theorem dX3_again_21 : decode cX3_again 21 = .ok (.invokevirtual 404, 3) := dk_182 1 148 (dk_at dksX3_again_0 21 rfl rfl)
theorem dX3_again_24 : decode cX3_again 24 = .ok (.iconst 0, 1) := dk_3 (dk_at dksX3_again_1 0 rfl rfl)
theorem dX3_again_25 : decode cX3_again 25 = .ok (.istore_n 2, 1) := dk_61 (dk_at dksX3_again_1 1 rfl rfl)
theorem dX3_again_26 : decode cX3_again 26 = .ok (.iload_n 2, 1) := dk_28 (dk_at dksX3_again_1 2 rfl rfl)
theorem dX3_again_27 : decode cX3_again 27 = .ok (.bipush 83, 2) := dk_16 83 (dk_at dksX3_again_1 3 rfl rfl)
theorem dX3_again_29 : decode cX3_again 29 = .ok (.if_icmp .ge 26, 3) := dk_162 0 26 (dk_at dksX3_again_1 5 rfl rfl)
theorem dX3_again_32 : decode cX3_again 32 = .ok (.aload_n 0, 1) := dk_42 (dk_at dksX3_again_1 8 rfl rfl)
theorem dX3_again_33 : decode cX3_again 33 = .ok (.getfield 23, 3) := dk_180 0 23 (dk_at dksX3_again_1 9 rfl rfl)
theorem dX3_again_36 : decode cX3_again 36 = .ok (.iload_n 2, 1) := dk_28 (dk_at dksX3_again_1 12 rfl rfl)
theorem dX3_again_37 : decode cX3_again 37 = .ok (.aload_n 0, 1) := dk_42 (dk_at dksX3_again_1 13 rfl rfl)
theorem dX3_again_38 : decode cX3_again 38 = .ok (.getfield 29, 3) := dk_180 0 29 (dk_at dksX3_again_1 14 rfl rfl)
theorem dX3_again_41 : decode cX3_again 41 = .ok (.bipush 83, 2) := dk_16 83 (dk_at dksX3_again_1 17 rfl rfl)
theorem dX3_again_43 : decode cX3_again 43 = .ok (.iload_n 1, 1) := dk_27 (dk_at dksX3_again_1 19 rfl rfl)
theorem dX3_again_44 : decode cX3_again 44 = .ok (.imul, 1) := dk_104 (dk_at dksX3_again_1 20 rfl rfl)
theorem dX3_again_45 : decode cX3_again 45 = .ok (.iload_n 2, 1) := dk_28 (dk_at dksX3_again_1 21 rfl rfl)
theorem dX3_again_46 : decode cX3_again 46 = .ok (.iadd, 1) := dk_96 (dk_at dksX3_again_1 22 rfl rfl)
theorem dX3_again_47 : decode cX3_again 47 = .ok (.iaload, 1) := dk_46 (dk_at dksX3_again_1 23 rfl rfl)
theorem dX3_again_48 : decode cX3_again 48 = .ok (.iastore, 1) := dk_79 (dk_at dksX3_again_2 0 rfl rfl)
theorem dX3_again_49 : decode cX3_again 49 = .ok (.iinc 2 1, 3) := dk_132 2 1 (dk_at dksX3_again_2 1 rfl rfl)
theorem dX3_again_52 : decode cX3_again 52 = .ok (.goto (-26), 3) := dk_167 255 230 (dk_at dksX3_again_2 4 rfl rfl)
theorem dX3_again_55 : decode cX3_again 55 = .ok (.aload_n 0, 1) := dk_42 (dk_at dksX3_again_2 7 rfl rfl)
theorem dX3_again_56 : decode cX3_again 56 = .ok (.invokevirtual 308, 3) := dk_182 1 52 (dk_at dksX3_again_2 8 rfl rfl)
theorem dX3_again_59 : decode cX3_again 59 = .ok (.iconst 1, 1) := dk_4 (dk_at dksX3_again_2 11 rfl rfl)
theorem dX3_again_60 : decode cX3_again 60 = .ok (.ireturn, 1) := dk_172 (dk_at dksX3_again_2 12 rfl rfl)
abbrev cX3_worlds : ByteArray := prog_18_method_100_code
def yX3_worlds : MethodName := ⟨RX3, "worlds", "(I)I"⟩
def dkwX3_worlds_1 : List UInt8 := [184, 1, 66, 167, 0, 4, 2, 172]
abbrev dktX3_worlds_1 : List UInt8 := dkwX3_worlds_1 ++ []
def dkwX3_worlds_0 : List UInt8 := [27, 154, 0, 13, 42, 180, 0, 46, 184, 1, 66, 167, 0, 19, 27, 4, 160, 0, 13, 42, 180, 0, 55]
abbrev dktX3_worlds_0 : List UInt8 := dkwX3_worlds_0 ++ dktX3_worlds_1
theorem dksX3_worlds_0 : cX3_worlds.data.toList.drop 0 = dktX3_worlds_0 := by decide +kernel
theorem dksX3_worlds_1 : cX3_worlds.data.toList.drop 23 = dktX3_worlds_1 := dk_seg dksX3_worlds_0 23 rfl rfl
theorem dX3_worlds_0 : decode cX3_worlds 0 = .ok (.iload_n 1, 1) := dk_27 (dk_at dksX3_worlds_0 0 rfl rfl)
theorem dX3_worlds_1 : decode cX3_worlds 1 = .ok (.ifCond .ne 13, 3) := dk_154 0 13 (dk_at dksX3_worlds_0 1 rfl rfl)
theorem dX3_worlds_4 : decode cX3_worlds 4 = .ok (.aload_n 0, 1) := dk_42 (dk_at dksX3_worlds_0 4 rfl rfl)
theorem dX3_worlds_5 : decode cX3_worlds 5 = .ok (.getfield 46, 3) := dk_180 0 46 (dk_at dksX3_worlds_0 5 rfl rfl)
theorem dX3_worlds_8 : decode cX3_worlds 8 = .ok (.invokestatic 322, 3) := dk_184 1 66 (dk_at dksX3_worlds_0 8 rfl rfl)
theorem dX3_worlds_11 : decode cX3_worlds 11 = .ok (.goto 19, 3) := dk_167 0 19 (dk_at dksX3_worlds_0 11 rfl rfl)
theorem dX3_worlds_14 : decode cX3_worlds 14 = .ok (.iload_n 1, 1) := dk_27 (dk_at dksX3_worlds_0 14 rfl rfl)
theorem dX3_worlds_15 : decode cX3_worlds 15 = .ok (.iconst 1, 1) := dk_4 (dk_at dksX3_worlds_0 15 rfl rfl)
theorem dX3_worlds_16 : decode cX3_worlds 16 = .ok (.if_icmp .ne 13, 3) := dk_160 0 13 (dk_at dksX3_worlds_0 16 rfl rfl)
theorem dX3_worlds_19 : decode cX3_worlds 19 = .ok (.aload_n 0, 1) := dk_42 (dk_at dksX3_worlds_0 19 rfl rfl)
theorem dX3_worlds_20 : decode cX3_worlds 20 = .ok (.getfield 55, 3) := dk_180 0 55 (dk_at dksX3_worlds_0 20 rfl rfl)
theorem dX3_worlds_23 : decode cX3_worlds 23 = .ok (.invokestatic 322, 3) := dk_184 1 66 (dk_at dksX3_worlds_1 0 rfl rfl)
theorem dX3_worlds_26 : decode cX3_worlds 26 = .ok (.goto 4, 3) := dk_167 0 4 (dk_at dksX3_worlds_1 3 rfl rfl)
theorem dX3_worlds_29 : decode cX3_worlds 29 = .ok (.iconst (-1), 1) := dk_2 (dk_at dksX3_worlds_1 6 rfl rfl)
theorem dX3_worlds_30 : decode cX3_worlds 30 = .ok (.ireturn, 1) := dk_172 (dk_at dksX3_worlds_1 7 rfl rfl)
abbrev cX3_clash : ByteArray := prog_18_method_101_code
def yX3_clash : MethodName := ⟨RX3, "clash", "(II)I"⟩
def dkwX3_clash_4 : List UInt8 := [154, 0, 7, 4, 167, 0, 4, 3, 172]
abbrev dktX3_clash_4 : List UInt8 := dkwX3_clash_4 ++ []
def dkwX3_clash_3 : List UInt8 := [182, 1, 83, 29, 126, 42, 28, 8, 182, 1, 83, 29, 126, 160, 0, 13, 42, 180, 0, 58, 184, 1, 66]
abbrev dktX3_clash_3 : List UInt8 := dkwX3_clash_3 ++ dktX3_clash_4
def dkwX3_clash_2 : List UInt8 := [182, 1, 83, 128, 42, 27, 8, 182, 1, 83, 42, 28, 8, 182, 1, 83, 128, 182, 1, 79, 42, 27, 8]
abbrev dktX3_clash_2 : List UInt8 := dkwX3_clash_2 ++ dktX3_clash_3
def dkwX3_clash_1 : List UInt8 := [42, 28, 7, 182, 1, 83, 126, 62, 42, 42, 180, 0, 58, 42, 27, 7, 182, 1, 83, 42, 28, 7]
abbrev dktX3_clash_1 : List UInt8 := dkwX3_clash_1 ++ dktX3_clash_2
def dkwX3_clash_0 : List UInt8 := [42, 27, 182, 1, 124, 153, 0, 11, 42, 28, 182, 1, 124, 154, 0, 5, 2, 172, 42, 27, 7, 182, 1, 83]
abbrev dktX3_clash_0 : List UInt8 := dkwX3_clash_0 ++ dktX3_clash_1
theorem dksX3_clash_0 : cX3_clash.data.toList.drop 0 = dktX3_clash_0 := by decide +kernel
theorem dksX3_clash_1 : cX3_clash.data.toList.drop 24 = dktX3_clash_1 := dk_seg dksX3_clash_0 24 rfl rfl
theorem dksX3_clash_2 : cX3_clash.data.toList.drop 46 = dktX3_clash_2 := dk_seg dksX3_clash_1 22 rfl rfl
theorem dksX3_clash_3 : cX3_clash.data.toList.drop 69 = dktX3_clash_3 := dk_seg dksX3_clash_2 23 rfl rfl
theorem dksX3_clash_4 : cX3_clash.data.toList.drop 92 = dktX3_clash_4 := dk_seg dksX3_clash_3 23 rfl rfl
theorem dX3_clash_0 : decode cX3_clash 0 = .ok (.aload_n 0, 1) := dk_42 (dk_at dksX3_clash_0 0 rfl rfl)
theorem dX3_clash_1 : decode cX3_clash 1 = .ok (.iload_n 1, 1) := dk_27 (dk_at dksX3_clash_0 1 rfl rfl)
theorem dX3_clash_2 : decode cX3_clash 2 = .ok (.invokevirtual 380, 3) := dk_182 1 124 (dk_at dksX3_clash_0 2 rfl rfl)
theorem dX3_clash_5 : decode cX3_clash 5 = .ok (.ifCond .eq 11, 3) := dk_153 0 11 (dk_at dksX3_clash_0 5 rfl rfl)
theorem dX3_clash_8 : decode cX3_clash 8 = .ok (.aload_n 0, 1) := dk_42 (dk_at dksX3_clash_0 8 rfl rfl)
theorem dX3_clash_9 : decode cX3_clash 9 = .ok (.iload_n 2, 1) := dk_28 (dk_at dksX3_clash_0 9 rfl rfl)
theorem dX3_clash_10 : decode cX3_clash 10 = .ok (.invokevirtual 380, 3) := dk_182 1 124 (dk_at dksX3_clash_0 10 rfl rfl)
theorem dX3_clash_13 : decode cX3_clash 13 = .ok (.ifCond .ne 5, 3) := dk_154 0 5 (dk_at dksX3_clash_0 13 rfl rfl)
theorem dX3_clash_16 : decode cX3_clash 16 = .ok (.iconst (-1), 1) := dk_2 (dk_at dksX3_clash_0 16 rfl rfl)
theorem dX3_clash_17 : decode cX3_clash 17 = .ok (.ireturn, 1) := dk_172 (dk_at dksX3_clash_0 17 rfl rfl)
theorem dX3_clash_18 : decode cX3_clash 18 = .ok (.aload_n 0, 1) := dk_42 (dk_at dksX3_clash_0 18 rfl rfl)
theorem dX3_clash_19 : decode cX3_clash 19 = .ok (.iload_n 1, 1) := dk_27 (dk_at dksX3_clash_0 19 rfl rfl)
theorem dX3_clash_20 : decode cX3_clash 20 = .ok (.iconst 4, 1) := dk_7 (dk_at dksX3_clash_0 20 rfl rfl)
theorem dX3_clash_21 : decode cX3_clash 21 = .ok (.invokevirtual 339, 3) := dk_182 1 83 (dk_at dksX3_clash_0 21 rfl rfl)
theorem dX3_clash_24 : decode cX3_clash 24 = .ok (.aload_n 0, 1) := dk_42 (dk_at dksX3_clash_1 0 rfl rfl)
theorem dX3_clash_25 : decode cX3_clash 25 = .ok (.iload_n 2, 1) := dk_28 (dk_at dksX3_clash_1 1 rfl rfl)
theorem dX3_clash_26 : decode cX3_clash 26 = .ok (.iconst 4, 1) := dk_7 (dk_at dksX3_clash_1 2 rfl rfl)
theorem dX3_clash_27 : decode cX3_clash 27 = .ok (.invokevirtual 339, 3) := dk_182 1 83 (dk_at dksX3_clash_1 3 rfl rfl)
theorem dX3_clash_30 : decode cX3_clash 30 = .ok (.iand, 1) := dk_126 (dk_at dksX3_clash_1 6 rfl rfl)
theorem dX3_clash_31 : decode cX3_clash 31 = .ok (.istore_n 3, 1) := dk_62 (dk_at dksX3_clash_1 7 rfl rfl)
theorem dX3_clash_32 : decode cX3_clash 32 = .ok (.aload_n 0, 1) := dk_42 (dk_at dksX3_clash_1 8 rfl rfl)
theorem dX3_clash_33 : decode cX3_clash 33 = .ok (.aload_n 0, 1) := dk_42 (dk_at dksX3_clash_1 9 rfl rfl)
theorem dX3_clash_34 : decode cX3_clash 34 = .ok (.getfield 58, 3) := dk_180 0 58 (dk_at dksX3_clash_1 10 rfl rfl)
theorem dX3_clash_37 : decode cX3_clash 37 = .ok (.aload_n 0, 1) := dk_42 (dk_at dksX3_clash_1 13 rfl rfl)
theorem dX3_clash_38 : decode cX3_clash 38 = .ok (.iload_n 1, 1) := dk_27 (dk_at dksX3_clash_1 14 rfl rfl)
theorem dX3_clash_39 : decode cX3_clash 39 = .ok (.iconst 4, 1) := dk_7 (dk_at dksX3_clash_1 15 rfl rfl)
theorem dX3_clash_40 : decode cX3_clash 40 = .ok (.invokevirtual 339, 3) := dk_182 1 83 (dk_at dksX3_clash_1 16 rfl rfl)
theorem dX3_clash_43 : decode cX3_clash 43 = .ok (.aload_n 0, 1) := dk_42 (dk_at dksX3_clash_1 19 rfl rfl)
theorem dX3_clash_44 : decode cX3_clash 44 = .ok (.iload_n 2, 1) := dk_28 (dk_at dksX3_clash_1 20 rfl rfl)
theorem dX3_clash_45 : decode cX3_clash 45 = .ok (.iconst 4, 1) := dk_7 (dk_at dksX3_clash_1 21 rfl rfl)
theorem dX3_clash_46 : decode cX3_clash 46 = .ok (.invokevirtual 339, 3) := dk_182 1 83 (dk_at dksX3_clash_2 0 rfl rfl)
theorem dX3_clash_49 : decode cX3_clash 49 = .ok (.ior, 1) := dk_128 (dk_at dksX3_clash_2 3 rfl rfl)
theorem dX3_clash_50 : decode cX3_clash 50 = .ok (.aload_n 0, 1) := dk_42 (dk_at dksX3_clash_2 4 rfl rfl)
theorem dX3_clash_51 : decode cX3_clash 51 = .ok (.iload_n 1, 1) := dk_27 (dk_at dksX3_clash_2 5 rfl rfl)
theorem dX3_clash_52 : decode cX3_clash 52 = .ok (.iconst 5, 1) := dk_8 (dk_at dksX3_clash_2 6 rfl rfl)
theorem dX3_clash_53 : decode cX3_clash 53 = .ok (.invokevirtual 339, 3) := dk_182 1 83 (dk_at dksX3_clash_2 7 rfl rfl)
theorem dX3_clash_56 : decode cX3_clash 56 = .ok (.aload_n 0, 1) := dk_42 (dk_at dksX3_clash_2 10 rfl rfl)
theorem dX3_clash_57 : decode cX3_clash 57 = .ok (.iload_n 2, 1) := dk_28 (dk_at dksX3_clash_2 11 rfl rfl)
theorem dX3_clash_58 : decode cX3_clash 58 = .ok (.iconst 5, 1) := dk_8 (dk_at dksX3_clash_2 12 rfl rfl)
theorem dX3_clash_59 : decode cX3_clash 59 = .ok (.invokevirtual 339, 3) := dk_182 1 83 (dk_at dksX3_clash_2 13 rfl rfl)
theorem dX3_clash_62 : decode cX3_clash 62 = .ok (.ior, 1) := dk_128 (dk_at dksX3_clash_2 16 rfl rfl)
theorem dX3_clash_63 : decode cX3_clash 63 = .ok (.invokevirtual 335, 3) := dk_182 1 79 (dk_at dksX3_clash_2 17 rfl rfl)
theorem dX3_clash_66 : decode cX3_clash 66 = .ok (.aload_n 0, 1) := dk_42 (dk_at dksX3_clash_2 20 rfl rfl)
theorem dX3_clash_67 : decode cX3_clash 67 = .ok (.iload_n 1, 1) := dk_27 (dk_at dksX3_clash_2 21 rfl rfl)
theorem dX3_clash_68 : decode cX3_clash 68 = .ok (.iconst 5, 1) := dk_8 (dk_at dksX3_clash_2 22 rfl rfl)
theorem dX3_clash_69 : decode cX3_clash 69 = .ok (.invokevirtual 339, 3) := dk_182 1 83 (dk_at dksX3_clash_3 0 rfl rfl)
theorem dX3_clash_72 : decode cX3_clash 72 = .ok (.iload_n 3, 1) := dk_29 (dk_at dksX3_clash_3 3 rfl rfl)
theorem dX3_clash_73 : decode cX3_clash 73 = .ok (.iand, 1) := dk_126 (dk_at dksX3_clash_3 4 rfl rfl)
theorem dX3_clash_74 : decode cX3_clash 74 = .ok (.aload_n 0, 1) := dk_42 (dk_at dksX3_clash_3 5 rfl rfl)
theorem dX3_clash_75 : decode cX3_clash 75 = .ok (.iload_n 2, 1) := dk_28 (dk_at dksX3_clash_3 6 rfl rfl)
theorem dX3_clash_76 : decode cX3_clash 76 = .ok (.iconst 5, 1) := dk_8 (dk_at dksX3_clash_3 7 rfl rfl)
theorem dX3_clash_77 : decode cX3_clash 77 = .ok (.invokevirtual 339, 3) := dk_182 1 83 (dk_at dksX3_clash_3 8 rfl rfl)
theorem dX3_clash_80 : decode cX3_clash 80 = .ok (.iload_n 3, 1) := dk_29 (dk_at dksX3_clash_3 11 rfl rfl)
theorem dX3_clash_81 : decode cX3_clash 81 = .ok (.iand, 1) := dk_126 (dk_at dksX3_clash_3 12 rfl rfl)
theorem dX3_clash_82 : decode cX3_clash 82 = .ok (.if_icmp .ne 13, 3) := dk_160 0 13 (dk_at dksX3_clash_3 13 rfl rfl)
theorem dX3_clash_85 : decode cX3_clash 85 = .ok (.aload_n 0, 1) := dk_42 (dk_at dksX3_clash_3 16 rfl rfl)
theorem dX3_clash_86 : decode cX3_clash 86 = .ok (.getfield 58, 3) := dk_180 0 58 (dk_at dksX3_clash_3 17 rfl rfl)
theorem dX3_clash_89 : decode cX3_clash 89 = .ok (.invokestatic 322, 3) := dk_184 1 66 (dk_at dksX3_clash_3 20 rfl rfl)
theorem dX3_clash_92 : decode cX3_clash 92 = .ok (.ifCond .ne 7, 3) := dk_154 0 7 (dk_at dksX3_clash_4 0 rfl rfl)
theorem dX3_clash_95 : decode cX3_clash 95 = .ok (.iconst 1, 1) := dk_4 (dk_at dksX3_clash_4 3 rfl rfl)
theorem dX3_clash_96 : decode cX3_clash 96 = .ok (.goto 4, 3) := dk_167 0 4 (dk_at dksX3_clash_4 4 rfl rfl)
theorem dX3_clash_99 : decode cX3_clash 99 = .ok (.iconst 0, 1) := dk_3 (dk_at dksX3_clash_4 7 rfl rfl)
theorem dX3_clash_100 : decode cX3_clash 100 = .ok (.ireturn, 1) := dk_172 (dk_at dksX3_clash_4 8 rfl rfl)
abbrev cX3_implied : ByteArray := prog_18_method_102_code
def yX3_implied : MethodName := ⟨RX3, "implied", "(II)I"⟩
def dkwX3_implied_2 : List UInt8 := [182, 1, 160, 154, 0, 5, 3, 172, 132, 3, 1, 167, 255, 218, 4, 172]
abbrev dktX3_implied_2 : List UInt8 := dkwX3_implied_2 ++ []
def dkwX3_implied_1 : List UInt8 := [162, 0, 37, 42, 29, 182, 1, 142, 153, 0, 23, 42, 27, 29, 182, 1, 160, 153, 0, 14, 42, 28, 29]
abbrev dktX3_implied_1 : List UInt8 := dkwX3_implied_1 ++ dktX3_implied_2
def dkwX3_implied_0 : List UInt8 := [42, 27, 182, 1, 124, 153, 0, 11, 42, 28, 182, 1, 124, 154, 0, 5, 2, 172, 3, 62, 29, 17, 1, 0]
abbrev dktX3_implied_0 : List UInt8 := dkwX3_implied_0 ++ dktX3_implied_1
theorem dksX3_implied_0 : cX3_implied.data.toList.drop 0 = dktX3_implied_0 := by decide +kernel
theorem dksX3_implied_1 : cX3_implied.data.toList.drop 24 = dktX3_implied_1 := dk_seg dksX3_implied_0 24 rfl rfl
theorem dksX3_implied_2 : cX3_implied.data.toList.drop 47 = dktX3_implied_2 := dk_seg dksX3_implied_1 23 rfl rfl
theorem dX3_implied_0 : decode cX3_implied 0 = .ok (.aload_n 0, 1) := dk_42 (dk_at dksX3_implied_0 0 rfl rfl)
theorem dX3_implied_1 : decode cX3_implied 1 = .ok (.iload_n 1, 1) := dk_27 (dk_at dksX3_implied_0 1 rfl rfl)
theorem dX3_implied_2 : decode cX3_implied 2 = .ok (.invokevirtual 380, 3) := dk_182 1 124 (dk_at dksX3_implied_0 2 rfl rfl)
theorem dX3_implied_5 : decode cX3_implied 5 = .ok (.ifCond .eq 11, 3) := dk_153 0 11 (dk_at dksX3_implied_0 5 rfl rfl)
theorem dX3_implied_8 : decode cX3_implied 8 = .ok (.aload_n 0, 1) := dk_42 (dk_at dksX3_implied_0 8 rfl rfl)
theorem dX3_implied_9 : decode cX3_implied 9 = .ok (.iload_n 2, 1) := dk_28 (dk_at dksX3_implied_0 9 rfl rfl)
theorem dX3_implied_10 : decode cX3_implied 10 = .ok (.invokevirtual 380, 3) := dk_182 1 124 (dk_at dksX3_implied_0 10 rfl rfl)
theorem dX3_implied_13 : decode cX3_implied 13 = .ok (.ifCond .ne 5, 3) := dk_154 0 5 (dk_at dksX3_implied_0 13 rfl rfl)
theorem dX3_implied_16 : decode cX3_implied 16 = .ok (.iconst (-1), 1) := dk_2 (dk_at dksX3_implied_0 16 rfl rfl)
theorem dX3_implied_17 : decode cX3_implied 17 = .ok (.ireturn, 1) := dk_172 (dk_at dksX3_implied_0 17 rfl rfl)
theorem dX3_implied_18 : decode cX3_implied 18 = .ok (.iconst 0, 1) := dk_3 (dk_at dksX3_implied_0 18 rfl rfl)
theorem dX3_implied_19 : decode cX3_implied 19 = .ok (.istore_n 3, 1) := dk_62 (dk_at dksX3_implied_0 19 rfl rfl)
theorem dX3_implied_20 : decode cX3_implied 20 = .ok (.iload_n 3, 1) := dk_29 (dk_at dksX3_implied_0 20 rfl rfl)
theorem dX3_implied_21 : decode cX3_implied 21 = .ok (.sipush 256, 3) := dk_17 1 0 (dk_at dksX3_implied_0 21 rfl rfl)
theorem dX3_implied_24 : decode cX3_implied 24 = .ok (.if_icmp .ge 37, 3) := dk_162 0 37 (dk_at dksX3_implied_1 0 rfl rfl)
theorem dX3_implied_27 : decode cX3_implied 27 = .ok (.aload_n 0, 1) := dk_42 (dk_at dksX3_implied_1 3 rfl rfl)
theorem dX3_implied_28 : decode cX3_implied 28 = .ok (.iload_n 3, 1) := dk_29 (dk_at dksX3_implied_1 4 rfl rfl)
theorem dX3_implied_29 : decode cX3_implied 29 = .ok (.invokevirtual 398, 3) := dk_182 1 142 (dk_at dksX3_implied_1 5 rfl rfl)
theorem dX3_implied_32 : decode cX3_implied 32 = .ok (.ifCond .eq 23, 3) := dk_153 0 23 (dk_at dksX3_implied_1 8 rfl rfl)
theorem dX3_implied_35 : decode cX3_implied 35 = .ok (.aload_n 0, 1) := dk_42 (dk_at dksX3_implied_1 11 rfl rfl)
theorem dX3_implied_36 : decode cX3_implied 36 = .ok (.iload_n 1, 1) := dk_27 (dk_at dksX3_implied_1 12 rfl rfl)
theorem dX3_implied_37 : decode cX3_implied 37 = .ok (.iload_n 3, 1) := dk_29 (dk_at dksX3_implied_1 13 rfl rfl)
theorem dX3_implied_38 : decode cX3_implied 38 = .ok (.invokevirtual 416, 3) := dk_182 1 160 (dk_at dksX3_implied_1 14 rfl rfl)
theorem dX3_implied_41 : decode cX3_implied 41 = .ok (.ifCond .eq 14, 3) := dk_153 0 14 (dk_at dksX3_implied_1 17 rfl rfl)
theorem dX3_implied_44 : decode cX3_implied 44 = .ok (.aload_n 0, 1) := dk_42 (dk_at dksX3_implied_1 20 rfl rfl)
theorem dX3_implied_45 : decode cX3_implied 45 = .ok (.iload_n 2, 1) := dk_28 (dk_at dksX3_implied_1 21 rfl rfl)
theorem dX3_implied_46 : decode cX3_implied 46 = .ok (.iload_n 3, 1) := dk_29 (dk_at dksX3_implied_1 22 rfl rfl)
theorem dX3_implied_47 : decode cX3_implied 47 = .ok (.invokevirtual 416, 3) := dk_182 1 160 (dk_at dksX3_implied_2 0 rfl rfl)
theorem dX3_implied_50 : decode cX3_implied 50 = .ok (.ifCond .ne 5, 3) := dk_154 0 5 (dk_at dksX3_implied_2 3 rfl rfl)
theorem dX3_implied_53 : decode cX3_implied 53 = .ok (.iconst 0, 1) := dk_3 (dk_at dksX3_implied_2 6 rfl rfl)
theorem dX3_implied_54 : decode cX3_implied 54 = .ok (.ireturn, 1) := dk_172 (dk_at dksX3_implied_2 7 rfl rfl)
theorem dX3_implied_55 : decode cX3_implied 55 = .ok (.iinc 3 1, 3) := dk_132 3 1 (dk_at dksX3_implied_2 8 rfl rfl)
theorem dX3_implied_58 : decode cX3_implied 58 = .ok (.goto (-38), 3) := dk_167 255 218 (dk_at dksX3_implied_2 11 rfl rfl)
theorem dX3_implied_61 : decode cX3_implied 61 = .ok (.iconst 1, 1) := dk_4 (dk_at dksX3_implied_2 14 rfl rfl)
theorem dX3_implied_62 : decode cX3_implied 62 = .ok (.ireturn, 1) := dk_172 (dk_at dksX3_implied_2 15 rfl rfl)
abbrev cX3_isWon : ByteArray := prog_18_method_68_code
def yX3_isWon : MethodName := ⟨RX3, "isWon", "(II)Z"⟩
def dkwX3_isWon_0 : List UInt8 := [42, 180, 0, 52, 42, 27, 3, 182, 1, 83, 28, 184, 1, 55, 172]
abbrev dktX3_isWon_0 : List UInt8 := dkwX3_isWon_0 ++ []
theorem dksX3_isWon_0 : cX3_isWon.data.toList.drop 0 = dktX3_isWon_0 := by decide +kernel
theorem dX3_isWon_0 : decode cX3_isWon 0 = .ok (.aload_n 0, 1) := dk_42 (dk_at dksX3_isWon_0 0 rfl rfl)
theorem dX3_isWon_1 : decode cX3_isWon 1 = .ok (.getfield 52, 3) := dk_180 0 52 (dk_at dksX3_isWon_0 1 rfl rfl)
theorem dX3_isWon_4 : decode cX3_isWon 4 = .ok (.aload_n 0, 1) := dk_42 (dk_at dksX3_isWon_0 4 rfl rfl)
theorem dX3_isWon_5 : decode cX3_isWon 5 = .ok (.iload_n 1, 1) := dk_27 (dk_at dksX3_isWon_0 5 rfl rfl)
theorem dX3_isWon_6 : decode cX3_isWon 6 = .ok (.iconst 0, 1) := dk_3 (dk_at dksX3_isWon_0 6 rfl rfl)
theorem dX3_isWon_7 : decode cX3_isWon 7 = .ok (.invokevirtual 339, 3) := dk_182 1 83 (dk_at dksX3_isWon_0 7 rfl rfl)
theorem dX3_isWon_10 : decode cX3_isWon 10 = .ok (.iload_n 2, 1) := dk_28 (dk_at dksX3_isWon_0 10 rfl rfl)
theorem dX3_isWon_11 : decode cX3_isWon 11 = .ok (.invokestatic 311, 3) := dk_184 1 55 (dk_at dksX3_isWon_0 11 rfl rfl)
theorem dX3_isWon_14 : decode cX3_isWon 14 = .ok (.ireturn, 1) := dk_172 (dk_at dksX3_isWon_0 14 rfl rfl)
abbrev cX3_lacks : ByteArray := prog_18_method_104_code
def yX3_lacks : MethodName := ⟨RX3, "lacks", "(II)I"⟩
def dkwX3_lacks_3 : List UInt8 := [167, 0, 19, 28, 4, 160, 0, 10, 42, 180, 1, 163, 167, 0, 7, 42, 180, 1, 166, 172]
abbrev dktX3_lacks_3 : List UInt8 := dkwX3_lacks_3 ++ []
def dkwX3_lacks_2 : List UInt8 := [167, 255, 234, 29, 42, 180, 0, 7, 4, 46, 164, 0, 8, 16, 254, 167, 0, 27, 28, 154, 0, 7, 29]
abbrev dktX3_lacks_2 : List UInt8 := dkwX3_lacks_2 ++ dktX3_lacks_3
def dkwX3_lacks_1 : List UInt8 := [62, 29, 42, 180, 0, 7, 4, 46, 163, 0, 18, 42, 27, 29, 182, 1, 169, 154, 0, 9, 132, 3, 1]
abbrev dktX3_lacks_1 : List UInt8 := dkwX3_lacks_1 ++ dktX3_lacks_2
def dkwX3_lacks_0 : List UInt8 := [42, 27, 182, 1, 124, 153, 0, 12, 28, 3, 5, 184, 0, 85, 154, 0, 5, 2, 172, 42, 182, 1, 108, 3]
abbrev dktX3_lacks_0 : List UInt8 := dkwX3_lacks_0 ++ dktX3_lacks_1
theorem dksX3_lacks_0 : cX3_lacks.data.toList.drop 0 = dktX3_lacks_0 := by decide +kernel
theorem dksX3_lacks_1 : cX3_lacks.data.toList.drop 24 = dktX3_lacks_1 := dk_seg dksX3_lacks_0 24 rfl rfl
theorem dksX3_lacks_2 : cX3_lacks.data.toList.drop 47 = dktX3_lacks_2 := dk_seg dksX3_lacks_1 23 rfl rfl
theorem dksX3_lacks_3 : cX3_lacks.data.toList.drop 70 = dktX3_lacks_3 := dk_seg dksX3_lacks_2 23 rfl rfl
theorem dX3_lacks_0 : decode cX3_lacks 0 = .ok (.aload_n 0, 1) := dk_42 (dk_at dksX3_lacks_0 0 rfl rfl)
theorem dX3_lacks_1 : decode cX3_lacks 1 = .ok (.iload_n 1, 1) := dk_27 (dk_at dksX3_lacks_0 1 rfl rfl)
theorem dX3_lacks_2 : decode cX3_lacks 2 = .ok (.invokevirtual 380, 3) := dk_182 1 124 (dk_at dksX3_lacks_0 2 rfl rfl)
theorem dX3_lacks_5 : decode cX3_lacks 5 = .ok (.ifCond .eq 12, 3) := dk_153 0 12 (dk_at dksX3_lacks_0 5 rfl rfl)
theorem dX3_lacks_8 : decode cX3_lacks 8 = .ok (.iload_n 2, 1) := dk_28 (dk_at dksX3_lacks_0 8 rfl rfl)
theorem dX3_lacks_9 : decode cX3_lacks 9 = .ok (.iconst 0, 1) := dk_3 (dk_at dksX3_lacks_0 9 rfl rfl)
theorem dX3_lacks_10 : decode cX3_lacks 10 = .ok (.iconst 2, 1) := dk_5 (dk_at dksX3_lacks_0 10 rfl rfl)
theorem dX3_lacks_11 : decode cX3_lacks 11 = .ok (.invokestatic 85, 3) := dk_184 0 85 (dk_at dksX3_lacks_0 11 rfl rfl)
theorem dX3_lacks_14 : decode cX3_lacks 14 = .ok (.ifCond .ne 5, 3) := dk_154 0 5 (dk_at dksX3_lacks_0 14 rfl rfl)
theorem dX3_lacks_17 : decode cX3_lacks 17 = .ok (.iconst (-1), 1) := dk_2 (dk_at dksX3_lacks_0 17 rfl rfl)
theorem dX3_lacks_18 : decode cX3_lacks 18 = .ok (.ireturn, 1) := dk_172 (dk_at dksX3_lacks_0 18 rfl rfl)
theorem dX3_lacks_19 : decode cX3_lacks 19 = .ok (.aload_n 0, 1) := dk_42 (dk_at dksX3_lacks_0 19 rfl rfl)
theorem dX3_lacks_20 : decode cX3_lacks 20 = .ok (.invokevirtual 364, 3) := dk_182 1 108 (dk_at dksX3_lacks_0 20 rfl rfl)
theorem dX3_lacks_23 : decode cX3_lacks 23 = .ok (.iconst 0, 1) := dk_3 (dk_at dksX3_lacks_0 23 rfl rfl)
theorem dX3_lacks_24 : decode cX3_lacks 24 = .ok (.istore_n 3, 1) := dk_62 (dk_at dksX3_lacks_1 0 rfl rfl)
theorem dX3_lacks_25 : decode cX3_lacks 25 = .ok (.iload_n 3, 1) := dk_29 (dk_at dksX3_lacks_1 1 rfl rfl)
theorem dX3_lacks_26 : decode cX3_lacks 26 = .ok (.aload_n 0, 1) := dk_42 (dk_at dksX3_lacks_1 2 rfl rfl)
theorem dX3_lacks_27 : decode cX3_lacks 27 = .ok (.getfield 7, 3) := dk_180 0 7 (dk_at dksX3_lacks_1 3 rfl rfl)
theorem dX3_lacks_30 : decode cX3_lacks 30 = .ok (.iconst 1, 1) := dk_4 (dk_at dksX3_lacks_1 6 rfl rfl)
theorem dX3_lacks_31 : decode cX3_lacks 31 = .ok (.iaload, 1) := dk_46 (dk_at dksX3_lacks_1 7 rfl rfl)
theorem dX3_lacks_32 : decode cX3_lacks 32 = .ok (.if_icmp .gt 18, 3) := dk_163 0 18 (dk_at dksX3_lacks_1 8 rfl rfl)
theorem dX3_lacks_35 : decode cX3_lacks 35 = .ok (.aload_n 0, 1) := dk_42 (dk_at dksX3_lacks_1 11 rfl rfl)
theorem dX3_lacks_36 : decode cX3_lacks 36 = .ok (.iload_n 1, 1) := dk_27 (dk_at dksX3_lacks_1 12 rfl rfl)
theorem dX3_lacks_37 : decode cX3_lacks 37 = .ok (.iload_n 3, 1) := dk_29 (dk_at dksX3_lacks_1 13 rfl rfl)
theorem dX3_lacks_38 : decode cX3_lacks 38 = .ok (.invokevirtual 425, 3) := dk_182 1 169 (dk_at dksX3_lacks_1 14 rfl rfl)
theorem dX3_lacks_41 : decode cX3_lacks 41 = .ok (.ifCond .ne 9, 3) := dk_154 0 9 (dk_at dksX3_lacks_1 17 rfl rfl)
theorem dX3_lacks_44 : decode cX3_lacks 44 = .ok (.iinc 3 1, 3) := dk_132 3 1 (dk_at dksX3_lacks_1 20 rfl rfl)
theorem dX3_lacks_47 : decode cX3_lacks 47 = .ok (.goto (-22), 3) := dk_167 255 234 (dk_at dksX3_lacks_2 0 rfl rfl)
theorem dX3_lacks_50 : decode cX3_lacks 50 = .ok (.iload_n 3, 1) := dk_29 (dk_at dksX3_lacks_2 3 rfl rfl)
theorem dX3_lacks_51 : decode cX3_lacks 51 = .ok (.aload_n 0, 1) := dk_42 (dk_at dksX3_lacks_2 4 rfl rfl)
theorem dX3_lacks_52 : decode cX3_lacks 52 = .ok (.getfield 7, 3) := dk_180 0 7 (dk_at dksX3_lacks_2 5 rfl rfl)
theorem dX3_lacks_55 : decode cX3_lacks 55 = .ok (.iconst 1, 1) := dk_4 (dk_at dksX3_lacks_2 8 rfl rfl)
theorem dX3_lacks_56 : decode cX3_lacks 56 = .ok (.iaload, 1) := dk_46 (dk_at dksX3_lacks_2 9 rfl rfl)
theorem dX3_lacks_57 : decode cX3_lacks 57 = .ok (.if_icmp .le 8, 3) := dk_164 0 8 (dk_at dksX3_lacks_2 10 rfl rfl)
theorem dX3_lacks_60 : decode cX3_lacks 60 = .ok (.bipush (-2), 2) := dk_16 254 (dk_at dksX3_lacks_2 13 rfl rfl)
theorem dX3_lacks_62 : decode cX3_lacks 62 = .ok (.goto 27, 3) := dk_167 0 27 (dk_at dksX3_lacks_2 15 rfl rfl)
theorem dX3_lacks_65 : decode cX3_lacks 65 = .ok (.iload_n 2, 1) := dk_28 (dk_at dksX3_lacks_2 18 rfl rfl)
theorem dX3_lacks_66 : decode cX3_lacks 66 = .ok (.ifCond .ne 7, 3) := dk_154 0 7 (dk_at dksX3_lacks_2 19 rfl rfl)
theorem dX3_lacks_69 : decode cX3_lacks 69 = .ok (.iload_n 3, 1) := dk_29 (dk_at dksX3_lacks_2 22 rfl rfl)
theorem dX3_lacks_70 : decode cX3_lacks 70 = .ok (.goto 19, 3) := dk_167 0 19 (dk_at dksX3_lacks_3 0 rfl rfl)
theorem dX3_lacks_73 : decode cX3_lacks 73 = .ok (.iload_n 2, 1) := dk_28 (dk_at dksX3_lacks_3 3 rfl rfl)
theorem dX3_lacks_74 : decode cX3_lacks 74 = .ok (.iconst 1, 1) := dk_4 (dk_at dksX3_lacks_3 4 rfl rfl)
theorem dX3_lacks_75 : decode cX3_lacks 75 = .ok (.if_icmp .ne 10, 3) := dk_160 0 10 (dk_at dksX3_lacks_3 5 rfl rfl)
theorem dX3_lacks_78 : decode cX3_lacks 78 = .ok (.aload_n 0, 1) := dk_42 (dk_at dksX3_lacks_3 8 rfl rfl)
theorem dX3_lacks_79 : decode cX3_lacks 79 = .ok (.getfield 419, 3) := dk_180 1 163 (dk_at dksX3_lacks_3 9 rfl rfl)
theorem dX3_lacks_82 : decode cX3_lacks 82 = .ok (.goto 7, 3) := dk_167 0 7 (dk_at dksX3_lacks_3 12 rfl rfl)
theorem dX3_lacks_85 : decode cX3_lacks 85 = .ok (.aload_n 0, 1) := dk_42 (dk_at dksX3_lacks_3 15 rfl rfl)
theorem dX3_lacks_86 : decode cX3_lacks 86 = .ok (.getfield 422, 3) := dk_180 1 166 (dk_at dksX3_lacks_3 16 rfl rfl)
theorem dX3_lacks_89 : decode cX3_lacks 89 = .ok (.ireturn, 1) := dk_172 (dk_at dksX3_lacks_3 19 rfl rfl)
abbrev cX3_lacksSo : ByteArray := prog_18_method_103_code
def yX3_lacksSo : MethodName := ⟨RX3, "lacksSo", "(II)Z"⟩
def dkwX3_lacksSo_5 : List UInt8 := [42, 21, 5, 181, 1, 166, 4, 172, 132, 5, 1, 167, 255, 171, 132, 4, 1, 167, 255, 130, 3, 172]
abbrev dktX3_lacksSo_5 : List UInt8 := dkwX3_lacksSo_5 ++ []
def dkwX3_lacksSo_4 : List UInt8 := [21, 4, 128, 42, 27, 8, 182, 1, 83, 21, 5, 128, 182, 1, 111, 154, 0, 17, 42, 21, 4, 181, 1, 163]
abbrev dktX3_lacksSo_4 : List UInt8 := dkwX3_lacksSo_4 ++ dktX3_lacksSo_5
def dkwX3_lacksSo_3 : List UInt8 := [126, 42, 182, 1, 73, 126, 154, 0, 7, 4, 167, 0, 4, 3, 54, 6, 21, 6, 153, 0, 38, 42, 27, 29]
abbrev dktX3_lacksSo_3 : List UInt8 := dkwX3_lacksSo_3 ++ dktX3_lacksSo_4
def dkwX3_lacksSo_2 : List UInt8 := [21, 4, 163, 0, 84, 21, 5, 21, 4, 2, 130, 126, 154, 0, 25, 21, 5, 42, 182, 1, 76, 130, 21, 4]
abbrev dktX3_lacksSo_2 : List UInt8 := dkwX3_lacksSo_2 ++ dktX3_lacksSo_3
def dkwX3_lacksSo_1 : List UInt8 := [21, 4, 184, 1, 59, 28, 160, 0, 104, 21, 4, 29, 126, 153, 0, 6, 167, 0, 94, 3, 54, 5, 21, 5]
abbrev dktX3_lacksSo_1 : List UInt8 := dkwX3_lacksSo_1 ++ dktX3_lacksSo_2
def dkwX3_lacksSo_0 : List UInt8 := [42, 27, 7, 182, 1, 83, 62, 3, 54, 4, 21, 4, 4, 42, 180, 0, 7, 4, 46, 120, 162, 0, 119]
abbrev dktX3_lacksSo_0 : List UInt8 := dkwX3_lacksSo_0 ++ dktX3_lacksSo_1
theorem dksX3_lacksSo_0 : cX3_lacksSo.data.toList.drop 0 = dktX3_lacksSo_0 := by decide +kernel
theorem dksX3_lacksSo_1 : cX3_lacksSo.data.toList.drop 23 = dktX3_lacksSo_1 := dk_seg dksX3_lacksSo_0 23 rfl rfl
theorem dksX3_lacksSo_2 : cX3_lacksSo.data.toList.drop 47 = dktX3_lacksSo_2 := dk_seg dksX3_lacksSo_1 24 rfl rfl
theorem dksX3_lacksSo_3 : cX3_lacksSo.data.toList.drop 71 = dktX3_lacksSo_3 := dk_seg dksX3_lacksSo_2 24 rfl rfl
theorem dksX3_lacksSo_4 : cX3_lacksSo.data.toList.drop 95 = dktX3_lacksSo_4 := dk_seg dksX3_lacksSo_3 24 rfl rfl
theorem dksX3_lacksSo_5 : cX3_lacksSo.data.toList.drop 119 = dktX3_lacksSo_5 := dk_seg dksX3_lacksSo_4 24 rfl rfl
theorem dX3_lacksSo_0 : decode cX3_lacksSo 0 = .ok (.aload_n 0, 1) := dk_42 (dk_at dksX3_lacksSo_0 0 rfl rfl)
theorem dX3_lacksSo_1 : decode cX3_lacksSo 1 = .ok (.iload_n 1, 1) := dk_27 (dk_at dksX3_lacksSo_0 1 rfl rfl)
theorem dX3_lacksSo_2 : decode cX3_lacksSo 2 = .ok (.iconst 4, 1) := dk_7 (dk_at dksX3_lacksSo_0 2 rfl rfl)
theorem dX3_lacksSo_3 : decode cX3_lacksSo 3 = .ok (.invokevirtual 339, 3) := dk_182 1 83 (dk_at dksX3_lacksSo_0 3 rfl rfl)
theorem dX3_lacksSo_6 : decode cX3_lacksSo 6 = .ok (.istore_n 3, 1) := dk_62 (dk_at dksX3_lacksSo_0 6 rfl rfl)
theorem dX3_lacksSo_7 : decode cX3_lacksSo 7 = .ok (.iconst 0, 1) := dk_3 (dk_at dksX3_lacksSo_0 7 rfl rfl)
theorem dX3_lacksSo_8 : decode cX3_lacksSo 8 = .ok (.istore 4, 2) := dk_54 4 (dk_at dksX3_lacksSo_0 8 rfl rfl)
theorem dX3_lacksSo_10 : decode cX3_lacksSo 10 = .ok (.iload 4, 2) := dk_21 4 (dk_at dksX3_lacksSo_0 10 rfl rfl)
theorem dX3_lacksSo_12 : decode cX3_lacksSo 12 = .ok (.iconst 1, 1) := dk_4 (dk_at dksX3_lacksSo_0 12 rfl rfl)
theorem dX3_lacksSo_13 : decode cX3_lacksSo 13 = .ok (.aload_n 0, 1) := dk_42 (dk_at dksX3_lacksSo_0 13 rfl rfl)
theorem dX3_lacksSo_14 : decode cX3_lacksSo 14 = .ok (.getfield 7, 3) := dk_180 0 7 (dk_at dksX3_lacksSo_0 14 rfl rfl)
theorem dX3_lacksSo_17 : decode cX3_lacksSo 17 = .ok (.iconst 1, 1) := dk_4 (dk_at dksX3_lacksSo_0 17 rfl rfl)
theorem dX3_lacksSo_18 : decode cX3_lacksSo 18 = .ok (.iaload, 1) := dk_46 (dk_at dksX3_lacksSo_0 18 rfl rfl)
theorem dX3_lacksSo_19 : decode cX3_lacksSo 19 = .ok (.ishl, 1) := dk_120 (dk_at dksX3_lacksSo_0 19 rfl rfl)
theorem dX3_lacksSo_20 : decode cX3_lacksSo 20 = .ok (.if_icmp .ge 119, 3) := dk_162 0 119 (dk_at dksX3_lacksSo_0 20 rfl rfl)
theorem dX3_lacksSo_23 : decode cX3_lacksSo 23 = .ok (.iload 4, 2) := dk_21 4 (dk_at dksX3_lacksSo_1 0 rfl rfl)
theorem dX3_lacksSo_25 : decode cX3_lacksSo 25 = .ok (.invokestatic 315, 3) := dk_184 1 59 (dk_at dksX3_lacksSo_1 2 rfl rfl)
theorem dX3_lacksSo_28 : decode cX3_lacksSo 28 = .ok (.iload_n 2, 1) := dk_28 (dk_at dksX3_lacksSo_1 5 rfl rfl)
theorem dX3_lacksSo_29 : decode cX3_lacksSo 29 = .ok (.if_icmp .ne 104, 3) := dk_160 0 104 (dk_at dksX3_lacksSo_1 6 rfl rfl)
theorem dX3_lacksSo_32 : decode cX3_lacksSo 32 = .ok (.iload 4, 2) := dk_21 4 (dk_at dksX3_lacksSo_1 9 rfl rfl)
theorem dX3_lacksSo_34 : decode cX3_lacksSo 34 = .ok (.iload_n 3, 1) := dk_29 (dk_at dksX3_lacksSo_1 11 rfl rfl)
theorem dX3_lacksSo_35 : decode cX3_lacksSo 35 = .ok (.iand, 1) := dk_126 (dk_at dksX3_lacksSo_1 12 rfl rfl)
theorem dX3_lacksSo_36 : decode cX3_lacksSo 36 = .ok (.ifCond .eq 6, 3) := dk_153 0 6 (dk_at dksX3_lacksSo_1 13 rfl rfl)
theorem dX3_lacksSo_39 : decode cX3_lacksSo 39 = .ok (.goto 94, 3) := dk_167 0 94 (dk_at dksX3_lacksSo_1 16 rfl rfl)
theorem dX3_lacksSo_42 : decode cX3_lacksSo 42 = .ok (.iconst 0, 1) := dk_3 (dk_at dksX3_lacksSo_1 19 rfl rfl)
theorem dX3_lacksSo_43 : decode cX3_lacksSo 43 = .ok (.istore 5, 2) := dk_54 5 (dk_at dksX3_lacksSo_1 20 rfl rfl)
theorem dX3_lacksSo_45 : decode cX3_lacksSo 45 = .ok (.iload 5, 2) := dk_21 5 (dk_at dksX3_lacksSo_1 22 rfl rfl)
theorem dX3_lacksSo_47 : decode cX3_lacksSo 47 = .ok (.iload 4, 2) := dk_21 4 (dk_at dksX3_lacksSo_2 0 rfl rfl)
theorem dX3_lacksSo_49 : decode cX3_lacksSo 49 = .ok (.if_icmp .gt 84, 3) := dk_163 0 84 (dk_at dksX3_lacksSo_2 2 rfl rfl)
theorem dX3_lacksSo_52 : decode cX3_lacksSo 52 = .ok (.iload 5, 2) := dk_21 5 (dk_at dksX3_lacksSo_2 5 rfl rfl)
theorem dX3_lacksSo_54 : decode cX3_lacksSo 54 = .ok (.iload 4, 2) := dk_21 4 (dk_at dksX3_lacksSo_2 7 rfl rfl)
theorem dX3_lacksSo_56 : decode cX3_lacksSo 56 = .ok (.iconst (-1), 1) := dk_2 (dk_at dksX3_lacksSo_2 9 rfl rfl)
theorem dX3_lacksSo_57 : decode cX3_lacksSo 57 = .ok (.ixor, 1) := dk_130 (dk_at dksX3_lacksSo_2 10 rfl rfl)
theorem dX3_lacksSo_58 : decode cX3_lacksSo 58 = .ok (.iand, 1) := dk_126 (dk_at dksX3_lacksSo_2 11 rfl rfl)
theorem dX3_lacksSo_59 : decode cX3_lacksSo 59 = .ok (.ifCond .ne 25, 3) := dk_154 0 25 (dk_at dksX3_lacksSo_2 12 rfl rfl)
theorem dX3_lacksSo_62 : decode cX3_lacksSo 62 = .ok (.iload 5, 2) := dk_21 5 (dk_at dksX3_lacksSo_2 15 rfl rfl)
theorem dX3_lacksSo_64 : decode cX3_lacksSo 64 = .ok (.aload_n 0, 1) := dk_42 (dk_at dksX3_lacksSo_2 17 rfl rfl)
theorem dX3_lacksSo_65 : decode cX3_lacksSo 65 = .ok (.invokevirtual 332, 3) := dk_182 1 76 (dk_at dksX3_lacksSo_2 18 rfl rfl)
theorem dX3_lacksSo_68 : decode cX3_lacksSo 68 = .ok (.ixor, 1) := dk_130 (dk_at dksX3_lacksSo_2 21 rfl rfl)
theorem dX3_lacksSo_69 : decode cX3_lacksSo 69 = .ok (.iload 4, 2) := dk_21 4 (dk_at dksX3_lacksSo_2 22 rfl rfl)
theorem dX3_lacksSo_71 : decode cX3_lacksSo 71 = .ok (.iand, 1) := dk_126 (dk_at dksX3_lacksSo_3 0 rfl rfl)
theorem dX3_lacksSo_72 : decode cX3_lacksSo 72 = .ok (.aload_n 0, 1) := dk_42 (dk_at dksX3_lacksSo_3 1 rfl rfl)
theorem dX3_lacksSo_73 : decode cX3_lacksSo 73 = .ok (.invokevirtual 329, 3) := dk_182 1 73 (dk_at dksX3_lacksSo_3 2 rfl rfl)
theorem dX3_lacksSo_76 : decode cX3_lacksSo 76 = .ok (.iand, 1) := dk_126 (dk_at dksX3_lacksSo_3 5 rfl rfl)
theorem dX3_lacksSo_77 : decode cX3_lacksSo 77 = .ok (.ifCond .ne 7, 3) := dk_154 0 7 (dk_at dksX3_lacksSo_3 6 rfl rfl)
theorem dX3_lacksSo_80 : decode cX3_lacksSo 80 = .ok (.iconst 1, 1) := dk_4 (dk_at dksX3_lacksSo_3 9 rfl rfl)
theorem dX3_lacksSo_81 : decode cX3_lacksSo 81 = .ok (.goto 4, 3) := dk_167 0 4 (dk_at dksX3_lacksSo_3 10 rfl rfl)
theorem dX3_lacksSo_84 : decode cX3_lacksSo 84 = .ok (.iconst 0, 1) := dk_3 (dk_at dksX3_lacksSo_3 13 rfl rfl)
theorem dX3_lacksSo_85 : decode cX3_lacksSo 85 = .ok (.istore 6, 2) := dk_54 6 (dk_at dksX3_lacksSo_3 14 rfl rfl)
theorem dX3_lacksSo_87 : decode cX3_lacksSo 87 = .ok (.iload 6, 2) := dk_21 6 (dk_at dksX3_lacksSo_3 16 rfl rfl)
theorem dX3_lacksSo_89 : decode cX3_lacksSo 89 = .ok (.ifCond .eq 38, 3) := dk_153 0 38 (dk_at dksX3_lacksSo_3 18 rfl rfl)
theorem dX3_lacksSo_92 : decode cX3_lacksSo 92 = .ok (.aload_n 0, 1) := dk_42 (dk_at dksX3_lacksSo_3 21 rfl rfl)
theorem dX3_lacksSo_93 : decode cX3_lacksSo 93 = .ok (.iload_n 1, 1) := dk_27 (dk_at dksX3_lacksSo_3 22 rfl rfl)
theorem dX3_lacksSo_94 : decode cX3_lacksSo 94 = .ok (.iload_n 3, 1) := dk_29 (dk_at dksX3_lacksSo_3 23 rfl rfl)
theorem dX3_lacksSo_95 : decode cX3_lacksSo 95 = .ok (.iload 4, 2) := dk_21 4 (dk_at dksX3_lacksSo_4 0 rfl rfl)
theorem dX3_lacksSo_97 : decode cX3_lacksSo 97 = .ok (.ior, 1) := dk_128 (dk_at dksX3_lacksSo_4 2 rfl rfl)
theorem dX3_lacksSo_98 : decode cX3_lacksSo 98 = .ok (.aload_n 0, 1) := dk_42 (dk_at dksX3_lacksSo_4 3 rfl rfl)
theorem dX3_lacksSo_99 : decode cX3_lacksSo 99 = .ok (.iload_n 1, 1) := dk_27 (dk_at dksX3_lacksSo_4 4 rfl rfl)
theorem dX3_lacksSo_100 : decode cX3_lacksSo 100 = .ok (.iconst 5, 1) := dk_8 (dk_at dksX3_lacksSo_4 5 rfl rfl)
theorem dX3_lacksSo_101 : decode cX3_lacksSo 101 = .ok (.invokevirtual 339, 3) := dk_182 1 83 (dk_at dksX3_lacksSo_4 6 rfl rfl)
theorem dX3_lacksSo_104 : decode cX3_lacksSo 104 = .ok (.iload 5, 2) := dk_21 5 (dk_at dksX3_lacksSo_4 9 rfl rfl)
theorem dX3_lacksSo_106 : decode cX3_lacksSo 106 = .ok (.ior, 1) := dk_128 (dk_at dksX3_lacksSo_4 11 rfl rfl)
theorem dX3_lacksSo_107 : decode cX3_lacksSo 107 = .ok (.invokevirtual 367, 3) := dk_182 1 111 (dk_at dksX3_lacksSo_4 12 rfl rfl)
theorem dX3_lacksSo_110 : decode cX3_lacksSo 110 = .ok (.ifCond .ne 17, 3) := dk_154 0 17 (dk_at dksX3_lacksSo_4 15 rfl rfl)
theorem dX3_lacksSo_113 : decode cX3_lacksSo 113 = .ok (.aload_n 0, 1) := dk_42 (dk_at dksX3_lacksSo_4 18 rfl rfl)
theorem dX3_lacksSo_114 : decode cX3_lacksSo 114 = .ok (.iload 4, 2) := dk_21 4 (dk_at dksX3_lacksSo_4 19 rfl rfl)
theorem dX3_lacksSo_116 : decode cX3_lacksSo 116 = .ok (.putfield 419, 3) := dk_181 1 163 (dk_at dksX3_lacksSo_4 21 rfl rfl)
theorem dX3_lacksSo_119 : decode cX3_lacksSo 119 = .ok (.aload_n 0, 1) := dk_42 (dk_at dksX3_lacksSo_5 0 rfl rfl)
theorem dX3_lacksSo_120 : decode cX3_lacksSo 120 = .ok (.iload 5, 2) := dk_21 5 (dk_at dksX3_lacksSo_5 1 rfl rfl)
theorem dX3_lacksSo_122 : decode cX3_lacksSo 122 = .ok (.putfield 422, 3) := dk_181 1 166 (dk_at dksX3_lacksSo_5 3 rfl rfl)
theorem dX3_lacksSo_125 : decode cX3_lacksSo 125 = .ok (.iconst 1, 1) := dk_4 (dk_at dksX3_lacksSo_5 6 rfl rfl)
theorem dX3_lacksSo_126 : decode cX3_lacksSo 126 = .ok (.ireturn, 1) := dk_172 (dk_at dksX3_lacksSo_5 7 rfl rfl)
theorem dX3_lacksSo_127 : decode cX3_lacksSo 127 = .ok (.iinc 5 1, 3) := dk_132 5 1 (dk_at dksX3_lacksSo_5 8 rfl rfl)
theorem dX3_lacksSo_130 : decode cX3_lacksSo 130 = .ok (.goto (-85), 3) := dk_167 255 171 (dk_at dksX3_lacksSo_5 11 rfl rfl)
theorem dX3_lacksSo_133 : decode cX3_lacksSo 133 = .ok (.iinc 4 1, 3) := dk_132 4 1 (dk_at dksX3_lacksSo_5 14 rfl rfl)
theorem dX3_lacksSo_136 : decode cX3_lacksSo 136 = .ok (.goto (-126), 3) := dk_167 255 130 (dk_at dksX3_lacksSo_5 17 rfl rfl)
theorem dX3_lacksSo_139 : decode cX3_lacksSo 139 = .ok (.iconst 0, 1) := dk_3 (dk_at dksX3_lacksSo_5 20 rfl rfl)
theorem dX3_lacksSo_140 : decode cX3_lacksSo 140 = .ok (.ireturn, 1) := dk_172 (dk_at dksX3_lacksSo_5 21 rfl rfl)
abbrev cX3_grown : ByteArray := prog_18_method_105_code
def yX3_grown : MethodName := ⟨RX3, "grown", "(II)I"⟩
def dkwX3_grown_2 : List UInt8 := [20, 1, 174, 148, 158, 0, 6, 16, 254, 172, 132, 5, 1, 167, 255, 228, 33, 136, 172]
abbrev dktX3_grown_2 : List UInt8 := dkwX3_grown_2 ++ []
def dkwX3_grown_1 : List UInt8 := [182, 1, 83, 133, 66, 3, 54, 5, 21, 5, 28, 162, 0, 28, 33, 33, 20, 1, 172, 109, 97, 66, 33]
abbrev dktX3_grown_1 : List UInt8 := dkwX3_grown_1 ++ dktX3_grown_2
def dkwX3_grown_0 : List UInt8 := [42, 27, 182, 1, 124, 153, 0, 14, 28, 3, 17, 1, 144, 184, 0, 85, 154, 0, 5, 2, 172, 42, 27, 5]
abbrev dktX3_grown_0 : List UInt8 := dkwX3_grown_0 ++ dktX3_grown_1
theorem dksX3_grown_0 : cX3_grown.data.toList.drop 0 = dktX3_grown_0 := by decide +kernel
theorem dksX3_grown_1 : cX3_grown.data.toList.drop 24 = dktX3_grown_1 := dk_seg dksX3_grown_0 24 rfl rfl
theorem dksX3_grown_2 : cX3_grown.data.toList.drop 47 = dktX3_grown_2 := dk_seg dksX3_grown_1 23 rfl rfl
theorem dX3_grown_0 : decode cX3_grown 0 = .ok (.aload_n 0, 1) := dk_42 (dk_at dksX3_grown_0 0 rfl rfl)
theorem dX3_grown_1 : decode cX3_grown 1 = .ok (.iload_n 1, 1) := dk_27 (dk_at dksX3_grown_0 1 rfl rfl)
theorem dX3_grown_2 : decode cX3_grown 2 = .ok (.invokevirtual 380, 3) := dk_182 1 124 (dk_at dksX3_grown_0 2 rfl rfl)
theorem dX3_grown_5 : decode cX3_grown 5 = .ok (.ifCond .eq 14, 3) := dk_153 0 14 (dk_at dksX3_grown_0 5 rfl rfl)
theorem dX3_grown_8 : decode cX3_grown 8 = .ok (.iload_n 2, 1) := dk_28 (dk_at dksX3_grown_0 8 rfl rfl)
theorem dX3_grown_9 : decode cX3_grown 9 = .ok (.iconst 0, 1) := dk_3 (dk_at dksX3_grown_0 9 rfl rfl)
theorem dX3_grown_10 : decode cX3_grown 10 = .ok (.sipush 400, 3) := dk_17 1 144 (dk_at dksX3_grown_0 10 rfl rfl)
theorem dX3_grown_13 : decode cX3_grown 13 = .ok (.invokestatic 85, 3) := dk_184 0 85 (dk_at dksX3_grown_0 13 rfl rfl)
theorem dX3_grown_16 : decode cX3_grown 16 = .ok (.ifCond .ne 5, 3) := dk_154 0 5 (dk_at dksX3_grown_0 16 rfl rfl)
theorem dX3_grown_19 : decode cX3_grown 19 = .ok (.iconst (-1), 1) := dk_2 (dk_at dksX3_grown_0 19 rfl rfl)
theorem dX3_grown_20 : decode cX3_grown 20 = .ok (.ireturn, 1) := dk_172 (dk_at dksX3_grown_0 20 rfl rfl)
theorem dX3_grown_21 : decode cX3_grown 21 = .ok (.aload_n 0, 1) := dk_42 (dk_at dksX3_grown_0 21 rfl rfl)
theorem dX3_grown_22 : decode cX3_grown 22 = .ok (.iload_n 1, 1) := dk_27 (dk_at dksX3_grown_0 22 rfl rfl)
theorem dX3_grown_23 : decode cX3_grown 23 = .ok (.iconst 2, 1) := dk_5 (dk_at dksX3_grown_0 23 rfl rfl)
theorem dX3_grown_24 : decode cX3_grown 24 = .ok (.invokevirtual 339, 3) := dk_182 1 83 (dk_at dksX3_grown_1 0 rfl rfl)
theorem dX3_grown_27 : decode cX3_grown 27 = .ok (.i2l, 1) := dk_133 (dk_at dksX3_grown_1 3 rfl rfl)
theorem dX3_grown_28 : decode cX3_grown 28 = .ok (.lstore_n 3, 1) := dk_66 (dk_at dksX3_grown_1 4 rfl rfl)
theorem dX3_grown_29 : decode cX3_grown 29 = .ok (.iconst 0, 1) := dk_3 (dk_at dksX3_grown_1 5 rfl rfl)
theorem dX3_grown_30 : decode cX3_grown 30 = .ok (.istore 5, 2) := dk_54 5 (dk_at dksX3_grown_1 6 rfl rfl)
theorem dX3_grown_32 : decode cX3_grown 32 = .ok (.iload 5, 2) := dk_21 5 (dk_at dksX3_grown_1 8 rfl rfl)
theorem dX3_grown_34 : decode cX3_grown 34 = .ok (.iload_n 2, 1) := dk_28 (dk_at dksX3_grown_1 10 rfl rfl)
theorem dX3_grown_35 : decode cX3_grown 35 = .ok (.if_icmp .ge 28, 3) := dk_162 0 28 (dk_at dksX3_grown_1 11 rfl rfl)
theorem dX3_grown_38 : decode cX3_grown 38 = .ok (.lload_n 3, 1) := dk_33 (dk_at dksX3_grown_1 14 rfl rfl)
theorem dX3_grown_39 : decode cX3_grown 39 = .ok (.lload_n 3, 1) := dk_33 (dk_at dksX3_grown_1 15 rfl rfl)
theorem dX3_grown_40 : decode cX3_grown 40 = .ok (.ldc2_w 428, 3) := dk_20 1 172 (dk_at dksX3_grown_1 16 rfl rfl)
theorem dX3_grown_43 : decode cX3_grown 43 = .ok (.ldiv, 1) := dk_109 (dk_at dksX3_grown_1 19 rfl rfl)
theorem dX3_grown_44 : decode cX3_grown 44 = .ok (.ladd, 1) := dk_97 (dk_at dksX3_grown_1 20 rfl rfl)
theorem dX3_grown_45 : decode cX3_grown 45 = .ok (.lstore_n 3, 1) := dk_66 (dk_at dksX3_grown_1 21 rfl rfl)
theorem dX3_grown_46 : decode cX3_grown 46 = .ok (.lload_n 3, 1) := dk_33 (dk_at dksX3_grown_1 22 rfl rfl)
theorem dX3_grown_47 : decode cX3_grown 47 = .ok (.ldc2_w 430, 3) := dk_20 1 174 (dk_at dksX3_grown_2 0 rfl rfl)
theorem dX3_grown_50 : decode cX3_grown 50 = .ok (.lcmp, 1) := dk_148 (dk_at dksX3_grown_2 3 rfl rfl)
theorem dX3_grown_51 : decode cX3_grown 51 = .ok (.ifCond .le 6, 3) := dk_158 0 6 (dk_at dksX3_grown_2 4 rfl rfl)
theorem dX3_grown_54 : decode cX3_grown 54 = .ok (.bipush (-2), 2) := dk_16 254 (dk_at dksX3_grown_2 7 rfl rfl)
theorem dX3_grown_56 : decode cX3_grown 56 = .ok (.ireturn, 1) := dk_172 (dk_at dksX3_grown_2 9 rfl rfl)
theorem dX3_grown_57 : decode cX3_grown 57 = .ok (.iinc 5 1, 3) := dk_132 5 1 (dk_at dksX3_grown_2 10 rfl rfl)
theorem dX3_grown_60 : decode cX3_grown 60 = .ok (.goto (-28), 3) := dk_167 255 228 (dk_at dksX3_grown_2 13 rfl rfl)
theorem dX3_grown_63 : decode cX3_grown 63 = .ok (.lload_n 3, 1) := dk_33 (dk_at dksX3_grown_2 16 rfl rfl)
theorem dX3_grown_64 : decode cX3_grown 64 = .ok (.l2i, 1) := dk_136 (dk_at dksX3_grown_2 17 rfl rfl)
theorem dX3_grown_65 : decode cX3_grown 65 = .ok (.ireturn, 1) := dk_172 (dk_at dksX3_grown_2 18 rfl rfl)
abbrev cX3_issues : ByteArray := prog_18_method_110_code
def yX3_issues : MethodName := ⟨RX3, "issues", "(I)I"⟩
def dkwX3_issues_4 : List UInt8 := [132, 3, 1, 167, 255, 174, 28, 172]
abbrev dktX3_issues_4 : List UInt8 := dkwX3_issues_4 ++ []
def dkwX3_issues_3 : List UInt8 := [182, 1, 160, 159, 0, 10, 4, 21, 4, 120, 167, 0, 4, 3, 128, 61, 132, 4, 1, 167, 255, 190]
abbrev dktX3_issues_3 : List UInt8 := dkwX3_issues_3 ++ dktX3_issues_4
def dkwX3_issues_2 : List UInt8 := [130, 54, 5, 28, 42, 21, 5, 182, 1, 142, 153, 0, 26, 42, 27, 29, 182, 1, 160, 42, 27, 21, 5]
abbrev dktX3_issues_2 : List UInt8 := dkwX3_issues_2 ++ dktX3_issues_3
def dkwX3_issues_1 : List UInt8 := [21, 4, 42, 180, 0, 7, 4, 46, 162, 0, 61, 42, 29, 182, 1, 142, 153, 0, 53, 29, 4, 21, 4, 120]
abbrev dktX3_issues_1 : List UInt8 := dkwX3_issues_1 ++ dktX3_issues_2
def dkwX3_issues_0 : List UInt8 := [42, 27, 182, 1, 124, 154, 0, 5, 2, 172, 3, 61, 3, 62, 29, 17, 1, 0, 162, 0, 81, 3, 54, 4]
abbrev dktX3_issues_0 : List UInt8 := dkwX3_issues_0 ++ dktX3_issues_1
theorem dksX3_issues_0 : cX3_issues.data.toList.drop 0 = dktX3_issues_0 := by decide +kernel
theorem dksX3_issues_1 : cX3_issues.data.toList.drop 24 = dktX3_issues_1 := dk_seg dksX3_issues_0 24 rfl rfl
theorem dksX3_issues_2 : cX3_issues.data.toList.drop 48 = dktX3_issues_2 := dk_seg dksX3_issues_1 24 rfl rfl
theorem dksX3_issues_3 : cX3_issues.data.toList.drop 71 = dktX3_issues_3 := dk_seg dksX3_issues_2 23 rfl rfl
theorem dksX3_issues_4 : cX3_issues.data.toList.drop 93 = dktX3_issues_4 := dk_seg dksX3_issues_3 22 rfl rfl
theorem dX3_issues_0 : decode cX3_issues 0 = .ok (.aload_n 0, 1) := dk_42 (dk_at dksX3_issues_0 0 rfl rfl)
theorem dX3_issues_1 : decode cX3_issues 1 = .ok (.iload_n 1, 1) := dk_27 (dk_at dksX3_issues_0 1 rfl rfl)
theorem dX3_issues_2 : decode cX3_issues 2 = .ok (.invokevirtual 380, 3) := dk_182 1 124 (dk_at dksX3_issues_0 2 rfl rfl)
theorem dX3_issues_5 : decode cX3_issues 5 = .ok (.ifCond .ne 5, 3) := dk_154 0 5 (dk_at dksX3_issues_0 5 rfl rfl)
theorem dX3_issues_8 : decode cX3_issues 8 = .ok (.iconst (-1), 1) := dk_2 (dk_at dksX3_issues_0 8 rfl rfl)
theorem dX3_issues_9 : decode cX3_issues 9 = .ok (.ireturn, 1) := dk_172 (dk_at dksX3_issues_0 9 rfl rfl)
theorem dX3_issues_10 : decode cX3_issues 10 = .ok (.iconst 0, 1) := dk_3 (dk_at dksX3_issues_0 10 rfl rfl)
theorem dX3_issues_11 : decode cX3_issues 11 = .ok (.istore_n 2, 1) := dk_61 (dk_at dksX3_issues_0 11 rfl rfl)
theorem dX3_issues_12 : decode cX3_issues 12 = .ok (.iconst 0, 1) := dk_3 (dk_at dksX3_issues_0 12 rfl rfl)
theorem dX3_issues_13 : decode cX3_issues 13 = .ok (.istore_n 3, 1) := dk_62 (dk_at dksX3_issues_0 13 rfl rfl)
theorem dX3_issues_14 : decode cX3_issues 14 = .ok (.iload_n 3, 1) := dk_29 (dk_at dksX3_issues_0 14 rfl rfl)
theorem dX3_issues_15 : decode cX3_issues 15 = .ok (.sipush 256, 3) := dk_17 1 0 (dk_at dksX3_issues_0 15 rfl rfl)
theorem dX3_issues_18 : decode cX3_issues 18 = .ok (.if_icmp .ge 81, 3) := dk_162 0 81 (dk_at dksX3_issues_0 18 rfl rfl)
theorem dX3_issues_21 : decode cX3_issues 21 = .ok (.iconst 0, 1) := dk_3 (dk_at dksX3_issues_0 21 rfl rfl)
theorem dX3_issues_22 : decode cX3_issues 22 = .ok (.istore 4, 2) := dk_54 4 (dk_at dksX3_issues_0 22 rfl rfl)
theorem dX3_issues_24 : decode cX3_issues 24 = .ok (.iload 4, 2) := dk_21 4 (dk_at dksX3_issues_1 0 rfl rfl)
theorem dX3_issues_26 : decode cX3_issues 26 = .ok (.aload_n 0, 1) := dk_42 (dk_at dksX3_issues_1 2 rfl rfl)
theorem dX3_issues_27 : decode cX3_issues 27 = .ok (.getfield 7, 3) := dk_180 0 7 (dk_at dksX3_issues_1 3 rfl rfl)
theorem dX3_issues_30 : decode cX3_issues 30 = .ok (.iconst 1, 1) := dk_4 (dk_at dksX3_issues_1 6 rfl rfl)
theorem dX3_issues_31 : decode cX3_issues 31 = .ok (.iaload, 1) := dk_46 (dk_at dksX3_issues_1 7 rfl rfl)
theorem dX3_issues_32 : decode cX3_issues 32 = .ok (.if_icmp .ge 61, 3) := dk_162 0 61 (dk_at dksX3_issues_1 8 rfl rfl)
theorem dX3_issues_35 : decode cX3_issues 35 = .ok (.aload_n 0, 1) := dk_42 (dk_at dksX3_issues_1 11 rfl rfl)
theorem dX3_issues_36 : decode cX3_issues 36 = .ok (.iload_n 3, 1) := dk_29 (dk_at dksX3_issues_1 12 rfl rfl)
theorem dX3_issues_37 : decode cX3_issues 37 = .ok (.invokevirtual 398, 3) := dk_182 1 142 (dk_at dksX3_issues_1 13 rfl rfl)
theorem dX3_issues_40 : decode cX3_issues 40 = .ok (.ifCond .eq 53, 3) := dk_153 0 53 (dk_at dksX3_issues_1 16 rfl rfl)
theorem dX3_issues_43 : decode cX3_issues 43 = .ok (.iload_n 3, 1) := dk_29 (dk_at dksX3_issues_1 19 rfl rfl)
theorem dX3_issues_44 : decode cX3_issues 44 = .ok (.iconst 1, 1) := dk_4 (dk_at dksX3_issues_1 20 rfl rfl)
theorem dX3_issues_45 : decode cX3_issues 45 = .ok (.iload 4, 2) := dk_21 4 (dk_at dksX3_issues_1 21 rfl rfl)
theorem dX3_issues_47 : decode cX3_issues 47 = .ok (.ishl, 1) := dk_120 (dk_at dksX3_issues_1 23 rfl rfl)
theorem dX3_issues_48 : decode cX3_issues 48 = .ok (.ixor, 1) := dk_130 (dk_at dksX3_issues_2 0 rfl rfl)
theorem dX3_issues_49 : decode cX3_issues 49 = .ok (.istore 5, 2) := dk_54 5 (dk_at dksX3_issues_2 1 rfl rfl)
theorem dX3_issues_51 : decode cX3_issues 51 = .ok (.iload_n 2, 1) := dk_28 (dk_at dksX3_issues_2 3 rfl rfl)
theorem dX3_issues_52 : decode cX3_issues 52 = .ok (.aload_n 0, 1) := dk_42 (dk_at dksX3_issues_2 4 rfl rfl)
theorem dX3_issues_53 : decode cX3_issues 53 = .ok (.iload 5, 2) := dk_21 5 (dk_at dksX3_issues_2 5 rfl rfl)
theorem dX3_issues_55 : decode cX3_issues 55 = .ok (.invokevirtual 398, 3) := dk_182 1 142 (dk_at dksX3_issues_2 7 rfl rfl)
theorem dX3_issues_58 : decode cX3_issues 58 = .ok (.ifCond .eq 26, 3) := dk_153 0 26 (dk_at dksX3_issues_2 10 rfl rfl)
theorem dX3_issues_61 : decode cX3_issues 61 = .ok (.aload_n 0, 1) := dk_42 (dk_at dksX3_issues_2 13 rfl rfl)
theorem dX3_issues_62 : decode cX3_issues 62 = .ok (.iload_n 1, 1) := dk_27 (dk_at dksX3_issues_2 14 rfl rfl)
theorem dX3_issues_63 : decode cX3_issues 63 = .ok (.iload_n 3, 1) := dk_29 (dk_at dksX3_issues_2 15 rfl rfl)
theorem dX3_issues_64 : decode cX3_issues 64 = .ok (.invokevirtual 416, 3) := dk_182 1 160 (dk_at dksX3_issues_2 16 rfl rfl)
theorem dX3_issues_67 : decode cX3_issues 67 = .ok (.aload_n 0, 1) := dk_42 (dk_at dksX3_issues_2 19 rfl rfl)
theorem dX3_issues_68 : decode cX3_issues 68 = .ok (.iload_n 1, 1) := dk_27 (dk_at dksX3_issues_2 20 rfl rfl)
theorem dX3_issues_69 : decode cX3_issues 69 = .ok (.iload 5, 2) := dk_21 5 (dk_at dksX3_issues_2 21 rfl rfl)
theorem dX3_issues_71 : decode cX3_issues 71 = .ok (.invokevirtual 416, 3) := dk_182 1 160 (dk_at dksX3_issues_3 0 rfl rfl)
theorem dX3_issues_74 : decode cX3_issues 74 = .ok (.if_icmp .eq 10, 3) := dk_159 0 10 (dk_at dksX3_issues_3 3 rfl rfl)
theorem dX3_issues_77 : decode cX3_issues 77 = .ok (.iconst 1, 1) := dk_4 (dk_at dksX3_issues_3 6 rfl rfl)
theorem dX3_issues_78 : decode cX3_issues 78 = .ok (.iload 4, 2) := dk_21 4 (dk_at dksX3_issues_3 7 rfl rfl)
theorem dX3_issues_80 : decode cX3_issues 80 = .ok (.ishl, 1) := dk_120 (dk_at dksX3_issues_3 9 rfl rfl)
theorem dX3_issues_81 : decode cX3_issues 81 = .ok (.goto 4, 3) := dk_167 0 4 (dk_at dksX3_issues_3 10 rfl rfl)
theorem dX3_issues_84 : decode cX3_issues 84 = .ok (.iconst 0, 1) := dk_3 (dk_at dksX3_issues_3 13 rfl rfl)
theorem dX3_issues_85 : decode cX3_issues 85 = .ok (.ior, 1) := dk_128 (dk_at dksX3_issues_3 14 rfl rfl)
theorem dX3_issues_86 : decode cX3_issues 86 = .ok (.istore_n 2, 1) := dk_61 (dk_at dksX3_issues_3 15 rfl rfl)
theorem dX3_issues_87 : decode cX3_issues 87 = .ok (.iinc 4 1, 3) := dk_132 4 1 (dk_at dksX3_issues_3 16 rfl rfl)
theorem dX3_issues_90 : decode cX3_issues 90 = .ok (.goto (-66), 3) := dk_167 255 190 (dk_at dksX3_issues_3 19 rfl rfl)
theorem dX3_issues_93 : decode cX3_issues 93 = .ok (.iinc 3 1, 3) := dk_132 3 1 (dk_at dksX3_issues_4 0 rfl rfl)
theorem dX3_issues_96 : decode cX3_issues 96 = .ok (.goto (-82), 3) := dk_167 255 174 (dk_at dksX3_issues_4 3 rfl rfl)
theorem dX3_issues_99 : decode cX3_issues 99 = .ok (.iload_n 2, 1) := dk_28 (dk_at dksX3_issues_4 6 rfl rfl)
theorem dX3_issues_100 : decode cX3_issues 100 = .ok (.ireturn, 1) := dk_172 (dk_at dksX3_issues_4 7 rfl rfl)
abbrev cX3_judged : ByteArray := prog_18_method_111_code
def yX3_judged : MethodName := ⟨RX3, "judged", "(I)I"⟩
def dkwX3_judged_2 : List UInt8 := [172]
abbrev dktX3_judged_2 : List UInt8 := dkwX3_judged_2 ++ []
def dkwX3_judged_1 : List UInt8 := [3, 167, 0, 23, 42, 180, 0, 70, 3, 46, 42, 180, 0, 67, 3, 46, 160, 0, 7, 4, 167, 0, 4, 5]
abbrev dktX3_judged_1 : List UInt8 := dkwX3_judged_1 ++ dktX3_judged_2
def dkwX3_judged_0 : List UInt8 := [42, 27, 182, 1, 124, 154, 0, 5, 2, 172, 42, 27, 182, 1, 185, 42, 180, 0, 70, 3, 46, 154, 0, 7]
abbrev dktX3_judged_0 : List UInt8 := dkwX3_judged_0 ++ dktX3_judged_1
theorem dksX3_judged_0 : cX3_judged.data.toList.drop 0 = dktX3_judged_0 := by decide +kernel
theorem dksX3_judged_1 : cX3_judged.data.toList.drop 24 = dktX3_judged_1 := dk_seg dksX3_judged_0 24 rfl rfl
theorem dksX3_judged_2 : cX3_judged.data.toList.drop 48 = dktX3_judged_2 := dk_seg dksX3_judged_1 24 rfl rfl
theorem dX3_judged_0 : decode cX3_judged 0 = .ok (.aload_n 0, 1) := dk_42 (dk_at dksX3_judged_0 0 rfl rfl)
theorem dX3_judged_1 : decode cX3_judged 1 = .ok (.iload_n 1, 1) := dk_27 (dk_at dksX3_judged_0 1 rfl rfl)
theorem dX3_judged_2 : decode cX3_judged 2 = .ok (.invokevirtual 380, 3) := dk_182 1 124 (dk_at dksX3_judged_0 2 rfl rfl)
theorem dX3_judged_5 : decode cX3_judged 5 = .ok (.ifCond .ne 5, 3) := dk_154 0 5 (dk_at dksX3_judged_0 5 rfl rfl)
theorem dX3_judged_8 : decode cX3_judged 8 = .ok (.iconst (-1), 1) := dk_2 (dk_at dksX3_judged_0 8 rfl rfl)
theorem dX3_judged_9 : decode cX3_judged 9 = .ok (.ireturn, 1) := dk_172 (dk_at dksX3_judged_0 9 rfl rfl)
theorem dX3_judged_10 : decode cX3_judged 10 = .ok (.aload_n 0, 1) := dk_42 (dk_at dksX3_judged_0 10 rfl rfl)
theorem dX3_judged_11 : decode cX3_judged 11 = .ok (.iload_n 1, 1) := dk_27 (dk_at dksX3_judged_0 11 rfl rfl)
theorem dX3_judged_12 : decode cX3_judged 12 = .ok (.invokevirtual 441, 3) := dk_182 1 185 (dk_at dksX3_judged_0 12 rfl rfl)
theorem dX3_judged_15 : decode cX3_judged 15 = .ok (.aload_n 0, 1) := dk_42 (dk_at dksX3_judged_0 15 rfl rfl)
theorem dX3_judged_16 : decode cX3_judged 16 = .ok (.getfield 70, 3) := dk_180 0 70 (dk_at dksX3_judged_0 16 rfl rfl)
theorem dX3_judged_19 : decode cX3_judged 19 = .ok (.iconst 0, 1) := dk_3 (dk_at dksX3_judged_0 19 rfl rfl)
theorem dX3_judged_20 : decode cX3_judged 20 = .ok (.iaload, 1) := dk_46 (dk_at dksX3_judged_0 20 rfl rfl)
theorem dX3_judged_21 : decode cX3_judged 21 = .ok (.ifCond .ne 7, 3) := dk_154 0 7 (dk_at dksX3_judged_0 21 rfl rfl)
theorem dX3_judged_24 : decode cX3_judged 24 = .ok (.iconst 0, 1) := dk_3 (dk_at dksX3_judged_1 0 rfl rfl)
theorem dX3_judged_25 : decode cX3_judged 25 = .ok (.goto 23, 3) := dk_167 0 23 (dk_at dksX3_judged_1 1 rfl rfl)
theorem dX3_judged_28 : decode cX3_judged 28 = .ok (.aload_n 0, 1) := dk_42 (dk_at dksX3_judged_1 4 rfl rfl)
theorem dX3_judged_29 : decode cX3_judged 29 = .ok (.getfield 70, 3) := dk_180 0 70 (dk_at dksX3_judged_1 5 rfl rfl)
theorem dX3_judged_32 : decode cX3_judged 32 = .ok (.iconst 0, 1) := dk_3 (dk_at dksX3_judged_1 8 rfl rfl)
theorem dX3_judged_33 : decode cX3_judged 33 = .ok (.iaload, 1) := dk_46 (dk_at dksX3_judged_1 9 rfl rfl)
theorem dX3_judged_34 : decode cX3_judged 34 = .ok (.aload_n 0, 1) := dk_42 (dk_at dksX3_judged_1 10 rfl rfl)
theorem dX3_judged_35 : decode cX3_judged 35 = .ok (.getfield 67, 3) := dk_180 0 67 (dk_at dksX3_judged_1 11 rfl rfl)
theorem dX3_judged_38 : decode cX3_judged 38 = .ok (.iconst 0, 1) := dk_3 (dk_at dksX3_judged_1 14 rfl rfl)
theorem dX3_judged_39 : decode cX3_judged 39 = .ok (.iaload, 1) := dk_46 (dk_at dksX3_judged_1 15 rfl rfl)
theorem dX3_judged_40 : decode cX3_judged 40 = .ok (.if_icmp .ne 7, 3) := dk_160 0 7 (dk_at dksX3_judged_1 16 rfl rfl)
theorem dX3_judged_43 : decode cX3_judged 43 = .ok (.iconst 1, 1) := dk_4 (dk_at dksX3_judged_1 19 rfl rfl)
theorem dX3_judged_44 : decode cX3_judged 44 = .ok (.goto 4, 3) := dk_167 0 4 (dk_at dksX3_judged_1 20 rfl rfl)
theorem dX3_judged_47 : decode cX3_judged 47 = .ok (.iconst 2, 1) := dk_5 (dk_at dksX3_judged_1 23 rfl rfl)
theorem dX3_judged_48 : decode cX3_judged 48 = .ok (.ireturn, 1) := dk_172 (dk_at dksX3_judged_2 0 rfl rfl)
abbrev cX3_laysWays : ByteArray := prog_18_method_108_code
def yX3_laysWays : MethodName := ⟨RX3, "laysWays", "(I)V"⟩
def dkwX3_laysWays_8 : List UInt8 := [3, 79, 132, 2, 255, 167, 255, 72, 177]
abbrev dktX3_laysWays_8 : List UInt8 := dkwX3_laysWays_8 ++ []
def dkwX3_laysWays_7 : List UInt8 := [28, 42, 21, 4, 182, 1, 142, 153, 0, 17, 42, 27, 21, 4, 182, 1, 160, 153, 0, 7, 4, 167, 0, 4]
abbrev dktX3_laysWays_7 : List UInt8 := dkwX3_laysWays_7 ++ dktX3_laysWays_8
def dkwX3_laysWays_6 : List UInt8 := [42, 180, 0, 67, 28, 42, 21, 4, 182, 1, 142, 153, 0, 7, 4, 167, 0, 4, 3, 79, 42, 180, 0, 70]
abbrev dktX3_laysWays_6 : List UInt8 := dkwX3_laysWays_6 ++ dktX3_laysWays_7
def dkwX3_laysWays_5 : List UInt8 := [184, 1, 179, 5, 160, 0, 10, 4, 21, 5, 120, 167, 0, 4, 3, 128, 54, 4, 132, 5, 1, 167, 255, 224]
abbrev dktX3_laysWays_5 : List UInt8 := dkwX3_laysWays_5 ++ dktX3_laysWays_6
def dkwX3_laysWays_4 : List UInt8 := [96, 46, 96, 79, 167, 0, 94, 3, 54, 4, 3, 54, 5, 21, 5, 29, 162, 0, 32, 21, 4, 28, 21, 5]
abbrev dktX3_laysWays_4 : List UInt8 := dkwX3_laysWays_4 ++ dktX3_laysWays_5
def dkwX3_laysWays_3 : List UInt8 := [42, 180, 0, 70, 28, 178, 1, 176, 29, 46, 96, 46, 42, 180, 0, 70, 28, 5, 178, 1, 176, 29, 46, 104]
abbrev dktX3_laysWays_3 : List UInt8 := dkwX3_laysWays_3 ++ dktX3_laysWays_4
def dkwX3_laysWays_2 : List UInt8 := [46, 96, 46, 42, 180, 0, 67, 28, 5, 178, 1, 176, 29, 46, 104, 96, 46, 96, 79, 42, 180, 0, 70, 28]
abbrev dktX3_laysWays_2 : List UInt8 := dkwX3_laysWays_2 ++ dktX3_laysWays_3
def dkwX3_laysWays_1 : List UInt8 := [29, 42, 180, 0, 7, 4, 46, 162, 0, 72, 42, 180, 0, 67, 28, 42, 180, 0, 67, 28, 178, 1, 176, 29]
abbrev dktX3_laysWays_1 : List UInt8 := dkwX3_laysWays_1 ++ dktX3_laysWays_2
def dkwX3_laysWays_0 : List UInt8 := [178, 1, 176, 42, 180, 0, 7, 4, 46, 46, 4, 100, 61, 28, 155, 0, 186, 42, 28, 3, 182, 1, 182, 62]
abbrev dktX3_laysWays_0 : List UInt8 := dkwX3_laysWays_0 ++ dktX3_laysWays_1
theorem dksX3_laysWays_0 : cX3_laysWays.data.toList.drop 0 = dktX3_laysWays_0 := by decide +kernel
theorem dksX3_laysWays_1 : cX3_laysWays.data.toList.drop 24 = dktX3_laysWays_1 := dk_seg dksX3_laysWays_0 24 rfl rfl
theorem dksX3_laysWays_2 : cX3_laysWays.data.toList.drop 48 = dktX3_laysWays_2 := dk_seg dksX3_laysWays_1 24 rfl rfl
theorem dksX3_laysWays_3 : cX3_laysWays.data.toList.drop 72 = dktX3_laysWays_3 := dk_seg dksX3_laysWays_2 24 rfl rfl
theorem dksX3_laysWays_4 : cX3_laysWays.data.toList.drop 96 = dktX3_laysWays_4 := dk_seg dksX3_laysWays_3 24 rfl rfl
theorem dksX3_laysWays_5 : cX3_laysWays.data.toList.drop 120 = dktX3_laysWays_5 := dk_seg dksX3_laysWays_4 24 rfl rfl
theorem dksX3_laysWays_6 : cX3_laysWays.data.toList.drop 144 = dktX3_laysWays_6 := dk_seg dksX3_laysWays_5 24 rfl rfl
theorem dksX3_laysWays_7 : cX3_laysWays.data.toList.drop 168 = dktX3_laysWays_7 := dk_seg dksX3_laysWays_6 24 rfl rfl
theorem dksX3_laysWays_8 : cX3_laysWays.data.toList.drop 192 = dktX3_laysWays_8 := dk_seg dksX3_laysWays_7 24 rfl rfl
theorem dX3_laysWays_0 : decode cX3_laysWays 0 = .ok (.getstatic 432, 3) := dk_178 1 176 (dk_at dksX3_laysWays_0 0 rfl rfl)
theorem dX3_laysWays_3 : decode cX3_laysWays 3 = .ok (.aload_n 0, 1) := dk_42 (dk_at dksX3_laysWays_0 3 rfl rfl)
theorem dX3_laysWays_4 : decode cX3_laysWays 4 = .ok (.getfield 7, 3) := dk_180 0 7 (dk_at dksX3_laysWays_0 4 rfl rfl)
theorem dX3_laysWays_7 : decode cX3_laysWays 7 = .ok (.iconst 1, 1) := dk_4 (dk_at dksX3_laysWays_0 7 rfl rfl)
theorem dX3_laysWays_8 : decode cX3_laysWays 8 = .ok (.iaload, 1) := dk_46 (dk_at dksX3_laysWays_0 8 rfl rfl)
theorem dX3_laysWays_9 : decode cX3_laysWays 9 = .ok (.iaload, 1) := dk_46 (dk_at dksX3_laysWays_0 9 rfl rfl)
theorem dX3_laysWays_10 : decode cX3_laysWays 10 = .ok (.iconst 1, 1) := dk_4 (dk_at dksX3_laysWays_0 10 rfl rfl)
theorem dX3_laysWays_11 : decode cX3_laysWays 11 = .ok (.isub, 1) := dk_100 (dk_at dksX3_laysWays_0 11 rfl rfl)
theorem dX3_laysWays_12 : decode cX3_laysWays 12 = .ok (.istore_n 2, 1) := dk_61 (dk_at dksX3_laysWays_0 12 rfl rfl)
theorem dX3_laysWays_13 : decode cX3_laysWays 13 = .ok (.iload_n 2, 1) := dk_28 (dk_at dksX3_laysWays_0 13 rfl rfl)
theorem dX3_laysWays_14 : decode cX3_laysWays 14 = .ok (.ifCond .lt 186, 3) := dk_155 0 186 (dk_at dksX3_laysWays_0 14 rfl rfl)
theorem dX3_laysWays_17 : decode cX3_laysWays 17 = .ok (.aload_n 0, 1) := dk_42 (dk_at dksX3_laysWays_0 17 rfl rfl)
theorem dX3_laysWays_18 : decode cX3_laysWays 18 = .ok (.iload_n 2, 1) := dk_28 (dk_at dksX3_laysWays_0 18 rfl rfl)
theorem dX3_laysWays_19 : decode cX3_laysWays 19 = .ok (.iconst 0, 1) := dk_3 (dk_at dksX3_laysWays_0 19 rfl rfl)
theorem dX3_laysWays_20 : decode cX3_laysWays 20 = .ok (.invokevirtual 438, 3) := dk_182 1 182 (dk_at dksX3_laysWays_0 20 rfl rfl)
theorem dX3_laysWays_23 : decode cX3_laysWays 23 = .ok (.istore_n 3, 1) := dk_62 (dk_at dksX3_laysWays_0 23 rfl rfl)
theorem dX3_laysWays_24 : decode cX3_laysWays 24 = .ok (.iload_n 3, 1) := dk_29 (dk_at dksX3_laysWays_1 0 rfl rfl)
theorem dX3_laysWays_25 : decode cX3_laysWays 25 = .ok (.aload_n 0, 1) := dk_42 (dk_at dksX3_laysWays_1 1 rfl rfl)
theorem dX3_laysWays_26 : decode cX3_laysWays 26 = .ok (.getfield 7, 3) := dk_180 0 7 (dk_at dksX3_laysWays_1 2 rfl rfl)
theorem dX3_laysWays_29 : decode cX3_laysWays 29 = .ok (.iconst 1, 1) := dk_4 (dk_at dksX3_laysWays_1 5 rfl rfl)
theorem dX3_laysWays_30 : decode cX3_laysWays 30 = .ok (.iaload, 1) := dk_46 (dk_at dksX3_laysWays_1 6 rfl rfl)
theorem dX3_laysWays_31 : decode cX3_laysWays 31 = .ok (.if_icmp .ge 72, 3) := dk_162 0 72 (dk_at dksX3_laysWays_1 7 rfl rfl)
theorem dX3_laysWays_34 : decode cX3_laysWays 34 = .ok (.aload_n 0, 1) := dk_42 (dk_at dksX3_laysWays_1 10 rfl rfl)
theorem dX3_laysWays_35 : decode cX3_laysWays 35 = .ok (.getfield 67, 3) := dk_180 0 67 (dk_at dksX3_laysWays_1 11 rfl rfl)
theorem dX3_laysWays_38 : decode cX3_laysWays 38 = .ok (.iload_n 2, 1) := dk_28 (dk_at dksX3_laysWays_1 14 rfl rfl)
theorem dX3_laysWays_39 : decode cX3_laysWays 39 = .ok (.aload_n 0, 1) := dk_42 (dk_at dksX3_laysWays_1 15 rfl rfl)
theorem dX3_laysWays_40 : decode cX3_laysWays 40 = .ok (.getfield 67, 3) := dk_180 0 67 (dk_at dksX3_laysWays_1 16 rfl rfl)
theorem dX3_laysWays_43 : decode cX3_laysWays 43 = .ok (.iload_n 2, 1) := dk_28 (dk_at dksX3_laysWays_1 19 rfl rfl)
theorem dX3_laysWays_44 : decode cX3_laysWays 44 = .ok (.getstatic 432, 3) := dk_178 1 176 (dk_at dksX3_laysWays_1 20 rfl rfl)
theorem dX3_laysWays_47 : decode cX3_laysWays 47 = .ok (.iload_n 3, 1) := dk_29 (dk_at dksX3_laysWays_1 23 rfl rfl)
theorem dX3_laysWays_48 : decode cX3_laysWays 48 = .ok (.iaload, 1) := dk_46 (dk_at dksX3_laysWays_2 0 rfl rfl)
theorem dX3_laysWays_49 : decode cX3_laysWays 49 = .ok (.iadd, 1) := dk_96 (dk_at dksX3_laysWays_2 1 rfl rfl)
theorem dX3_laysWays_50 : decode cX3_laysWays 50 = .ok (.iaload, 1) := dk_46 (dk_at dksX3_laysWays_2 2 rfl rfl)
theorem dX3_laysWays_51 : decode cX3_laysWays 51 = .ok (.aload_n 0, 1) := dk_42 (dk_at dksX3_laysWays_2 3 rfl rfl)
theorem dX3_laysWays_52 : decode cX3_laysWays 52 = .ok (.getfield 67, 3) := dk_180 0 67 (dk_at dksX3_laysWays_2 4 rfl rfl)
theorem dX3_laysWays_55 : decode cX3_laysWays 55 = .ok (.iload_n 2, 1) := dk_28 (dk_at dksX3_laysWays_2 7 rfl rfl)
theorem dX3_laysWays_56 : decode cX3_laysWays 56 = .ok (.iconst 2, 1) := dk_5 (dk_at dksX3_laysWays_2 8 rfl rfl)
theorem dX3_laysWays_57 : decode cX3_laysWays 57 = .ok (.getstatic 432, 3) := dk_178 1 176 (dk_at dksX3_laysWays_2 9 rfl rfl)
theorem dX3_laysWays_60 : decode cX3_laysWays 60 = .ok (.iload_n 3, 1) := dk_29 (dk_at dksX3_laysWays_2 12 rfl rfl)
theorem dX3_laysWays_61 : decode cX3_laysWays 61 = .ok (.iaload, 1) := dk_46 (dk_at dksX3_laysWays_2 13 rfl rfl)
theorem dX3_laysWays_62 : decode cX3_laysWays 62 = .ok (.imul, 1) := dk_104 (dk_at dksX3_laysWays_2 14 rfl rfl)
theorem dX3_laysWays_63 : decode cX3_laysWays 63 = .ok (.iadd, 1) := dk_96 (dk_at dksX3_laysWays_2 15 rfl rfl)
theorem dX3_laysWays_64 : decode cX3_laysWays 64 = .ok (.iaload, 1) := dk_46 (dk_at dksX3_laysWays_2 16 rfl rfl)
theorem dX3_laysWays_65 : decode cX3_laysWays 65 = .ok (.iadd, 1) := dk_96 (dk_at dksX3_laysWays_2 17 rfl rfl)
theorem dX3_laysWays_66 : decode cX3_laysWays 66 = .ok (.iastore, 1) := dk_79 (dk_at dksX3_laysWays_2 18 rfl rfl)
theorem dX3_laysWays_67 : decode cX3_laysWays 67 = .ok (.aload_n 0, 1) := dk_42 (dk_at dksX3_laysWays_2 19 rfl rfl)
theorem dX3_laysWays_68 : decode cX3_laysWays 68 = .ok (.getfield 70, 3) := dk_180 0 70 (dk_at dksX3_laysWays_2 20 rfl rfl)
theorem dX3_laysWays_71 : decode cX3_laysWays 71 = .ok (.iload_n 2, 1) := dk_28 (dk_at dksX3_laysWays_2 23 rfl rfl)
theorem dX3_laysWays_72 : decode cX3_laysWays 72 = .ok (.aload_n 0, 1) := dk_42 (dk_at dksX3_laysWays_3 0 rfl rfl)
theorem dX3_laysWays_73 : decode cX3_laysWays 73 = .ok (.getfield 70, 3) := dk_180 0 70 (dk_at dksX3_laysWays_3 1 rfl rfl)
theorem dX3_laysWays_76 : decode cX3_laysWays 76 = .ok (.iload_n 2, 1) := dk_28 (dk_at dksX3_laysWays_3 4 rfl rfl)
theorem dX3_laysWays_77 : decode cX3_laysWays 77 = .ok (.getstatic 432, 3) := dk_178 1 176 (dk_at dksX3_laysWays_3 5 rfl rfl)
theorem dX3_laysWays_80 : decode cX3_laysWays 80 = .ok (.iload_n 3, 1) := dk_29 (dk_at dksX3_laysWays_3 8 rfl rfl)
theorem dX3_laysWays_81 : decode cX3_laysWays 81 = .ok (.iaload, 1) := dk_46 (dk_at dksX3_laysWays_3 9 rfl rfl)
theorem dX3_laysWays_82 : decode cX3_laysWays 82 = .ok (.iadd, 1) := dk_96 (dk_at dksX3_laysWays_3 10 rfl rfl)
theorem dX3_laysWays_83 : decode cX3_laysWays 83 = .ok (.iaload, 1) := dk_46 (dk_at dksX3_laysWays_3 11 rfl rfl)
theorem dX3_laysWays_84 : decode cX3_laysWays 84 = .ok (.aload_n 0, 1) := dk_42 (dk_at dksX3_laysWays_3 12 rfl rfl)
theorem dX3_laysWays_85 : decode cX3_laysWays 85 = .ok (.getfield 70, 3) := dk_180 0 70 (dk_at dksX3_laysWays_3 13 rfl rfl)
theorem dX3_laysWays_88 : decode cX3_laysWays 88 = .ok (.iload_n 2, 1) := dk_28 (dk_at dksX3_laysWays_3 16 rfl rfl)
theorem dX3_laysWays_89 : decode cX3_laysWays 89 = .ok (.iconst 2, 1) := dk_5 (dk_at dksX3_laysWays_3 17 rfl rfl)
theorem dX3_laysWays_90 : decode cX3_laysWays 90 = .ok (.getstatic 432, 3) := dk_178 1 176 (dk_at dksX3_laysWays_3 18 rfl rfl)
theorem dX3_laysWays_93 : decode cX3_laysWays 93 = .ok (.iload_n 3, 1) := dk_29 (dk_at dksX3_laysWays_3 21 rfl rfl)
theorem dX3_laysWays_94 : decode cX3_laysWays 94 = .ok (.iaload, 1) := dk_46 (dk_at dksX3_laysWays_3 22 rfl rfl)
theorem dX3_laysWays_95 : decode cX3_laysWays 95 = .ok (.imul, 1) := dk_104 (dk_at dksX3_laysWays_3 23 rfl rfl)
theorem dX3_laysWays_96 : decode cX3_laysWays 96 = .ok (.iadd, 1) := dk_96 (dk_at dksX3_laysWays_4 0 rfl rfl)
theorem dX3_laysWays_97 : decode cX3_laysWays 97 = .ok (.iaload, 1) := dk_46 (dk_at dksX3_laysWays_4 1 rfl rfl)
theorem dX3_laysWays_98 : decode cX3_laysWays 98 = .ok (.iadd, 1) := dk_96 (dk_at dksX3_laysWays_4 2 rfl rfl)
theorem dX3_laysWays_99 : decode cX3_laysWays 99 = .ok (.iastore, 1) := dk_79 (dk_at dksX3_laysWays_4 3 rfl rfl)
theorem dX3_laysWays_100 : decode cX3_laysWays 100 = .ok (.goto 94, 3) := dk_167 0 94 (dk_at dksX3_laysWays_4 4 rfl rfl)
theorem dX3_laysWays_103 : decode cX3_laysWays 103 = .ok (.iconst 0, 1) := dk_3 (dk_at dksX3_laysWays_4 7 rfl rfl)
theorem dX3_laysWays_104 : decode cX3_laysWays 104 = .ok (.istore 4, 2) := dk_54 4 (dk_at dksX3_laysWays_4 8 rfl rfl)
theorem dX3_laysWays_106 : decode cX3_laysWays 106 = .ok (.iconst 0, 1) := dk_3 (dk_at dksX3_laysWays_4 10 rfl rfl)
theorem dX3_laysWays_107 : decode cX3_laysWays 107 = .ok (.istore 5, 2) := dk_54 5 (dk_at dksX3_laysWays_4 11 rfl rfl)
theorem dX3_laysWays_109 : decode cX3_laysWays 109 = .ok (.iload 5, 2) := dk_21 5 (dk_at dksX3_laysWays_4 13 rfl rfl)
theorem dX3_laysWays_111 : decode cX3_laysWays 111 = .ok (.iload_n 3, 1) := dk_29 (dk_at dksX3_laysWays_4 15 rfl rfl)
theorem dX3_laysWays_112 : decode cX3_laysWays 112 = .ok (.if_icmp .ge 32, 3) := dk_162 0 32 (dk_at dksX3_laysWays_4 16 rfl rfl)
theorem dX3_laysWays_115 : decode cX3_laysWays 115 = .ok (.iload 4, 2) := dk_21 4 (dk_at dksX3_laysWays_4 19 rfl rfl)
theorem dX3_laysWays_117 : decode cX3_laysWays 117 = .ok (.iload_n 2, 1) := dk_28 (dk_at dksX3_laysWays_4 21 rfl rfl)
theorem dX3_laysWays_118 : decode cX3_laysWays 118 = .ok (.iload 5, 2) := dk_21 5 (dk_at dksX3_laysWays_4 22 rfl rfl)
theorem dX3_laysWays_120 : decode cX3_laysWays 120 = .ok (.invokestatic 435, 3) := dk_184 1 179 (dk_at dksX3_laysWays_5 0 rfl rfl)
theorem dX3_laysWays_123 : decode cX3_laysWays 123 = .ok (.iconst 2, 1) := dk_5 (dk_at dksX3_laysWays_5 3 rfl rfl)
theorem dX3_laysWays_124 : decode cX3_laysWays 124 = .ok (.if_icmp .ne 10, 3) := dk_160 0 10 (dk_at dksX3_laysWays_5 4 rfl rfl)
theorem dX3_laysWays_127 : decode cX3_laysWays 127 = .ok (.iconst 1, 1) := dk_4 (dk_at dksX3_laysWays_5 7 rfl rfl)
theorem dX3_laysWays_128 : decode cX3_laysWays 128 = .ok (.iload 5, 2) := dk_21 5 (dk_at dksX3_laysWays_5 8 rfl rfl)
theorem dX3_laysWays_130 : decode cX3_laysWays 130 = .ok (.ishl, 1) := dk_120 (dk_at dksX3_laysWays_5 10 rfl rfl)
theorem dX3_laysWays_131 : decode cX3_laysWays 131 = .ok (.goto 4, 3) := dk_167 0 4 (dk_at dksX3_laysWays_5 11 rfl rfl)
theorem dX3_laysWays_134 : decode cX3_laysWays 134 = .ok (.iconst 0, 1) := dk_3 (dk_at dksX3_laysWays_5 14 rfl rfl)
theorem dX3_laysWays_135 : decode cX3_laysWays 135 = .ok (.ior, 1) := dk_128 (dk_at dksX3_laysWays_5 15 rfl rfl)
theorem dX3_laysWays_136 : decode cX3_laysWays 136 = .ok (.istore 4, 2) := dk_54 4 (dk_at dksX3_laysWays_5 16 rfl rfl)
theorem dX3_laysWays_138 : decode cX3_laysWays 138 = .ok (.iinc 5 1, 3) := dk_132 5 1 (dk_at dksX3_laysWays_5 18 rfl rfl)
theorem dX3_laysWays_141 : decode cX3_laysWays 141 = .ok (.goto (-32), 3) := dk_167 255 224 (dk_at dksX3_laysWays_5 21 rfl rfl)
theorem dX3_laysWays_144 : decode cX3_laysWays 144 = .ok (.aload_n 0, 1) := dk_42 (dk_at dksX3_laysWays_6 0 rfl rfl)
theorem dX3_laysWays_145 : decode cX3_laysWays 145 = .ok (.getfield 67, 3) := dk_180 0 67 (dk_at dksX3_laysWays_6 1 rfl rfl)
theorem dX3_laysWays_148 : decode cX3_laysWays 148 = .ok (.iload_n 2, 1) := dk_28 (dk_at dksX3_laysWays_6 4 rfl rfl)
theorem dX3_laysWays_149 : decode cX3_laysWays 149 = .ok (.aload_n 0, 1) := dk_42 (dk_at dksX3_laysWays_6 5 rfl rfl)
theorem dX3_laysWays_150 : decode cX3_laysWays 150 = .ok (.iload 4, 2) := dk_21 4 (dk_at dksX3_laysWays_6 6 rfl rfl)
theorem dX3_laysWays_152 : decode cX3_laysWays 152 = .ok (.invokevirtual 398, 3) := dk_182 1 142 (dk_at dksX3_laysWays_6 8 rfl rfl)
theorem dX3_laysWays_155 : decode cX3_laysWays 155 = .ok (.ifCond .eq 7, 3) := dk_153 0 7 (dk_at dksX3_laysWays_6 11 rfl rfl)
theorem dX3_laysWays_158 : decode cX3_laysWays 158 = .ok (.iconst 1, 1) := dk_4 (dk_at dksX3_laysWays_6 14 rfl rfl)
theorem dX3_laysWays_159 : decode cX3_laysWays 159 = .ok (.goto 4, 3) := dk_167 0 4 (dk_at dksX3_laysWays_6 15 rfl rfl)
theorem dX3_laysWays_162 : decode cX3_laysWays 162 = .ok (.iconst 0, 1) := dk_3 (dk_at dksX3_laysWays_6 18 rfl rfl)
theorem dX3_laysWays_163 : decode cX3_laysWays 163 = .ok (.iastore, 1) := dk_79 (dk_at dksX3_laysWays_6 19 rfl rfl)
theorem dX3_laysWays_164 : decode cX3_laysWays 164 = .ok (.aload_n 0, 1) := dk_42 (dk_at dksX3_laysWays_6 20 rfl rfl)
theorem dX3_laysWays_165 : decode cX3_laysWays 165 = .ok (.getfield 70, 3) := dk_180 0 70 (dk_at dksX3_laysWays_6 21 rfl rfl)
theorem dX3_laysWays_168 : decode cX3_laysWays 168 = .ok (.iload_n 2, 1) := dk_28 (dk_at dksX3_laysWays_7 0 rfl rfl)
theorem dX3_laysWays_169 : decode cX3_laysWays 169 = .ok (.aload_n 0, 1) := dk_42 (dk_at dksX3_laysWays_7 1 rfl rfl)
theorem dX3_laysWays_170 : decode cX3_laysWays 170 = .ok (.iload 4, 2) := dk_21 4 (dk_at dksX3_laysWays_7 2 rfl rfl)
theorem dX3_laysWays_172 : decode cX3_laysWays 172 = .ok (.invokevirtual 398, 3) := dk_182 1 142 (dk_at dksX3_laysWays_7 4 rfl rfl)
theorem dX3_laysWays_175 : decode cX3_laysWays 175 = .ok (.ifCond .eq 17, 3) := dk_153 0 17 (dk_at dksX3_laysWays_7 7 rfl rfl)
theorem dX3_laysWays_178 : decode cX3_laysWays 178 = .ok (.aload_n 0, 1) := dk_42 (dk_at dksX3_laysWays_7 10 rfl rfl)
theorem dX3_laysWays_179 : decode cX3_laysWays 179 = .ok (.iload_n 1, 1) := dk_27 (dk_at dksX3_laysWays_7 11 rfl rfl)
theorem dX3_laysWays_180 : decode cX3_laysWays 180 = .ok (.iload 4, 2) := dk_21 4 (dk_at dksX3_laysWays_7 12 rfl rfl)
theorem dX3_laysWays_182 : decode cX3_laysWays 182 = .ok (.invokevirtual 416, 3) := dk_182 1 160 (dk_at dksX3_laysWays_7 14 rfl rfl)
theorem dX3_laysWays_185 : decode cX3_laysWays 185 = .ok (.ifCond .eq 7, 3) := dk_153 0 7 (dk_at dksX3_laysWays_7 17 rfl rfl)
theorem dX3_laysWays_188 : decode cX3_laysWays 188 = .ok (.iconst 1, 1) := dk_4 (dk_at dksX3_laysWays_7 20 rfl rfl)
theorem dX3_laysWays_189 : decode cX3_laysWays 189 = .ok (.goto 4, 3) := dk_167 0 4 (dk_at dksX3_laysWays_7 21 rfl rfl)
theorem dX3_laysWays_192 : decode cX3_laysWays 192 = .ok (.iconst 0, 1) := dk_3 (dk_at dksX3_laysWays_8 0 rfl rfl)
theorem dX3_laysWays_193 : decode cX3_laysWays 193 = .ok (.iastore, 1) := dk_79 (dk_at dksX3_laysWays_8 1 rfl rfl)
theorem dX3_laysWays_194 : decode cX3_laysWays 194 = .ok (.iinc 2 (-1), 3) := dk_132 2 255 (dk_at dksX3_laysWays_8 2 rfl rfl)
theorem dX3_laysWays_197 : decode cX3_laysWays 197 = .ok (.goto (-184), 3) := dk_167 255 72 (dk_at dksX3_laysWays_8 5 rfl rfl)
theorem dX3_laysWays_200 : decode cX3_laysWays 200 = .ok (.return_, 1) := dk_177 (dk_at dksX3_laysWays_8 8 rfl rfl)
abbrev cX3_untold : ByteArray := prog_18_method_107_code
def yX3_untold : MethodName := ⟨RX3, "untold", "(II)I"⟩
def dkwX3_untold_1 : List UInt8 := [167, 255, 235, 29, 172]
abbrev dktX3_untold_1 : List UInt8 := dkwX3_untold_1 ++ []
def dkwX3_untold_0 : List UInt8 := [28, 62, 29, 42, 180, 0, 7, 4, 46, 162, 0, 17, 27, 29, 184, 1, 179, 153, 0, 9, 132, 3, 1]
abbrev dktX3_untold_0 : List UInt8 := dkwX3_untold_0 ++ dktX3_untold_1
theorem dksX3_untold_0 : cX3_untold.data.toList.drop 0 = dktX3_untold_0 := by decide +kernel
theorem dksX3_untold_1 : cX3_untold.data.toList.drop 23 = dktX3_untold_1 := dk_seg dksX3_untold_0 23 rfl rfl
theorem dX3_untold_0 : decode cX3_untold 0 = .ok (.iload_n 2, 1) := dk_28 (dk_at dksX3_untold_0 0 rfl rfl)
theorem dX3_untold_1 : decode cX3_untold 1 = .ok (.istore_n 3, 1) := dk_62 (dk_at dksX3_untold_0 1 rfl rfl)
theorem dX3_untold_2 : decode cX3_untold 2 = .ok (.iload_n 3, 1) := dk_29 (dk_at dksX3_untold_0 2 rfl rfl)
theorem dX3_untold_3 : decode cX3_untold 3 = .ok (.aload_n 0, 1) := dk_42 (dk_at dksX3_untold_0 3 rfl rfl)
theorem dX3_untold_4 : decode cX3_untold 4 = .ok (.getfield 7, 3) := dk_180 0 7 (dk_at dksX3_untold_0 4 rfl rfl)
theorem dX3_untold_7 : decode cX3_untold 7 = .ok (.iconst 1, 1) := dk_4 (dk_at dksX3_untold_0 7 rfl rfl)
theorem dX3_untold_8 : decode cX3_untold 8 = .ok (.iaload, 1) := dk_46 (dk_at dksX3_untold_0 8 rfl rfl)
theorem dX3_untold_9 : decode cX3_untold 9 = .ok (.if_icmp .ge 17, 3) := dk_162 0 17 (dk_at dksX3_untold_0 9 rfl rfl)
theorem dX3_untold_12 : decode cX3_untold 12 = .ok (.iload_n 1, 1) := dk_27 (dk_at dksX3_untold_0 12 rfl rfl)
theorem dX3_untold_13 : decode cX3_untold 13 = .ok (.iload_n 3, 1) := dk_29 (dk_at dksX3_untold_0 13 rfl rfl)
theorem dX3_untold_14 : decode cX3_untold 14 = .ok (.invokestatic 435, 3) := dk_184 1 179 (dk_at dksX3_untold_0 14 rfl rfl)
theorem dX3_untold_17 : decode cX3_untold 17 = .ok (.ifCond .eq 9, 3) := dk_153 0 9 (dk_at dksX3_untold_0 17 rfl rfl)
theorem dX3_untold_20 : decode cX3_untold 20 = .ok (.iinc 3 1, 3) := dk_132 3 1 (dk_at dksX3_untold_0 20 rfl rfl)
theorem dX3_untold_23 : decode cX3_untold 23 = .ok (.goto (-21), 3) := dk_167 255 235 (dk_at dksX3_untold_1 0 rfl rfl)
theorem dX3_untold_26 : decode cX3_untold 26 = .ok (.iload_n 3, 1) := dk_29 (dk_at dksX3_untold_1 3 rfl rfl)
theorem dX3_untold_27 : decode cX3_untold 27 = .ok (.ireturn, 1) := dk_172 (dk_at dksX3_untold_1 4 rfl rfl)
abbrev cX3_tells : ByteArray := prog_18_method_106_code
def yX3_tells : MethodName := ⟨RX3, "tells", "(II)I"⟩
def dkwX3_tells_0 : List UInt8 := [26, 178, 1, 176, 27, 46, 108, 6, 112, 172]
abbrev dktX3_tells_0 : List UInt8 := dkwX3_tells_0 ++ []
theorem dksX3_tells_0 : cX3_tells.data.toList.drop 0 = dktX3_tells_0 := by decide +kernel
theorem dX3_tells_0 : decode cX3_tells 0 = .ok (.iload_n 0, 1) := dk_26 (dk_at dksX3_tells_0 0 rfl rfl)
theorem dX3_tells_1 : decode cX3_tells 1 = .ok (.getstatic 432, 3) := dk_178 1 176 (dk_at dksX3_tells_0 1 rfl rfl)
theorem dX3_tells_4 : decode cX3_tells 4 = .ok (.iload_n 1, 1) := dk_27 (dk_at dksX3_tells_0 4 rfl rfl)
theorem dX3_tells_5 : decode cX3_tells 5 = .ok (.iaload, 1) := dk_46 (dk_at dksX3_tells_0 5 rfl rfl)
theorem dX3_tells_6 : decode cX3_tells 6 = .ok (.idiv, 1) := dk_108 (dk_at dksX3_tells_0 6 rfl rfl)
theorem dX3_tells_7 : decode cX3_tells 7 = .ok (.iconst 3, 1) := dk_6 (dk_at dksX3_tells_0 7 rfl rfl)
theorem dX3_tells_8 : decode cX3_tells 8 = .ok (.irem, 1) := dk_112 (dk_at dksX3_tells_0 8 rfl rfl)
theorem dX3_tells_9 : decode cX3_tells 9 = .ok (.ireturn, 1) := dk_172 (dk_at dksX3_tells_0 9 rfl rfl)
abbrev cX3_tries : ByteArray := prog_18_method_114_code
def yX3_tries : MethodName := ⟨RX3, "tries", "(II)I"⟩
def dkwX3_tries_3 : List UInt8 := [46, 159, 0, 9, 132, 3, 1, 167, 255, 230, 29, 172]
abbrev dktX3_tries_3 : List UInt8 := dkwX3_tries_3 ++ []
def dkwX3_tries_2 : List UInt8 := [16, 254, 172, 3, 62, 42, 29, 182, 1, 70, 154, 0, 18, 42, 3, 29, 182, 1, 191, 42, 180, 0, 73, 3]
abbrev dktX3_tries_2 : List UInt8 := dkwX3_tries_2 ++ dktX3_tries_3
def dkwX3_tries_1 : List UInt8 := [42, 182, 1, 194, 28, 154, 0, 10, 42, 180, 0, 73, 3, 46, 172, 42, 180, 0, 73, 3, 46, 154, 0, 6]
abbrev dktX3_tries_1 : List UInt8 := dkwX3_tries_1 ++ dktX3_tries_2
def dkwX3_tries_0 : List UInt8 := [42, 27, 182, 1, 124, 153, 0, 12, 28, 3, 4, 184, 0, 85, 154, 0, 5, 2, 172, 42, 27, 182, 1, 185]
abbrev dktX3_tries_0 : List UInt8 := dkwX3_tries_0 ++ dktX3_tries_1
theorem dksX3_tries_0 : cX3_tries.data.toList.drop 0 = dktX3_tries_0 := by decide +kernel
theorem dksX3_tries_1 : cX3_tries.data.toList.drop 24 = dktX3_tries_1 := dk_seg dksX3_tries_0 24 rfl rfl
theorem dksX3_tries_2 : cX3_tries.data.toList.drop 48 = dktX3_tries_2 := dk_seg dksX3_tries_1 24 rfl rfl
theorem dksX3_tries_3 : cX3_tries.data.toList.drop 72 = dktX3_tries_3 := dk_seg dksX3_tries_2 24 rfl rfl
theorem dX3_tries_0 : decode cX3_tries 0 = .ok (.aload_n 0, 1) := dk_42 (dk_at dksX3_tries_0 0 rfl rfl)
theorem dX3_tries_1 : decode cX3_tries 1 = .ok (.iload_n 1, 1) := dk_27 (dk_at dksX3_tries_0 1 rfl rfl)
theorem dX3_tries_2 : decode cX3_tries 2 = .ok (.invokevirtual 380, 3) := dk_182 1 124 (dk_at dksX3_tries_0 2 rfl rfl)
theorem dX3_tries_5 : decode cX3_tries 5 = .ok (.ifCond .eq 12, 3) := dk_153 0 12 (dk_at dksX3_tries_0 5 rfl rfl)
theorem dX3_tries_8 : decode cX3_tries 8 = .ok (.iload_n 2, 1) := dk_28 (dk_at dksX3_tries_0 8 rfl rfl)
theorem dX3_tries_9 : decode cX3_tries 9 = .ok (.iconst 0, 1) := dk_3 (dk_at dksX3_tries_0 9 rfl rfl)
theorem dX3_tries_10 : decode cX3_tries 10 = .ok (.iconst 1, 1) := dk_4 (dk_at dksX3_tries_0 10 rfl rfl)
theorem dX3_tries_11 : decode cX3_tries 11 = .ok (.invokestatic 85, 3) := dk_184 0 85 (dk_at dksX3_tries_0 11 rfl rfl)
theorem dX3_tries_14 : decode cX3_tries 14 = .ok (.ifCond .ne 5, 3) := dk_154 0 5 (dk_at dksX3_tries_0 14 rfl rfl)
theorem dX3_tries_17 : decode cX3_tries 17 = .ok (.iconst (-1), 1) := dk_2 (dk_at dksX3_tries_0 17 rfl rfl)
theorem dX3_tries_18 : decode cX3_tries 18 = .ok (.ireturn, 1) := dk_172 (dk_at dksX3_tries_0 18 rfl rfl)
theorem dX3_tries_19 : decode cX3_tries 19 = .ok (.aload_n 0, 1) := dk_42 (dk_at dksX3_tries_0 19 rfl rfl)
theorem dX3_tries_20 : decode cX3_tries 20 = .ok (.iload_n 1, 1) := dk_27 (dk_at dksX3_tries_0 20 rfl rfl)
theorem dX3_tries_21 : decode cX3_tries 21 = .ok (.invokevirtual 441, 3) := dk_182 1 185 (dk_at dksX3_tries_0 21 rfl rfl)
theorem dX3_tries_24 : decode cX3_tries 24 = .ok (.aload_n 0, 1) := dk_42 (dk_at dksX3_tries_1 0 rfl rfl)
theorem dX3_tries_25 : decode cX3_tries 25 = .ok (.invokevirtual 450, 3) := dk_182 1 194 (dk_at dksX3_tries_1 1 rfl rfl)
theorem dX3_tries_28 : decode cX3_tries 28 = .ok (.iload_n 2, 1) := dk_28 (dk_at dksX3_tries_1 4 rfl rfl)
theorem dX3_tries_29 : decode cX3_tries 29 = .ok (.ifCond .ne 10, 3) := dk_154 0 10 (dk_at dksX3_tries_1 5 rfl rfl)
theorem dX3_tries_32 : decode cX3_tries 32 = .ok (.aload_n 0, 1) := dk_42 (dk_at dksX3_tries_1 8 rfl rfl)
theorem dX3_tries_33 : decode cX3_tries 33 = .ok (.getfield 73, 3) := dk_180 0 73 (dk_at dksX3_tries_1 9 rfl rfl)
theorem dX3_tries_36 : decode cX3_tries 36 = .ok (.iconst 0, 1) := dk_3 (dk_at dksX3_tries_1 12 rfl rfl)
theorem dX3_tries_37 : decode cX3_tries 37 = .ok (.iaload, 1) := dk_46 (dk_at dksX3_tries_1 13 rfl rfl)
theorem dX3_tries_38 : decode cX3_tries 38 = .ok (.ireturn, 1) := dk_172 (dk_at dksX3_tries_1 14 rfl rfl)
theorem dX3_tries_39 : decode cX3_tries 39 = .ok (.aload_n 0, 1) := dk_42 (dk_at dksX3_tries_1 15 rfl rfl)
theorem dX3_tries_40 : decode cX3_tries 40 = .ok (.getfield 73, 3) := dk_180 0 73 (dk_at dksX3_tries_1 16 rfl rfl)
theorem dX3_tries_43 : decode cX3_tries 43 = .ok (.iconst 0, 1) := dk_3 (dk_at dksX3_tries_1 19 rfl rfl)
theorem dX3_tries_44 : decode cX3_tries 44 = .ok (.iaload, 1) := dk_46 (dk_at dksX3_tries_1 20 rfl rfl)
theorem dX3_tries_45 : decode cX3_tries 45 = .ok (.ifCond .ne 6, 3) := dk_154 0 6 (dk_at dksX3_tries_1 21 rfl rfl)
theorem dX3_tries_48 : decode cX3_tries 48 = .ok (.bipush (-2), 2) := dk_16 254 (dk_at dksX3_tries_2 0 rfl rfl)
theorem dX3_tries_50 : decode cX3_tries 50 = .ok (.ireturn, 1) := dk_172 (dk_at dksX3_tries_2 2 rfl rfl)
theorem dX3_tries_51 : decode cX3_tries 51 = .ok (.iconst 0, 1) := dk_3 (dk_at dksX3_tries_2 3 rfl rfl)
theorem dX3_tries_52 : decode cX3_tries 52 = .ok (.istore_n 3, 1) := dk_62 (dk_at dksX3_tries_2 4 rfl rfl)
theorem dX3_tries_53 : decode cX3_tries 53 = .ok (.aload_n 0, 1) := dk_42 (dk_at dksX3_tries_2 5 rfl rfl)
theorem dX3_tries_54 : decode cX3_tries 54 = .ok (.iload_n 3, 1) := dk_29 (dk_at dksX3_tries_2 6 rfl rfl)
theorem dX3_tries_55 : decode cX3_tries 55 = .ok (.invokevirtual 326, 3) := dk_182 1 70 (dk_at dksX3_tries_2 7 rfl rfl)
theorem dX3_tries_58 : decode cX3_tries 58 = .ok (.ifCond .ne 18, 3) := dk_154 0 18 (dk_at dksX3_tries_2 10 rfl rfl)
theorem dX3_tries_61 : decode cX3_tries 61 = .ok (.aload_n 0, 1) := dk_42 (dk_at dksX3_tries_2 13 rfl rfl)
theorem dX3_tries_62 : decode cX3_tries 62 = .ok (.iconst 0, 1) := dk_3 (dk_at dksX3_tries_2 14 rfl rfl)
theorem dX3_tries_63 : decode cX3_tries 63 = .ok (.iload_n 3, 1) := dk_29 (dk_at dksX3_tries_2 15 rfl rfl)
theorem dX3_tries_64 : decode cX3_tries 64 = .ok (.invokevirtual 447, 3) := dk_182 1 191 (dk_at dksX3_tries_2 16 rfl rfl)
theorem dX3_tries_67 : decode cX3_tries 67 = .ok (.aload_n 0, 1) := dk_42 (dk_at dksX3_tries_2 19 rfl rfl)
theorem dX3_tries_68 : decode cX3_tries 68 = .ok (.getfield 73, 3) := dk_180 0 73 (dk_at dksX3_tries_2 20 rfl rfl)
theorem dX3_tries_71 : decode cX3_tries 71 = .ok (.iconst 0, 1) := dk_3 (dk_at dksX3_tries_2 23 rfl rfl)
theorem dX3_tries_72 : decode cX3_tries 72 = .ok (.iaload, 1) := dk_46 (dk_at dksX3_tries_3 0 rfl rfl)
theorem dX3_tries_73 : decode cX3_tries 73 = .ok (.if_icmp .eq 9, 3) := dk_159 0 9 (dk_at dksX3_tries_3 1 rfl rfl)
theorem dX3_tries_76 : decode cX3_tries 76 = .ok (.iinc 3 1, 3) := dk_132 3 1 (dk_at dksX3_tries_3 4 rfl rfl)
theorem dX3_tries_79 : decode cX3_tries 79 = .ok (.goto (-26), 3) := dk_167 255 230 (dk_at dksX3_tries_3 7 rfl rfl)
theorem dX3_tries_82 : decode cX3_tries 82 = .ok (.iload_n 3, 1) := dk_29 (dk_at dksX3_tries_3 10 rfl rfl)
theorem dX3_tries_83 : decode cX3_tries 83 = .ok (.ireturn, 1) := dk_172 (dk_at dksX3_tries_3 11 rfl rfl)
abbrev cX3_laysTrials : ByteArray := prog_18_method_113_code
def yX3_laysTrials : MethodName := ⟨RX3, "laysTrials", "()V"⟩
def dkwX3_laysTrials_5 : List UInt8 := [42, 27, 28, 4, 96, 182, 1, 182, 61, 167, 255, 190, 132, 1, 255, 167, 255, 137, 177]
abbrev dktX3_laysTrials_5 : List UInt8 := dkwX3_laysTrials_5 ++ []
def dkwX3_laysTrials_4 : List UInt8 := [180, 0, 73, 27, 46, 167, 0, 18, 42, 180, 0, 73, 27, 46, 42, 27, 28, 182, 1, 191, 184, 1, 89, 79]
abbrev dktX3_laysTrials_4 : List UInt8 := dkwX3_laysTrials_4 ++ dktX3_laysTrials_5
def dkwX3_laysTrials_3 : List UInt8 := [180, 0, 73, 27, 46, 158, 0, 53, 42, 180, 0, 73, 27, 42, 28, 182, 1, 70, 153, 0, 12, 42]
abbrev dktX3_laysTrials_3 : List UInt8 := dkwX3_laysTrials_3 ++ dktX3_laysTrials_4
def dkwX3_laysTrials_2 : List UInt8 := [167, 0, 5, 16, 9, 79, 42, 27, 3, 182, 1, 182, 61, 28, 42, 180, 0, 7, 4, 46, 162, 0, 62, 42]
abbrev dktX3_laysTrials_2 : List UInt8 := dkwX3_laysTrials_2 ++ dktX3_laysTrials_3
def dkwX3_laysTrials_1 : List UInt8 := [180, 0, 70, 27, 46, 153, 0, 18, 42, 180, 0, 70, 27, 46, 42, 180, 0, 67, 27, 46, 160, 0, 7, 3]
abbrev dktX3_laysTrials_1 : List UInt8 := dkwX3_laysTrials_1 ++ dktX3_laysTrials_2
def dkwX3_laysTrials_0 : List UInt8 := [178, 1, 176, 42, 180, 0, 7, 4, 46, 46, 4, 100, 60, 27, 155, 0, 121, 42, 180, 0, 73, 27, 42]
abbrev dktX3_laysTrials_0 : List UInt8 := dkwX3_laysTrials_0 ++ dktX3_laysTrials_1
theorem dksX3_laysTrials_0 : cX3_laysTrials.data.toList.drop 0 = dktX3_laysTrials_0 := by decide +kernel
theorem dksX3_laysTrials_1 : cX3_laysTrials.data.toList.drop 23 = dktX3_laysTrials_1 := dk_seg dksX3_laysTrials_0 23 rfl rfl
theorem dksX3_laysTrials_2 : cX3_laysTrials.data.toList.drop 47 = dktX3_laysTrials_2 := dk_seg dksX3_laysTrials_1 24 rfl rfl
theorem dksX3_laysTrials_3 : cX3_laysTrials.data.toList.drop 71 = dktX3_laysTrials_3 := dk_seg dksX3_laysTrials_2 24 rfl rfl
theorem dksX3_laysTrials_4 : cX3_laysTrials.data.toList.drop 93 = dktX3_laysTrials_4 := dk_seg dksX3_laysTrials_3 22 rfl rfl
theorem dksX3_laysTrials_5 : cX3_laysTrials.data.toList.drop 117 = dktX3_laysTrials_5 := dk_seg dksX3_laysTrials_4 24 rfl rfl
theorem dX3_laysTrials_0 : decode cX3_laysTrials 0 = .ok (.getstatic 432, 3) := dk_178 1 176 (dk_at dksX3_laysTrials_0 0 rfl rfl)
theorem dX3_laysTrials_3 : decode cX3_laysTrials 3 = .ok (.aload_n 0, 1) := dk_42 (dk_at dksX3_laysTrials_0 3 rfl rfl)
theorem dX3_laysTrials_4 : decode cX3_laysTrials 4 = .ok (.getfield 7, 3) := dk_180 0 7 (dk_at dksX3_laysTrials_0 4 rfl rfl)
theorem dX3_laysTrials_7 : decode cX3_laysTrials 7 = .ok (.iconst 1, 1) := dk_4 (dk_at dksX3_laysTrials_0 7 rfl rfl)
theorem dX3_laysTrials_8 : decode cX3_laysTrials 8 = .ok (.iaload, 1) := dk_46 (dk_at dksX3_laysTrials_0 8 rfl rfl)
theorem dX3_laysTrials_9 : decode cX3_laysTrials 9 = .ok (.iaload, 1) := dk_46 (dk_at dksX3_laysTrials_0 9 rfl rfl)
theorem dX3_laysTrials_10 : decode cX3_laysTrials 10 = .ok (.iconst 1, 1) := dk_4 (dk_at dksX3_laysTrials_0 10 rfl rfl)
theorem dX3_laysTrials_11 : decode cX3_laysTrials 11 = .ok (.isub, 1) := dk_100 (dk_at dksX3_laysTrials_0 11 rfl rfl)
theorem dX3_laysTrials_12 : decode cX3_laysTrials 12 = .ok (.istore_n 1, 1) := dk_60 (dk_at dksX3_laysTrials_0 12 rfl rfl)
theorem dX3_laysTrials_13 : decode cX3_laysTrials 13 = .ok (.iload_n 1, 1) := dk_27 (dk_at dksX3_laysTrials_0 13 rfl rfl)
theorem dX3_laysTrials_14 : decode cX3_laysTrials 14 = .ok (.ifCond .lt 121, 3) := dk_155 0 121 (dk_at dksX3_laysTrials_0 14 rfl rfl)
theorem dX3_laysTrials_17 : decode cX3_laysTrials 17 = .ok (.aload_n 0, 1) := dk_42 (dk_at dksX3_laysTrials_0 17 rfl rfl)
theorem dX3_laysTrials_18 : decode cX3_laysTrials 18 = .ok (.getfield 73, 3) := dk_180 0 73 (dk_at dksX3_laysTrials_0 18 rfl rfl)
theorem dX3_laysTrials_21 : decode cX3_laysTrials 21 = .ok (.iload_n 1, 1) := dk_27 (dk_at dksX3_laysTrials_0 21 rfl rfl)
theorem dX3_laysTrials_22 : decode cX3_laysTrials 22 = .ok (.aload_n 0, 1) := dk_42 (dk_at dksX3_laysTrials_0 22 rfl rfl)
theorem dX3_laysTrials_23 : decode cX3_laysTrials 23 = .ok (.getfield 70, 3) := dk_180 0 70 (dk_at dksX3_laysTrials_1 0 rfl rfl)
theorem dX3_laysTrials_26 : decode cX3_laysTrials 26 = .ok (.iload_n 1, 1) := dk_27 (dk_at dksX3_laysTrials_1 3 rfl rfl)
theorem dX3_laysTrials_27 : decode cX3_laysTrials 27 = .ok (.iaload, 1) := dk_46 (dk_at dksX3_laysTrials_1 4 rfl rfl)
theorem dX3_laysTrials_28 : decode cX3_laysTrials 28 = .ok (.ifCond .eq 18, 3) := dk_153 0 18 (dk_at dksX3_laysTrials_1 5 rfl rfl)
theorem dX3_laysTrials_31 : decode cX3_laysTrials 31 = .ok (.aload_n 0, 1) := dk_42 (dk_at dksX3_laysTrials_1 8 rfl rfl)
theorem dX3_laysTrials_32 : decode cX3_laysTrials 32 = .ok (.getfield 70, 3) := dk_180 0 70 (dk_at dksX3_laysTrials_1 9 rfl rfl)
theorem dX3_laysTrials_35 : decode cX3_laysTrials 35 = .ok (.iload_n 1, 1) := dk_27 (dk_at dksX3_laysTrials_1 12 rfl rfl)
theorem dX3_laysTrials_36 : decode cX3_laysTrials 36 = .ok (.iaload, 1) := dk_46 (dk_at dksX3_laysTrials_1 13 rfl rfl)
theorem dX3_laysTrials_37 : decode cX3_laysTrials 37 = .ok (.aload_n 0, 1) := dk_42 (dk_at dksX3_laysTrials_1 14 rfl rfl)
theorem dX3_laysTrials_38 : decode cX3_laysTrials 38 = .ok (.getfield 67, 3) := dk_180 0 67 (dk_at dksX3_laysTrials_1 15 rfl rfl)
theorem dX3_laysTrials_41 : decode cX3_laysTrials 41 = .ok (.iload_n 1, 1) := dk_27 (dk_at dksX3_laysTrials_1 18 rfl rfl)
theorem dX3_laysTrials_42 : decode cX3_laysTrials 42 = .ok (.iaload, 1) := dk_46 (dk_at dksX3_laysTrials_1 19 rfl rfl)
theorem dX3_laysTrials_43 : decode cX3_laysTrials 43 = .ok (.if_icmp .ne 7, 3) := dk_160 0 7 (dk_at dksX3_laysTrials_1 20 rfl rfl)
theorem dX3_laysTrials_46 : decode cX3_laysTrials 46 = .ok (.iconst 0, 1) := dk_3 (dk_at dksX3_laysTrials_1 23 rfl rfl)
theorem dX3_laysTrials_47 : decode cX3_laysTrials 47 = .ok (.goto 5, 3) := dk_167 0 5 (dk_at dksX3_laysTrials_2 0 rfl rfl)
theorem dX3_laysTrials_50 : decode cX3_laysTrials 50 = .ok (.bipush 9, 2) := dk_16 9 (dk_at dksX3_laysTrials_2 3 rfl rfl)
theorem dX3_laysTrials_52 : decode cX3_laysTrials 52 = .ok (.iastore, 1) := dk_79 (dk_at dksX3_laysTrials_2 5 rfl rfl)
theorem dX3_laysTrials_53 : decode cX3_laysTrials 53 = .ok (.aload_n 0, 1) := dk_42 (dk_at dksX3_laysTrials_2 6 rfl rfl)
theorem dX3_laysTrials_54 : decode cX3_laysTrials 54 = .ok (.iload_n 1, 1) := dk_27 (dk_at dksX3_laysTrials_2 7 rfl rfl)
theorem dX3_laysTrials_55 : decode cX3_laysTrials 55 = .ok (.iconst 0, 1) := dk_3 (dk_at dksX3_laysTrials_2 8 rfl rfl)
theorem dX3_laysTrials_56 : decode cX3_laysTrials 56 = .ok (.invokevirtual 438, 3) := dk_182 1 182 (dk_at dksX3_laysTrials_2 9 rfl rfl)
theorem dX3_laysTrials_59 : decode cX3_laysTrials 59 = .ok (.istore_n 2, 1) := dk_61 (dk_at dksX3_laysTrials_2 12 rfl rfl)
theorem dX3_laysTrials_60 : decode cX3_laysTrials 60 = .ok (.iload_n 2, 1) := dk_28 (dk_at dksX3_laysTrials_2 13 rfl rfl)
theorem dX3_laysTrials_61 : decode cX3_laysTrials 61 = .ok (.aload_n 0, 1) := dk_42 (dk_at dksX3_laysTrials_2 14 rfl rfl)
theorem dX3_laysTrials_62 : decode cX3_laysTrials 62 = .ok (.getfield 7, 3) := dk_180 0 7 (dk_at dksX3_laysTrials_2 15 rfl rfl)
theorem dX3_laysTrials_65 : decode cX3_laysTrials 65 = .ok (.iconst 1, 1) := dk_4 (dk_at dksX3_laysTrials_2 18 rfl rfl)
theorem dX3_laysTrials_66 : decode cX3_laysTrials 66 = .ok (.iaload, 1) := dk_46 (dk_at dksX3_laysTrials_2 19 rfl rfl)
theorem dX3_laysTrials_67 : decode cX3_laysTrials 67 = .ok (.if_icmp .ge 62, 3) := dk_162 0 62 (dk_at dksX3_laysTrials_2 20 rfl rfl)
theorem dX3_laysTrials_70 : decode cX3_laysTrials 70 = .ok (.aload_n 0, 1) := dk_42 (dk_at dksX3_laysTrials_2 23 rfl rfl)
theorem dX3_laysTrials_71 : decode cX3_laysTrials 71 = .ok (.getfield 73, 3) := dk_180 0 73 (dk_at dksX3_laysTrials_3 0 rfl rfl)
theorem dX3_laysTrials_74 : decode cX3_laysTrials 74 = .ok (.iload_n 1, 1) := dk_27 (dk_at dksX3_laysTrials_3 3 rfl rfl)
theorem dX3_laysTrials_75 : decode cX3_laysTrials 75 = .ok (.iaload, 1) := dk_46 (dk_at dksX3_laysTrials_3 4 rfl rfl)
theorem dX3_laysTrials_76 : decode cX3_laysTrials 76 = .ok (.ifCond .le 53, 3) := dk_158 0 53 (dk_at dksX3_laysTrials_3 5 rfl rfl)
theorem dX3_laysTrials_79 : decode cX3_laysTrials 79 = .ok (.aload_n 0, 1) := dk_42 (dk_at dksX3_laysTrials_3 8 rfl rfl)
theorem dX3_laysTrials_80 : decode cX3_laysTrials 80 = .ok (.getfield 73, 3) := dk_180 0 73 (dk_at dksX3_laysTrials_3 9 rfl rfl)
theorem dX3_laysTrials_83 : decode cX3_laysTrials 83 = .ok (.iload_n 1, 1) := dk_27 (dk_at dksX3_laysTrials_3 12 rfl rfl)
theorem dX3_laysTrials_84 : decode cX3_laysTrials 84 = .ok (.aload_n 0, 1) := dk_42 (dk_at dksX3_laysTrials_3 13 rfl rfl)
theorem dX3_laysTrials_85 : decode cX3_laysTrials 85 = .ok (.iload_n 2, 1) := dk_28 (dk_at dksX3_laysTrials_3 14 rfl rfl)
theorem dX3_laysTrials_86 : decode cX3_laysTrials 86 = .ok (.invokevirtual 326, 3) := dk_182 1 70 (dk_at dksX3_laysTrials_3 15 rfl rfl)
theorem dX3_laysTrials_89 : decode cX3_laysTrials 89 = .ok (.ifCond .eq 12, 3) := dk_153 0 12 (dk_at dksX3_laysTrials_3 18 rfl rfl)
theorem dX3_laysTrials_92 : decode cX3_laysTrials 92 = .ok (.aload_n 0, 1) := dk_42 (dk_at dksX3_laysTrials_3 21 rfl rfl)
theorem dX3_laysTrials_93 : decode cX3_laysTrials 93 = .ok (.getfield 73, 3) := dk_180 0 73 (dk_at dksX3_laysTrials_4 0 rfl rfl)
theorem dX3_laysTrials_96 : decode cX3_laysTrials 96 = .ok (.iload_n 1, 1) := dk_27 (dk_at dksX3_laysTrials_4 3 rfl rfl)
theorem dX3_laysTrials_97 : decode cX3_laysTrials 97 = .ok (.iaload, 1) := dk_46 (dk_at dksX3_laysTrials_4 4 rfl rfl)
theorem dX3_laysTrials_98 : decode cX3_laysTrials 98 = .ok (.goto 18, 3) := dk_167 0 18 (dk_at dksX3_laysTrials_4 5 rfl rfl)
theorem dX3_laysTrials_101 : decode cX3_laysTrials 101 = .ok (.aload_n 0, 1) := dk_42 (dk_at dksX3_laysTrials_4 8 rfl rfl)
theorem dX3_laysTrials_102 : decode cX3_laysTrials 102 = .ok (.getfield 73, 3) := dk_180 0 73 (dk_at dksX3_laysTrials_4 9 rfl rfl)
theorem dX3_laysTrials_105 : decode cX3_laysTrials 105 = .ok (.iload_n 1, 1) := dk_27 (dk_at dksX3_laysTrials_4 12 rfl rfl)
theorem dX3_laysTrials_106 : decode cX3_laysTrials 106 = .ok (.iaload, 1) := dk_46 (dk_at dksX3_laysTrials_4 13 rfl rfl)
theorem dX3_laysTrials_107 : decode cX3_laysTrials 107 = .ok (.aload_n 0, 1) := dk_42 (dk_at dksX3_laysTrials_4 14 rfl rfl)
theorem dX3_laysTrials_108 : decode cX3_laysTrials 108 = .ok (.iload_n 1, 1) := dk_27 (dk_at dksX3_laysTrials_4 15 rfl rfl)
theorem dX3_laysTrials_109 : decode cX3_laysTrials 109 = .ok (.iload_n 2, 1) := dk_28 (dk_at dksX3_laysTrials_4 16 rfl rfl)
theorem dX3_laysTrials_110 : decode cX3_laysTrials 110 = .ok (.invokevirtual 447, 3) := dk_182 1 191 (dk_at dksX3_laysTrials_4 17 rfl rfl)
theorem dX3_laysTrials_113 : decode cX3_laysTrials 113 = .ok (.invokestatic 345, 3) := dk_184 1 89 (dk_at dksX3_laysTrials_4 20 rfl rfl)
theorem dX3_laysTrials_116 : decode cX3_laysTrials 116 = .ok (.iastore, 1) := dk_79 (dk_at dksX3_laysTrials_4 23 rfl rfl)
theorem dX3_laysTrials_117 : decode cX3_laysTrials 117 = .ok (.aload_n 0, 1) := dk_42 (dk_at dksX3_laysTrials_5 0 rfl rfl)
theorem dX3_laysTrials_118 : decode cX3_laysTrials 118 = .ok (.iload_n 1, 1) := dk_27 (dk_at dksX3_laysTrials_5 1 rfl rfl)
theorem dX3_laysTrials_119 : decode cX3_laysTrials 119 = .ok (.iload_n 2, 1) := dk_28 (dk_at dksX3_laysTrials_5 2 rfl rfl)
theorem dX3_laysTrials_120 : decode cX3_laysTrials 120 = .ok (.iconst 1, 1) := dk_4 (dk_at dksX3_laysTrials_5 3 rfl rfl)
theorem dX3_laysTrials_121 : decode cX3_laysTrials 121 = .ok (.iadd, 1) := dk_96 (dk_at dksX3_laysTrials_5 4 rfl rfl)
theorem dX3_laysTrials_122 : decode cX3_laysTrials 122 = .ok (.invokevirtual 438, 3) := dk_182 1 182 (dk_at dksX3_laysTrials_5 5 rfl rfl)
theorem dX3_laysTrials_125 : decode cX3_laysTrials 125 = .ok (.istore_n 2, 1) := dk_61 (dk_at dksX3_laysTrials_5 8 rfl rfl)
theorem dX3_laysTrials_126 : decode cX3_laysTrials 126 = .ok (.goto (-66), 3) := dk_167 255 190 (dk_at dksX3_laysTrials_5 9 rfl rfl)
theorem dX3_laysTrials_129 : decode cX3_laysTrials 129 = .ok (.iinc 1 (-1), 3) := dk_132 1 255 (dk_at dksX3_laysTrials_5 12 rfl rfl)
theorem dX3_laysTrials_132 : decode cX3_laysTrials 132 = .ok (.goto (-119), 3) := dk_167 255 137 (dk_at dksX3_laysTrials_5 15 rfl rfl)
theorem dX3_laysTrials_135 : decode cX3_laysTrials 135 = .ok (.return_, 1) := dk_177 (dk_at dksX3_laysTrials_5 18 rfl rfl)
abbrev cX3_triedBy : ByteArray := prog_18_method_112_code
def yX3_triedBy : MethodName := ⟨RX3, "triedBy", "(II)I"⟩
def dkwX3_triedBy_2 : List UInt8 := [62, 132, 4, 1, 167, 255, 209, 4, 29, 96, 172]
abbrev dktX3_triedBy_2 : List UInt8 := dkwX3_triedBy_2 ++ []
def dkwX3_triedBy_1 : List UInt8 := [180, 0, 67, 21, 5, 46, 158, 0, 17, 29, 42, 180, 0, 73, 21, 5, 46, 184, 1, 188, 167, 0, 4, 29]
abbrev dktX3_triedBy_1 : List UInt8 := dkwX3_triedBy_1 ++ dktX3_triedBy_2
def dkwX3_triedBy_0 : List UInt8 := [3, 62, 4, 54, 4, 21, 4, 6, 162, 0, 47, 27, 21, 4, 178, 1, 176, 28, 46, 104, 96, 54, 5, 42]
abbrev dktX3_triedBy_0 : List UInt8 := dkwX3_triedBy_0 ++ dktX3_triedBy_1
theorem dksX3_triedBy_0 : cX3_triedBy.data.toList.drop 0 = dktX3_triedBy_0 := by decide +kernel
theorem dksX3_triedBy_1 : cX3_triedBy.data.toList.drop 24 = dktX3_triedBy_1 := dk_seg dksX3_triedBy_0 24 rfl rfl
theorem dksX3_triedBy_2 : cX3_triedBy.data.toList.drop 48 = dktX3_triedBy_2 := dk_seg dksX3_triedBy_1 24 rfl rfl
theorem dX3_triedBy_0 : decode cX3_triedBy 0 = .ok (.iconst 0, 1) := dk_3 (dk_at dksX3_triedBy_0 0 rfl rfl)
theorem dX3_triedBy_1 : decode cX3_triedBy 1 = .ok (.istore_n 3, 1) := dk_62 (dk_at dksX3_triedBy_0 1 rfl rfl)
theorem dX3_triedBy_2 : decode cX3_triedBy 2 = .ok (.iconst 1, 1) := dk_4 (dk_at dksX3_triedBy_0 2 rfl rfl)
theorem dX3_triedBy_3 : decode cX3_triedBy 3 = .ok (.istore 4, 2) := dk_54 4 (dk_at dksX3_triedBy_0 3 rfl rfl)
theorem dX3_triedBy_5 : decode cX3_triedBy 5 = .ok (.iload 4, 2) := dk_21 4 (dk_at dksX3_triedBy_0 5 rfl rfl)
theorem dX3_triedBy_7 : decode cX3_triedBy 7 = .ok (.iconst 3, 1) := dk_6 (dk_at dksX3_triedBy_0 7 rfl rfl)
theorem dX3_triedBy_8 : decode cX3_triedBy 8 = .ok (.if_icmp .ge 47, 3) := dk_162 0 47 (dk_at dksX3_triedBy_0 8 rfl rfl)
theorem dX3_triedBy_11 : decode cX3_triedBy 11 = .ok (.iload_n 1, 1) := dk_27 (dk_at dksX3_triedBy_0 11 rfl rfl)
theorem dX3_triedBy_12 : decode cX3_triedBy 12 = .ok (.iload 4, 2) := dk_21 4 (dk_at dksX3_triedBy_0 12 rfl rfl)
theorem dX3_triedBy_14 : decode cX3_triedBy 14 = .ok (.getstatic 432, 3) := dk_178 1 176 (dk_at dksX3_triedBy_0 14 rfl rfl)
theorem dX3_triedBy_17 : decode cX3_triedBy 17 = .ok (.iload_n 2, 1) := dk_28 (dk_at dksX3_triedBy_0 17 rfl rfl)
theorem dX3_triedBy_18 : decode cX3_triedBy 18 = .ok (.iaload, 1) := dk_46 (dk_at dksX3_triedBy_0 18 rfl rfl)
theorem dX3_triedBy_19 : decode cX3_triedBy 19 = .ok (.imul, 1) := dk_104 (dk_at dksX3_triedBy_0 19 rfl rfl)
theorem dX3_triedBy_20 : decode cX3_triedBy 20 = .ok (.iadd, 1) := dk_96 (dk_at dksX3_triedBy_0 20 rfl rfl)
theorem dX3_triedBy_21 : decode cX3_triedBy 21 = .ok (.istore 5, 2) := dk_54 5 (dk_at dksX3_triedBy_0 21 rfl rfl)
theorem dX3_triedBy_23 : decode cX3_triedBy 23 = .ok (.aload_n 0, 1) := dk_42 (dk_at dksX3_triedBy_0 23 rfl rfl)
theorem dX3_triedBy_24 : decode cX3_triedBy 24 = .ok (.getfield 67, 3) := dk_180 0 67 (dk_at dksX3_triedBy_1 0 rfl rfl)
theorem dX3_triedBy_27 : decode cX3_triedBy 27 = .ok (.iload 5, 2) := dk_21 5 (dk_at dksX3_triedBy_1 3 rfl rfl)
theorem dX3_triedBy_29 : decode cX3_triedBy 29 = .ok (.iaload, 1) := dk_46 (dk_at dksX3_triedBy_1 5 rfl rfl)
theorem dX3_triedBy_30 : decode cX3_triedBy 30 = .ok (.ifCond .le 17, 3) := dk_158 0 17 (dk_at dksX3_triedBy_1 6 rfl rfl)
theorem dX3_triedBy_33 : decode cX3_triedBy 33 = .ok (.iload_n 3, 1) := dk_29 (dk_at dksX3_triedBy_1 9 rfl rfl)
theorem dX3_triedBy_34 : decode cX3_triedBy 34 = .ok (.aload_n 0, 1) := dk_42 (dk_at dksX3_triedBy_1 10 rfl rfl)
theorem dX3_triedBy_35 : decode cX3_triedBy 35 = .ok (.getfield 73, 3) := dk_180 0 73 (dk_at dksX3_triedBy_1 11 rfl rfl)
theorem dX3_triedBy_38 : decode cX3_triedBy 38 = .ok (.iload 5, 2) := dk_21 5 (dk_at dksX3_triedBy_1 14 rfl rfl)
theorem dX3_triedBy_40 : decode cX3_triedBy 40 = .ok (.iaload, 1) := dk_46 (dk_at dksX3_triedBy_1 16 rfl rfl)
theorem dX3_triedBy_41 : decode cX3_triedBy 41 = .ok (.invokestatic 444, 3) := dk_184 1 188 (dk_at dksX3_triedBy_1 17 rfl rfl)
theorem dX3_triedBy_44 : decode cX3_triedBy 44 = .ok (.goto 4, 3) := dk_167 0 4 (dk_at dksX3_triedBy_1 20 rfl rfl)
theorem dX3_triedBy_47 : decode cX3_triedBy 47 = .ok (.iload_n 3, 1) := dk_29 (dk_at dksX3_triedBy_1 23 rfl rfl)
theorem dX3_triedBy_48 : decode cX3_triedBy 48 = .ok (.istore_n 3, 1) := dk_62 (dk_at dksX3_triedBy_2 0 rfl rfl)
theorem dX3_triedBy_49 : decode cX3_triedBy 49 = .ok (.iinc 4 1, 3) := dk_132 4 1 (dk_at dksX3_triedBy_2 1 rfl rfl)
theorem dX3_triedBy_52 : decode cX3_triedBy 52 = .ok (.goto (-47), 3) := dk_167 255 209 (dk_at dksX3_triedBy_2 4 rfl rfl)
theorem dX3_triedBy_55 : decode cX3_triedBy 55 = .ok (.iconst 1, 1) := dk_4 (dk_at dksX3_triedBy_2 7 rfl rfl)
theorem dX3_triedBy_56 : decode cX3_triedBy 56 = .ok (.iload_n 3, 1) := dk_29 (dk_at dksX3_triedBy_2 8 rfl rfl)
theorem dX3_triedBy_57 : decode cX3_triedBy 57 = .ok (.iadd, 1) := dk_96 (dk_at dksX3_triedBy_2 9 rfl rfl)
theorem dX3_triedBy_58 : decode cX3_triedBy 58 = .ok (.ireturn, 1) := dk_172 (dk_at dksX3_triedBy_2 10 rfl rfl)
abbrev cX3_duel : ByteArray := prog_18_method_116_code
def yX3_duel : MethodName := ⟨RX3, "duel", "(II)I"⟩
def dkwX3_duel_1 : List UInt8 := [42, 28, 182, 1, 197, 42, 180, 0, 73, 3, 46, 172]
abbrev dktX3_duel_1 : List UInt8 := dkwX3_duel_1 ++ []
def dkwX3_duel_0 : List UInt8 := [42, 27, 182, 1, 124, 153, 0, 12, 28, 3, 4, 184, 0, 85, 154, 0, 5, 2, 172, 42, 27, 182, 1, 185]
abbrev dktX3_duel_0 : List UInt8 := dkwX3_duel_0 ++ dktX3_duel_1
theorem dksX3_duel_0 : cX3_duel.data.toList.drop 0 = dktX3_duel_0 := by decide +kernel
theorem dksX3_duel_1 : cX3_duel.data.toList.drop 24 = dktX3_duel_1 := dk_seg dksX3_duel_0 24 rfl rfl
theorem dX3_duel_0 : decode cX3_duel 0 = .ok (.aload_n 0, 1) := dk_42 (dk_at dksX3_duel_0 0 rfl rfl)
theorem dX3_duel_1 : decode cX3_duel 1 = .ok (.iload_n 1, 1) := dk_27 (dk_at dksX3_duel_0 1 rfl rfl)
theorem dX3_duel_2 : decode cX3_duel 2 = .ok (.invokevirtual 380, 3) := dk_182 1 124 (dk_at dksX3_duel_0 2 rfl rfl)
theorem dX3_duel_5 : decode cX3_duel 5 = .ok (.ifCond .eq 12, 3) := dk_153 0 12 (dk_at dksX3_duel_0 5 rfl rfl)
theorem dX3_duel_8 : decode cX3_duel 8 = .ok (.iload_n 2, 1) := dk_28 (dk_at dksX3_duel_0 8 rfl rfl)
theorem dX3_duel_9 : decode cX3_duel 9 = .ok (.iconst 0, 1) := dk_3 (dk_at dksX3_duel_0 9 rfl rfl)
theorem dX3_duel_10 : decode cX3_duel 10 = .ok (.iconst 1, 1) := dk_4 (dk_at dksX3_duel_0 10 rfl rfl)
theorem dX3_duel_11 : decode cX3_duel 11 = .ok (.invokestatic 85, 3) := dk_184 0 85 (dk_at dksX3_duel_0 11 rfl rfl)
theorem dX3_duel_14 : decode cX3_duel 14 = .ok (.ifCond .ne 5, 3) := dk_154 0 5 (dk_at dksX3_duel_0 14 rfl rfl)
theorem dX3_duel_17 : decode cX3_duel 17 = .ok (.iconst (-1), 1) := dk_2 (dk_at dksX3_duel_0 17 rfl rfl)
theorem dX3_duel_18 : decode cX3_duel 18 = .ok (.ireturn, 1) := dk_172 (dk_at dksX3_duel_0 18 rfl rfl)
theorem dX3_duel_19 : decode cX3_duel 19 = .ok (.aload_n 0, 1) := dk_42 (dk_at dksX3_duel_0 19 rfl rfl)
theorem dX3_duel_20 : decode cX3_duel 20 = .ok (.iload_n 1, 1) := dk_27 (dk_at dksX3_duel_0 20 rfl rfl)
theorem dX3_duel_21 : decode cX3_duel 21 = .ok (.invokevirtual 441, 3) := dk_182 1 185 (dk_at dksX3_duel_0 21 rfl rfl)
theorem dX3_duel_24 : decode cX3_duel 24 = .ok (.aload_n 0, 1) := dk_42 (dk_at dksX3_duel_1 0 rfl rfl)
theorem dX3_duel_25 : decode cX3_duel 25 = .ok (.iload_n 2, 1) := dk_28 (dk_at dksX3_duel_1 1 rfl rfl)
theorem dX3_duel_26 : decode cX3_duel 26 = .ok (.invokevirtual 453, 3) := dk_182 1 197 (dk_at dksX3_duel_1 2 rfl rfl)
theorem dX3_duel_29 : decode cX3_duel 29 = .ok (.aload_n 0, 1) := dk_42 (dk_at dksX3_duel_1 5 rfl rfl)
theorem dX3_duel_30 : decode cX3_duel 30 = .ok (.getfield 73, 3) := dk_180 0 73 (dk_at dksX3_duel_1 6 rfl rfl)
theorem dX3_duel_33 : decode cX3_duel 33 = .ok (.iconst 0, 1) := dk_3 (dk_at dksX3_duel_1 9 rfl rfl)
theorem dX3_duel_34 : decode cX3_duel 34 = .ok (.iaload, 1) := dk_46 (dk_at dksX3_duel_1 10 rfl rfl)
theorem dX3_duel_35 : decode cX3_duel 35 = .ok (.ireturn, 1) := dk_172 (dk_at dksX3_duel_1 11 rfl rfl)
abbrev cX3_laysDuel : ByteArray := prog_18_method_115_code
def yX3_laysDuel : MethodName := ⟨RX3, "laysDuel", "(I)V"⟩
def dkwX3_laysDuel_11 : List UInt8 := [167, 255, 12, 177]
abbrev dktX3_laysDuel_11 : List UInt8 := dkwX3_laysDuel_11 ++ []
def dkwX3_laysDuel_10 : List UInt8 := [180, 0, 73, 28, 42, 180, 0, 70, 28, 46, 158, 0, 7, 4, 167, 0, 4, 3, 79, 132, 2, 255]
abbrev dktX3_laysDuel_10 : List UInt8 := dkwX3_laysDuel_10 ++ dktX3_laysDuel_11
def dkwX3_laysDuel_9 : List UInt8 := [21, 5, 4, 96, 182, 1, 182, 54, 5, 167, 255, 121, 42, 180, 0, 73, 28, 46, 2, 160, 0, 23, 42]
abbrev dktX3_laysDuel_9 : List UInt8 := dkwX3_laysDuel_9 ++ dktX3_laysDuel_10
def dkwX3_laysDuel_8 : List UInt8 := [180, 0, 73, 28, 46, 42, 180, 0, 73, 21, 7, 46, 184, 1, 89, 79, 132, 6, 1, 167, 255, 149, 42, 28]
abbrev dktX3_laysDuel_8 : List UInt8 := dkwX3_laysDuel_8 ++ dktX3_laysDuel_9
def dkwX3_laysDuel_7 : List UInt8 := [153, 0, 22, 42, 180, 0, 73, 28, 46, 42, 180, 0, 73, 21, 7, 46, 184, 1, 188, 167, 0, 19, 42]
abbrev dktX3_laysDuel_7 : List UInt8 := dkwX3_laysDuel_7 ++ dktX3_laysDuel_8
def dkwX3_laysDuel_6 : List UInt8 := [28, 42, 180, 0, 73, 28, 46, 2, 160, 0, 13, 42, 180, 0, 73, 21, 7, 46, 167, 0, 43, 21, 4]
abbrev dktX3_laysDuel_6 : List UInt8 := dkwX3_laysDuel_6 ++ dktX3_laysDuel_7
def dkwX3_laysDuel_5 : List UInt8 := [178, 1, 176, 21, 5, 46, 104, 96, 54, 7, 42, 180, 0, 67, 21, 7, 46, 158, 0, 69, 42, 180, 0, 73]
abbrev dktX3_laysDuel_5 : List UInt8 := dkwX3_laysDuel_5 ++ dktX3_laysDuel_6
def dkwX3_laysDuel_4 : List UInt8 := [162, 0, 130, 4, 54, 6, 21, 6, 6, 162, 0, 107, 42, 21, 5, 182, 1, 70, 154, 0, 98, 28, 21, 6]
abbrev dktX3_laysDuel_4 : List UInt8 := dkwX3_laysDuel_4 ++ dktX3_laysDuel_5
def dkwX3_laysDuel_3 : List UInt8 := [180, 0, 73, 28, 2, 79, 42, 28, 3, 182, 1, 182, 54, 5, 21, 5, 42, 180, 0, 7, 4, 46]
abbrev dktX3_laysDuel_3 : List UInt8 := dkwX3_laysDuel_3 ++ dktX3_laysDuel_4
def dkwX3_laysDuel_2 : List UInt8 := [96, 62, 132, 4, 1, 167, 255, 225, 27, 29, 96, 5, 112, 154, 0, 7, 4, 167, 0, 4, 3, 54, 4, 42]
abbrev dktX3_laysDuel_2 : List UInt8 := dkwX3_laysDuel_2 ++ dktX3_laysDuel_3
def dkwX3_laysDuel_1 : List UInt8 := [42, 180, 0, 7, 4, 46, 162, 0, 26, 29, 28, 21, 4, 184, 1, 179, 153, 0, 7, 4, 167, 0, 4, 3]
abbrev dktX3_laysDuel_1 : List UInt8 := dkwX3_laysDuel_1 ++ dktX3_laysDuel_2
def dkwX3_laysDuel_0 : List UInt8 := [178, 1, 176, 42, 180, 0, 7, 4, 46, 46, 4, 100, 61, 28, 155, 0, 246, 3, 62, 3, 54, 4, 21, 4]
abbrev dktX3_laysDuel_0 : List UInt8 := dkwX3_laysDuel_0 ++ dktX3_laysDuel_1
theorem dksX3_laysDuel_0 : cX3_laysDuel.data.toList.drop 0 = dktX3_laysDuel_0 := by decide +kernel
theorem dksX3_laysDuel_1 : cX3_laysDuel.data.toList.drop 24 = dktX3_laysDuel_1 := dk_seg dksX3_laysDuel_0 24 rfl rfl
theorem dksX3_laysDuel_2 : cX3_laysDuel.data.toList.drop 48 = dktX3_laysDuel_2 := dk_seg dksX3_laysDuel_1 24 rfl rfl
theorem dksX3_laysDuel_3 : cX3_laysDuel.data.toList.drop 72 = dktX3_laysDuel_3 := dk_seg dksX3_laysDuel_2 24 rfl rfl
theorem dksX3_laysDuel_4 : cX3_laysDuel.data.toList.drop 94 = dktX3_laysDuel_4 := dk_seg dksX3_laysDuel_3 22 rfl rfl
theorem dksX3_laysDuel_5 : cX3_laysDuel.data.toList.drop 118 = dktX3_laysDuel_5 := dk_seg dksX3_laysDuel_4 24 rfl rfl
theorem dksX3_laysDuel_6 : cX3_laysDuel.data.toList.drop 142 = dktX3_laysDuel_6 := dk_seg dksX3_laysDuel_5 24 rfl rfl
theorem dksX3_laysDuel_7 : cX3_laysDuel.data.toList.drop 165 = dktX3_laysDuel_7 := dk_seg dksX3_laysDuel_6 23 rfl rfl
theorem dksX3_laysDuel_8 : cX3_laysDuel.data.toList.drop 188 = dktX3_laysDuel_8 := dk_seg dksX3_laysDuel_7 23 rfl rfl
theorem dksX3_laysDuel_9 : cX3_laysDuel.data.toList.drop 212 = dktX3_laysDuel_9 := dk_seg dksX3_laysDuel_8 24 rfl rfl
theorem dksX3_laysDuel_10 : cX3_laysDuel.data.toList.drop 235 = dktX3_laysDuel_10 := dk_seg dksX3_laysDuel_9 23 rfl rfl
theorem dksX3_laysDuel_11 : cX3_laysDuel.data.toList.drop 257 = dktX3_laysDuel_11 := dk_seg dksX3_laysDuel_10 22 rfl rfl
theorem dX3_laysDuel_0 : decode cX3_laysDuel 0 = .ok (.getstatic 432, 3) := dk_178 1 176 (dk_at dksX3_laysDuel_0 0 rfl rfl)
theorem dX3_laysDuel_3 : decode cX3_laysDuel 3 = .ok (.aload_n 0, 1) := dk_42 (dk_at dksX3_laysDuel_0 3 rfl rfl)
theorem dX3_laysDuel_4 : decode cX3_laysDuel 4 = .ok (.getfield 7, 3) := dk_180 0 7 (dk_at dksX3_laysDuel_0 4 rfl rfl)
theorem dX3_laysDuel_7 : decode cX3_laysDuel 7 = .ok (.iconst 1, 1) := dk_4 (dk_at dksX3_laysDuel_0 7 rfl rfl)
theorem dX3_laysDuel_8 : decode cX3_laysDuel 8 = .ok (.iaload, 1) := dk_46 (dk_at dksX3_laysDuel_0 8 rfl rfl)
theorem dX3_laysDuel_9 : decode cX3_laysDuel 9 = .ok (.iaload, 1) := dk_46 (dk_at dksX3_laysDuel_0 9 rfl rfl)
theorem dX3_laysDuel_10 : decode cX3_laysDuel 10 = .ok (.iconst 1, 1) := dk_4 (dk_at dksX3_laysDuel_0 10 rfl rfl)
theorem dX3_laysDuel_11 : decode cX3_laysDuel 11 = .ok (.isub, 1) := dk_100 (dk_at dksX3_laysDuel_0 11 rfl rfl)
theorem dX3_laysDuel_12 : decode cX3_laysDuel 12 = .ok (.istore_n 2, 1) := dk_61 (dk_at dksX3_laysDuel_0 12 rfl rfl)
theorem dX3_laysDuel_13 : decode cX3_laysDuel 13 = .ok (.iload_n 2, 1) := dk_28 (dk_at dksX3_laysDuel_0 13 rfl rfl)
theorem dX3_laysDuel_14 : decode cX3_laysDuel 14 = .ok (.ifCond .lt 246, 3) := dk_155 0 246 (dk_at dksX3_laysDuel_0 14 rfl rfl)
theorem dX3_laysDuel_17 : decode cX3_laysDuel 17 = .ok (.iconst 0, 1) := dk_3 (dk_at dksX3_laysDuel_0 17 rfl rfl)
theorem dX3_laysDuel_18 : decode cX3_laysDuel 18 = .ok (.istore_n 3, 1) := dk_62 (dk_at dksX3_laysDuel_0 18 rfl rfl)
theorem dX3_laysDuel_19 : decode cX3_laysDuel 19 = .ok (.iconst 0, 1) := dk_3 (dk_at dksX3_laysDuel_0 19 rfl rfl)
theorem dX3_laysDuel_20 : decode cX3_laysDuel 20 = .ok (.istore 4, 2) := dk_54 4 (dk_at dksX3_laysDuel_0 20 rfl rfl)
theorem dX3_laysDuel_22 : decode cX3_laysDuel 22 = .ok (.iload 4, 2) := dk_21 4 (dk_at dksX3_laysDuel_0 22 rfl rfl)
theorem dX3_laysDuel_24 : decode cX3_laysDuel 24 = .ok (.aload_n 0, 1) := dk_42 (dk_at dksX3_laysDuel_1 0 rfl rfl)
theorem dX3_laysDuel_25 : decode cX3_laysDuel 25 = .ok (.getfield 7, 3) := dk_180 0 7 (dk_at dksX3_laysDuel_1 1 rfl rfl)
theorem dX3_laysDuel_28 : decode cX3_laysDuel 28 = .ok (.iconst 1, 1) := dk_4 (dk_at dksX3_laysDuel_1 4 rfl rfl)
theorem dX3_laysDuel_29 : decode cX3_laysDuel 29 = .ok (.iaload, 1) := dk_46 (dk_at dksX3_laysDuel_1 5 rfl rfl)
theorem dX3_laysDuel_30 : decode cX3_laysDuel 30 = .ok (.if_icmp .ge 26, 3) := dk_162 0 26 (dk_at dksX3_laysDuel_1 6 rfl rfl)
theorem dX3_laysDuel_33 : decode cX3_laysDuel 33 = .ok (.iload_n 3, 1) := dk_29 (dk_at dksX3_laysDuel_1 9 rfl rfl)
theorem dX3_laysDuel_34 : decode cX3_laysDuel 34 = .ok (.iload_n 2, 1) := dk_28 (dk_at dksX3_laysDuel_1 10 rfl rfl)
theorem dX3_laysDuel_35 : decode cX3_laysDuel 35 = .ok (.iload 4, 2) := dk_21 4 (dk_at dksX3_laysDuel_1 11 rfl rfl)
theorem dX3_laysDuel_37 : decode cX3_laysDuel 37 = .ok (.invokestatic 435, 3) := dk_184 1 179 (dk_at dksX3_laysDuel_1 13 rfl rfl)
theorem dX3_laysDuel_40 : decode cX3_laysDuel 40 = .ok (.ifCond .eq 7, 3) := dk_153 0 7 (dk_at dksX3_laysDuel_1 16 rfl rfl)
theorem dX3_laysDuel_43 : decode cX3_laysDuel 43 = .ok (.iconst 1, 1) := dk_4 (dk_at dksX3_laysDuel_1 19 rfl rfl)
theorem dX3_laysDuel_44 : decode cX3_laysDuel 44 = .ok (.goto 4, 3) := dk_167 0 4 (dk_at dksX3_laysDuel_1 20 rfl rfl)
theorem dX3_laysDuel_47 : decode cX3_laysDuel 47 = .ok (.iconst 0, 1) := dk_3 (dk_at dksX3_laysDuel_1 23 rfl rfl)
theorem dX3_laysDuel_48 : decode cX3_laysDuel 48 = .ok (.iadd, 1) := dk_96 (dk_at dksX3_laysDuel_2 0 rfl rfl)
theorem dX3_laysDuel_49 : decode cX3_laysDuel 49 = .ok (.istore_n 3, 1) := dk_62 (dk_at dksX3_laysDuel_2 1 rfl rfl)
theorem dX3_laysDuel_50 : decode cX3_laysDuel 50 = .ok (.iinc 4 1, 3) := dk_132 4 1 (dk_at dksX3_laysDuel_2 2 rfl rfl)
theorem dX3_laysDuel_53 : decode cX3_laysDuel 53 = .ok (.goto (-31), 3) := dk_167 255 225 (dk_at dksX3_laysDuel_2 5 rfl rfl)
theorem dX3_laysDuel_56 : decode cX3_laysDuel 56 = .ok (.iload_n 1, 1) := dk_27 (dk_at dksX3_laysDuel_2 8 rfl rfl)
theorem dX3_laysDuel_57 : decode cX3_laysDuel 57 = .ok (.iload_n 3, 1) := dk_29 (dk_at dksX3_laysDuel_2 9 rfl rfl)
theorem dX3_laysDuel_58 : decode cX3_laysDuel 58 = .ok (.iadd, 1) := dk_96 (dk_at dksX3_laysDuel_2 10 rfl rfl)
theorem dX3_laysDuel_59 : decode cX3_laysDuel 59 = .ok (.iconst 2, 1) := dk_5 (dk_at dksX3_laysDuel_2 11 rfl rfl)
theorem dX3_laysDuel_60 : decode cX3_laysDuel 60 = .ok (.irem, 1) := dk_112 (dk_at dksX3_laysDuel_2 12 rfl rfl)
theorem dX3_laysDuel_61 : decode cX3_laysDuel 61 = .ok (.ifCond .ne 7, 3) := dk_154 0 7 (dk_at dksX3_laysDuel_2 13 rfl rfl)
theorem dX3_laysDuel_64 : decode cX3_laysDuel 64 = .ok (.iconst 1, 1) := dk_4 (dk_at dksX3_laysDuel_2 16 rfl rfl)
theorem dX3_laysDuel_65 : decode cX3_laysDuel 65 = .ok (.goto 4, 3) := dk_167 0 4 (dk_at dksX3_laysDuel_2 17 rfl rfl)
theorem dX3_laysDuel_68 : decode cX3_laysDuel 68 = .ok (.iconst 0, 1) := dk_3 (dk_at dksX3_laysDuel_2 20 rfl rfl)
theorem dX3_laysDuel_69 : decode cX3_laysDuel 69 = .ok (.istore 4, 2) := dk_54 4 (dk_at dksX3_laysDuel_2 21 rfl rfl)
theorem dX3_laysDuel_71 : decode cX3_laysDuel 71 = .ok (.aload_n 0, 1) := dk_42 (dk_at dksX3_laysDuel_2 23 rfl rfl)
theorem dX3_laysDuel_72 : decode cX3_laysDuel 72 = .ok (.getfield 73, 3) := dk_180 0 73 (dk_at dksX3_laysDuel_3 0 rfl rfl)
theorem dX3_laysDuel_75 : decode cX3_laysDuel 75 = .ok (.iload_n 2, 1) := dk_28 (dk_at dksX3_laysDuel_3 3 rfl rfl)
theorem dX3_laysDuel_76 : decode cX3_laysDuel 76 = .ok (.iconst (-1), 1) := dk_2 (dk_at dksX3_laysDuel_3 4 rfl rfl)
theorem dX3_laysDuel_77 : decode cX3_laysDuel 77 = .ok (.iastore, 1) := dk_79 (dk_at dksX3_laysDuel_3 5 rfl rfl)
theorem dX3_laysDuel_78 : decode cX3_laysDuel 78 = .ok (.aload_n 0, 1) := dk_42 (dk_at dksX3_laysDuel_3 6 rfl rfl)
theorem dX3_laysDuel_79 : decode cX3_laysDuel 79 = .ok (.iload_n 2, 1) := dk_28 (dk_at dksX3_laysDuel_3 7 rfl rfl)
theorem dX3_laysDuel_80 : decode cX3_laysDuel 80 = .ok (.iconst 0, 1) := dk_3 (dk_at dksX3_laysDuel_3 8 rfl rfl)
theorem dX3_laysDuel_81 : decode cX3_laysDuel 81 = .ok (.invokevirtual 438, 3) := dk_182 1 182 (dk_at dksX3_laysDuel_3 9 rfl rfl)
theorem dX3_laysDuel_84 : decode cX3_laysDuel 84 = .ok (.istore 5, 2) := dk_54 5 (dk_at dksX3_laysDuel_3 12 rfl rfl)
theorem dX3_laysDuel_86 : decode cX3_laysDuel 86 = .ok (.iload 5, 2) := dk_21 5 (dk_at dksX3_laysDuel_3 14 rfl rfl)
theorem dX3_laysDuel_88 : decode cX3_laysDuel 88 = .ok (.aload_n 0, 1) := dk_42 (dk_at dksX3_laysDuel_3 16 rfl rfl)
theorem dX3_laysDuel_89 : decode cX3_laysDuel 89 = .ok (.getfield 7, 3) := dk_180 0 7 (dk_at dksX3_laysDuel_3 17 rfl rfl)
theorem dX3_laysDuel_92 : decode cX3_laysDuel 92 = .ok (.iconst 1, 1) := dk_4 (dk_at dksX3_laysDuel_3 20 rfl rfl)
theorem dX3_laysDuel_93 : decode cX3_laysDuel 93 = .ok (.iaload, 1) := dk_46 (dk_at dksX3_laysDuel_3 21 rfl rfl)
theorem dX3_laysDuel_94 : decode cX3_laysDuel 94 = .ok (.if_icmp .ge 130, 3) := dk_162 0 130 (dk_at dksX3_laysDuel_4 0 rfl rfl)
theorem dX3_laysDuel_97 : decode cX3_laysDuel 97 = .ok (.iconst 1, 1) := dk_4 (dk_at dksX3_laysDuel_4 3 rfl rfl)
theorem dX3_laysDuel_98 : decode cX3_laysDuel 98 = .ok (.istore 6, 2) := dk_54 6 (dk_at dksX3_laysDuel_4 4 rfl rfl)
theorem dX3_laysDuel_100 : decode cX3_laysDuel 100 = .ok (.iload 6, 2) := dk_21 6 (dk_at dksX3_laysDuel_4 6 rfl rfl)
theorem dX3_laysDuel_102 : decode cX3_laysDuel 102 = .ok (.iconst 3, 1) := dk_6 (dk_at dksX3_laysDuel_4 8 rfl rfl)
theorem dX3_laysDuel_103 : decode cX3_laysDuel 103 = .ok (.if_icmp .ge 107, 3) := dk_162 0 107 (dk_at dksX3_laysDuel_4 9 rfl rfl)
theorem dX3_laysDuel_106 : decode cX3_laysDuel 106 = .ok (.aload_n 0, 1) := dk_42 (dk_at dksX3_laysDuel_4 12 rfl rfl)
theorem dX3_laysDuel_107 : decode cX3_laysDuel 107 = .ok (.iload 5, 2) := dk_21 5 (dk_at dksX3_laysDuel_4 13 rfl rfl)
theorem dX3_laysDuel_109 : decode cX3_laysDuel 109 = .ok (.invokevirtual 326, 3) := dk_182 1 70 (dk_at dksX3_laysDuel_4 15 rfl rfl)
theorem dX3_laysDuel_112 : decode cX3_laysDuel 112 = .ok (.ifCond .ne 98, 3) := dk_154 0 98 (dk_at dksX3_laysDuel_4 18 rfl rfl)
theorem dX3_laysDuel_115 : decode cX3_laysDuel 115 = .ok (.iload_n 2, 1) := dk_28 (dk_at dksX3_laysDuel_4 21 rfl rfl)
theorem dX3_laysDuel_116 : decode cX3_laysDuel 116 = .ok (.iload 6, 2) := dk_21 6 (dk_at dksX3_laysDuel_4 22 rfl rfl)
theorem dX3_laysDuel_118 : decode cX3_laysDuel 118 = .ok (.getstatic 432, 3) := dk_178 1 176 (dk_at dksX3_laysDuel_5 0 rfl rfl)
theorem dX3_laysDuel_121 : decode cX3_laysDuel 121 = .ok (.iload 5, 2) := dk_21 5 (dk_at dksX3_laysDuel_5 3 rfl rfl)
theorem dX3_laysDuel_123 : decode cX3_laysDuel 123 = .ok (.iaload, 1) := dk_46 (dk_at dksX3_laysDuel_5 5 rfl rfl)
theorem dX3_laysDuel_124 : decode cX3_laysDuel 124 = .ok (.imul, 1) := dk_104 (dk_at dksX3_laysDuel_5 6 rfl rfl)
theorem dX3_laysDuel_125 : decode cX3_laysDuel 125 = .ok (.iadd, 1) := dk_96 (dk_at dksX3_laysDuel_5 7 rfl rfl)
theorem dX3_laysDuel_126 : decode cX3_laysDuel 126 = .ok (.istore 7, 2) := dk_54 7 (dk_at dksX3_laysDuel_5 8 rfl rfl)
theorem dX3_laysDuel_128 : decode cX3_laysDuel 128 = .ok (.aload_n 0, 1) := dk_42 (dk_at dksX3_laysDuel_5 10 rfl rfl)
theorem dX3_laysDuel_129 : decode cX3_laysDuel 129 = .ok (.getfield 67, 3) := dk_180 0 67 (dk_at dksX3_laysDuel_5 11 rfl rfl)
theorem dX3_laysDuel_132 : decode cX3_laysDuel 132 = .ok (.iload 7, 2) := dk_21 7 (dk_at dksX3_laysDuel_5 14 rfl rfl)
theorem dX3_laysDuel_134 : decode cX3_laysDuel 134 = .ok (.iaload, 1) := dk_46 (dk_at dksX3_laysDuel_5 16 rfl rfl)
theorem dX3_laysDuel_135 : decode cX3_laysDuel 135 = .ok (.ifCond .le 69, 3) := dk_158 0 69 (dk_at dksX3_laysDuel_5 17 rfl rfl)
theorem dX3_laysDuel_138 : decode cX3_laysDuel 138 = .ok (.aload_n 0, 1) := dk_42 (dk_at dksX3_laysDuel_5 20 rfl rfl)
theorem dX3_laysDuel_139 : decode cX3_laysDuel 139 = .ok (.getfield 73, 3) := dk_180 0 73 (dk_at dksX3_laysDuel_5 21 rfl rfl)
theorem dX3_laysDuel_142 : decode cX3_laysDuel 142 = .ok (.iload_n 2, 1) := dk_28 (dk_at dksX3_laysDuel_6 0 rfl rfl)
theorem dX3_laysDuel_143 : decode cX3_laysDuel 143 = .ok (.aload_n 0, 1) := dk_42 (dk_at dksX3_laysDuel_6 1 rfl rfl)
theorem dX3_laysDuel_144 : decode cX3_laysDuel 144 = .ok (.getfield 73, 3) := dk_180 0 73 (dk_at dksX3_laysDuel_6 2 rfl rfl)
theorem dX3_laysDuel_147 : decode cX3_laysDuel 147 = .ok (.iload_n 2, 1) := dk_28 (dk_at dksX3_laysDuel_6 5 rfl rfl)
theorem dX3_laysDuel_148 : decode cX3_laysDuel 148 = .ok (.iaload, 1) := dk_46 (dk_at dksX3_laysDuel_6 6 rfl rfl)
theorem dX3_laysDuel_149 : decode cX3_laysDuel 149 = .ok (.iconst (-1), 1) := dk_2 (dk_at dksX3_laysDuel_6 7 rfl rfl)
theorem dX3_laysDuel_150 : decode cX3_laysDuel 150 = .ok (.if_icmp .ne 13, 3) := dk_160 0 13 (dk_at dksX3_laysDuel_6 8 rfl rfl)
theorem dX3_laysDuel_153 : decode cX3_laysDuel 153 = .ok (.aload_n 0, 1) := dk_42 (dk_at dksX3_laysDuel_6 11 rfl rfl)
theorem dX3_laysDuel_154 : decode cX3_laysDuel 154 = .ok (.getfield 73, 3) := dk_180 0 73 (dk_at dksX3_laysDuel_6 12 rfl rfl)
theorem dX3_laysDuel_157 : decode cX3_laysDuel 157 = .ok (.iload 7, 2) := dk_21 7 (dk_at dksX3_laysDuel_6 15 rfl rfl)
theorem dX3_laysDuel_159 : decode cX3_laysDuel 159 = .ok (.iaload, 1) := dk_46 (dk_at dksX3_laysDuel_6 17 rfl rfl)
theorem dX3_laysDuel_160 : decode cX3_laysDuel 160 = .ok (.goto 43, 3) := dk_167 0 43 (dk_at dksX3_laysDuel_6 18 rfl rfl)
theorem dX3_laysDuel_163 : decode cX3_laysDuel 163 = .ok (.iload 4, 2) := dk_21 4 (dk_at dksX3_laysDuel_6 21 rfl rfl)
theorem dX3_laysDuel_165 : decode cX3_laysDuel 165 = .ok (.ifCond .eq 22, 3) := dk_153 0 22 (dk_at dksX3_laysDuel_7 0 rfl rfl)
theorem dX3_laysDuel_168 : decode cX3_laysDuel 168 = .ok (.aload_n 0, 1) := dk_42 (dk_at dksX3_laysDuel_7 3 rfl rfl)
theorem dX3_laysDuel_169 : decode cX3_laysDuel 169 = .ok (.getfield 73, 3) := dk_180 0 73 (dk_at dksX3_laysDuel_7 4 rfl rfl)
theorem dX3_laysDuel_172 : decode cX3_laysDuel 172 = .ok (.iload_n 2, 1) := dk_28 (dk_at dksX3_laysDuel_7 7 rfl rfl)
theorem dX3_laysDuel_173 : decode cX3_laysDuel 173 = .ok (.iaload, 1) := dk_46 (dk_at dksX3_laysDuel_7 8 rfl rfl)
theorem dX3_laysDuel_174 : decode cX3_laysDuel 174 = .ok (.aload_n 0, 1) := dk_42 (dk_at dksX3_laysDuel_7 9 rfl rfl)
theorem dX3_laysDuel_175 : decode cX3_laysDuel 175 = .ok (.getfield 73, 3) := dk_180 0 73 (dk_at dksX3_laysDuel_7 10 rfl rfl)
theorem dX3_laysDuel_178 : decode cX3_laysDuel 178 = .ok (.iload 7, 2) := dk_21 7 (dk_at dksX3_laysDuel_7 13 rfl rfl)
theorem dX3_laysDuel_180 : decode cX3_laysDuel 180 = .ok (.iaload, 1) := dk_46 (dk_at dksX3_laysDuel_7 15 rfl rfl)
theorem dX3_laysDuel_181 : decode cX3_laysDuel 181 = .ok (.invokestatic 444, 3) := dk_184 1 188 (dk_at dksX3_laysDuel_7 16 rfl rfl)
theorem dX3_laysDuel_184 : decode cX3_laysDuel 184 = .ok (.goto 19, 3) := dk_167 0 19 (dk_at dksX3_laysDuel_7 19 rfl rfl)
theorem dX3_laysDuel_187 : decode cX3_laysDuel 187 = .ok (.aload_n 0, 1) := dk_42 (dk_at dksX3_laysDuel_7 22 rfl rfl)
theorem dX3_laysDuel_188 : decode cX3_laysDuel 188 = .ok (.getfield 73, 3) := dk_180 0 73 (dk_at dksX3_laysDuel_8 0 rfl rfl)
theorem dX3_laysDuel_191 : decode cX3_laysDuel 191 = .ok (.iload_n 2, 1) := dk_28 (dk_at dksX3_laysDuel_8 3 rfl rfl)
theorem dX3_laysDuel_192 : decode cX3_laysDuel 192 = .ok (.iaload, 1) := dk_46 (dk_at dksX3_laysDuel_8 4 rfl rfl)
theorem dX3_laysDuel_193 : decode cX3_laysDuel 193 = .ok (.aload_n 0, 1) := dk_42 (dk_at dksX3_laysDuel_8 5 rfl rfl)
theorem dX3_laysDuel_194 : decode cX3_laysDuel 194 = .ok (.getfield 73, 3) := dk_180 0 73 (dk_at dksX3_laysDuel_8 6 rfl rfl)
theorem dX3_laysDuel_197 : decode cX3_laysDuel 197 = .ok (.iload 7, 2) := dk_21 7 (dk_at dksX3_laysDuel_8 9 rfl rfl)
theorem dX3_laysDuel_199 : decode cX3_laysDuel 199 = .ok (.iaload, 1) := dk_46 (dk_at dksX3_laysDuel_8 11 rfl rfl)
theorem dX3_laysDuel_200 : decode cX3_laysDuel 200 = .ok (.invokestatic 345, 3) := dk_184 1 89 (dk_at dksX3_laysDuel_8 12 rfl rfl)
theorem dX3_laysDuel_203 : decode cX3_laysDuel 203 = .ok (.iastore, 1) := dk_79 (dk_at dksX3_laysDuel_8 15 rfl rfl)
theorem dX3_laysDuel_204 : decode cX3_laysDuel 204 = .ok (.iinc 6 1, 3) := dk_132 6 1 (dk_at dksX3_laysDuel_8 16 rfl rfl)
theorem dX3_laysDuel_207 : decode cX3_laysDuel 207 = .ok (.goto (-107), 3) := dk_167 255 149 (dk_at dksX3_laysDuel_8 19 rfl rfl)
theorem dX3_laysDuel_210 : decode cX3_laysDuel 210 = .ok (.aload_n 0, 1) := dk_42 (dk_at dksX3_laysDuel_8 22 rfl rfl)
theorem dX3_laysDuel_211 : decode cX3_laysDuel 211 = .ok (.iload_n 2, 1) := dk_28 (dk_at dksX3_laysDuel_8 23 rfl rfl)
theorem dX3_laysDuel_212 : decode cX3_laysDuel 212 = .ok (.iload 5, 2) := dk_21 5 (dk_at dksX3_laysDuel_9 0 rfl rfl)
theorem dX3_laysDuel_214 : decode cX3_laysDuel 214 = .ok (.iconst 1, 1) := dk_4 (dk_at dksX3_laysDuel_9 2 rfl rfl)
theorem dX3_laysDuel_215 : decode cX3_laysDuel 215 = .ok (.iadd, 1) := dk_96 (dk_at dksX3_laysDuel_9 3 rfl rfl)
theorem dX3_laysDuel_216 : decode cX3_laysDuel 216 = .ok (.invokevirtual 438, 3) := dk_182 1 182 (dk_at dksX3_laysDuel_9 4 rfl rfl)
theorem dX3_laysDuel_219 : decode cX3_laysDuel 219 = .ok (.istore 5, 2) := dk_54 5 (dk_at dksX3_laysDuel_9 7 rfl rfl)
theorem dX3_laysDuel_221 : decode cX3_laysDuel 221 = .ok (.goto (-135), 3) := dk_167 255 121 (dk_at dksX3_laysDuel_9 9 rfl rfl)
theorem dX3_laysDuel_224 : decode cX3_laysDuel 224 = .ok (.aload_n 0, 1) := dk_42 (dk_at dksX3_laysDuel_9 12 rfl rfl)
theorem dX3_laysDuel_225 : decode cX3_laysDuel 225 = .ok (.getfield 73, 3) := dk_180 0 73 (dk_at dksX3_laysDuel_9 13 rfl rfl)
theorem dX3_laysDuel_228 : decode cX3_laysDuel 228 = .ok (.iload_n 2, 1) := dk_28 (dk_at dksX3_laysDuel_9 16 rfl rfl)
theorem dX3_laysDuel_229 : decode cX3_laysDuel 229 = .ok (.iaload, 1) := dk_46 (dk_at dksX3_laysDuel_9 17 rfl rfl)
theorem dX3_laysDuel_230 : decode cX3_laysDuel 230 = .ok (.iconst (-1), 1) := dk_2 (dk_at dksX3_laysDuel_9 18 rfl rfl)
theorem dX3_laysDuel_231 : decode cX3_laysDuel 231 = .ok (.if_icmp .ne 23, 3) := dk_160 0 23 (dk_at dksX3_laysDuel_9 19 rfl rfl)
theorem dX3_laysDuel_234 : decode cX3_laysDuel 234 = .ok (.aload_n 0, 1) := dk_42 (dk_at dksX3_laysDuel_9 22 rfl rfl)
theorem dX3_laysDuel_235 : decode cX3_laysDuel 235 = .ok (.getfield 73, 3) := dk_180 0 73 (dk_at dksX3_laysDuel_10 0 rfl rfl)
theorem dX3_laysDuel_238 : decode cX3_laysDuel 238 = .ok (.iload_n 2, 1) := dk_28 (dk_at dksX3_laysDuel_10 3 rfl rfl)
theorem dX3_laysDuel_239 : decode cX3_laysDuel 239 = .ok (.aload_n 0, 1) := dk_42 (dk_at dksX3_laysDuel_10 4 rfl rfl)
theorem dX3_laysDuel_240 : decode cX3_laysDuel 240 = .ok (.getfield 70, 3) := dk_180 0 70 (dk_at dksX3_laysDuel_10 5 rfl rfl)
theorem dX3_laysDuel_243 : decode cX3_laysDuel 243 = .ok (.iload_n 2, 1) := dk_28 (dk_at dksX3_laysDuel_10 8 rfl rfl)
theorem dX3_laysDuel_244 : decode cX3_laysDuel 244 = .ok (.iaload, 1) := dk_46 (dk_at dksX3_laysDuel_10 9 rfl rfl)
theorem dX3_laysDuel_245 : decode cX3_laysDuel 245 = .ok (.ifCond .le 7, 3) := dk_158 0 7 (dk_at dksX3_laysDuel_10 10 rfl rfl)
theorem dX3_laysDuel_248 : decode cX3_laysDuel 248 = .ok (.iconst 1, 1) := dk_4 (dk_at dksX3_laysDuel_10 13 rfl rfl)
theorem dX3_laysDuel_249 : decode cX3_laysDuel 249 = .ok (.goto 4, 3) := dk_167 0 4 (dk_at dksX3_laysDuel_10 14 rfl rfl)
theorem dX3_laysDuel_252 : decode cX3_laysDuel 252 = .ok (.iconst 0, 1) := dk_3 (dk_at dksX3_laysDuel_10 17 rfl rfl)
theorem dX3_laysDuel_253 : decode cX3_laysDuel 253 = .ok (.iastore, 1) := dk_79 (dk_at dksX3_laysDuel_10 18 rfl rfl)
theorem dX3_laysDuel_254 : decode cX3_laysDuel 254 = .ok (.iinc 2 (-1), 3) := dk_132 2 255 (dk_at dksX3_laysDuel_10 19 rfl rfl)
theorem dX3_laysDuel_257 : decode cX3_laysDuel 257 = .ok (.goto (-244), 3) := dk_167 255 12 (dk_at dksX3_laysDuel_11 0 rfl rfl)
theorem dX3_laysDuel_260 : decode cX3_laysDuel 260 = .ok (.return_, 1) := dk_177 (dk_at dksX3_laysDuel_11 3 rfl rfl)
abbrev cX3_turn : ByteArray := prog_18_method_117_code
def yX3_turn : MethodName := ⟨RX3, "turn", "(III)I"⟩
def dkwX3_turn_5 : List UInt8 := [132, 5, 1, 167, 255, 190, 132, 4, 1, 167, 255, 170, 16, 254, 172]
abbrev dktX3_turn_5 : List UInt8 := dkwX3_turn_5 ++ []
def dkwX3_turn_4 : List UInt8 := [180, 0, 73, 21, 6, 46, 4, 28, 100, 160, 0, 15, 29, 154, 0, 8, 21, 4, 167, 0, 5, 21, 5, 172]
abbrev dktX3_turn_4 : List UInt8 := dkwX3_turn_4 ++ dktX3_turn_5
def dkwX3_turn_3 : List UInt8 := [21, 5, 4, 96, 178, 1, 176, 21, 4, 46, 104, 54, 6, 42, 180, 0, 67, 21, 6, 46, 158, 0, 28, 42]
abbrev dktX3_turn_3 : List UInt8 := dkwX3_turn_3 ++ dktX3_turn_4
def dkwX3_turn_2 : List UInt8 := [4, 46, 162, 0, 81, 3, 54, 5, 21, 5, 5, 162, 0, 66, 42, 21, 4, 182, 1, 70, 154, 0, 57]
abbrev dktX3_turn_2 : List UInt8 := dkwX3_turn_2 ++ dktX3_turn_3
def dkwX3_turn_1 : List UInt8 := [154, 0, 5, 2, 172, 42, 27, 182, 1, 185, 42, 28, 182, 1, 197, 3, 54, 4, 21, 4, 42, 180, 0, 7]
abbrev dktX3_turn_1 : List UInt8 := dkwX3_turn_1 ++ dktX3_turn_2
def dkwX3_turn_0 : List UInt8 := [42, 27, 182, 1, 124, 153, 0, 21, 28, 3, 4, 184, 0, 85, 153, 0, 12, 29, 3, 4, 184, 0, 85]
abbrev dktX3_turn_0 : List UInt8 := dkwX3_turn_0 ++ dktX3_turn_1
theorem dksX3_turn_0 : cX3_turn.data.toList.drop 0 = dktX3_turn_0 := by decide +kernel
theorem dksX3_turn_1 : cX3_turn.data.toList.drop 23 = dktX3_turn_1 := dk_seg dksX3_turn_0 23 rfl rfl
theorem dksX3_turn_2 : cX3_turn.data.toList.drop 47 = dktX3_turn_2 := dk_seg dksX3_turn_1 24 rfl rfl
theorem dksX3_turn_3 : cX3_turn.data.toList.drop 70 = dktX3_turn_3 := dk_seg dksX3_turn_2 23 rfl rfl
theorem dksX3_turn_4 : cX3_turn.data.toList.drop 94 = dktX3_turn_4 := dk_seg dksX3_turn_3 24 rfl rfl
theorem dksX3_turn_5 : cX3_turn.data.toList.drop 118 = dktX3_turn_5 := dk_seg dksX3_turn_4 24 rfl rfl
theorem dX3_turn_0 : decode cX3_turn 0 = .ok (.aload_n 0, 1) := dk_42 (dk_at dksX3_turn_0 0 rfl rfl)
theorem dX3_turn_1 : decode cX3_turn 1 = .ok (.iload_n 1, 1) := dk_27 (dk_at dksX3_turn_0 1 rfl rfl)
theorem dX3_turn_2 : decode cX3_turn 2 = .ok (.invokevirtual 380, 3) := dk_182 1 124 (dk_at dksX3_turn_0 2 rfl rfl)
theorem dX3_turn_5 : decode cX3_turn 5 = .ok (.ifCond .eq 21, 3) := dk_153 0 21 (dk_at dksX3_turn_0 5 rfl rfl)
theorem dX3_turn_8 : decode cX3_turn 8 = .ok (.iload_n 2, 1) := dk_28 (dk_at dksX3_turn_0 8 rfl rfl)
theorem dX3_turn_9 : decode cX3_turn 9 = .ok (.iconst 0, 1) := dk_3 (dk_at dksX3_turn_0 9 rfl rfl)
theorem dX3_turn_10 : decode cX3_turn 10 = .ok (.iconst 1, 1) := dk_4 (dk_at dksX3_turn_0 10 rfl rfl)
theorem dX3_turn_11 : decode cX3_turn 11 = .ok (.invokestatic 85, 3) := dk_184 0 85 (dk_at dksX3_turn_0 11 rfl rfl)
theorem dX3_turn_14 : decode cX3_turn 14 = .ok (.ifCond .eq 12, 3) := dk_153 0 12 (dk_at dksX3_turn_0 14 rfl rfl)
theorem dX3_turn_17 : decode cX3_turn 17 = .ok (.iload_n 3, 1) := dk_29 (dk_at dksX3_turn_0 17 rfl rfl)
theorem dX3_turn_18 : decode cX3_turn 18 = .ok (.iconst 0, 1) := dk_3 (dk_at dksX3_turn_0 18 rfl rfl)
theorem dX3_turn_19 : decode cX3_turn 19 = .ok (.iconst 1, 1) := dk_4 (dk_at dksX3_turn_0 19 rfl rfl)
theorem dX3_turn_20 : decode cX3_turn 20 = .ok (.invokestatic 85, 3) := dk_184 0 85 (dk_at dksX3_turn_0 20 rfl rfl)
theorem dX3_turn_23 : decode cX3_turn 23 = .ok (.ifCond .ne 5, 3) := dk_154 0 5 (dk_at dksX3_turn_1 0 rfl rfl)
theorem dX3_turn_26 : decode cX3_turn 26 = .ok (.iconst (-1), 1) := dk_2 (dk_at dksX3_turn_1 3 rfl rfl)
theorem dX3_turn_27 : decode cX3_turn 27 = .ok (.ireturn, 1) := dk_172 (dk_at dksX3_turn_1 4 rfl rfl)
theorem dX3_turn_28 : decode cX3_turn 28 = .ok (.aload_n 0, 1) := dk_42 (dk_at dksX3_turn_1 5 rfl rfl)
theorem dX3_turn_29 : decode cX3_turn 29 = .ok (.iload_n 1, 1) := dk_27 (dk_at dksX3_turn_1 6 rfl rfl)
theorem dX3_turn_30 : decode cX3_turn 30 = .ok (.invokevirtual 441, 3) := dk_182 1 185 (dk_at dksX3_turn_1 7 rfl rfl)
theorem dX3_turn_33 : decode cX3_turn 33 = .ok (.aload_n 0, 1) := dk_42 (dk_at dksX3_turn_1 10 rfl rfl)
theorem dX3_turn_34 : decode cX3_turn 34 = .ok (.iload_n 2, 1) := dk_28 (dk_at dksX3_turn_1 11 rfl rfl)
theorem dX3_turn_35 : decode cX3_turn 35 = .ok (.invokevirtual 453, 3) := dk_182 1 197 (dk_at dksX3_turn_1 12 rfl rfl)
theorem dX3_turn_38 : decode cX3_turn 38 = .ok (.iconst 0, 1) := dk_3 (dk_at dksX3_turn_1 15 rfl rfl)
theorem dX3_turn_39 : decode cX3_turn 39 = .ok (.istore 4, 2) := dk_54 4 (dk_at dksX3_turn_1 16 rfl rfl)
theorem dX3_turn_41 : decode cX3_turn 41 = .ok (.iload 4, 2) := dk_21 4 (dk_at dksX3_turn_1 18 rfl rfl)
theorem dX3_turn_43 : decode cX3_turn 43 = .ok (.aload_n 0, 1) := dk_42 (dk_at dksX3_turn_1 20 rfl rfl)
theorem dX3_turn_44 : decode cX3_turn 44 = .ok (.getfield 7, 3) := dk_180 0 7 (dk_at dksX3_turn_1 21 rfl rfl)
theorem dX3_turn_47 : decode cX3_turn 47 = .ok (.iconst 1, 1) := dk_4 (dk_at dksX3_turn_2 0 rfl rfl)
theorem dX3_turn_48 : decode cX3_turn 48 = .ok (.iaload, 1) := dk_46 (dk_at dksX3_turn_2 1 rfl rfl)
theorem dX3_turn_49 : decode cX3_turn 49 = .ok (.if_icmp .ge 81, 3) := dk_162 0 81 (dk_at dksX3_turn_2 2 rfl rfl)
theorem dX3_turn_52 : decode cX3_turn 52 = .ok (.iconst 0, 1) := dk_3 (dk_at dksX3_turn_2 5 rfl rfl)
theorem dX3_turn_53 : decode cX3_turn 53 = .ok (.istore 5, 2) := dk_54 5 (dk_at dksX3_turn_2 6 rfl rfl)
theorem dX3_turn_55 : decode cX3_turn 55 = .ok (.iload 5, 2) := dk_21 5 (dk_at dksX3_turn_2 8 rfl rfl)
theorem dX3_turn_57 : decode cX3_turn 57 = .ok (.iconst 2, 1) := dk_5 (dk_at dksX3_turn_2 10 rfl rfl)
theorem dX3_turn_58 : decode cX3_turn 58 = .ok (.if_icmp .ge 66, 3) := dk_162 0 66 (dk_at dksX3_turn_2 11 rfl rfl)
theorem dX3_turn_61 : decode cX3_turn 61 = .ok (.aload_n 0, 1) := dk_42 (dk_at dksX3_turn_2 14 rfl rfl)
theorem dX3_turn_62 : decode cX3_turn 62 = .ok (.iload 4, 2) := dk_21 4 (dk_at dksX3_turn_2 15 rfl rfl)
theorem dX3_turn_64 : decode cX3_turn 64 = .ok (.invokevirtual 326, 3) := dk_182 1 70 (dk_at dksX3_turn_2 17 rfl rfl)
theorem dX3_turn_67 : decode cX3_turn 67 = .ok (.ifCond .ne 57, 3) := dk_154 0 57 (dk_at dksX3_turn_2 20 rfl rfl)
theorem dX3_turn_70 : decode cX3_turn 70 = .ok (.iload 5, 2) := dk_21 5 (dk_at dksX3_turn_3 0 rfl rfl)
theorem dX3_turn_72 : decode cX3_turn 72 = .ok (.iconst 1, 1) := dk_4 (dk_at dksX3_turn_3 2 rfl rfl)
theorem dX3_turn_73 : decode cX3_turn 73 = .ok (.iadd, 1) := dk_96 (dk_at dksX3_turn_3 3 rfl rfl)
theorem dX3_turn_74 : decode cX3_turn 74 = .ok (.getstatic 432, 3) := dk_178 1 176 (dk_at dksX3_turn_3 4 rfl rfl)
theorem dX3_turn_77 : decode cX3_turn 77 = .ok (.iload 4, 2) := dk_21 4 (dk_at dksX3_turn_3 7 rfl rfl)
theorem dX3_turn_79 : decode cX3_turn 79 = .ok (.iaload, 1) := dk_46 (dk_at dksX3_turn_3 9 rfl rfl)
theorem dX3_turn_80 : decode cX3_turn 80 = .ok (.imul, 1) := dk_104 (dk_at dksX3_turn_3 10 rfl rfl)
theorem dX3_turn_81 : decode cX3_turn 81 = .ok (.istore 6, 2) := dk_54 6 (dk_at dksX3_turn_3 11 rfl rfl)
theorem dX3_turn_83 : decode cX3_turn 83 = .ok (.aload_n 0, 1) := dk_42 (dk_at dksX3_turn_3 13 rfl rfl)
theorem dX3_turn_84 : decode cX3_turn 84 = .ok (.getfield 67, 3) := dk_180 0 67 (dk_at dksX3_turn_3 14 rfl rfl)
theorem dX3_turn_87 : decode cX3_turn 87 = .ok (.iload 6, 2) := dk_21 6 (dk_at dksX3_turn_3 17 rfl rfl)
theorem dX3_turn_89 : decode cX3_turn 89 = .ok (.iaload, 1) := dk_46 (dk_at dksX3_turn_3 19 rfl rfl)
theorem dX3_turn_90 : decode cX3_turn 90 = .ok (.ifCond .le 28, 3) := dk_158 0 28 (dk_at dksX3_turn_3 20 rfl rfl)
theorem dX3_turn_93 : decode cX3_turn 93 = .ok (.aload_n 0, 1) := dk_42 (dk_at dksX3_turn_3 23 rfl rfl)
theorem dX3_turn_94 : decode cX3_turn 94 = .ok (.getfield 73, 3) := dk_180 0 73 (dk_at dksX3_turn_4 0 rfl rfl)
theorem dX3_turn_97 : decode cX3_turn 97 = .ok (.iload 6, 2) := dk_21 6 (dk_at dksX3_turn_4 3 rfl rfl)
theorem dX3_turn_99 : decode cX3_turn 99 = .ok (.iaload, 1) := dk_46 (dk_at dksX3_turn_4 5 rfl rfl)
theorem dX3_turn_100 : decode cX3_turn 100 = .ok (.iconst 1, 1) := dk_4 (dk_at dksX3_turn_4 6 rfl rfl)
theorem dX3_turn_101 : decode cX3_turn 101 = .ok (.iload_n 2, 1) := dk_28 (dk_at dksX3_turn_4 7 rfl rfl)
theorem dX3_turn_102 : decode cX3_turn 102 = .ok (.isub, 1) := dk_100 (dk_at dksX3_turn_4 8 rfl rfl)
theorem dX3_turn_103 : decode cX3_turn 103 = .ok (.if_icmp .ne 15, 3) := dk_160 0 15 (dk_at dksX3_turn_4 9 rfl rfl)
theorem dX3_turn_106 : decode cX3_turn 106 = .ok (.iload_n 3, 1) := dk_29 (dk_at dksX3_turn_4 12 rfl rfl)
theorem dX3_turn_107 : decode cX3_turn 107 = .ok (.ifCond .ne 8, 3) := dk_154 0 8 (dk_at dksX3_turn_4 13 rfl rfl)
theorem dX3_turn_110 : decode cX3_turn 110 = .ok (.iload 4, 2) := dk_21 4 (dk_at dksX3_turn_4 16 rfl rfl)
theorem dX3_turn_112 : decode cX3_turn 112 = .ok (.goto 5, 3) := dk_167 0 5 (dk_at dksX3_turn_4 18 rfl rfl)
theorem dX3_turn_115 : decode cX3_turn 115 = .ok (.iload 5, 2) := dk_21 5 (dk_at dksX3_turn_4 21 rfl rfl)
theorem dX3_turn_117 : decode cX3_turn 117 = .ok (.ireturn, 1) := dk_172 (dk_at dksX3_turn_4 23 rfl rfl)
theorem dX3_turn_118 : decode cX3_turn 118 = .ok (.iinc 5 1, 3) := dk_132 5 1 (dk_at dksX3_turn_5 0 rfl rfl)
theorem dX3_turn_121 : decode cX3_turn 121 = .ok (.goto (-66), 3) := dk_167 255 190 (dk_at dksX3_turn_5 3 rfl rfl)
theorem dX3_turn_124 : decode cX3_turn 124 = .ok (.iinc 4 1, 3) := dk_132 4 1 (dk_at dksX3_turn_5 6 rfl rfl)
theorem dX3_turn_127 : decode cX3_turn 127 = .ok (.goto (-86), 3) := dk_167 255 170 (dk_at dksX3_turn_5 9 rfl rfl)
theorem dX3_turn_130 : decode cX3_turn 130 = .ok (.bipush (-2), 2) := dk_16 254 (dk_at dksX3_turn_5 12 rfl rfl)
theorem dX3_turn_132 : decode cX3_turn 132 = .ok (.ireturn, 1) := dk_172 (dk_at dksX3_turn_5 14 rfl rfl)
abbrev cX3_proofs : ByteArray := prog_18_method_121_code
def yX3_proofs : MethodName := ⟨RX3, "proofs", "(IZ)I"⟩
def dkwX3_proofs_0 : List UInt8 := [42, 27, 182, 1, 124, 153, 0, 13, 42, 27, 28, 2, 182, 1, 211, 167, 0, 4, 2, 172]
abbrev dktX3_proofs_0 : List UInt8 := dkwX3_proofs_0 ++ []
theorem dksX3_proofs_0 : cX3_proofs.data.toList.drop 0 = dktX3_proofs_0 := by decide +kernel
theorem dX3_proofs_0 : decode cX3_proofs 0 = .ok (.aload_n 0, 1) := dk_42 (dk_at dksX3_proofs_0 0 rfl rfl)
theorem dX3_proofs_1 : decode cX3_proofs 1 = .ok (.iload_n 1, 1) := dk_27 (dk_at dksX3_proofs_0 1 rfl rfl)
theorem dX3_proofs_2 : decode cX3_proofs 2 = .ok (.invokevirtual 380, 3) := dk_182 1 124 (dk_at dksX3_proofs_0 2 rfl rfl)
theorem dX3_proofs_5 : decode cX3_proofs 5 = .ok (.ifCond .eq 13, 3) := dk_153 0 13 (dk_at dksX3_proofs_0 5 rfl rfl)
theorem dX3_proofs_8 : decode cX3_proofs 8 = .ok (.aload_n 0, 1) := dk_42 (dk_at dksX3_proofs_0 8 rfl rfl)
theorem dX3_proofs_9 : decode cX3_proofs 9 = .ok (.iload_n 1, 1) := dk_27 (dk_at dksX3_proofs_0 9 rfl rfl)
theorem dX3_proofs_10 : decode cX3_proofs 10 = .ok (.iload_n 2, 1) := dk_28 (dk_at dksX3_proofs_0 10 rfl rfl)
theorem dX3_proofs_11 : decode cX3_proofs 11 = .ok (.iconst (-1), 1) := dk_2 (dk_at dksX3_proofs_0 11 rfl rfl)
theorem dX3_proofs_12 : decode cX3_proofs 12 = .ok (.invokevirtual 467, 3) := dk_182 1 211 (dk_at dksX3_proofs_0 12 rfl rfl)
theorem dX3_proofs_15 : decode cX3_proofs 15 = .ok (.goto 4, 3) := dk_167 0 4 (dk_at dksX3_proofs_0 15 rfl rfl)
theorem dX3_proofs_18 : decode cX3_proofs 18 = .ok (.iconst (-1), 1) := dk_2 (dk_at dksX3_proofs_0 18 rfl rfl)
theorem dX3_proofs_19 : decode cX3_proofs 19 = .ok (.ireturn, 1) := dk_172 (dk_at dksX3_proofs_0 19 rfl rfl)
abbrev cX3_findsProofs : ByteArray := prog_18_method_120_code
def yX3_findsProofs : MethodName := ⟨RX3, "findsProofs", "(IZI)I"⟩
def dkwX3_findsProofs_5 : List UInt8 := [132, 4, 1, 132, 7, 1, 167, 255, 200, 132, 6, 1, 167, 255, 155, 132, 5, 1, 167, 255, 135, 21, 4, 172]
abbrev dktX3_findsProofs_5 : List UInt8 := dkwX3_findsProofs_5 ++ []
def dkwX3_findsProofs_4 : List UInt8 := [154, 0, 6, 167, 0, 24, 21, 4, 29, 160, 0, 15, 42, 21, 6, 181, 1, 163, 42, 21, 7, 181, 1, 166]
abbrev dktX3_findsProofs_4 : List UInt8 := dkwX3_findsProofs_4 ++ dktX3_findsProofs_5
def dkwX3_findsProofs_3 : List UInt8 := [163, 0, 55, 21, 7, 21, 6, 2, 130, 126, 154, 0, 39, 42, 21, 6, 21, 7, 28, 182, 1, 207]
abbrev dktX3_findsProofs_3 : List UInt8 := dkwX3_findsProofs_3 ++ dktX3_findsProofs_4
def dkwX3_findsProofs_2 : List UInt8 := [160, 0, 78, 21, 6, 42, 182, 1, 73, 126, 153, 0, 6, 167, 0, 65, 3, 54, 7, 21, 7, 21, 6]
abbrev dktX3_findsProofs_2 : List UInt8 := dkwX3_findsProofs_2 ++ dktX3_findsProofs_3
def dkwX3_findsProofs_1 : List UInt8 := [54, 6, 21, 6, 4, 42, 180, 0, 7, 4, 46, 120, 162, 0, 94, 21, 6, 184, 1, 59, 21, 5]
abbrev dktX3_findsProofs_1 : List UInt8 := dkwX3_findsProofs_1 ++ dktX3_findsProofs_2
def dkwX3_findsProofs_0 : List UInt8 := [42, 27, 182, 1, 185, 3, 54, 4, 3, 54, 5, 21, 5, 42, 180, 0, 7, 4, 46, 163, 0, 116, 3]
abbrev dktX3_findsProofs_0 : List UInt8 := dkwX3_findsProofs_0 ++ dktX3_findsProofs_1
theorem dksX3_findsProofs_0 : cX3_findsProofs.data.toList.drop 0 = dktX3_findsProofs_0 := by decide +kernel
theorem dksX3_findsProofs_1 : cX3_findsProofs.data.toList.drop 23 = dktX3_findsProofs_1 := dk_seg dksX3_findsProofs_0 23 rfl rfl
theorem dksX3_findsProofs_2 : cX3_findsProofs.data.toList.drop 45 = dktX3_findsProofs_2 := dk_seg dksX3_findsProofs_1 22 rfl rfl
theorem dksX3_findsProofs_3 : cX3_findsProofs.data.toList.drop 68 = dktX3_findsProofs_3 := dk_seg dksX3_findsProofs_2 23 rfl rfl
theorem dksX3_findsProofs_4 : cX3_findsProofs.data.toList.drop 90 = dktX3_findsProofs_4 := dk_seg dksX3_findsProofs_3 22 rfl rfl
theorem dksX3_findsProofs_5 : cX3_findsProofs.data.toList.drop 114 = dktX3_findsProofs_5 := dk_seg dksX3_findsProofs_4 24 rfl rfl
theorem dX3_findsProofs_0 : decode cX3_findsProofs 0 = .ok (.aload_n 0, 1) := dk_42 (dk_at dksX3_findsProofs_0 0 rfl rfl)
theorem dX3_findsProofs_1 : decode cX3_findsProofs 1 = .ok (.iload_n 1, 1) := dk_27 (dk_at dksX3_findsProofs_0 1 rfl rfl)
theorem dX3_findsProofs_2 : decode cX3_findsProofs 2 = .ok (.invokevirtual 441, 3) := dk_182 1 185 (dk_at dksX3_findsProofs_0 2 rfl rfl)
theorem dX3_findsProofs_5 : decode cX3_findsProofs 5 = .ok (.iconst 0, 1) := dk_3 (dk_at dksX3_findsProofs_0 5 rfl rfl)
theorem dX3_findsProofs_6 : decode cX3_findsProofs 6 = .ok (.istore 4, 2) := dk_54 4 (dk_at dksX3_findsProofs_0 6 rfl rfl)
theorem dX3_findsProofs_8 : decode cX3_findsProofs 8 = .ok (.iconst 0, 1) := dk_3 (dk_at dksX3_findsProofs_0 8 rfl rfl)
theorem dX3_findsProofs_9 : decode cX3_findsProofs 9 = .ok (.istore 5, 2) := dk_54 5 (dk_at dksX3_findsProofs_0 9 rfl rfl)
theorem dX3_findsProofs_11 : decode cX3_findsProofs 11 = .ok (.iload 5, 2) := dk_21 5 (dk_at dksX3_findsProofs_0 11 rfl rfl)
theorem dX3_findsProofs_13 : decode cX3_findsProofs 13 = .ok (.aload_n 0, 1) := dk_42 (dk_at dksX3_findsProofs_0 13 rfl rfl)
theorem dX3_findsProofs_14 : decode cX3_findsProofs 14 = .ok (.getfield 7, 3) := dk_180 0 7 (dk_at dksX3_findsProofs_0 14 rfl rfl)
theorem dX3_findsProofs_17 : decode cX3_findsProofs 17 = .ok (.iconst 1, 1) := dk_4 (dk_at dksX3_findsProofs_0 17 rfl rfl)
theorem dX3_findsProofs_18 : decode cX3_findsProofs 18 = .ok (.iaload, 1) := dk_46 (dk_at dksX3_findsProofs_0 18 rfl rfl)
theorem dX3_findsProofs_19 : decode cX3_findsProofs 19 = .ok (.if_icmp .gt 116, 3) := dk_163 0 116 (dk_at dksX3_findsProofs_0 19 rfl rfl)
theorem dX3_findsProofs_22 : decode cX3_findsProofs 22 = .ok (.iconst 0, 1) := dk_3 (dk_at dksX3_findsProofs_0 22 rfl rfl)
theorem dX3_findsProofs_23 : decode cX3_findsProofs 23 = .ok (.istore 6, 2) := dk_54 6 (dk_at dksX3_findsProofs_1 0 rfl rfl)
theorem dX3_findsProofs_25 : decode cX3_findsProofs 25 = .ok (.iload 6, 2) := dk_21 6 (dk_at dksX3_findsProofs_1 2 rfl rfl)
theorem dX3_findsProofs_27 : decode cX3_findsProofs 27 = .ok (.iconst 1, 1) := dk_4 (dk_at dksX3_findsProofs_1 4 rfl rfl)
theorem dX3_findsProofs_28 : decode cX3_findsProofs 28 = .ok (.aload_n 0, 1) := dk_42 (dk_at dksX3_findsProofs_1 5 rfl rfl)
theorem dX3_findsProofs_29 : decode cX3_findsProofs 29 = .ok (.getfield 7, 3) := dk_180 0 7 (dk_at dksX3_findsProofs_1 6 rfl rfl)
theorem dX3_findsProofs_32 : decode cX3_findsProofs 32 = .ok (.iconst 1, 1) := dk_4 (dk_at dksX3_findsProofs_1 9 rfl rfl)
theorem dX3_findsProofs_33 : decode cX3_findsProofs 33 = .ok (.iaload, 1) := dk_46 (dk_at dksX3_findsProofs_1 10 rfl rfl)
theorem dX3_findsProofs_34 : decode cX3_findsProofs 34 = .ok (.ishl, 1) := dk_120 (dk_at dksX3_findsProofs_1 11 rfl rfl)
theorem dX3_findsProofs_35 : decode cX3_findsProofs 35 = .ok (.if_icmp .ge 94, 3) := dk_162 0 94 (dk_at dksX3_findsProofs_1 12 rfl rfl)
theorem dX3_findsProofs_38 : decode cX3_findsProofs 38 = .ok (.iload 6, 2) := dk_21 6 (dk_at dksX3_findsProofs_1 15 rfl rfl)
theorem dX3_findsProofs_40 : decode cX3_findsProofs 40 = .ok (.invokestatic 315, 3) := dk_184 1 59 (dk_at dksX3_findsProofs_1 17 rfl rfl)
theorem dX3_findsProofs_43 : decode cX3_findsProofs 43 = .ok (.iload 5, 2) := dk_21 5 (dk_at dksX3_findsProofs_1 20 rfl rfl)
theorem dX3_findsProofs_45 : decode cX3_findsProofs 45 = .ok (.if_icmp .ne 78, 3) := dk_160 0 78 (dk_at dksX3_findsProofs_2 0 rfl rfl)
theorem dX3_findsProofs_48 : decode cX3_findsProofs 48 = .ok (.iload 6, 2) := dk_21 6 (dk_at dksX3_findsProofs_2 3 rfl rfl)
theorem dX3_findsProofs_50 : decode cX3_findsProofs 50 = .ok (.aload_n 0, 1) := dk_42 (dk_at dksX3_findsProofs_2 5 rfl rfl)
theorem dX3_findsProofs_51 : decode cX3_findsProofs 51 = .ok (.invokevirtual 329, 3) := dk_182 1 73 (dk_at dksX3_findsProofs_2 6 rfl rfl)
theorem dX3_findsProofs_54 : decode cX3_findsProofs 54 = .ok (.iand, 1) := dk_126 (dk_at dksX3_findsProofs_2 9 rfl rfl)
theorem dX3_findsProofs_55 : decode cX3_findsProofs 55 = .ok (.ifCond .eq 6, 3) := dk_153 0 6 (dk_at dksX3_findsProofs_2 10 rfl rfl)
theorem dX3_findsProofs_58 : decode cX3_findsProofs 58 = .ok (.goto 65, 3) := dk_167 0 65 (dk_at dksX3_findsProofs_2 13 rfl rfl)
theorem dX3_findsProofs_61 : decode cX3_findsProofs 61 = .ok (.iconst 0, 1) := dk_3 (dk_at dksX3_findsProofs_2 16 rfl rfl)
theorem dX3_findsProofs_62 : decode cX3_findsProofs 62 = .ok (.istore 7, 2) := dk_54 7 (dk_at dksX3_findsProofs_2 17 rfl rfl)
theorem dX3_findsProofs_64 : decode cX3_findsProofs 64 = .ok (.iload 7, 2) := dk_21 7 (dk_at dksX3_findsProofs_2 19 rfl rfl)
theorem dX3_findsProofs_66 : decode cX3_findsProofs 66 = .ok (.iload 6, 2) := dk_21 6 (dk_at dksX3_findsProofs_2 21 rfl rfl)
theorem dX3_findsProofs_68 : decode cX3_findsProofs 68 = .ok (.if_icmp .gt 55, 3) := dk_163 0 55 (dk_at dksX3_findsProofs_3 0 rfl rfl)
theorem dX3_findsProofs_71 : decode cX3_findsProofs 71 = .ok (.iload 7, 2) := dk_21 7 (dk_at dksX3_findsProofs_3 3 rfl rfl)
theorem dX3_findsProofs_73 : decode cX3_findsProofs 73 = .ok (.iload 6, 2) := dk_21 6 (dk_at dksX3_findsProofs_3 5 rfl rfl)
theorem dX3_findsProofs_75 : decode cX3_findsProofs 75 = .ok (.iconst (-1), 1) := dk_2 (dk_at dksX3_findsProofs_3 7 rfl rfl)
theorem dX3_findsProofs_76 : decode cX3_findsProofs 76 = .ok (.ixor, 1) := dk_130 (dk_at dksX3_findsProofs_3 8 rfl rfl)
theorem dX3_findsProofs_77 : decode cX3_findsProofs 77 = .ok (.iand, 1) := dk_126 (dk_at dksX3_findsProofs_3 9 rfl rfl)
theorem dX3_findsProofs_78 : decode cX3_findsProofs 78 = .ok (.ifCond .ne 39, 3) := dk_154 0 39 (dk_at dksX3_findsProofs_3 10 rfl rfl)
theorem dX3_findsProofs_81 : decode cX3_findsProofs 81 = .ok (.aload_n 0, 1) := dk_42 (dk_at dksX3_findsProofs_3 13 rfl rfl)
theorem dX3_findsProofs_82 : decode cX3_findsProofs 82 = .ok (.iload 6, 2) := dk_21 6 (dk_at dksX3_findsProofs_3 14 rfl rfl)
theorem dX3_findsProofs_84 : decode cX3_findsProofs 84 = .ok (.iload 7, 2) := dk_21 7 (dk_at dksX3_findsProofs_3 16 rfl rfl)
theorem dX3_findsProofs_86 : decode cX3_findsProofs 86 = .ok (.iload_n 2, 1) := dk_28 (dk_at dksX3_findsProofs_3 18 rfl rfl)
theorem dX3_findsProofs_87 : decode cX3_findsProofs 87 = .ok (.invokevirtual 463, 3) := dk_182 1 207 (dk_at dksX3_findsProofs_3 19 rfl rfl)
theorem dX3_findsProofs_90 : decode cX3_findsProofs 90 = .ok (.ifCond .ne 6, 3) := dk_154 0 6 (dk_at dksX3_findsProofs_4 0 rfl rfl)
theorem dX3_findsProofs_93 : decode cX3_findsProofs 93 = .ok (.goto 24, 3) := dk_167 0 24 (dk_at dksX3_findsProofs_4 3 rfl rfl)
theorem dX3_findsProofs_96 : decode cX3_findsProofs 96 = .ok (.iload 4, 2) := dk_21 4 (dk_at dksX3_findsProofs_4 6 rfl rfl)
theorem dX3_findsProofs_98 : decode cX3_findsProofs 98 = .ok (.iload_n 3, 1) := dk_29 (dk_at dksX3_findsProofs_4 8 rfl rfl)
theorem dX3_findsProofs_99 : decode cX3_findsProofs 99 = .ok (.if_icmp .ne 15, 3) := dk_160 0 15 (dk_at dksX3_findsProofs_4 9 rfl rfl)
theorem dX3_findsProofs_102 : decode cX3_findsProofs 102 = .ok (.aload_n 0, 1) := dk_42 (dk_at dksX3_findsProofs_4 12 rfl rfl)
theorem dX3_findsProofs_103 : decode cX3_findsProofs 103 = .ok (.iload 6, 2) := dk_21 6 (dk_at dksX3_findsProofs_4 13 rfl rfl)
theorem dX3_findsProofs_105 : decode cX3_findsProofs 105 = .ok (.putfield 419, 3) := dk_181 1 163 (dk_at dksX3_findsProofs_4 15 rfl rfl)
theorem dX3_findsProofs_108 : decode cX3_findsProofs 108 = .ok (.aload_n 0, 1) := dk_42 (dk_at dksX3_findsProofs_4 18 rfl rfl)
theorem dX3_findsProofs_109 : decode cX3_findsProofs 109 = .ok (.iload 7, 2) := dk_21 7 (dk_at dksX3_findsProofs_4 19 rfl rfl)
theorem dX3_findsProofs_111 : decode cX3_findsProofs 111 = .ok (.putfield 422, 3) := dk_181 1 166 (dk_at dksX3_findsProofs_4 21 rfl rfl)
theorem dX3_findsProofs_114 : decode cX3_findsProofs 114 = .ok (.iinc 4 1, 3) := dk_132 4 1 (dk_at dksX3_findsProofs_5 0 rfl rfl)
theorem dX3_findsProofs_117 : decode cX3_findsProofs 117 = .ok (.iinc 7 1, 3) := dk_132 7 1 (dk_at dksX3_findsProofs_5 3 rfl rfl)
theorem dX3_findsProofs_120 : decode cX3_findsProofs 120 = .ok (.goto (-56), 3) := dk_167 255 200 (dk_at dksX3_findsProofs_5 6 rfl rfl)
theorem dX3_findsProofs_123 : decode cX3_findsProofs 123 = .ok (.iinc 6 1, 3) := dk_132 6 1 (dk_at dksX3_findsProofs_5 9 rfl rfl)
theorem dX3_findsProofs_126 : decode cX3_findsProofs 126 = .ok (.goto (-101), 3) := dk_167 255 155 (dk_at dksX3_findsProofs_5 12 rfl rfl)
theorem dX3_findsProofs_129 : decode cX3_findsProofs 129 = .ok (.iinc 5 1, 3) := dk_132 5 1 (dk_at dksX3_findsProofs_5 15 rfl rfl)
theorem dX3_findsProofs_132 : decode cX3_findsProofs 132 = .ok (.goto (-121), 3) := dk_167 255 135 (dk_at dksX3_findsProofs_5 18 rfl rfl)
theorem dX3_findsProofs_135 : decode cX3_findsProofs 135 = .ok (.iload 4, 2) := dk_21 4 (dk_at dksX3_findsProofs_5 21 rfl rfl)
theorem dX3_findsProofs_137 : decode cX3_findsProofs 137 = .ok (.ireturn, 1) := dk_172 (dk_at dksX3_findsProofs_5 23 rfl rfl)
abbrev cX3_isProof : ByteArray := prog_18_method_119_code
def yX3_isProof : MethodName := ⟨RX3, "isProof", "(IIZ)Z"⟩
def dkwX3_isProof_3 : List UInt8 := [184, 1, 200, 29, 182, 1, 203, 153, 0, 5, 3, 172, 132, 5, 1, 167, 255, 204, 4, 172]
abbrev dktX3_isProof_3 : List UInt8 := dkwX3_isProof_3 ++ []
def dkwX3_isProof_2 : List UInt8 := [184, 0, 239, 153, 0, 32, 42, 27, 4, 21, 5, 120, 2, 130, 126, 28, 4, 21, 5, 120, 2, 130, 126]
abbrev dktX3_isProof_2 : List UInt8 := dkwX3_isProof_2 ++ dktX3_isProof_3
def dkwX3_isProof_1 : List UInt8 := [154, 0, 5, 3, 172, 3, 54, 5, 21, 5, 42, 180, 0, 7, 4, 46, 162, 0, 47, 27, 21, 5]
abbrev dktX3_isProof_1 : List UInt8 := dkwX3_isProof_1 ++ dktX3_isProof_2
def dkwX3_isProof_0 : List UInt8 := [27, 28, 184, 1, 200, 54, 4, 42, 180, 0, 67, 21, 4, 46, 153, 0, 13, 42, 21, 4, 29, 182, 1, 203]
abbrev dktX3_isProof_0 : List UInt8 := dkwX3_isProof_0 ++ dktX3_isProof_1
theorem dksX3_isProof_0 : cX3_isProof.data.toList.drop 0 = dktX3_isProof_0 := by decide +kernel
theorem dksX3_isProof_1 : cX3_isProof.data.toList.drop 24 = dktX3_isProof_1 := dk_seg dksX3_isProof_0 24 rfl rfl
theorem dksX3_isProof_2 : cX3_isProof.data.toList.drop 46 = dktX3_isProof_2 := dk_seg dksX3_isProof_1 22 rfl rfl
theorem dksX3_isProof_3 : cX3_isProof.data.toList.drop 69 = dktX3_isProof_3 := dk_seg dksX3_isProof_2 23 rfl rfl
theorem dX3_isProof_0 : decode cX3_isProof 0 = .ok (.iload_n 1, 1) := dk_27 (dk_at dksX3_isProof_0 0 rfl rfl)
theorem dX3_isProof_1 : decode cX3_isProof 1 = .ok (.iload_n 2, 1) := dk_28 (dk_at dksX3_isProof_0 1 rfl rfl)
theorem dX3_isProof_2 : decode cX3_isProof 2 = .ok (.invokestatic 456, 3) := dk_184 1 200 (dk_at dksX3_isProof_0 2 rfl rfl)
theorem dX3_isProof_5 : decode cX3_isProof 5 = .ok (.istore 4, 2) := dk_54 4 (dk_at dksX3_isProof_0 5 rfl rfl)
theorem dX3_isProof_7 : decode cX3_isProof 7 = .ok (.aload_n 0, 1) := dk_42 (dk_at dksX3_isProof_0 7 rfl rfl)
theorem dX3_isProof_8 : decode cX3_isProof 8 = .ok (.getfield 67, 3) := dk_180 0 67 (dk_at dksX3_isProof_0 8 rfl rfl)
theorem dX3_isProof_11 : decode cX3_isProof 11 = .ok (.iload 4, 2) := dk_21 4 (dk_at dksX3_isProof_0 11 rfl rfl)
theorem dX3_isProof_13 : decode cX3_isProof 13 = .ok (.iaload, 1) := dk_46 (dk_at dksX3_isProof_0 13 rfl rfl)
theorem dX3_isProof_14 : decode cX3_isProof 14 = .ok (.ifCond .eq 13, 3) := dk_153 0 13 (dk_at dksX3_isProof_0 14 rfl rfl)
theorem dX3_isProof_17 : decode cX3_isProof 17 = .ok (.aload_n 0, 1) := dk_42 (dk_at dksX3_isProof_0 17 rfl rfl)
theorem dX3_isProof_18 : decode cX3_isProof 18 = .ok (.iload 4, 2) := dk_21 4 (dk_at dksX3_isProof_0 18 rfl rfl)
theorem dX3_isProof_20 : decode cX3_isProof 20 = .ok (.iload_n 3, 1) := dk_29 (dk_at dksX3_isProof_0 20 rfl rfl)
theorem dX3_isProof_21 : decode cX3_isProof 21 = .ok (.invokevirtual 459, 3) := dk_182 1 203 (dk_at dksX3_isProof_0 21 rfl rfl)
theorem dX3_isProof_24 : decode cX3_isProof 24 = .ok (.ifCond .ne 5, 3) := dk_154 0 5 (dk_at dksX3_isProof_1 0 rfl rfl)
theorem dX3_isProof_27 : decode cX3_isProof 27 = .ok (.iconst 0, 1) := dk_3 (dk_at dksX3_isProof_1 3 rfl rfl)
theorem dX3_isProof_28 : decode cX3_isProof 28 = .ok (.ireturn, 1) := dk_172 (dk_at dksX3_isProof_1 4 rfl rfl)
theorem dX3_isProof_29 : decode cX3_isProof 29 = .ok (.iconst 0, 1) := dk_3 (dk_at dksX3_isProof_1 5 rfl rfl)
theorem dX3_isProof_30 : decode cX3_isProof 30 = .ok (.istore 5, 2) := dk_54 5 (dk_at dksX3_isProof_1 6 rfl rfl)
theorem dX3_isProof_32 : decode cX3_isProof 32 = .ok (.iload 5, 2) := dk_21 5 (dk_at dksX3_isProof_1 8 rfl rfl)
theorem dX3_isProof_34 : decode cX3_isProof 34 = .ok (.aload_n 0, 1) := dk_42 (dk_at dksX3_isProof_1 10 rfl rfl)
theorem dX3_isProof_35 : decode cX3_isProof 35 = .ok (.getfield 7, 3) := dk_180 0 7 (dk_at dksX3_isProof_1 11 rfl rfl)
theorem dX3_isProof_38 : decode cX3_isProof 38 = .ok (.iconst 1, 1) := dk_4 (dk_at dksX3_isProof_1 14 rfl rfl)
theorem dX3_isProof_39 : decode cX3_isProof 39 = .ok (.iaload, 1) := dk_46 (dk_at dksX3_isProof_1 15 rfl rfl)
theorem dX3_isProof_40 : decode cX3_isProof 40 = .ok (.if_icmp .ge 47, 3) := dk_162 0 47 (dk_at dksX3_isProof_1 16 rfl rfl)
theorem dX3_isProof_43 : decode cX3_isProof 43 = .ok (.iload_n 1, 1) := dk_27 (dk_at dksX3_isProof_1 19 rfl rfl)
theorem dX3_isProof_44 : decode cX3_isProof 44 = .ok (.iload 5, 2) := dk_21 5 (dk_at dksX3_isProof_1 20 rfl rfl)
theorem dX3_isProof_46 : decode cX3_isProof 46 = .ok (.invokestatic 239, 3) := dk_184 0 239 (dk_at dksX3_isProof_2 0 rfl rfl)
theorem dX3_isProof_49 : decode cX3_isProof 49 = .ok (.ifCond .eq 32, 3) := dk_153 0 32 (dk_at dksX3_isProof_2 3 rfl rfl)
theorem dX3_isProof_52 : decode cX3_isProof 52 = .ok (.aload_n 0, 1) := dk_42 (dk_at dksX3_isProof_2 6 rfl rfl)
theorem dX3_isProof_53 : decode cX3_isProof 53 = .ok (.iload_n 1, 1) := dk_27 (dk_at dksX3_isProof_2 7 rfl rfl)
theorem dX3_isProof_54 : decode cX3_isProof 54 = .ok (.iconst 1, 1) := dk_4 (dk_at dksX3_isProof_2 8 rfl rfl)
theorem dX3_isProof_55 : decode cX3_isProof 55 = .ok (.iload 5, 2) := dk_21 5 (dk_at dksX3_isProof_2 9 rfl rfl)
theorem dX3_isProof_57 : decode cX3_isProof 57 = .ok (.ishl, 1) := dk_120 (dk_at dksX3_isProof_2 11 rfl rfl)
theorem dX3_isProof_58 : decode cX3_isProof 58 = .ok (.iconst (-1), 1) := dk_2 (dk_at dksX3_isProof_2 12 rfl rfl)
theorem dX3_isProof_59 : decode cX3_isProof 59 = .ok (.ixor, 1) := dk_130 (dk_at dksX3_isProof_2 13 rfl rfl)
theorem dX3_isProof_60 : decode cX3_isProof 60 = .ok (.iand, 1) := dk_126 (dk_at dksX3_isProof_2 14 rfl rfl)
theorem dX3_isProof_61 : decode cX3_isProof 61 = .ok (.iload_n 2, 1) := dk_28 (dk_at dksX3_isProof_2 15 rfl rfl)
theorem dX3_isProof_62 : decode cX3_isProof 62 = .ok (.iconst 1, 1) := dk_4 (dk_at dksX3_isProof_2 16 rfl rfl)
theorem dX3_isProof_63 : decode cX3_isProof 63 = .ok (.iload 5, 2) := dk_21 5 (dk_at dksX3_isProof_2 17 rfl rfl)
theorem dX3_isProof_65 : decode cX3_isProof 65 = .ok (.ishl, 1) := dk_120 (dk_at dksX3_isProof_2 19 rfl rfl)
theorem dX3_isProof_66 : decode cX3_isProof 66 = .ok (.iconst (-1), 1) := dk_2 (dk_at dksX3_isProof_2 20 rfl rfl)
theorem dX3_isProof_67 : decode cX3_isProof 67 = .ok (.ixor, 1) := dk_130 (dk_at dksX3_isProof_2 21 rfl rfl)
theorem dX3_isProof_68 : decode cX3_isProof 68 = .ok (.iand, 1) := dk_126 (dk_at dksX3_isProof_2 22 rfl rfl)
theorem dX3_isProof_69 : decode cX3_isProof 69 = .ok (.invokestatic 456, 3) := dk_184 1 200 (dk_at dksX3_isProof_3 0 rfl rfl)
theorem dX3_isProof_72 : decode cX3_isProof 72 = .ok (.iload_n 3, 1) := dk_29 (dk_at dksX3_isProof_3 3 rfl rfl)
theorem dX3_isProof_73 : decode cX3_isProof 73 = .ok (.invokevirtual 459, 3) := dk_182 1 203 (dk_at dksX3_isProof_3 4 rfl rfl)
theorem dX3_isProof_76 : decode cX3_isProof 76 = .ok (.ifCond .eq 5, 3) := dk_153 0 5 (dk_at dksX3_isProof_3 7 rfl rfl)
theorem dX3_isProof_79 : decode cX3_isProof 79 = .ok (.iconst 0, 1) := dk_3 (dk_at dksX3_isProof_3 10 rfl rfl)
theorem dX3_isProof_80 : decode cX3_isProof 80 = .ok (.ireturn, 1) := dk_172 (dk_at dksX3_isProof_3 11 rfl rfl)
theorem dX3_isProof_81 : decode cX3_isProof 81 = .ok (.iinc 5 1, 3) := dk_132 5 1 (dk_at dksX3_isProof_3 12 rfl rfl)
theorem dX3_isProof_84 : decode cX3_isProof 84 = .ok (.goto (-52), 3) := dk_167 255 204 (dk_at dksX3_isProof_3 15 rfl rfl)
theorem dX3_isProof_87 : decode cX3_isProof 87 = .ok (.iconst 1, 1) := dk_4 (dk_at dksX3_isProof_3 18 rfl rfl)
theorem dX3_isProof_88 : decode cX3_isProof 88 = .ok (.ireturn, 1) := dk_172 (dk_at dksX3_isProof_3 19 rfl rfl)
abbrev cX3_wayOf : ByteArray := prog_18_method_109_code
def yX3_wayOf : MethodName := ⟨RX3, "wayOf", "(II)I"⟩
def dkwX3_wayOf_2 : List UInt8 := [167, 255, 213, 28, 172]
abbrev dktX3_wayOf_2 : List UInt8 := dkwX3_wayOf_2 ++ []
def dkwX3_wayOf_1 : List UInt8 := [27, 29, 184, 0, 239, 153, 0, 7, 5, 167, 0, 4, 4, 104, 167, 0, 4, 3, 96, 61, 132, 3, 1]
abbrev dktX3_wayOf_1 : List UInt8 := dkwX3_wayOf_1 ++ dktX3_wayOf_2
def dkwX3_wayOf_0 : List UInt8 := [3, 61, 3, 62, 29, 16, 8, 162, 0, 43, 28, 26, 29, 184, 0, 239, 153, 0, 25, 178, 1, 176, 29, 46]
abbrev dktX3_wayOf_0 : List UInt8 := dkwX3_wayOf_0 ++ dktX3_wayOf_1
theorem dksX3_wayOf_0 : cX3_wayOf.data.toList.drop 0 = dktX3_wayOf_0 := by decide +kernel
theorem dksX3_wayOf_1 : cX3_wayOf.data.toList.drop 24 = dktX3_wayOf_1 := dk_seg dksX3_wayOf_0 24 rfl rfl
theorem dksX3_wayOf_2 : cX3_wayOf.data.toList.drop 47 = dktX3_wayOf_2 := dk_seg dksX3_wayOf_1 23 rfl rfl
theorem dX3_wayOf_0 : decode cX3_wayOf 0 = .ok (.iconst 0, 1) := dk_3 (dk_at dksX3_wayOf_0 0 rfl rfl)
theorem dX3_wayOf_1 : decode cX3_wayOf 1 = .ok (.istore_n 2, 1) := dk_61 (dk_at dksX3_wayOf_0 1 rfl rfl)
theorem dX3_wayOf_2 : decode cX3_wayOf 2 = .ok (.iconst 0, 1) := dk_3 (dk_at dksX3_wayOf_0 2 rfl rfl)
theorem dX3_wayOf_3 : decode cX3_wayOf 3 = .ok (.istore_n 3, 1) := dk_62 (dk_at dksX3_wayOf_0 3 rfl rfl)
theorem dX3_wayOf_4 : decode cX3_wayOf 4 = .ok (.iload_n 3, 1) := dk_29 (dk_at dksX3_wayOf_0 4 rfl rfl)
theorem dX3_wayOf_5 : decode cX3_wayOf 5 = .ok (.bipush 8, 2) := dk_16 8 (dk_at dksX3_wayOf_0 5 rfl rfl)
theorem dX3_wayOf_7 : decode cX3_wayOf 7 = .ok (.if_icmp .ge 43, 3) := dk_162 0 43 (dk_at dksX3_wayOf_0 7 rfl rfl)
theorem dX3_wayOf_10 : decode cX3_wayOf 10 = .ok (.iload_n 2, 1) := dk_28 (dk_at dksX3_wayOf_0 10 rfl rfl)
theorem dX3_wayOf_11 : decode cX3_wayOf 11 = .ok (.iload_n 0, 1) := dk_26 (dk_at dksX3_wayOf_0 11 rfl rfl)
theorem dX3_wayOf_12 : decode cX3_wayOf 12 = .ok (.iload_n 3, 1) := dk_29 (dk_at dksX3_wayOf_0 12 rfl rfl)
theorem dX3_wayOf_13 : decode cX3_wayOf 13 = .ok (.invokestatic 239, 3) := dk_184 0 239 (dk_at dksX3_wayOf_0 13 rfl rfl)
theorem dX3_wayOf_16 : decode cX3_wayOf 16 = .ok (.ifCond .eq 25, 3) := dk_153 0 25 (dk_at dksX3_wayOf_0 16 rfl rfl)
theorem dX3_wayOf_19 : decode cX3_wayOf 19 = .ok (.getstatic 432, 3) := dk_178 1 176 (dk_at dksX3_wayOf_0 19 rfl rfl)
theorem dX3_wayOf_22 : decode cX3_wayOf 22 = .ok (.iload_n 3, 1) := dk_29 (dk_at dksX3_wayOf_0 22 rfl rfl)
theorem dX3_wayOf_23 : decode cX3_wayOf 23 = .ok (.iaload, 1) := dk_46 (dk_at dksX3_wayOf_0 23 rfl rfl)
theorem dX3_wayOf_24 : decode cX3_wayOf 24 = .ok (.iload_n 1, 1) := dk_27 (dk_at dksX3_wayOf_1 0 rfl rfl)
theorem dX3_wayOf_25 : decode cX3_wayOf 25 = .ok (.iload_n 3, 1) := dk_29 (dk_at dksX3_wayOf_1 1 rfl rfl)
theorem dX3_wayOf_26 : decode cX3_wayOf 26 = .ok (.invokestatic 239, 3) := dk_184 0 239 (dk_at dksX3_wayOf_1 2 rfl rfl)
theorem dX3_wayOf_29 : decode cX3_wayOf 29 = .ok (.ifCond .eq 7, 3) := dk_153 0 7 (dk_at dksX3_wayOf_1 5 rfl rfl)
theorem dX3_wayOf_32 : decode cX3_wayOf 32 = .ok (.iconst 2, 1) := dk_5 (dk_at dksX3_wayOf_1 8 rfl rfl)
theorem dX3_wayOf_33 : decode cX3_wayOf 33 = .ok (.goto 4, 3) := dk_167 0 4 (dk_at dksX3_wayOf_1 9 rfl rfl)
theorem dX3_wayOf_36 : decode cX3_wayOf 36 = .ok (.iconst 1, 1) := dk_4 (dk_at dksX3_wayOf_1 12 rfl rfl)
theorem dX3_wayOf_37 : decode cX3_wayOf 37 = .ok (.imul, 1) := dk_104 (dk_at dksX3_wayOf_1 13 rfl rfl)
theorem dX3_wayOf_38 : decode cX3_wayOf 38 = .ok (.goto 4, 3) := dk_167 0 4 (dk_at dksX3_wayOf_1 14 rfl rfl)
theorem dX3_wayOf_41 : decode cX3_wayOf 41 = .ok (.iconst 0, 1) := dk_3 (dk_at dksX3_wayOf_1 17 rfl rfl)
theorem dX3_wayOf_42 : decode cX3_wayOf 42 = .ok (.iadd, 1) := dk_96 (dk_at dksX3_wayOf_1 18 rfl rfl)
theorem dX3_wayOf_43 : decode cX3_wayOf 43 = .ok (.istore_n 2, 1) := dk_61 (dk_at dksX3_wayOf_1 19 rfl rfl)
theorem dX3_wayOf_44 : decode cX3_wayOf 44 = .ok (.iinc 3 1, 3) := dk_132 3 1 (dk_at dksX3_wayOf_1 20 rfl rfl)
theorem dX3_wayOf_47 : decode cX3_wayOf 47 = .ok (.goto (-43), 3) := dk_167 255 213 (dk_at dksX3_wayOf_2 0 rfl rfl)
theorem dX3_wayOf_50 : decode cX3_wayOf 50 = .ok (.iload_n 2, 1) := dk_28 (dk_at dksX3_wayOf_2 3 rfl rfl)
theorem dX3_wayOf_51 : decode cX3_wayOf 51 = .ok (.ireturn, 1) := dk_172 (dk_at dksX3_wayOf_2 4 rfl rfl)
abbrev cX3_isProved : ByteArray := prog_18_method_118_code
def yX3_isProved : MethodName := ⟨RX3, "isProved", "(IZ)Z"⟩
def dkwX3_isProved_1 : List UInt8 := [167, 0, 17, 42, 180, 0, 70, 27, 46, 154, 0, 7, 4, 167, 0, 4, 3, 172]
abbrev dktX3_isProved_1 : List UInt8 := dkwX3_isProved_1 ++ []
def dkwX3_isProved_0 : List UInt8 := [28, 153, 0, 26, 42, 180, 0, 70, 27, 46, 42, 180, 0, 67, 27, 46, 160, 0, 7, 4, 167, 0, 21, 3]
abbrev dktX3_isProved_0 : List UInt8 := dkwX3_isProved_0 ++ dktX3_isProved_1
theorem dksX3_isProved_0 : cX3_isProved.data.toList.drop 0 = dktX3_isProved_0 := by decide +kernel
theorem dksX3_isProved_1 : cX3_isProved.data.toList.drop 24 = dktX3_isProved_1 := dk_seg dksX3_isProved_0 24 rfl rfl
theorem dX3_isProved_0 : decode cX3_isProved 0 = .ok (.iload_n 2, 1) := dk_28 (dk_at dksX3_isProved_0 0 rfl rfl)
theorem dX3_isProved_1 : decode cX3_isProved 1 = .ok (.ifCond .eq 26, 3) := dk_153 0 26 (dk_at dksX3_isProved_0 1 rfl rfl)
theorem dX3_isProved_4 : decode cX3_isProved 4 = .ok (.aload_n 0, 1) := dk_42 (dk_at dksX3_isProved_0 4 rfl rfl)
theorem dX3_isProved_5 : decode cX3_isProved 5 = .ok (.getfield 70, 3) := dk_180 0 70 (dk_at dksX3_isProved_0 5 rfl rfl)
theorem dX3_isProved_8 : decode cX3_isProved 8 = .ok (.iload_n 1, 1) := dk_27 (dk_at dksX3_isProved_0 8 rfl rfl)
theorem dX3_isProved_9 : decode cX3_isProved 9 = .ok (.iaload, 1) := dk_46 (dk_at dksX3_isProved_0 9 rfl rfl)
theorem dX3_isProved_10 : decode cX3_isProved 10 = .ok (.aload_n 0, 1) := dk_42 (dk_at dksX3_isProved_0 10 rfl rfl)
theorem dX3_isProved_11 : decode cX3_isProved 11 = .ok (.getfield 67, 3) := dk_180 0 67 (dk_at dksX3_isProved_0 11 rfl rfl)
theorem dX3_isProved_14 : decode cX3_isProved 14 = .ok (.iload_n 1, 1) := dk_27 (dk_at dksX3_isProved_0 14 rfl rfl)
theorem dX3_isProved_15 : decode cX3_isProved 15 = .ok (.iaload, 1) := dk_46 (dk_at dksX3_isProved_0 15 rfl rfl)
theorem dX3_isProved_16 : decode cX3_isProved 16 = .ok (.if_icmp .ne 7, 3) := dk_160 0 7 (dk_at dksX3_isProved_0 16 rfl rfl)
theorem dX3_isProved_19 : decode cX3_isProved 19 = .ok (.iconst 1, 1) := dk_4 (dk_at dksX3_isProved_0 19 rfl rfl)
theorem dX3_isProved_20 : decode cX3_isProved 20 = .ok (.goto 21, 3) := dk_167 0 21 (dk_at dksX3_isProved_0 20 rfl rfl)
theorem dX3_isProved_23 : decode cX3_isProved 23 = .ok (.iconst 0, 1) := dk_3 (dk_at dksX3_isProved_0 23 rfl rfl)
theorem dX3_isProved_24 : decode cX3_isProved 24 = .ok (.goto 17, 3) := dk_167 0 17 (dk_at dksX3_isProved_1 0 rfl rfl)
theorem dX3_isProved_27 : decode cX3_isProved 27 = .ok (.aload_n 0, 1) := dk_42 (dk_at dksX3_isProved_1 3 rfl rfl)
theorem dX3_isProved_28 : decode cX3_isProved 28 = .ok (.getfield 70, 3) := dk_180 0 70 (dk_at dksX3_isProved_1 4 rfl rfl)
theorem dX3_isProved_31 : decode cX3_isProved 31 = .ok (.iload_n 1, 1) := dk_27 (dk_at dksX3_isProved_1 7 rfl rfl)
theorem dX3_isProved_32 : decode cX3_isProved 32 = .ok (.iaload, 1) := dk_46 (dk_at dksX3_isProved_1 8 rfl rfl)
theorem dX3_isProved_33 : decode cX3_isProved 33 = .ok (.ifCond .ne 7, 3) := dk_154 0 7 (dk_at dksX3_isProved_1 9 rfl rfl)
theorem dX3_isProved_36 : decode cX3_isProved 36 = .ok (.iconst 1, 1) := dk_4 (dk_at dksX3_isProved_1 12 rfl rfl)
theorem dX3_isProved_37 : decode cX3_isProved 37 = .ok (.goto 4, 3) := dk_167 0 4 (dk_at dksX3_isProved_1 13 rfl rfl)
theorem dX3_isProved_40 : decode cX3_isProved 40 = .ok (.iconst 0, 1) := dk_3 (dk_at dksX3_isProved_1 16 rfl rfl)
theorem dX3_isProved_41 : decode cX3_isProved 41 = .ok (.ireturn, 1) := dk_172 (dk_at dksX3_isProved_1 17 rfl rfl)
abbrev cX3_proof : ByteArray := prog_18_method_122_code
def yX3_proof : MethodName := ⟨RX3, "proof", "(IZII)I"⟩
def dkwX3_proof_2 : List UInt8 := [180, 1, 166, 172]
abbrev dktX3_proof_2 : List UInt8 := dkwX3_proof_2 ++ []
def dkwX3_proof_1 : List UInt8 := [28, 29, 182, 1, 211, 29, 163, 0, 5, 2, 172, 21, 4, 154, 0, 10, 42, 180, 1, 163, 167, 0, 7, 42]
abbrev dktX3_proof_1 : List UInt8 := dkwX3_proof_1 ++ dktX3_proof_2
def dkwX3_proof_0 : List UInt8 := [42, 27, 182, 1, 124, 153, 0, 28, 29, 155, 0, 24, 21, 4, 3, 4, 184, 0, 85, 153, 0, 14, 42, 27]
abbrev dktX3_proof_0 : List UInt8 := dkwX3_proof_0 ++ dktX3_proof_1
theorem dksX3_proof_0 : cX3_proof.data.toList.drop 0 = dktX3_proof_0 := by decide +kernel
theorem dksX3_proof_1 : cX3_proof.data.toList.drop 24 = dktX3_proof_1 := dk_seg dksX3_proof_0 24 rfl rfl
theorem dksX3_proof_2 : cX3_proof.data.toList.drop 48 = dktX3_proof_2 := dk_seg dksX3_proof_1 24 rfl rfl
theorem dX3_proof_0 : decode cX3_proof 0 = .ok (.aload_n 0, 1) := dk_42 (dk_at dksX3_proof_0 0 rfl rfl)
theorem dX3_proof_1 : decode cX3_proof 1 = .ok (.iload_n 1, 1) := dk_27 (dk_at dksX3_proof_0 1 rfl rfl)
theorem dX3_proof_2 : decode cX3_proof 2 = .ok (.invokevirtual 380, 3) := dk_182 1 124 (dk_at dksX3_proof_0 2 rfl rfl)
theorem dX3_proof_5 : decode cX3_proof 5 = .ok (.ifCond .eq 28, 3) := dk_153 0 28 (dk_at dksX3_proof_0 5 rfl rfl)
theorem dX3_proof_8 : decode cX3_proof 8 = .ok (.iload_n 3, 1) := dk_29 (dk_at dksX3_proof_0 8 rfl rfl)
theorem dX3_proof_9 : decode cX3_proof 9 = .ok (.ifCond .lt 24, 3) := dk_155 0 24 (dk_at dksX3_proof_0 9 rfl rfl)
theorem dX3_proof_12 : decode cX3_proof 12 = .ok (.iload 4, 2) := dk_21 4 (dk_at dksX3_proof_0 12 rfl rfl)
theorem dX3_proof_14 : decode cX3_proof 14 = .ok (.iconst 0, 1) := dk_3 (dk_at dksX3_proof_0 14 rfl rfl)
theorem dX3_proof_15 : decode cX3_proof 15 = .ok (.iconst 1, 1) := dk_4 (dk_at dksX3_proof_0 15 rfl rfl)
theorem dX3_proof_16 : decode cX3_proof 16 = .ok (.invokestatic 85, 3) := dk_184 0 85 (dk_at dksX3_proof_0 16 rfl rfl)
theorem dX3_proof_19 : decode cX3_proof 19 = .ok (.ifCond .eq 14, 3) := dk_153 0 14 (dk_at dksX3_proof_0 19 rfl rfl)
theorem dX3_proof_22 : decode cX3_proof 22 = .ok (.aload_n 0, 1) := dk_42 (dk_at dksX3_proof_0 22 rfl rfl)
theorem dX3_proof_23 : decode cX3_proof 23 = .ok (.iload_n 1, 1) := dk_27 (dk_at dksX3_proof_0 23 rfl rfl)
theorem dX3_proof_24 : decode cX3_proof 24 = .ok (.iload_n 2, 1) := dk_28 (dk_at dksX3_proof_1 0 rfl rfl)
theorem dX3_proof_25 : decode cX3_proof 25 = .ok (.iload_n 3, 1) := dk_29 (dk_at dksX3_proof_1 1 rfl rfl)
theorem dX3_proof_26 : decode cX3_proof 26 = .ok (.invokevirtual 467, 3) := dk_182 1 211 (dk_at dksX3_proof_1 2 rfl rfl)
theorem dX3_proof_29 : decode cX3_proof 29 = .ok (.iload_n 3, 1) := dk_29 (dk_at dksX3_proof_1 5 rfl rfl)
theorem dX3_proof_30 : decode cX3_proof 30 = .ok (.if_icmp .gt 5, 3) := dk_163 0 5 (dk_at dksX3_proof_1 6 rfl rfl)
theorem dX3_proof_33 : decode cX3_proof 33 = .ok (.iconst (-1), 1) := dk_2 (dk_at dksX3_proof_1 9 rfl rfl)
theorem dX3_proof_34 : decode cX3_proof 34 = .ok (.ireturn, 1) := dk_172 (dk_at dksX3_proof_1 10 rfl rfl)
theorem dX3_proof_35 : decode cX3_proof 35 = .ok (.iload 4, 2) := dk_21 4 (dk_at dksX3_proof_1 11 rfl rfl)
theorem dX3_proof_37 : decode cX3_proof 37 = .ok (.ifCond .ne 10, 3) := dk_154 0 10 (dk_at dksX3_proof_1 13 rfl rfl)
theorem dX3_proof_40 : decode cX3_proof 40 = .ok (.aload_n 0, 1) := dk_42 (dk_at dksX3_proof_1 16 rfl rfl)
theorem dX3_proof_41 : decode cX3_proof 41 = .ok (.getfield 419, 3) := dk_180 1 163 (dk_at dksX3_proof_1 17 rfl rfl)
theorem dX3_proof_44 : decode cX3_proof 44 = .ok (.goto 7, 3) := dk_167 0 7 (dk_at dksX3_proof_1 20 rfl rfl)
theorem dX3_proof_47 : decode cX3_proof 47 = .ok (.aload_n 0, 1) := dk_42 (dk_at dksX3_proof_1 23 rfl rfl)
theorem dX3_proof_48 : decode cX3_proof 48 = .ok (.getfield 422, 3) := dk_180 1 166 (dk_at dksX3_proof_2 0 rfl rfl)
theorem dX3_proof_51 : decode cX3_proof 51 = .ok (.ireturn, 1) := dk_172 (dk_at dksX3_proof_2 3 rfl rfl)
abbrev cX3_chance : ByteArray := prog_18_method_125_code
def yX3_chance : MethodName := ⟨RX3, "chance", "(II)I"⟩
def dkwX3_chance_4 : List UInt8 := [154, 0, 10, 42, 180, 1, 215, 167, 0, 7, 42, 180, 1, 218, 136, 172]
abbrev dktX3_chance_4 : List UInt8 := dkwX3_chance_4 ++ []
def dkwX3_chance_3 : List UInt8 := [182, 1, 221, 167, 0, 4, 9, 97, 66, 132, 7, 1, 167, 255, 202, 42, 33, 22, 5, 182, 1, 225, 28]
abbrev dktX3_chance_3 : List UInt8 := dkwX3_chance_3 ++ dktX3_chance_4
def dkwX3_chance_2 : List UInt8 := [21, 7, 182, 1, 221, 97, 55, 5, 33, 42, 27, 21, 7, 182, 1, 160, 153, 0, 12, 42, 21, 7]
abbrev dktX3_chance_2 : List UInt8 := dkwX3_chance_2 ++ dktX3_chance_3
def dkwX3_chance_1 : List UInt8 := [3, 54, 7, 21, 7, 17, 1, 0, 162, 0, 52, 42, 21, 7, 182, 1, 142, 153, 0, 37, 22, 5, 42]
abbrev dktX3_chance_1 : List UInt8 := dkwX3_chance_1 ++ dktX3_chance_2
def dkwX3_chance_0 : List UInt8 := [42, 27, 182, 1, 124, 153, 0, 12, 28, 3, 4, 184, 0, 85, 154, 0, 5, 2, 172, 9, 66, 9, 55, 5]
abbrev dktX3_chance_0 : List UInt8 := dkwX3_chance_0 ++ dktX3_chance_1
theorem dksX3_chance_0 : cX3_chance.data.toList.drop 0 = dktX3_chance_0 := by decide +kernel
theorem dksX3_chance_1 : cX3_chance.data.toList.drop 24 = dktX3_chance_1 := dk_seg dksX3_chance_0 24 rfl rfl
theorem dksX3_chance_2 : cX3_chance.data.toList.drop 47 = dktX3_chance_2 := dk_seg dksX3_chance_1 23 rfl rfl
theorem dksX3_chance_3 : cX3_chance.data.toList.drop 69 = dktX3_chance_3 := dk_seg dksX3_chance_2 22 rfl rfl
theorem dksX3_chance_4 : cX3_chance.data.toList.drop 92 = dktX3_chance_4 := dk_seg dksX3_chance_3 23 rfl rfl
theorem dX3_chance_0 : decode cX3_chance 0 = .ok (.aload_n 0, 1) := dk_42 (dk_at dksX3_chance_0 0 rfl rfl)
theorem dX3_chance_1 : decode cX3_chance 1 = .ok (.iload_n 1, 1) := dk_27 (dk_at dksX3_chance_0 1 rfl rfl)
theorem dX3_chance_2 : decode cX3_chance 2 = .ok (.invokevirtual 380, 3) := dk_182 1 124 (dk_at dksX3_chance_0 2 rfl rfl)
theorem dX3_chance_5 : decode cX3_chance 5 = .ok (.ifCond .eq 12, 3) := dk_153 0 12 (dk_at dksX3_chance_0 5 rfl rfl)
theorem dX3_chance_8 : decode cX3_chance 8 = .ok (.iload_n 2, 1) := dk_28 (dk_at dksX3_chance_0 8 rfl rfl)
theorem dX3_chance_9 : decode cX3_chance 9 = .ok (.iconst 0, 1) := dk_3 (dk_at dksX3_chance_0 9 rfl rfl)
theorem dX3_chance_10 : decode cX3_chance 10 = .ok (.iconst 1, 1) := dk_4 (dk_at dksX3_chance_0 10 rfl rfl)
theorem dX3_chance_11 : decode cX3_chance 11 = .ok (.invokestatic 85, 3) := dk_184 0 85 (dk_at dksX3_chance_0 11 rfl rfl)
theorem dX3_chance_14 : decode cX3_chance 14 = .ok (.ifCond .ne 5, 3) := dk_154 0 5 (dk_at dksX3_chance_0 14 rfl rfl)
theorem dX3_chance_17 : decode cX3_chance 17 = .ok (.iconst (-1), 1) := dk_2 (dk_at dksX3_chance_0 17 rfl rfl)
theorem dX3_chance_18 : decode cX3_chance 18 = .ok (.ireturn, 1) := dk_172 (dk_at dksX3_chance_0 18 rfl rfl)
theorem dX3_chance_19 : decode cX3_chance 19 = .ok (.lconst 0, 1) := dk_9 (dk_at dksX3_chance_0 19 rfl rfl)
theorem dX3_chance_20 : decode cX3_chance 20 = .ok (.lstore_n 3, 1) := dk_66 (dk_at dksX3_chance_0 20 rfl rfl)
theorem dX3_chance_21 : decode cX3_chance 21 = .ok (.lconst 0, 1) := dk_9 (dk_at dksX3_chance_0 21 rfl rfl)
theorem dX3_chance_22 : decode cX3_chance 22 = .ok (.lstore 5, 2) := dk_55 5 (dk_at dksX3_chance_0 22 rfl rfl)
theorem dX3_chance_24 : decode cX3_chance 24 = .ok (.iconst 0, 1) := dk_3 (dk_at dksX3_chance_1 0 rfl rfl)
theorem dX3_chance_25 : decode cX3_chance 25 = .ok (.istore 7, 2) := dk_54 7 (dk_at dksX3_chance_1 1 rfl rfl)
theorem dX3_chance_27 : decode cX3_chance 27 = .ok (.iload 7, 2) := dk_21 7 (dk_at dksX3_chance_1 3 rfl rfl)
theorem dX3_chance_29 : decode cX3_chance 29 = .ok (.sipush 256, 3) := dk_17 1 0 (dk_at dksX3_chance_1 5 rfl rfl)
theorem dX3_chance_32 : decode cX3_chance 32 = .ok (.if_icmp .ge 52, 3) := dk_162 0 52 (dk_at dksX3_chance_1 8 rfl rfl)
theorem dX3_chance_35 : decode cX3_chance 35 = .ok (.aload_n 0, 1) := dk_42 (dk_at dksX3_chance_1 11 rfl rfl)
theorem dX3_chance_36 : decode cX3_chance 36 = .ok (.iload 7, 2) := dk_21 7 (dk_at dksX3_chance_1 12 rfl rfl)
theorem dX3_chance_38 : decode cX3_chance 38 = .ok (.invokevirtual 398, 3) := dk_182 1 142 (dk_at dksX3_chance_1 14 rfl rfl)
theorem dX3_chance_41 : decode cX3_chance 41 = .ok (.ifCond .eq 37, 3) := dk_153 0 37 (dk_at dksX3_chance_1 17 rfl rfl)
theorem dX3_chance_44 : decode cX3_chance 44 = .ok (.lload 5, 2) := dk_22 5 (dk_at dksX3_chance_1 20 rfl rfl)
theorem dX3_chance_46 : decode cX3_chance 46 = .ok (.aload_n 0, 1) := dk_42 (dk_at dksX3_chance_1 22 rfl rfl)
theorem dX3_chance_47 : decode cX3_chance 47 = .ok (.iload 7, 2) := dk_21 7 (dk_at dksX3_chance_2 0 rfl rfl)
theorem dX3_chance_49 : decode cX3_chance 49 = .ok (.invokevirtual 477, 3) := dk_182 1 221 (dk_at dksX3_chance_2 2 rfl rfl)
theorem dX3_chance_52 : decode cX3_chance 52 = .ok (.ladd, 1) := dk_97 (dk_at dksX3_chance_2 5 rfl rfl)
theorem dX3_chance_53 : decode cX3_chance 53 = .ok (.lstore 5, 2) := dk_55 5 (dk_at dksX3_chance_2 6 rfl rfl)
theorem dX3_chance_55 : decode cX3_chance 55 = .ok (.lload_n 3, 1) := dk_33 (dk_at dksX3_chance_2 8 rfl rfl)
theorem dX3_chance_56 : decode cX3_chance 56 = .ok (.aload_n 0, 1) := dk_42 (dk_at dksX3_chance_2 9 rfl rfl)
theorem dX3_chance_57 : decode cX3_chance 57 = .ok (.iload_n 1, 1) := dk_27 (dk_at dksX3_chance_2 10 rfl rfl)
theorem dX3_chance_58 : decode cX3_chance 58 = .ok (.iload 7, 2) := dk_21 7 (dk_at dksX3_chance_2 11 rfl rfl)
theorem dX3_chance_60 : decode cX3_chance 60 = .ok (.invokevirtual 416, 3) := dk_182 1 160 (dk_at dksX3_chance_2 13 rfl rfl)
theorem dX3_chance_63 : decode cX3_chance 63 = .ok (.ifCond .eq 12, 3) := dk_153 0 12 (dk_at dksX3_chance_2 16 rfl rfl)
theorem dX3_chance_66 : decode cX3_chance 66 = .ok (.aload_n 0, 1) := dk_42 (dk_at dksX3_chance_2 19 rfl rfl)
theorem dX3_chance_67 : decode cX3_chance 67 = .ok (.iload 7, 2) := dk_21 7 (dk_at dksX3_chance_2 20 rfl rfl)
theorem dX3_chance_69 : decode cX3_chance 69 = .ok (.invokevirtual 477, 3) := dk_182 1 221 (dk_at dksX3_chance_3 0 rfl rfl)
theorem dX3_chance_72 : decode cX3_chance 72 = .ok (.goto 4, 3) := dk_167 0 4 (dk_at dksX3_chance_3 3 rfl rfl)
theorem dX3_chance_75 : decode cX3_chance 75 = .ok (.lconst 0, 1) := dk_9 (dk_at dksX3_chance_3 6 rfl rfl)
theorem dX3_chance_76 : decode cX3_chance 76 = .ok (.ladd, 1) := dk_97 (dk_at dksX3_chance_3 7 rfl rfl)
theorem dX3_chance_77 : decode cX3_chance 77 = .ok (.lstore_n 3, 1) := dk_66 (dk_at dksX3_chance_3 8 rfl rfl)
theorem dX3_chance_78 : decode cX3_chance 78 = .ok (.iinc 7 1, 3) := dk_132 7 1 (dk_at dksX3_chance_3 9 rfl rfl)
theorem dX3_chance_81 : decode cX3_chance 81 = .ok (.goto (-54), 3) := dk_167 255 202 (dk_at dksX3_chance_3 12 rfl rfl)
theorem dX3_chance_84 : decode cX3_chance 84 = .ok (.aload_n 0, 1) := dk_42 (dk_at dksX3_chance_3 15 rfl rfl)
theorem dX3_chance_85 : decode cX3_chance 85 = .ok (.lload_n 3, 1) := dk_33 (dk_at dksX3_chance_3 16 rfl rfl)
theorem dX3_chance_86 : decode cX3_chance 86 = .ok (.lload 5, 2) := dk_22 5 (dk_at dksX3_chance_3 17 rfl rfl)
theorem dX3_chance_88 : decode cX3_chance 88 = .ok (.invokevirtual 481, 3) := dk_182 1 225 (dk_at dksX3_chance_3 19 rfl rfl)
theorem dX3_chance_91 : decode cX3_chance 91 = .ok (.iload_n 2, 1) := dk_28 (dk_at dksX3_chance_3 22 rfl rfl)
theorem dX3_chance_92 : decode cX3_chance 92 = .ok (.ifCond .ne 10, 3) := dk_154 0 10 (dk_at dksX3_chance_4 0 rfl rfl)
theorem dX3_chance_95 : decode cX3_chance 95 = .ok (.aload_n 0, 1) := dk_42 (dk_at dksX3_chance_4 3 rfl rfl)
theorem dX3_chance_96 : decode cX3_chance 96 = .ok (.getfield 471, 3) := dk_180 1 215 (dk_at dksX3_chance_4 4 rfl rfl)
theorem dX3_chance_99 : decode cX3_chance 99 = .ok (.goto 7, 3) := dk_167 0 7 (dk_at dksX3_chance_4 7 rfl rfl)
theorem dX3_chance_102 : decode cX3_chance 102 = .ok (.aload_n 0, 1) := dk_42 (dk_at dksX3_chance_4 10 rfl rfl)
theorem dX3_chance_103 : decode cX3_chance 103 = .ok (.getfield 474, 3) := dk_180 1 218 (dk_at dksX3_chance_4 11 rfl rfl)
theorem dX3_chance_106 : decode cX3_chance 106 = .ok (.l2i, 1) := dk_136 (dk_at dksX3_chance_4 14 rfl rfl)
theorem dX3_chance_107 : decode cX3_chance 107 = .ok (.ireturn, 1) := dk_172 (dk_at dksX3_chance_4 15 rfl rfl)
abbrev cX3_weight : ByteArray := prog_18_method_124_code
def yX3_weight : MethodName := ⟨RX3, "weight", "(I)J"⟩
def dkwX3_weight_2 : List UInt8 := [16, 8, 21, 4, 96, 46, 100, 133, 105, 65, 132, 4, 1, 167, 255, 202, 32, 173]
abbrev dktX3_weight_2 : List UInt8 := dkwX3_weight_2 ++ []
def dkwX3_weight_1 : List UInt8 := [153, 0, 17, 42, 180, 0, 7, 16, 8, 21, 4, 96, 46, 133, 167, 0, 17, 16, 10, 42, 180, 0, 7]
abbrev dktX3_weight_1 : List UInt8 := dkwX3_weight_1 ++ dktX3_weight_2
def dkwX3_weight_0 : List UInt8 := [10, 65, 3, 54, 4, 21, 4, 42, 180, 0, 7, 4, 46, 162, 0, 49, 32, 27, 21, 4, 184, 0, 239]
abbrev dktX3_weight_0 : List UInt8 := dkwX3_weight_0 ++ dktX3_weight_1
theorem dksX3_weight_0 : cX3_weight.data.toList.drop 0 = dktX3_weight_0 := by decide +kernel
theorem dksX3_weight_1 : cX3_weight.data.toList.drop 23 = dktX3_weight_1 := dk_seg dksX3_weight_0 23 rfl rfl
theorem dksX3_weight_2 : cX3_weight.data.toList.drop 46 = dktX3_weight_2 := dk_seg dksX3_weight_1 23 rfl rfl
theorem dX3_weight_0 : decode cX3_weight 0 = .ok (.lconst 1, 1) := dk_10 (dk_at dksX3_weight_0 0 rfl rfl)
theorem dX3_weight_1 : decode cX3_weight 1 = .ok (.lstore_n 2, 1) := dk_65 (dk_at dksX3_weight_0 1 rfl rfl)
theorem dX3_weight_2 : decode cX3_weight 2 = .ok (.iconst 0, 1) := dk_3 (dk_at dksX3_weight_0 2 rfl rfl)
theorem dX3_weight_3 : decode cX3_weight 3 = .ok (.istore 4, 2) := dk_54 4 (dk_at dksX3_weight_0 3 rfl rfl)
theorem dX3_weight_5 : decode cX3_weight 5 = .ok (.iload 4, 2) := dk_21 4 (dk_at dksX3_weight_0 5 rfl rfl)
theorem dX3_weight_7 : decode cX3_weight 7 = .ok (.aload_n 0, 1) := dk_42 (dk_at dksX3_weight_0 7 rfl rfl)
theorem dX3_weight_8 : decode cX3_weight 8 = .ok (.getfield 7, 3) := dk_180 0 7 (dk_at dksX3_weight_0 8 rfl rfl)
theorem dX3_weight_11 : decode cX3_weight 11 = .ok (.iconst 1, 1) := dk_4 (dk_at dksX3_weight_0 11 rfl rfl)
theorem dX3_weight_12 : decode cX3_weight 12 = .ok (.iaload, 1) := dk_46 (dk_at dksX3_weight_0 12 rfl rfl)
theorem dX3_weight_13 : decode cX3_weight 13 = .ok (.if_icmp .ge 49, 3) := dk_162 0 49 (dk_at dksX3_weight_0 13 rfl rfl)
theorem dX3_weight_16 : decode cX3_weight 16 = .ok (.lload_n 2, 1) := dk_32 (dk_at dksX3_weight_0 16 rfl rfl)
theorem dX3_weight_17 : decode cX3_weight 17 = .ok (.iload_n 1, 1) := dk_27 (dk_at dksX3_weight_0 17 rfl rfl)
theorem dX3_weight_18 : decode cX3_weight 18 = .ok (.iload 4, 2) := dk_21 4 (dk_at dksX3_weight_0 18 rfl rfl)
theorem dX3_weight_20 : decode cX3_weight 20 = .ok (.invokestatic 239, 3) := dk_184 0 239 (dk_at dksX3_weight_0 20 rfl rfl)
theorem dX3_weight_23 : decode cX3_weight 23 = .ok (.ifCond .eq 17, 3) := dk_153 0 17 (dk_at dksX3_weight_1 0 rfl rfl)
theorem dX3_weight_26 : decode cX3_weight 26 = .ok (.aload_n 0, 1) := dk_42 (dk_at dksX3_weight_1 3 rfl rfl)
theorem dX3_weight_27 : decode cX3_weight 27 = .ok (.getfield 7, 3) := dk_180 0 7 (dk_at dksX3_weight_1 4 rfl rfl)
theorem dX3_weight_30 : decode cX3_weight 30 = .ok (.bipush 8, 2) := dk_16 8 (dk_at dksX3_weight_1 7 rfl rfl)
theorem dX3_weight_32 : decode cX3_weight 32 = .ok (.iload 4, 2) := dk_21 4 (dk_at dksX3_weight_1 9 rfl rfl)
theorem dX3_weight_34 : decode cX3_weight 34 = .ok (.iadd, 1) := dk_96 (dk_at dksX3_weight_1 11 rfl rfl)
theorem dX3_weight_35 : decode cX3_weight 35 = .ok (.iaload, 1) := dk_46 (dk_at dksX3_weight_1 12 rfl rfl)
theorem dX3_weight_36 : decode cX3_weight 36 = .ok (.i2l, 1) := dk_133 (dk_at dksX3_weight_1 13 rfl rfl)
theorem dX3_weight_37 : decode cX3_weight 37 = .ok (.goto 17, 3) := dk_167 0 17 (dk_at dksX3_weight_1 14 rfl rfl)
theorem dX3_weight_40 : decode cX3_weight 40 = .ok (.bipush 10, 2) := dk_16 10 (dk_at dksX3_weight_1 17 rfl rfl)
theorem dX3_weight_42 : decode cX3_weight 42 = .ok (.aload_n 0, 1) := dk_42 (dk_at dksX3_weight_1 19 rfl rfl)
theorem dX3_weight_43 : decode cX3_weight 43 = .ok (.getfield 7, 3) := dk_180 0 7 (dk_at dksX3_weight_1 20 rfl rfl)
theorem dX3_weight_46 : decode cX3_weight 46 = .ok (.bipush 8, 2) := dk_16 8 (dk_at dksX3_weight_2 0 rfl rfl)
theorem dX3_weight_48 : decode cX3_weight 48 = .ok (.iload 4, 2) := dk_21 4 (dk_at dksX3_weight_2 2 rfl rfl)
theorem dX3_weight_50 : decode cX3_weight 50 = .ok (.iadd, 1) := dk_96 (dk_at dksX3_weight_2 4 rfl rfl)
theorem dX3_weight_51 : decode cX3_weight 51 = .ok (.iaload, 1) := dk_46 (dk_at dksX3_weight_2 5 rfl rfl)
theorem dX3_weight_52 : decode cX3_weight 52 = .ok (.isub, 1) := dk_100 (dk_at dksX3_weight_2 6 rfl rfl)
theorem dX3_weight_53 : decode cX3_weight 53 = .ok (.i2l, 1) := dk_133 (dk_at dksX3_weight_2 7 rfl rfl)
theorem dX3_weight_54 : decode cX3_weight 54 = .ok (.lmul, 1) := dk_105 (dk_at dksX3_weight_2 8 rfl rfl)
theorem dX3_weight_55 : decode cX3_weight 55 = .ok (.lstore_n 2, 1) := dk_65 (dk_at dksX3_weight_2 9 rfl rfl)
theorem dX3_weight_56 : decode cX3_weight 56 = .ok (.iinc 4 1, 3) := dk_132 4 1 (dk_at dksX3_weight_2 10 rfl rfl)
theorem dX3_weight_59 : decode cX3_weight 59 = .ok (.goto (-54), 3) := dk_167 255 202 (dk_at dksX3_weight_2 13 rfl rfl)
theorem dX3_weight_62 : decode cX3_weight 62 = .ok (.lload_n 2, 1) := dk_32 (dk_at dksX3_weight_2 16 rfl rfl)
theorem dX3_weight_63 : decode cX3_weight 63 = .ok (.lreturn, 1) := dk_173 (dk_at dksX3_weight_2 17 rfl rfl)
abbrev cX3_tellsBy : ByteArray := prog_18_method_123_code
def yX3_tellsBy : MethodName := ⟨RX3, "tellsBy", "(JJ)V"⟩
def dkwX3_tellsBy_1 : List UInt8 := [22, 9, 55, 7, 167, 255, 234, 42, 31, 22, 5, 109, 181, 1, 215, 42, 33, 22, 5, 109, 181, 1, 218, 177]
abbrev dktX3_tellsBy_1 : List UInt8 := dkwX3_tellsBy_1 ++ []
def dkwX3_tellsBy_0 : List UInt8 := [33, 55, 5, 31, 55, 7, 22, 7, 9, 148, 153, 0, 21, 22, 5, 22, 7, 113, 55, 9, 22, 7, 55, 5]
abbrev dktX3_tellsBy_0 : List UInt8 := dkwX3_tellsBy_0 ++ dktX3_tellsBy_1
theorem dksX3_tellsBy_0 : cX3_tellsBy.data.toList.drop 0 = dktX3_tellsBy_0 := by decide +kernel
theorem dksX3_tellsBy_1 : cX3_tellsBy.data.toList.drop 24 = dktX3_tellsBy_1 := dk_seg dksX3_tellsBy_0 24 rfl rfl
theorem dX3_tellsBy_0 : decode cX3_tellsBy 0 = .ok (.lload_n 3, 1) := dk_33 (dk_at dksX3_tellsBy_0 0 rfl rfl)
theorem dX3_tellsBy_1 : decode cX3_tellsBy 1 = .ok (.lstore 5, 2) := dk_55 5 (dk_at dksX3_tellsBy_0 1 rfl rfl)
theorem dX3_tellsBy_3 : decode cX3_tellsBy 3 = .ok (.lload_n 1, 1) := dk_31 (dk_at dksX3_tellsBy_0 3 rfl rfl)
theorem dX3_tellsBy_4 : decode cX3_tellsBy 4 = .ok (.lstore 7, 2) := dk_55 7 (dk_at dksX3_tellsBy_0 4 rfl rfl)
theorem dX3_tellsBy_6 : decode cX3_tellsBy 6 = .ok (.lload 7, 2) := dk_22 7 (dk_at dksX3_tellsBy_0 6 rfl rfl)
theorem dX3_tellsBy_8 : decode cX3_tellsBy 8 = .ok (.lconst 0, 1) := dk_9 (dk_at dksX3_tellsBy_0 8 rfl rfl)
theorem dX3_tellsBy_9 : decode cX3_tellsBy 9 = .ok (.lcmp, 1) := dk_148 (dk_at dksX3_tellsBy_0 9 rfl rfl)
theorem dX3_tellsBy_10 : decode cX3_tellsBy 10 = .ok (.ifCond .eq 21, 3) := dk_153 0 21 (dk_at dksX3_tellsBy_0 10 rfl rfl)
theorem dX3_tellsBy_13 : decode cX3_tellsBy 13 = .ok (.lload 5, 2) := dk_22 5 (dk_at dksX3_tellsBy_0 13 rfl rfl)
theorem dX3_tellsBy_15 : decode cX3_tellsBy 15 = .ok (.lload 7, 2) := dk_22 7 (dk_at dksX3_tellsBy_0 15 rfl rfl)
theorem dX3_tellsBy_17 : decode cX3_tellsBy 17 = .ok (.lrem, 1) := dk_113 (dk_at dksX3_tellsBy_0 17 rfl rfl)
theorem dX3_tellsBy_18 : decode cX3_tellsBy 18 = .ok (.lstore 9, 2) := dk_55 9 (dk_at dksX3_tellsBy_0 18 rfl rfl)
theorem dX3_tellsBy_20 : decode cX3_tellsBy 20 = .ok (.lload 7, 2) := dk_22 7 (dk_at dksX3_tellsBy_0 20 rfl rfl)
theorem dX3_tellsBy_22 : decode cX3_tellsBy 22 = .ok (.lstore 5, 2) := dk_55 5 (dk_at dksX3_tellsBy_0 22 rfl rfl)
theorem dX3_tellsBy_24 : decode cX3_tellsBy 24 = .ok (.lload 9, 2) := dk_22 9 (dk_at dksX3_tellsBy_1 0 rfl rfl)
theorem dX3_tellsBy_26 : decode cX3_tellsBy 26 = .ok (.lstore 7, 2) := dk_55 7 (dk_at dksX3_tellsBy_1 2 rfl rfl)
theorem dX3_tellsBy_28 : decode cX3_tellsBy 28 = .ok (.goto (-22), 3) := dk_167 255 234 (dk_at dksX3_tellsBy_1 4 rfl rfl)
theorem dX3_tellsBy_31 : decode cX3_tellsBy 31 = .ok (.aload_n 0, 1) := dk_42 (dk_at dksX3_tellsBy_1 7 rfl rfl)
theorem dX3_tellsBy_32 : decode cX3_tellsBy 32 = .ok (.lload_n 1, 1) := dk_31 (dk_at dksX3_tellsBy_1 8 rfl rfl)
theorem dX3_tellsBy_33 : decode cX3_tellsBy 33 = .ok (.lload 5, 2) := dk_22 5 (dk_at dksX3_tellsBy_1 9 rfl rfl)
theorem dX3_tellsBy_35 : decode cX3_tellsBy 35 = .ok (.ldiv, 1) := dk_109 (dk_at dksX3_tellsBy_1 11 rfl rfl)
theorem dX3_tellsBy_36 : decode cX3_tellsBy 36 = .ok (.putfield 471, 3) := dk_181 1 215 (dk_at dksX3_tellsBy_1 12 rfl rfl)
theorem dX3_tellsBy_39 : decode cX3_tellsBy 39 = .ok (.aload_n 0, 1) := dk_42 (dk_at dksX3_tellsBy_1 15 rfl rfl)
theorem dX3_tellsBy_40 : decode cX3_tellsBy 40 = .ok (.lload_n 3, 1) := dk_33 (dk_at dksX3_tellsBy_1 16 rfl rfl)
theorem dX3_tellsBy_41 : decode cX3_tellsBy 41 = .ok (.lload 5, 2) := dk_22 5 (dk_at dksX3_tellsBy_1 17 rfl rfl)
theorem dX3_tellsBy_43 : decode cX3_tellsBy 43 = .ok (.ldiv, 1) := dk_109 (dk_at dksX3_tellsBy_1 19 rfl rfl)
theorem dX3_tellsBy_44 : decode cX3_tellsBy 44 = .ok (.putfield 474, 3) := dk_181 1 218 (dk_at dksX3_tellsBy_1 20 rfl rfl)
theorem dX3_tellsBy_47 : decode cX3_tellsBy 47 = .ok (.return_, 1) := dk_177 (dk_at dksX3_tellsBy_1 23 rfl rfl)
abbrev cX3_award : ByteArray := prog_18_method_128_code
def yX3_award : MethodName := ⟨RX3, "award", "(I)I"⟩
def dkwX3_award_5 : List UInt8 := [4, 160, 0, 7, 29, 167, 0, 5, 21, 4, 172]
abbrev dktX3_award_5 : List UInt8 := dkwX3_award_5 ++ []
def dkwX3_award_4 : List UInt8 := [54, 4, 29, 21, 6, 184, 1, 188, 62, 132, 5, 1, 167, 255, 178, 27, 154, 0, 7, 28, 167, 0, 14, 27]
abbrev dktX3_award_4 : List UInt8 := dkwX3_award_4 ++ dktX3_award_5
def dkwX3_award_3 : List UInt8 := [162, 0, 8, 21, 6, 167, 0, 4, 28, 61, 21, 6, 29, 164, 0, 8, 21, 5, 167, 0, 5, 21, 4]
abbrev dktX3_award_3 : List UInt8 := dkwX3_award_3 ++ dktX3_award_4
def dkwX3_award_2 : List UInt8 := [182, 1, 235, 167, 0, 4, 2, 54, 6, 21, 6, 2, 159, 0, 19, 28, 2, 159, 0, 9, 21, 6, 28]
abbrev dktX3_award_2 : List UInt8 := dkwX3_award_2 ++ dktX3_award_3
def dkwX3_award_1 : List UInt8 := [54, 5, 21, 5, 17, 1, 0, 162, 0, 76, 42, 21, 5, 182, 1, 142, 153, 0, 12, 42, 21, 5]
abbrev dktX3_award_1 : List UInt8 := dkwX3_award_1 ++ dktX3_award_2
def dkwX3_award_0 : List UInt8 := [27, 3, 5, 184, 0, 85, 154, 0, 5, 2, 172, 42, 182, 1, 232, 2, 61, 2, 62, 3, 54, 4, 3]
abbrev dktX3_award_0 : List UInt8 := dkwX3_award_0 ++ dktX3_award_1
theorem dksX3_award_0 : cX3_award.data.toList.drop 0 = dktX3_award_0 := by decide +kernel
theorem dksX3_award_1 : cX3_award.data.toList.drop 23 = dktX3_award_1 := dk_seg dksX3_award_0 23 rfl rfl
theorem dksX3_award_2 : cX3_award.data.toList.drop 45 = dktX3_award_2 := dk_seg dksX3_award_1 22 rfl rfl
theorem dksX3_award_3 : cX3_award.data.toList.drop 68 = dktX3_award_3 := dk_seg dksX3_award_2 23 rfl rfl
theorem dksX3_award_4 : cX3_award.data.toList.drop 91 = dktX3_award_4 := dk_seg dksX3_award_3 23 rfl rfl
theorem dksX3_award_5 : cX3_award.data.toList.drop 115 = dktX3_award_5 := dk_seg dksX3_award_4 24 rfl rfl
theorem dX3_award_0 : decode cX3_award 0 = .ok (.iload_n 1, 1) := dk_27 (dk_at dksX3_award_0 0 rfl rfl)
theorem dX3_award_1 : decode cX3_award 1 = .ok (.iconst 0, 1) := dk_3 (dk_at dksX3_award_0 1 rfl rfl)
theorem dX3_award_2 : decode cX3_award 2 = .ok (.iconst 2, 1) := dk_5 (dk_at dksX3_award_0 2 rfl rfl)
theorem dX3_award_3 : decode cX3_award 3 = .ok (.invokestatic 85, 3) := dk_184 0 85 (dk_at dksX3_award_0 3 rfl rfl)
theorem dX3_award_6 : decode cX3_award 6 = .ok (.ifCond .ne 5, 3) := dk_154 0 5 (dk_at dksX3_award_0 6 rfl rfl)
theorem dX3_award_9 : decode cX3_award 9 = .ok (.iconst (-1), 1) := dk_2 (dk_at dksX3_award_0 9 rfl rfl)
theorem dX3_award_10 : decode cX3_award 10 = .ok (.ireturn, 1) := dk_172 (dk_at dksX3_award_0 10 rfl rfl)
theorem dX3_award_11 : decode cX3_award 11 = .ok (.aload_n 0, 1) := dk_42 (dk_at dksX3_award_0 11 rfl rfl)
theorem dX3_award_12 : decode cX3_award 12 = .ok (.invokevirtual 488, 3) := dk_182 1 232 (dk_at dksX3_award_0 12 rfl rfl)
theorem dX3_award_15 : decode cX3_award 15 = .ok (.iconst (-1), 1) := dk_2 (dk_at dksX3_award_0 15 rfl rfl)
theorem dX3_award_16 : decode cX3_award 16 = .ok (.istore_n 2, 1) := dk_61 (dk_at dksX3_award_0 16 rfl rfl)
theorem dX3_award_17 : decode cX3_award 17 = .ok (.iconst (-1), 1) := dk_2 (dk_at dksX3_award_0 17 rfl rfl)
theorem dX3_award_18 : decode cX3_award 18 = .ok (.istore_n 3, 1) := dk_62 (dk_at dksX3_award_0 18 rfl rfl)
theorem dX3_award_19 : decode cX3_award 19 = .ok (.iconst 0, 1) := dk_3 (dk_at dksX3_award_0 19 rfl rfl)
theorem dX3_award_20 : decode cX3_award 20 = .ok (.istore 4, 2) := dk_54 4 (dk_at dksX3_award_0 20 rfl rfl)
theorem dX3_award_22 : decode cX3_award 22 = .ok (.iconst 0, 1) := dk_3 (dk_at dksX3_award_0 22 rfl rfl)
theorem dX3_award_23 : decode cX3_award 23 = .ok (.istore 5, 2) := dk_54 5 (dk_at dksX3_award_1 0 rfl rfl)
theorem dX3_award_25 : decode cX3_award 25 = .ok (.iload 5, 2) := dk_21 5 (dk_at dksX3_award_1 2 rfl rfl)
theorem dX3_award_27 : decode cX3_award 27 = .ok (.sipush 256, 3) := dk_17 1 0 (dk_at dksX3_award_1 4 rfl rfl)
theorem dX3_award_30 : decode cX3_award 30 = .ok (.if_icmp .ge 76, 3) := dk_162 0 76 (dk_at dksX3_award_1 7 rfl rfl)
theorem dX3_award_33 : decode cX3_award 33 = .ok (.aload_n 0, 1) := dk_42 (dk_at dksX3_award_1 10 rfl rfl)
theorem dX3_award_34 : decode cX3_award 34 = .ok (.iload 5, 2) := dk_21 5 (dk_at dksX3_award_1 11 rfl rfl)
theorem dX3_award_36 : decode cX3_award 36 = .ok (.invokevirtual 398, 3) := dk_182 1 142 (dk_at dksX3_award_1 13 rfl rfl)
theorem dX3_award_39 : decode cX3_award 39 = .ok (.ifCond .eq 12, 3) := dk_153 0 12 (dk_at dksX3_award_1 16 rfl rfl)
theorem dX3_award_42 : decode cX3_award 42 = .ok (.aload_n 0, 1) := dk_42 (dk_at dksX3_award_1 19 rfl rfl)
theorem dX3_award_43 : decode cX3_award 43 = .ok (.iload 5, 2) := dk_21 5 (dk_at dksX3_award_1 20 rfl rfl)
theorem dX3_award_45 : decode cX3_award 45 = .ok (.invokevirtual 491, 3) := dk_182 1 235 (dk_at dksX3_award_2 0 rfl rfl)
theorem dX3_award_48 : decode cX3_award 48 = .ok (.goto 4, 3) := dk_167 0 4 (dk_at dksX3_award_2 3 rfl rfl)
theorem dX3_award_51 : decode cX3_award 51 = .ok (.iconst (-1), 1) := dk_2 (dk_at dksX3_award_2 6 rfl rfl)
theorem dX3_award_52 : decode cX3_award 52 = .ok (.istore 6, 2) := dk_54 6 (dk_at dksX3_award_2 7 rfl rfl)
theorem dX3_award_54 : decode cX3_award 54 = .ok (.iload 6, 2) := dk_21 6 (dk_at dksX3_award_2 9 rfl rfl)
theorem dX3_award_56 : decode cX3_award 56 = .ok (.iconst (-1), 1) := dk_2 (dk_at dksX3_award_2 11 rfl rfl)
theorem dX3_award_57 : decode cX3_award 57 = .ok (.if_icmp .eq 19, 3) := dk_159 0 19 (dk_at dksX3_award_2 12 rfl rfl)
theorem dX3_award_60 : decode cX3_award 60 = .ok (.iload_n 2, 1) := dk_28 (dk_at dksX3_award_2 15 rfl rfl)
theorem dX3_award_61 : decode cX3_award 61 = .ok (.iconst (-1), 1) := dk_2 (dk_at dksX3_award_2 16 rfl rfl)
theorem dX3_award_62 : decode cX3_award 62 = .ok (.if_icmp .eq 9, 3) := dk_159 0 9 (dk_at dksX3_award_2 17 rfl rfl)
theorem dX3_award_65 : decode cX3_award 65 = .ok (.iload 6, 2) := dk_21 6 (dk_at dksX3_award_2 20 rfl rfl)
theorem dX3_award_67 : decode cX3_award 67 = .ok (.iload_n 2, 1) := dk_28 (dk_at dksX3_award_2 22 rfl rfl)
theorem dX3_award_68 : decode cX3_award 68 = .ok (.if_icmp .ge 8, 3) := dk_162 0 8 (dk_at dksX3_award_3 0 rfl rfl)
theorem dX3_award_71 : decode cX3_award 71 = .ok (.iload 6, 2) := dk_21 6 (dk_at dksX3_award_3 3 rfl rfl)
theorem dX3_award_73 : decode cX3_award 73 = .ok (.goto 4, 3) := dk_167 0 4 (dk_at dksX3_award_3 5 rfl rfl)
theorem dX3_award_76 : decode cX3_award 76 = .ok (.iload_n 2, 1) := dk_28 (dk_at dksX3_award_3 8 rfl rfl)
theorem dX3_award_77 : decode cX3_award 77 = .ok (.istore_n 2, 1) := dk_61 (dk_at dksX3_award_3 9 rfl rfl)
theorem dX3_award_78 : decode cX3_award 78 = .ok (.iload 6, 2) := dk_21 6 (dk_at dksX3_award_3 10 rfl rfl)
theorem dX3_award_80 : decode cX3_award 80 = .ok (.iload_n 3, 1) := dk_29 (dk_at dksX3_award_3 12 rfl rfl)
theorem dX3_award_81 : decode cX3_award 81 = .ok (.if_icmp .le 8, 3) := dk_164 0 8 (dk_at dksX3_award_3 13 rfl rfl)
theorem dX3_award_84 : decode cX3_award 84 = .ok (.iload 5, 2) := dk_21 5 (dk_at dksX3_award_3 16 rfl rfl)
theorem dX3_award_86 : decode cX3_award 86 = .ok (.goto 5, 3) := dk_167 0 5 (dk_at dksX3_award_3 18 rfl rfl)
theorem dX3_award_89 : decode cX3_award 89 = .ok (.iload 4, 2) := dk_21 4 (dk_at dksX3_award_3 21 rfl rfl)
theorem dX3_award_91 : decode cX3_award 91 = .ok (.istore 4, 2) := dk_54 4 (dk_at dksX3_award_4 0 rfl rfl)
theorem dX3_award_93 : decode cX3_award 93 = .ok (.iload_n 3, 1) := dk_29 (dk_at dksX3_award_4 2 rfl rfl)
theorem dX3_award_94 : decode cX3_award 94 = .ok (.iload 6, 2) := dk_21 6 (dk_at dksX3_award_4 3 rfl rfl)
theorem dX3_award_96 : decode cX3_award 96 = .ok (.invokestatic 444, 3) := dk_184 1 188 (dk_at dksX3_award_4 5 rfl rfl)
theorem dX3_award_99 : decode cX3_award 99 = .ok (.istore_n 3, 1) := dk_62 (dk_at dksX3_award_4 8 rfl rfl)
theorem dX3_award_100 : decode cX3_award 100 = .ok (.iinc 5 1, 3) := dk_132 5 1 (dk_at dksX3_award_4 9 rfl rfl)
theorem dX3_award_103 : decode cX3_award 103 = .ok (.goto (-78), 3) := dk_167 255 178 (dk_at dksX3_award_4 12 rfl rfl)
theorem dX3_award_106 : decode cX3_award 106 = .ok (.iload_n 1, 1) := dk_27 (dk_at dksX3_award_4 15 rfl rfl)
theorem dX3_award_107 : decode cX3_award 107 = .ok (.ifCond .ne 7, 3) := dk_154 0 7 (dk_at dksX3_award_4 16 rfl rfl)
theorem dX3_award_110 : decode cX3_award 110 = .ok (.iload_n 2, 1) := dk_28 (dk_at dksX3_award_4 19 rfl rfl)
theorem dX3_award_111 : decode cX3_award 111 = .ok (.goto 14, 3) := dk_167 0 14 (dk_at dksX3_award_4 20 rfl rfl)
theorem dX3_award_114 : decode cX3_award 114 = .ok (.iload_n 1, 1) := dk_27 (dk_at dksX3_award_4 23 rfl rfl)
theorem dX3_award_115 : decode cX3_award 115 = .ok (.iconst 1, 1) := dk_4 (dk_at dksX3_award_5 0 rfl rfl)
theorem dX3_award_116 : decode cX3_award 116 = .ok (.if_icmp .ne 7, 3) := dk_160 0 7 (dk_at dksX3_award_5 1 rfl rfl)
theorem dX3_award_119 : decode cX3_award 119 = .ok (.iload_n 3, 1) := dk_29 (dk_at dksX3_award_5 4 rfl rfl)
theorem dX3_award_120 : decode cX3_award 120 = .ok (.goto 5, 3) := dk_167 0 5 (dk_at dksX3_award_5 5 rfl rfl)
theorem dX3_award_123 : decode cX3_award 123 = .ok (.iload 4, 2) := dk_21 4 (dk_at dksX3_award_5 8 rfl rfl)
theorem dX3_award_125 : decode cX3_award 125 = .ok (.ireturn, 1) := dk_172 (dk_at dksX3_award_5 10 rfl rfl)
abbrev cX3_laysWins : ByteArray := prog_18_method_126_code
def yX3_laysWins : MethodName := ⟨RX3, "laysWins", "()V"⟩
def dkwX3_laysWins_3 : List UInt8 := [132, 3, 1, 167, 255, 209, 132, 2, 1, 167, 255, 187, 177]
abbrev dktX3_laysWins_3 : List UInt8 := dkwX3_laysWins_3 ++ []
def dkwX3_laysWins_2 : List UInt8 := [184, 0, 239, 153, 0, 18, 42, 29, 28, 182, 1, 160, 153, 0, 9, 4, 29, 120, 167, 0, 4, 3, 128, 79]
abbrev dktX3_laysWins_2 : List UInt8 := dkwX3_laysWins_2 ++ dktX3_laysWins_3
def dkwX3_laysWins_1 : List UInt8 := [79, 3, 62, 29, 42, 180, 0, 23, 16, 18, 46, 162, 0, 42, 42, 180, 0, 76, 28, 92, 46, 27, 29]
abbrev dktX3_laysWins_1 : List UInt8 := dkwX3_laysWins_1 ++ dktX3_laysWins_2
def dkwX3_laysWins_0 : List UInt8 := [42, 182, 1, 229, 60, 42, 182, 1, 127, 3, 61, 28, 17, 1, 0, 162, 0, 68, 42, 180, 0, 76, 28, 3]
abbrev dktX3_laysWins_0 : List UInt8 := dkwX3_laysWins_0 ++ dktX3_laysWins_1
theorem dksX3_laysWins_0 : cX3_laysWins.data.toList.drop 0 = dktX3_laysWins_0 := by decide +kernel
theorem dksX3_laysWins_1 : cX3_laysWins.data.toList.drop 24 = dktX3_laysWins_1 := dk_seg dksX3_laysWins_0 24 rfl rfl
theorem dksX3_laysWins_2 : cX3_laysWins.data.toList.drop 47 = dktX3_laysWins_2 := dk_seg dksX3_laysWins_1 23 rfl rfl
theorem dksX3_laysWins_3 : cX3_laysWins.data.toList.drop 71 = dktX3_laysWins_3 := dk_seg dksX3_laysWins_2 24 rfl rfl
theorem dX3_laysWins_0 : decode cX3_laysWins 0 = .ok (.aload_n 0, 1) := dk_42 (dk_at dksX3_laysWins_0 0 rfl rfl)
theorem dX3_laysWins_1 : decode cX3_laysWins 1 = .ok (.invokevirtual 485, 3) := dk_182 1 229 (dk_at dksX3_laysWins_0 1 rfl rfl)
theorem dX3_laysWins_4 : decode cX3_laysWins 4 = .ok (.istore_n 1, 1) := dk_60 (dk_at dksX3_laysWins_0 4 rfl rfl)
theorem dX3_laysWins_5 : decode cX3_laysWins 5 = .ok (.aload_n 0, 1) := dk_42 (dk_at dksX3_laysWins_0 5 rfl rfl)
theorem dX3_laysWins_6 : decode cX3_laysWins 6 = .ok (.invokevirtual 383, 3) := dk_182 1 127 (dk_at dksX3_laysWins_0 6 rfl rfl)
theorem dX3_laysWins_9 : decode cX3_laysWins 9 = .ok (.iconst 0, 1) := dk_3 (dk_at dksX3_laysWins_0 9 rfl rfl)
theorem dX3_laysWins_10 : decode cX3_laysWins 10 = .ok (.istore_n 2, 1) := dk_61 (dk_at dksX3_laysWins_0 10 rfl rfl)
theorem dX3_laysWins_11 : decode cX3_laysWins 11 = .ok (.iload_n 2, 1) := dk_28 (dk_at dksX3_laysWins_0 11 rfl rfl)
theorem dX3_laysWins_12 : decode cX3_laysWins 12 = .ok (.sipush 256, 3) := dk_17 1 0 (dk_at dksX3_laysWins_0 12 rfl rfl)
theorem dX3_laysWins_15 : decode cX3_laysWins 15 = .ok (.if_icmp .ge 68, 3) := dk_162 0 68 (dk_at dksX3_laysWins_0 15 rfl rfl)
theorem dX3_laysWins_18 : decode cX3_laysWins 18 = .ok (.aload_n 0, 1) := dk_42 (dk_at dksX3_laysWins_0 18 rfl rfl)
theorem dX3_laysWins_19 : decode cX3_laysWins 19 = .ok (.getfield 76, 3) := dk_180 0 76 (dk_at dksX3_laysWins_0 19 rfl rfl)
theorem dX3_laysWins_22 : decode cX3_laysWins 22 = .ok (.iload_n 2, 1) := dk_28 (dk_at dksX3_laysWins_0 22 rfl rfl)
theorem dX3_laysWins_23 : decode cX3_laysWins 23 = .ok (.iconst 0, 1) := dk_3 (dk_at dksX3_laysWins_0 23 rfl rfl)
theorem dX3_laysWins_24 : decode cX3_laysWins 24 = .ok (.iastore, 1) := dk_79 (dk_at dksX3_laysWins_1 0 rfl rfl)
theorem dX3_laysWins_25 : decode cX3_laysWins 25 = .ok (.iconst 0, 1) := dk_3 (dk_at dksX3_laysWins_1 1 rfl rfl)
theorem dX3_laysWins_26 : decode cX3_laysWins 26 = .ok (.istore_n 3, 1) := dk_62 (dk_at dksX3_laysWins_1 2 rfl rfl)
theorem dX3_laysWins_27 : decode cX3_laysWins 27 = .ok (.iload_n 3, 1) := dk_29 (dk_at dksX3_laysWins_1 3 rfl rfl)
theorem dX3_laysWins_28 : decode cX3_laysWins 28 = .ok (.aload_n 0, 1) := dk_42 (dk_at dksX3_laysWins_1 4 rfl rfl)
theorem dX3_laysWins_29 : decode cX3_laysWins 29 = .ok (.getfield 23, 3) := dk_180 0 23 (dk_at dksX3_laysWins_1 5 rfl rfl)
theorem dX3_laysWins_32 : decode cX3_laysWins 32 = .ok (.bipush 18, 2) := dk_16 18 (dk_at dksX3_laysWins_1 8 rfl rfl)
theorem dX3_laysWins_34 : decode cX3_laysWins 34 = .ok (.iaload, 1) := dk_46 (dk_at dksX3_laysWins_1 10 rfl rfl)
theorem dX3_laysWins_35 : decode cX3_laysWins 35 = .ok (.if_icmp .ge 42, 3) := dk_162 0 42 (dk_at dksX3_laysWins_1 11 rfl rfl)
theorem dX3_laysWins_38 : decode cX3_laysWins 38 = .ok (.aload_n 0, 1) := dk_42 (dk_at dksX3_laysWins_1 14 rfl rfl)
theorem dX3_laysWins_39 : decode cX3_laysWins 39 = .ok (.getfield 76, 3) := dk_180 0 76 (dk_at dksX3_laysWins_1 15 rfl rfl)
theorem dX3_laysWins_42 : decode cX3_laysWins 42 = .ok (.iload_n 2, 1) := dk_28 (dk_at dksX3_laysWins_1 18 rfl rfl)
theorem dX3_laysWins_43 : decode cX3_laysWins 43 = .ok (.dup2, 1) := dk_92 (dk_at dksX3_laysWins_1 19 rfl rfl)
theorem dX3_laysWins_44 : decode cX3_laysWins 44 = .ok (.iaload, 1) := dk_46 (dk_at dksX3_laysWins_1 20 rfl rfl)
theorem dX3_laysWins_45 : decode cX3_laysWins 45 = .ok (.iload_n 1, 1) := dk_27 (dk_at dksX3_laysWins_1 21 rfl rfl)
theorem dX3_laysWins_46 : decode cX3_laysWins 46 = .ok (.iload_n 3, 1) := dk_29 (dk_at dksX3_laysWins_1 22 rfl rfl)
theorem dX3_laysWins_47 : decode cX3_laysWins 47 = .ok (.invokestatic 239, 3) := dk_184 0 239 (dk_at dksX3_laysWins_2 0 rfl rfl)
theorem dX3_laysWins_50 : decode cX3_laysWins 50 = .ok (.ifCond .eq 18, 3) := dk_153 0 18 (dk_at dksX3_laysWins_2 3 rfl rfl)
theorem dX3_laysWins_53 : decode cX3_laysWins 53 = .ok (.aload_n 0, 1) := dk_42 (dk_at dksX3_laysWins_2 6 rfl rfl)
theorem dX3_laysWins_54 : decode cX3_laysWins 54 = .ok (.iload_n 3, 1) := dk_29 (dk_at dksX3_laysWins_2 7 rfl rfl)
theorem dX3_laysWins_55 : decode cX3_laysWins 55 = .ok (.iload_n 2, 1) := dk_28 (dk_at dksX3_laysWins_2 8 rfl rfl)
theorem dX3_laysWins_56 : decode cX3_laysWins 56 = .ok (.invokevirtual 416, 3) := dk_182 1 160 (dk_at dksX3_laysWins_2 9 rfl rfl)
theorem dX3_laysWins_59 : decode cX3_laysWins 59 = .ok (.ifCond .eq 9, 3) := dk_153 0 9 (dk_at dksX3_laysWins_2 12 rfl rfl)
theorem dX3_laysWins_62 : decode cX3_laysWins 62 = .ok (.iconst 1, 1) := dk_4 (dk_at dksX3_laysWins_2 15 rfl rfl)
theorem dX3_laysWins_63 : decode cX3_laysWins 63 = .ok (.iload_n 3, 1) := dk_29 (dk_at dksX3_laysWins_2 16 rfl rfl)
theorem dX3_laysWins_64 : decode cX3_laysWins 64 = .ok (.ishl, 1) := dk_120 (dk_at dksX3_laysWins_2 17 rfl rfl)
theorem dX3_laysWins_65 : decode cX3_laysWins 65 = .ok (.goto 4, 3) := dk_167 0 4 (dk_at dksX3_laysWins_2 18 rfl rfl)
theorem dX3_laysWins_68 : decode cX3_laysWins 68 = .ok (.iconst 0, 1) := dk_3 (dk_at dksX3_laysWins_2 21 rfl rfl)
theorem dX3_laysWins_69 : decode cX3_laysWins 69 = .ok (.ior, 1) := dk_128 (dk_at dksX3_laysWins_2 22 rfl rfl)
theorem dX3_laysWins_70 : decode cX3_laysWins 70 = .ok (.iastore, 1) := dk_79 (dk_at dksX3_laysWins_2 23 rfl rfl)
theorem dX3_laysWins_71 : decode cX3_laysWins 71 = .ok (.iinc 3 1, 3) := dk_132 3 1 (dk_at dksX3_laysWins_3 0 rfl rfl)
theorem dX3_laysWins_74 : decode cX3_laysWins 74 = .ok (.goto (-47), 3) := dk_167 255 209 (dk_at dksX3_laysWins_3 3 rfl rfl)
theorem dX3_laysWins_77 : decode cX3_laysWins 77 = .ok (.iinc 2 1, 3) := dk_132 2 1 (dk_at dksX3_laysWins_3 6 rfl rfl)
theorem dX3_laysWins_80 : decode cX3_laysWins 80 = .ok (.goto (-69), 3) := dk_167 255 187 (dk_at dksX3_laysWins_3 9 rfl rfl)
theorem dX3_laysWins_83 : decode cX3_laysWins 83 = .ok (.return_, 1) := dk_177 (dk_at dksX3_laysWins_3 12 rfl rfl)
abbrev cX3_standing : ByteArray := prog_18_method_73_code
def yX3_standing : MethodName := ⟨RX3, "standing", "()I"⟩
def dkwX3_standing_1 : List UInt8 := [4, 28, 120, 167, 0, 4, 3, 128, 60, 132, 2, 1, 167, 255, 224, 27, 172]
abbrev dktX3_standing_1 : List UInt8 := dkwX3_standing_1 ++ []
def dkwX3_standing_0 : List UInt8 := [3, 60, 3, 61, 28, 42, 180, 0, 23, 16, 18, 46, 162, 0, 27, 27, 42, 28, 182, 1, 115, 154, 0, 9]
abbrev dktX3_standing_0 : List UInt8 := dkwX3_standing_0 ++ dktX3_standing_1
theorem dksX3_standing_0 : cX3_standing.data.toList.drop 0 = dktX3_standing_0 := by decide +kernel
theorem dksX3_standing_1 : cX3_standing.data.toList.drop 24 = dktX3_standing_1 := dk_seg dksX3_standing_0 24 rfl rfl
theorem dX3_standing_0 : decode cX3_standing 0 = .ok (.iconst 0, 1) := dk_3 (dk_at dksX3_standing_0 0 rfl rfl)
theorem dX3_standing_1 : decode cX3_standing 1 = .ok (.istore_n 1, 1) := dk_60 (dk_at dksX3_standing_0 1 rfl rfl)
theorem dX3_standing_2 : decode cX3_standing 2 = .ok (.iconst 0, 1) := dk_3 (dk_at dksX3_standing_0 2 rfl rfl)
theorem dX3_standing_3 : decode cX3_standing 3 = .ok (.istore_n 2, 1) := dk_61 (dk_at dksX3_standing_0 3 rfl rfl)
theorem dX3_standing_4 : decode cX3_standing 4 = .ok (.iload_n 2, 1) := dk_28 (dk_at dksX3_standing_0 4 rfl rfl)
theorem dX3_standing_5 : decode cX3_standing 5 = .ok (.aload_n 0, 1) := dk_42 (dk_at dksX3_standing_0 5 rfl rfl)
theorem dX3_standing_6 : decode cX3_standing 6 = .ok (.getfield 23, 3) := dk_180 0 23 (dk_at dksX3_standing_0 6 rfl rfl)
theorem dX3_standing_9 : decode cX3_standing 9 = .ok (.bipush 18, 2) := dk_16 18 (dk_at dksX3_standing_0 9 rfl rfl)
theorem dX3_standing_11 : decode cX3_standing 11 = .ok (.iaload, 1) := dk_46 (dk_at dksX3_standing_0 11 rfl rfl)
theorem dX3_standing_12 : decode cX3_standing 12 = .ok (.if_icmp .ge 27, 3) := dk_162 0 27 (dk_at dksX3_standing_0 12 rfl rfl)
theorem dX3_standing_15 : decode cX3_standing 15 = .ok (.iload_n 1, 1) := dk_27 (dk_at dksX3_standing_0 15 rfl rfl)
theorem dX3_standing_16 : decode cX3_standing 16 = .ok (.aload_n 0, 1) := dk_42 (dk_at dksX3_standing_0 16 rfl rfl)
theorem dX3_standing_17 : decode cX3_standing 17 = .ok (.iload_n 2, 1) := dk_28 (dk_at dksX3_standing_0 17 rfl rfl)
theorem dX3_standing_18 : decode cX3_standing 18 = .ok (.invokevirtual 371, 3) := dk_182 1 115 (dk_at dksX3_standing_0 18 rfl rfl)
theorem dX3_standing_21 : decode cX3_standing 21 = .ok (.ifCond .ne 9, 3) := dk_154 0 9 (dk_at dksX3_standing_0 21 rfl rfl)
theorem dX3_standing_24 : decode cX3_standing 24 = .ok (.iconst 1, 1) := dk_4 (dk_at dksX3_standing_1 0 rfl rfl)
theorem dX3_standing_25 : decode cX3_standing 25 = .ok (.iload_n 2, 1) := dk_28 (dk_at dksX3_standing_1 1 rfl rfl)
theorem dX3_standing_26 : decode cX3_standing 26 = .ok (.ishl, 1) := dk_120 (dk_at dksX3_standing_1 2 rfl rfl)
theorem dX3_standing_27 : decode cX3_standing 27 = .ok (.goto 4, 3) := dk_167 0 4 (dk_at dksX3_standing_1 3 rfl rfl)
theorem dX3_standing_30 : decode cX3_standing 30 = .ok (.iconst 0, 1) := dk_3 (dk_at dksX3_standing_1 6 rfl rfl)
theorem dX3_standing_31 : decode cX3_standing 31 = .ok (.ior, 1) := dk_128 (dk_at dksX3_standing_1 7 rfl rfl)
theorem dX3_standing_32 : decode cX3_standing 32 = .ok (.istore_n 1, 1) := dk_60 (dk_at dksX3_standing_1 8 rfl rfl)
theorem dX3_standing_33 : decode cX3_standing 33 = .ok (.iinc 2 1, 3) := dk_132 2 1 (dk_at dksX3_standing_1 9 rfl rfl)
theorem dX3_standing_36 : decode cX3_standing 36 = .ok (.goto (-32), 3) := dk_167 255 224 (dk_at dksX3_standing_1 12 rfl rfl)
theorem dX3_standing_39 : decode cX3_standing 39 = .ok (.iload_n 1, 1) := dk_27 (dk_at dksX3_standing_1 15 rfl rfl)
theorem dX3_standing_40 : decode cX3_standing 40 = .ok (.ireturn, 1) := dk_172 (dk_at dksX3_standing_1 16 rfl rfl)
abbrev cX3_awardOf : ByteArray := prog_18_method_127_code
def yX3_awardOf : MethodName := ⟨RX3, "awardOf", "(I)I"⟩
def dkwX3_awardOf_4 : List UInt8 := [28, 172]
abbrev dktX3_awardOf_4 : List UInt8 := dkwX3_awardOf_4 ++ []
def dkwX3_awardOf_3 : List UInt8 := [167, 0, 5, 21, 4, 54, 4, 132, 5, 1, 167, 255, 197, 28, 21, 4, 96, 61, 132, 3, 1, 167, 255, 169]
abbrev dktX3_awardOf_3 : List UInt8 := dkwX3_awardOf_3 ++ dktX3_awardOf_4
def dkwX3_awardOf_2 : List UInt8 := [180, 0, 64, 21, 5, 46, 29, 160, 0, 18, 21, 4, 42, 21, 5, 5, 182, 1, 83, 184, 1, 188]
abbrev dktX3_awardOf_2 : List UInt8 := dkwX3_awardOf_2 ++ dktX3_awardOf_3
def dkwX3_awardOf_1 : List UInt8 := [180, 0, 23, 16, 18, 46, 162, 0, 53, 42, 180, 0, 76, 27, 46, 21, 5, 184, 0, 239, 153, 0, 29, 42]
abbrev dktX3_awardOf_1 : List UInt8 := dkwX3_awardOf_1 ++ dktX3_awardOf_2
def dkwX3_awardOf_0 : List UInt8 := [3, 61, 3, 62, 29, 42, 180, 0, 23, 16, 18, 46, 162, 0, 82, 3, 54, 4, 3, 54, 5, 21, 5, 42]
abbrev dktX3_awardOf_0 : List UInt8 := dkwX3_awardOf_0 ++ dktX3_awardOf_1
theorem dksX3_awardOf_0 : cX3_awardOf.data.toList.drop 0 = dktX3_awardOf_0 := by decide +kernel
theorem dksX3_awardOf_1 : cX3_awardOf.data.toList.drop 24 = dktX3_awardOf_1 := dk_seg dksX3_awardOf_0 24 rfl rfl
theorem dksX3_awardOf_2 : cX3_awardOf.data.toList.drop 48 = dktX3_awardOf_2 := dk_seg dksX3_awardOf_1 24 rfl rfl
theorem dksX3_awardOf_3 : cX3_awardOf.data.toList.drop 70 = dktX3_awardOf_3 := dk_seg dksX3_awardOf_2 22 rfl rfl
theorem dksX3_awardOf_4 : cX3_awardOf.data.toList.drop 94 = dktX3_awardOf_4 := dk_seg dksX3_awardOf_3 24 rfl rfl
theorem dX3_awardOf_0 : decode cX3_awardOf 0 = .ok (.iconst 0, 1) := dk_3 (dk_at dksX3_awardOf_0 0 rfl rfl)
theorem dX3_awardOf_1 : decode cX3_awardOf 1 = .ok (.istore_n 2, 1) := dk_61 (dk_at dksX3_awardOf_0 1 rfl rfl)
theorem dX3_awardOf_2 : decode cX3_awardOf 2 = .ok (.iconst 0, 1) := dk_3 (dk_at dksX3_awardOf_0 2 rfl rfl)
theorem dX3_awardOf_3 : decode cX3_awardOf 3 = .ok (.istore_n 3, 1) := dk_62 (dk_at dksX3_awardOf_0 3 rfl rfl)
theorem dX3_awardOf_4 : decode cX3_awardOf 4 = .ok (.iload_n 3, 1) := dk_29 (dk_at dksX3_awardOf_0 4 rfl rfl)
theorem dX3_awardOf_5 : decode cX3_awardOf 5 = .ok (.aload_n 0, 1) := dk_42 (dk_at dksX3_awardOf_0 5 rfl rfl)
theorem dX3_awardOf_6 : decode cX3_awardOf 6 = .ok (.getfield 23, 3) := dk_180 0 23 (dk_at dksX3_awardOf_0 6 rfl rfl)
theorem dX3_awardOf_9 : decode cX3_awardOf 9 = .ok (.bipush 18, 2) := dk_16 18 (dk_at dksX3_awardOf_0 9 rfl rfl)
theorem dX3_awardOf_11 : decode cX3_awardOf 11 = .ok (.iaload, 1) := dk_46 (dk_at dksX3_awardOf_0 11 rfl rfl)
theorem dX3_awardOf_12 : decode cX3_awardOf 12 = .ok (.if_icmp .ge 82, 3) := dk_162 0 82 (dk_at dksX3_awardOf_0 12 rfl rfl)
theorem dX3_awardOf_15 : decode cX3_awardOf 15 = .ok (.iconst 0, 1) := dk_3 (dk_at dksX3_awardOf_0 15 rfl rfl)
theorem dX3_awardOf_16 : decode cX3_awardOf 16 = .ok (.istore 4, 2) := dk_54 4 (dk_at dksX3_awardOf_0 16 rfl rfl)
theorem dX3_awardOf_18 : decode cX3_awardOf 18 = .ok (.iconst 0, 1) := dk_3 (dk_at dksX3_awardOf_0 18 rfl rfl)
theorem dX3_awardOf_19 : decode cX3_awardOf 19 = .ok (.istore 5, 2) := dk_54 5 (dk_at dksX3_awardOf_0 19 rfl rfl)
theorem dX3_awardOf_21 : decode cX3_awardOf 21 = .ok (.iload 5, 2) := dk_21 5 (dk_at dksX3_awardOf_0 21 rfl rfl)
theorem dX3_awardOf_23 : decode cX3_awardOf 23 = .ok (.aload_n 0, 1) := dk_42 (dk_at dksX3_awardOf_0 23 rfl rfl)
theorem dX3_awardOf_24 : decode cX3_awardOf 24 = .ok (.getfield 23, 3) := dk_180 0 23 (dk_at dksX3_awardOf_1 0 rfl rfl)
theorem dX3_awardOf_27 : decode cX3_awardOf 27 = .ok (.bipush 18, 2) := dk_16 18 (dk_at dksX3_awardOf_1 3 rfl rfl)
theorem dX3_awardOf_29 : decode cX3_awardOf 29 = .ok (.iaload, 1) := dk_46 (dk_at dksX3_awardOf_1 5 rfl rfl)
theorem dX3_awardOf_30 : decode cX3_awardOf 30 = .ok (.if_icmp .ge 53, 3) := dk_162 0 53 (dk_at dksX3_awardOf_1 6 rfl rfl)
theorem dX3_awardOf_33 : decode cX3_awardOf 33 = .ok (.aload_n 0, 1) := dk_42 (dk_at dksX3_awardOf_1 9 rfl rfl)
theorem dX3_awardOf_34 : decode cX3_awardOf 34 = .ok (.getfield 76, 3) := dk_180 0 76 (dk_at dksX3_awardOf_1 10 rfl rfl)
theorem dX3_awardOf_37 : decode cX3_awardOf 37 = .ok (.iload_n 1, 1) := dk_27 (dk_at dksX3_awardOf_1 13 rfl rfl)
theorem dX3_awardOf_38 : decode cX3_awardOf 38 = .ok (.iaload, 1) := dk_46 (dk_at dksX3_awardOf_1 14 rfl rfl)
theorem dX3_awardOf_39 : decode cX3_awardOf 39 = .ok (.iload 5, 2) := dk_21 5 (dk_at dksX3_awardOf_1 15 rfl rfl)
theorem dX3_awardOf_41 : decode cX3_awardOf 41 = .ok (.invokestatic 239, 3) := dk_184 0 239 (dk_at dksX3_awardOf_1 17 rfl rfl)
theorem dX3_awardOf_44 : decode cX3_awardOf 44 = .ok (.ifCond .eq 29, 3) := dk_153 0 29 (dk_at dksX3_awardOf_1 20 rfl rfl)
theorem dX3_awardOf_47 : decode cX3_awardOf 47 = .ok (.aload_n 0, 1) := dk_42 (dk_at dksX3_awardOf_1 23 rfl rfl)
theorem dX3_awardOf_48 : decode cX3_awardOf 48 = .ok (.getfield 64, 3) := dk_180 0 64 (dk_at dksX3_awardOf_2 0 rfl rfl)
theorem dX3_awardOf_51 : decode cX3_awardOf 51 = .ok (.iload 5, 2) := dk_21 5 (dk_at dksX3_awardOf_2 3 rfl rfl)
theorem dX3_awardOf_53 : decode cX3_awardOf 53 = .ok (.iaload, 1) := dk_46 (dk_at dksX3_awardOf_2 5 rfl rfl)
theorem dX3_awardOf_54 : decode cX3_awardOf 54 = .ok (.iload_n 3, 1) := dk_29 (dk_at dksX3_awardOf_2 6 rfl rfl)
theorem dX3_awardOf_55 : decode cX3_awardOf 55 = .ok (.if_icmp .ne 18, 3) := dk_160 0 18 (dk_at dksX3_awardOf_2 7 rfl rfl)
theorem dX3_awardOf_58 : decode cX3_awardOf 58 = .ok (.iload 4, 2) := dk_21 4 (dk_at dksX3_awardOf_2 10 rfl rfl)
theorem dX3_awardOf_60 : decode cX3_awardOf 60 = .ok (.aload_n 0, 1) := dk_42 (dk_at dksX3_awardOf_2 12 rfl rfl)
theorem dX3_awardOf_61 : decode cX3_awardOf 61 = .ok (.iload 5, 2) := dk_21 5 (dk_at dksX3_awardOf_2 13 rfl rfl)
theorem dX3_awardOf_63 : decode cX3_awardOf 63 = .ok (.iconst 2, 1) := dk_5 (dk_at dksX3_awardOf_2 15 rfl rfl)
theorem dX3_awardOf_64 : decode cX3_awardOf 64 = .ok (.invokevirtual 339, 3) := dk_182 1 83 (dk_at dksX3_awardOf_2 16 rfl rfl)
theorem dX3_awardOf_67 : decode cX3_awardOf 67 = .ok (.invokestatic 444, 3) := dk_184 1 188 (dk_at dksX3_awardOf_2 19 rfl rfl)
theorem dX3_awardOf_70 : decode cX3_awardOf 70 = .ok (.goto 5, 3) := dk_167 0 5 (dk_at dksX3_awardOf_3 0 rfl rfl)
theorem dX3_awardOf_73 : decode cX3_awardOf 73 = .ok (.iload 4, 2) := dk_21 4 (dk_at dksX3_awardOf_3 3 rfl rfl)
theorem dX3_awardOf_75 : decode cX3_awardOf 75 = .ok (.istore 4, 2) := dk_54 4 (dk_at dksX3_awardOf_3 5 rfl rfl)
theorem dX3_awardOf_77 : decode cX3_awardOf 77 = .ok (.iinc 5 1, 3) := dk_132 5 1 (dk_at dksX3_awardOf_3 7 rfl rfl)
theorem dX3_awardOf_80 : decode cX3_awardOf 80 = .ok (.goto (-59), 3) := dk_167 255 197 (dk_at dksX3_awardOf_3 10 rfl rfl)
theorem dX3_awardOf_83 : decode cX3_awardOf 83 = .ok (.iload_n 2, 1) := dk_28 (dk_at dksX3_awardOf_3 13 rfl rfl)
theorem dX3_awardOf_84 : decode cX3_awardOf 84 = .ok (.iload 4, 2) := dk_21 4 (dk_at dksX3_awardOf_3 14 rfl rfl)
theorem dX3_awardOf_86 : decode cX3_awardOf 86 = .ok (.iadd, 1) := dk_96 (dk_at dksX3_awardOf_3 16 rfl rfl)
theorem dX3_awardOf_87 : decode cX3_awardOf 87 = .ok (.istore_n 2, 1) := dk_61 (dk_at dksX3_awardOf_3 17 rfl rfl)
theorem dX3_awardOf_88 : decode cX3_awardOf 88 = .ok (.iinc 3 1, 3) := dk_132 3 1 (dk_at dksX3_awardOf_3 18 rfl rfl)
theorem dX3_awardOf_91 : decode cX3_awardOf 91 = .ok (.goto (-87), 3) := dk_167 255 169 (dk_at dksX3_awardOf_3 21 rfl rfl)
theorem dX3_awardOf_94 : decode cX3_awardOf 94 = .ok (.iload_n 2, 1) := dk_28 (dk_at dksX3_awardOf_4 0 rfl rfl)
theorem dX3_awardOf_95 : decode cX3_awardOf 95 = .ok (.ireturn, 1) := dk_172 (dk_at dksX3_awardOf_4 1 rfl rfl)
abbrev cX3_meant : ByteArray := prog_18_method_129_code
def yX3_meant : MethodName := ⟨RX3, "meant", "(I)J"⟩
def dkwX3_meant_5 : List UInt8 := [180, 1, 218, 173]
abbrev dktX3_meant_5 : List UInt8 := dkwX3_meant_5 ++ []
def dkwX3_meant_4 : List UInt8 := [167, 255, 191, 42, 32, 22, 4, 182, 1, 225, 27, 154, 0, 10, 42, 180, 1, 215, 167, 0, 7, 42]
abbrev dktX3_meant_4 : List UInt8 := dkwX3_meant_4 ++ dktX3_meant_5
def dkwX3_meant_3 : List UInt8 := [182, 1, 142, 153, 0, 12, 42, 21, 6, 182, 1, 221, 167, 0, 4, 9, 97, 55, 4, 132, 6, 1]
abbrev dktX3_meant_3 : List UInt8 := dkwX3_meant_3 ++ dktX3_meant_4
def dkwX3_meant_2 : List UInt8 := [182, 1, 235, 133, 42, 21, 6, 182, 1, 221, 105, 167, 0, 4, 9, 97, 65, 22, 4, 42, 21, 6]
abbrev dktX3_meant_2 : List UInt8 := dkwX3_meant_2 ++ dktX3_meant_3
def dkwX3_meant_1 : List UInt8 := [54, 6, 21, 6, 17, 1, 0, 162, 0, 63, 32, 42, 21, 6, 182, 1, 142, 153, 0, 20, 42, 21, 6]
abbrev dktX3_meant_1 : List UInt8 := dkwX3_meant_1 ++ dktX3_meant_2
def dkwX3_meant_0 : List UInt8 := [27, 3, 4, 184, 0, 85, 154, 0, 7, 20, 1, 238, 173, 42, 182, 1, 232, 9, 65, 9, 55, 4, 3]
abbrev dktX3_meant_0 : List UInt8 := dkwX3_meant_0 ++ dktX3_meant_1
theorem dksX3_meant_0 : cX3_meant.data.toList.drop 0 = dktX3_meant_0 := by decide +kernel
theorem dksX3_meant_1 : cX3_meant.data.toList.drop 23 = dktX3_meant_1 := dk_seg dksX3_meant_0 23 rfl rfl
theorem dksX3_meant_2 : cX3_meant.data.toList.drop 46 = dktX3_meant_2 := dk_seg dksX3_meant_1 23 rfl rfl
theorem dksX3_meant_3 : cX3_meant.data.toList.drop 68 = dktX3_meant_3 := dk_seg dksX3_meant_2 22 rfl rfl
theorem dksX3_meant_4 : cX3_meant.data.toList.drop 90 = dktX3_meant_4 := dk_seg dksX3_meant_3 22 rfl rfl
theorem dksX3_meant_5 : cX3_meant.data.toList.drop 112 = dktX3_meant_5 := dk_seg dksX3_meant_4 22 rfl rfl
theorem dX3_meant_0 : decode cX3_meant 0 = .ok (.iload_n 1, 1) := dk_27 (dk_at dksX3_meant_0 0 rfl rfl)
theorem dX3_meant_1 : decode cX3_meant 1 = .ok (.iconst 0, 1) := dk_3 (dk_at dksX3_meant_0 1 rfl rfl)
theorem dX3_meant_2 : decode cX3_meant 2 = .ok (.iconst 1, 1) := dk_4 (dk_at dksX3_meant_0 2 rfl rfl)
theorem dX3_meant_3 : decode cX3_meant 3 = .ok (.invokestatic 85, 3) := dk_184 0 85 (dk_at dksX3_meant_0 3 rfl rfl)
theorem dX3_meant_6 : decode cX3_meant 6 = .ok (.ifCond .ne 7, 3) := dk_154 0 7 (dk_at dksX3_meant_0 6 rfl rfl)
theorem dX3_meant_9 : decode cX3_meant 9 = .ok (.ldc2_w 494, 3) := dk_20 1 238 (dk_at dksX3_meant_0 9 rfl rfl)
theorem dX3_meant_12 : decode cX3_meant 12 = .ok (.lreturn, 1) := dk_173 (dk_at dksX3_meant_0 12 rfl rfl)
theorem dX3_meant_13 : decode cX3_meant 13 = .ok (.aload_n 0, 1) := dk_42 (dk_at dksX3_meant_0 13 rfl rfl)
theorem dX3_meant_14 : decode cX3_meant 14 = .ok (.invokevirtual 488, 3) := dk_182 1 232 (dk_at dksX3_meant_0 14 rfl rfl)
theorem dX3_meant_17 : decode cX3_meant 17 = .ok (.lconst 0, 1) := dk_9 (dk_at dksX3_meant_0 17 rfl rfl)
theorem dX3_meant_18 : decode cX3_meant 18 = .ok (.lstore_n 2, 1) := dk_65 (dk_at dksX3_meant_0 18 rfl rfl)
theorem dX3_meant_19 : decode cX3_meant 19 = .ok (.lconst 0, 1) := dk_9 (dk_at dksX3_meant_0 19 rfl rfl)
theorem dX3_meant_20 : decode cX3_meant 20 = .ok (.lstore 4, 2) := dk_55 4 (dk_at dksX3_meant_0 20 rfl rfl)
theorem dX3_meant_22 : decode cX3_meant 22 = .ok (.iconst 0, 1) := dk_3 (dk_at dksX3_meant_0 22 rfl rfl)
theorem dX3_meant_23 : decode cX3_meant 23 = .ok (.istore 6, 2) := dk_54 6 (dk_at dksX3_meant_1 0 rfl rfl)
theorem dX3_meant_25 : decode cX3_meant 25 = .ok (.iload 6, 2) := dk_21 6 (dk_at dksX3_meant_1 2 rfl rfl)
theorem dX3_meant_27 : decode cX3_meant 27 = .ok (.sipush 256, 3) := dk_17 1 0 (dk_at dksX3_meant_1 4 rfl rfl)
theorem dX3_meant_30 : decode cX3_meant 30 = .ok (.if_icmp .ge 63, 3) := dk_162 0 63 (dk_at dksX3_meant_1 7 rfl rfl)
theorem dX3_meant_33 : decode cX3_meant 33 = .ok (.lload_n 2, 1) := dk_32 (dk_at dksX3_meant_1 10 rfl rfl)
theorem dX3_meant_34 : decode cX3_meant 34 = .ok (.aload_n 0, 1) := dk_42 (dk_at dksX3_meant_1 11 rfl rfl)
theorem dX3_meant_35 : decode cX3_meant 35 = .ok (.iload 6, 2) := dk_21 6 (dk_at dksX3_meant_1 12 rfl rfl)
theorem dX3_meant_37 : decode cX3_meant 37 = .ok (.invokevirtual 398, 3) := dk_182 1 142 (dk_at dksX3_meant_1 14 rfl rfl)
theorem dX3_meant_40 : decode cX3_meant 40 = .ok (.ifCond .eq 20, 3) := dk_153 0 20 (dk_at dksX3_meant_1 17 rfl rfl)
theorem dX3_meant_43 : decode cX3_meant 43 = .ok (.aload_n 0, 1) := dk_42 (dk_at dksX3_meant_1 20 rfl rfl)
theorem dX3_meant_44 : decode cX3_meant 44 = .ok (.iload 6, 2) := dk_21 6 (dk_at dksX3_meant_1 21 rfl rfl)
theorem dX3_meant_46 : decode cX3_meant 46 = .ok (.invokevirtual 491, 3) := dk_182 1 235 (dk_at dksX3_meant_2 0 rfl rfl)
theorem dX3_meant_49 : decode cX3_meant 49 = .ok (.i2l, 1) := dk_133 (dk_at dksX3_meant_2 3 rfl rfl)
theorem dX3_meant_50 : decode cX3_meant 50 = .ok (.aload_n 0, 1) := dk_42 (dk_at dksX3_meant_2 4 rfl rfl)
theorem dX3_meant_51 : decode cX3_meant 51 = .ok (.iload 6, 2) := dk_21 6 (dk_at dksX3_meant_2 5 rfl rfl)
theorem dX3_meant_53 : decode cX3_meant 53 = .ok (.invokevirtual 477, 3) := dk_182 1 221 (dk_at dksX3_meant_2 7 rfl rfl)
theorem dX3_meant_56 : decode cX3_meant 56 = .ok (.lmul, 1) := dk_105 (dk_at dksX3_meant_2 10 rfl rfl)
theorem dX3_meant_57 : decode cX3_meant 57 = .ok (.goto 4, 3) := dk_167 0 4 (dk_at dksX3_meant_2 11 rfl rfl)
theorem dX3_meant_60 : decode cX3_meant 60 = .ok (.lconst 0, 1) := dk_9 (dk_at dksX3_meant_2 14 rfl rfl)
theorem dX3_meant_61 : decode cX3_meant 61 = .ok (.ladd, 1) := dk_97 (dk_at dksX3_meant_2 15 rfl rfl)
theorem dX3_meant_62 : decode cX3_meant 62 = .ok (.lstore_n 2, 1) := dk_65 (dk_at dksX3_meant_2 16 rfl rfl)
theorem dX3_meant_63 : decode cX3_meant 63 = .ok (.lload 4, 2) := dk_22 4 (dk_at dksX3_meant_2 17 rfl rfl)
theorem dX3_meant_65 : decode cX3_meant 65 = .ok (.aload_n 0, 1) := dk_42 (dk_at dksX3_meant_2 19 rfl rfl)
theorem dX3_meant_66 : decode cX3_meant 66 = .ok (.iload 6, 2) := dk_21 6 (dk_at dksX3_meant_2 20 rfl rfl)
theorem dX3_meant_68 : decode cX3_meant 68 = .ok (.invokevirtual 398, 3) := dk_182 1 142 (dk_at dksX3_meant_3 0 rfl rfl)
theorem dX3_meant_71 : decode cX3_meant 71 = .ok (.ifCond .eq 12, 3) := dk_153 0 12 (dk_at dksX3_meant_3 3 rfl rfl)
theorem dX3_meant_74 : decode cX3_meant 74 = .ok (.aload_n 0, 1) := dk_42 (dk_at dksX3_meant_3 6 rfl rfl)
theorem dX3_meant_75 : decode cX3_meant 75 = .ok (.iload 6, 2) := dk_21 6 (dk_at dksX3_meant_3 7 rfl rfl)
theorem dX3_meant_77 : decode cX3_meant 77 = .ok (.invokevirtual 477, 3) := dk_182 1 221 (dk_at dksX3_meant_3 9 rfl rfl)
theorem dX3_meant_80 : decode cX3_meant 80 = .ok (.goto 4, 3) := dk_167 0 4 (dk_at dksX3_meant_3 12 rfl rfl)
theorem dX3_meant_83 : decode cX3_meant 83 = .ok (.lconst 0, 1) := dk_9 (dk_at dksX3_meant_3 15 rfl rfl)
theorem dX3_meant_84 : decode cX3_meant 84 = .ok (.ladd, 1) := dk_97 (dk_at dksX3_meant_3 16 rfl rfl)
theorem dX3_meant_85 : decode cX3_meant 85 = .ok (.lstore 4, 2) := dk_55 4 (dk_at dksX3_meant_3 17 rfl rfl)
theorem dX3_meant_87 : decode cX3_meant 87 = .ok (.iinc 6 1, 3) := dk_132 6 1 (dk_at dksX3_meant_3 19 rfl rfl)
theorem dX3_meant_90 : decode cX3_meant 90 = .ok (.goto (-65), 3) := dk_167 255 191 (dk_at dksX3_meant_4 0 rfl rfl)
theorem dX3_meant_93 : decode cX3_meant 93 = .ok (.aload_n 0, 1) := dk_42 (dk_at dksX3_meant_4 3 rfl rfl)
theorem dX3_meant_94 : decode cX3_meant 94 = .ok (.lload_n 2, 1) := dk_32 (dk_at dksX3_meant_4 4 rfl rfl)
theorem dX3_meant_95 : decode cX3_meant 95 = .ok (.lload 4, 2) := dk_22 4 (dk_at dksX3_meant_4 5 rfl rfl)
theorem dX3_meant_97 : decode cX3_meant 97 = .ok (.invokevirtual 481, 3) := dk_182 1 225 (dk_at dksX3_meant_4 7 rfl rfl)
theorem dX3_meant_100 : decode cX3_meant 100 = .ok (.iload_n 1, 1) := dk_27 (dk_at dksX3_meant_4 10 rfl rfl)
theorem dX3_meant_101 : decode cX3_meant 101 = .ok (.ifCond .ne 10, 3) := dk_154 0 10 (dk_at dksX3_meant_4 11 rfl rfl)
theorem dX3_meant_104 : decode cX3_meant 104 = .ok (.aload_n 0, 1) := dk_42 (dk_at dksX3_meant_4 14 rfl rfl)
theorem dX3_meant_105 : decode cX3_meant 105 = .ok (.getfield 471, 3) := dk_180 1 215 (dk_at dksX3_meant_4 15 rfl rfl)
theorem dX3_meant_108 : decode cX3_meant 108 = .ok (.goto 7, 3) := dk_167 0 7 (dk_at dksX3_meant_4 18 rfl rfl)
theorem dX3_meant_111 : decode cX3_meant 111 = .ok (.aload_n 0, 1) := dk_42 (dk_at dksX3_meant_4 21 rfl rfl)
theorem dX3_meant_112 : decode cX3_meant 112 = .ok (.getfield 474, 3) := dk_180 1 218 (dk_at dksX3_meant_5 0 rfl rfl)
theorem dX3_meant_115 : decode cX3_meant 115 = .ok (.lreturn, 1) := dk_173 (dk_at dksX3_meant_5 3 rfl rfl)
abbrev cX3_outcomes : ByteArray := prog_18_method_131_code
def yX3_outcomes : MethodName := ⟨RX3, "outcomes", "()I"⟩
def dkwX3_outcomes_1 : List UInt8 := [42, 28, 182, 1, 240, 28, 160, 0, 7, 4, 167, 0, 4, 3, 96, 60, 132, 2, 1, 167, 255, 221, 27, 172]
abbrev dktX3_outcomes_1 : List UInt8 := dkwX3_outcomes_1 ++ []
def dkwX3_outcomes_0 : List UInt8 := [42, 182, 1, 232, 3, 60, 3, 61, 28, 17, 1, 0, 162, 0, 34, 27, 42, 28, 182, 1, 142, 153, 0, 16]
abbrev dktX3_outcomes_0 : List UInt8 := dkwX3_outcomes_0 ++ dktX3_outcomes_1
theorem dksX3_outcomes_0 : cX3_outcomes.data.toList.drop 0 = dktX3_outcomes_0 := by decide +kernel
theorem dksX3_outcomes_1 : cX3_outcomes.data.toList.drop 24 = dktX3_outcomes_1 := dk_seg dksX3_outcomes_0 24 rfl rfl
theorem dX3_outcomes_0 : decode cX3_outcomes 0 = .ok (.aload_n 0, 1) := dk_42 (dk_at dksX3_outcomes_0 0 rfl rfl)
theorem dX3_outcomes_1 : decode cX3_outcomes 1 = .ok (.invokevirtual 488, 3) := dk_182 1 232 (dk_at dksX3_outcomes_0 1 rfl rfl)
theorem dX3_outcomes_4 : decode cX3_outcomes 4 = .ok (.iconst 0, 1) := dk_3 (dk_at dksX3_outcomes_0 4 rfl rfl)
theorem dX3_outcomes_5 : decode cX3_outcomes 5 = .ok (.istore_n 1, 1) := dk_60 (dk_at dksX3_outcomes_0 5 rfl rfl)
theorem dX3_outcomes_6 : decode cX3_outcomes 6 = .ok (.iconst 0, 1) := dk_3 (dk_at dksX3_outcomes_0 6 rfl rfl)
theorem dX3_outcomes_7 : decode cX3_outcomes 7 = .ok (.istore_n 2, 1) := dk_61 (dk_at dksX3_outcomes_0 7 rfl rfl)
theorem dX3_outcomes_8 : decode cX3_outcomes 8 = .ok (.iload_n 2, 1) := dk_28 (dk_at dksX3_outcomes_0 8 rfl rfl)
theorem dX3_outcomes_9 : decode cX3_outcomes 9 = .ok (.sipush 256, 3) := dk_17 1 0 (dk_at dksX3_outcomes_0 9 rfl rfl)
theorem dX3_outcomes_12 : decode cX3_outcomes 12 = .ok (.if_icmp .ge 34, 3) := dk_162 0 34 (dk_at dksX3_outcomes_0 12 rfl rfl)
theorem dX3_outcomes_15 : decode cX3_outcomes 15 = .ok (.iload_n 1, 1) := dk_27 (dk_at dksX3_outcomes_0 15 rfl rfl)
theorem dX3_outcomes_16 : decode cX3_outcomes 16 = .ok (.aload_n 0, 1) := dk_42 (dk_at dksX3_outcomes_0 16 rfl rfl)
theorem dX3_outcomes_17 : decode cX3_outcomes 17 = .ok (.iload_n 2, 1) := dk_28 (dk_at dksX3_outcomes_0 17 rfl rfl)
theorem dX3_outcomes_18 : decode cX3_outcomes 18 = .ok (.invokevirtual 398, 3) := dk_182 1 142 (dk_at dksX3_outcomes_0 18 rfl rfl)
theorem dX3_outcomes_21 : decode cX3_outcomes 21 = .ok (.ifCond .eq 16, 3) := dk_153 0 16 (dk_at dksX3_outcomes_0 21 rfl rfl)
theorem dX3_outcomes_24 : decode cX3_outcomes 24 = .ok (.aload_n 0, 1) := dk_42 (dk_at dksX3_outcomes_1 0 rfl rfl)
theorem dX3_outcomes_25 : decode cX3_outcomes 25 = .ok (.iload_n 2, 1) := dk_28 (dk_at dksX3_outcomes_1 1 rfl rfl)
theorem dX3_outcomes_26 : decode cX3_outcomes 26 = .ok (.invokevirtual 496, 3) := dk_182 1 240 (dk_at dksX3_outcomes_1 2 rfl rfl)
theorem dX3_outcomes_29 : decode cX3_outcomes 29 = .ok (.iload_n 2, 1) := dk_28 (dk_at dksX3_outcomes_1 5 rfl rfl)
theorem dX3_outcomes_30 : decode cX3_outcomes 30 = .ok (.if_icmp .ne 7, 3) := dk_160 0 7 (dk_at dksX3_outcomes_1 6 rfl rfl)
theorem dX3_outcomes_33 : decode cX3_outcomes 33 = .ok (.iconst 1, 1) := dk_4 (dk_at dksX3_outcomes_1 9 rfl rfl)
theorem dX3_outcomes_34 : decode cX3_outcomes 34 = .ok (.goto 4, 3) := dk_167 0 4 (dk_at dksX3_outcomes_1 10 rfl rfl)
theorem dX3_outcomes_37 : decode cX3_outcomes 37 = .ok (.iconst 0, 1) := dk_3 (dk_at dksX3_outcomes_1 13 rfl rfl)
theorem dX3_outcomes_38 : decode cX3_outcomes 38 = .ok (.iadd, 1) := dk_96 (dk_at dksX3_outcomes_1 14 rfl rfl)
theorem dX3_outcomes_39 : decode cX3_outcomes 39 = .ok (.istore_n 1, 1) := dk_60 (dk_at dksX3_outcomes_1 15 rfl rfl)
theorem dX3_outcomes_40 : decode cX3_outcomes 40 = .ok (.iinc 2 1, 3) := dk_132 2 1 (dk_at dksX3_outcomes_1 16 rfl rfl)
theorem dX3_outcomes_43 : decode cX3_outcomes 43 = .ok (.goto (-35), 3) := dk_167 255 221 (dk_at dksX3_outcomes_1 19 rfl rfl)
theorem dX3_outcomes_46 : decode cX3_outcomes 46 = .ok (.iload_n 1, 1) := dk_27 (dk_at dksX3_outcomes_1 22 rfl rfl)
theorem dX3_outcomes_47 : decode cX3_outcomes 47 = .ok (.ireturn, 1) := dk_172 (dk_at dksX3_outcomes_1 23 rfl rfl)
abbrev cX3_firstLike : ByteArray := prog_18_method_130_code
def yX3_firstLike : MethodName := ⟨RX3, "firstLike", "(I)I"⟩
def dkwX3_firstLike_1 : List UInt8 := [159, 0, 9, 132, 2, 1, 167, 255, 230, 28, 172]
abbrev dktX3_firstLike_1 : List UInt8 := dkwX3_firstLike_1 ++ []
def dkwX3_firstLike_0 : List UInt8 := [3, 61, 42, 28, 182, 1, 142, 153, 0, 18, 42, 180, 0, 76, 28, 46, 42, 180, 0, 76, 27, 46]
abbrev dktX3_firstLike_0 : List UInt8 := dkwX3_firstLike_0 ++ dktX3_firstLike_1
theorem dksX3_firstLike_0 : cX3_firstLike.data.toList.drop 0 = dktX3_firstLike_0 := by decide +kernel
theorem dksX3_firstLike_1 : cX3_firstLike.data.toList.drop 22 = dktX3_firstLike_1 := dk_seg dksX3_firstLike_0 22 rfl rfl
theorem dX3_firstLike_0 : decode cX3_firstLike 0 = .ok (.iconst 0, 1) := dk_3 (dk_at dksX3_firstLike_0 0 rfl rfl)
theorem dX3_firstLike_1 : decode cX3_firstLike 1 = .ok (.istore_n 2, 1) := dk_61 (dk_at dksX3_firstLike_0 1 rfl rfl)
theorem dX3_firstLike_2 : decode cX3_firstLike 2 = .ok (.aload_n 0, 1) := dk_42 (dk_at dksX3_firstLike_0 2 rfl rfl)
theorem dX3_firstLike_3 : decode cX3_firstLike 3 = .ok (.iload_n 2, 1) := dk_28 (dk_at dksX3_firstLike_0 3 rfl rfl)
theorem dX3_firstLike_4 : decode cX3_firstLike 4 = .ok (.invokevirtual 398, 3) := dk_182 1 142 (dk_at dksX3_firstLike_0 4 rfl rfl)
theorem dX3_firstLike_7 : decode cX3_firstLike 7 = .ok (.ifCond .eq 18, 3) := dk_153 0 18 (dk_at dksX3_firstLike_0 7 rfl rfl)
theorem dX3_firstLike_10 : decode cX3_firstLike 10 = .ok (.aload_n 0, 1) := dk_42 (dk_at dksX3_firstLike_0 10 rfl rfl)
theorem dX3_firstLike_11 : decode cX3_firstLike 11 = .ok (.getfield 76, 3) := dk_180 0 76 (dk_at dksX3_firstLike_0 11 rfl rfl)
theorem dX3_firstLike_14 : decode cX3_firstLike 14 = .ok (.iload_n 2, 1) := dk_28 (dk_at dksX3_firstLike_0 14 rfl rfl)
theorem dX3_firstLike_15 : decode cX3_firstLike 15 = .ok (.iaload, 1) := dk_46 (dk_at dksX3_firstLike_0 15 rfl rfl)
theorem dX3_firstLike_16 : decode cX3_firstLike 16 = .ok (.aload_n 0, 1) := dk_42 (dk_at dksX3_firstLike_0 16 rfl rfl)
theorem dX3_firstLike_17 : decode cX3_firstLike 17 = .ok (.getfield 76, 3) := dk_180 0 76 (dk_at dksX3_firstLike_0 17 rfl rfl)
theorem dX3_firstLike_20 : decode cX3_firstLike 20 = .ok (.iload_n 1, 1) := dk_27 (dk_at dksX3_firstLike_0 20 rfl rfl)
theorem dX3_firstLike_21 : decode cX3_firstLike 21 = .ok (.iaload, 1) := dk_46 (dk_at dksX3_firstLike_0 21 rfl rfl)
theorem dX3_firstLike_22 : decode cX3_firstLike 22 = .ok (.if_icmp .eq 9, 3) := dk_159 0 9 (dk_at dksX3_firstLike_1 0 rfl rfl)
theorem dX3_firstLike_25 : decode cX3_firstLike 25 = .ok (.iinc 2 1, 3) := dk_132 2 1 (dk_at dksX3_firstLike_1 3 rfl rfl)
theorem dX3_firstLike_28 : decode cX3_firstLike 28 = .ok (.goto (-26), 3) := dk_167 255 230 (dk_at dksX3_firstLike_1 6 rfl rfl)
theorem dX3_firstLike_31 : decode cX3_firstLike 31 = .ok (.iload_n 2, 1) := dk_28 (dk_at dksX3_firstLike_1 9 rfl rfl)
theorem dX3_firstLike_32 : decode cX3_firstLike 32 = .ok (.ireturn, 1) := dk_172 (dk_at dksX3_firstLike_1 10 rfl rfl)
abbrev cX3_outcome : ByteArray := prog_18_method_132_code
def yX3_outcome : MethodName := ⟨RX3, "outcome", "(II)I"⟩
def dkwX3_outcome_6 : List UInt8 := [21, 4, 167, 0, 4, 29, 172]
abbrev dktX3_outcome_6 : List UInt8 := dkwX3_outcome_6 ++ []
def dkwX3_outcome_5 : List UInt8 := [132, 5, 1, 167, 255, 210, 28, 154, 0, 12, 42, 180, 0, 76, 29, 46, 167, 0, 14, 28, 4, 160, 0, 8]
abbrev dktX3_outcome_5 : List UInt8 := dkwX3_outcome_5 ++ dktX3_outcome_6
def dkwX3_outcome_4 : List UInt8 := [180, 0, 76, 21, 5, 46, 42, 180, 0, 76, 29, 46, 160, 0, 7, 4, 167, 0, 4, 3, 96, 54, 4]
abbrev dktX3_outcome_4 : List UInt8 := dkwX3_outcome_4 ++ dktX3_outcome_5
def dkwX3_outcome_3 : List UInt8 := [54, 5, 21, 5, 17, 1, 0, 162, 0, 44, 21, 4, 42, 21, 5, 182, 1, 142, 153, 0, 23, 42]
abbrev dktX3_outcome_3 : List UInt8 := dkwX3_outcome_3 ++ dktX3_outcome_4
def dkwX3_outcome_2 : List UInt8 := [29, 182, 1, 240, 29, 159, 0, 9, 132, 3, 1, 167, 255, 236, 132, 4, 1, 167, 255, 221, 3, 54, 4, 3]
abbrev dktX3_outcome_2 : List UInt8 := dkwX3_outcome_2 ++ dktX3_outcome_3
def dkwX3_outcome_1 : List UInt8 := [172, 2, 62, 3, 54, 4, 21, 4, 27, 163, 0, 35, 132, 3, 1, 42, 29, 182, 1, 142, 153, 0, 12, 42]
abbrev dktX3_outcome_1 : List UInt8 := dkwX3_outcome_1 ++ dktX3_outcome_2
def dkwX3_outcome_0 : List UInt8 := [28, 3, 5, 184, 0, 85, 153, 0, 17, 27, 3, 42, 182, 1, 243, 4, 100, 184, 0, 85, 154, 0, 5, 2]
abbrev dktX3_outcome_0 : List UInt8 := dkwX3_outcome_0 ++ dktX3_outcome_1
theorem dksX3_outcome_0 : cX3_outcome.data.toList.drop 0 = dktX3_outcome_0 := by decide +kernel
theorem dksX3_outcome_1 : cX3_outcome.data.toList.drop 24 = dktX3_outcome_1 := dk_seg dksX3_outcome_0 24 rfl rfl
theorem dksX3_outcome_2 : cX3_outcome.data.toList.drop 48 = dktX3_outcome_2 := dk_seg dksX3_outcome_1 24 rfl rfl
theorem dksX3_outcome_3 : cX3_outcome.data.toList.drop 72 = dktX3_outcome_3 := dk_seg dksX3_outcome_2 24 rfl rfl
theorem dksX3_outcome_4 : cX3_outcome.data.toList.drop 94 = dktX3_outcome_4 := dk_seg dksX3_outcome_3 22 rfl rfl
theorem dksX3_outcome_5 : cX3_outcome.data.toList.drop 117 = dktX3_outcome_5 := dk_seg dksX3_outcome_4 23 rfl rfl
theorem dksX3_outcome_6 : cX3_outcome.data.toList.drop 141 = dktX3_outcome_6 := dk_seg dksX3_outcome_5 24 rfl rfl
theorem dX3_outcome_0 : decode cX3_outcome 0 = .ok (.iload_n 2, 1) := dk_28 (dk_at dksX3_outcome_0 0 rfl rfl)
theorem dX3_outcome_1 : decode cX3_outcome 1 = .ok (.iconst 0, 1) := dk_3 (dk_at dksX3_outcome_0 1 rfl rfl)
theorem dX3_outcome_2 : decode cX3_outcome 2 = .ok (.iconst 2, 1) := dk_5 (dk_at dksX3_outcome_0 2 rfl rfl)
theorem dX3_outcome_3 : decode cX3_outcome 3 = .ok (.invokestatic 85, 3) := dk_184 0 85 (dk_at dksX3_outcome_0 3 rfl rfl)
theorem dX3_outcome_6 : decode cX3_outcome 6 = .ok (.ifCond .eq 17, 3) := dk_153 0 17 (dk_at dksX3_outcome_0 6 rfl rfl)
theorem dX3_outcome_9 : decode cX3_outcome 9 = .ok (.iload_n 1, 1) := dk_27 (dk_at dksX3_outcome_0 9 rfl rfl)
theorem dX3_outcome_10 : decode cX3_outcome 10 = .ok (.iconst 0, 1) := dk_3 (dk_at dksX3_outcome_0 10 rfl rfl)
theorem dX3_outcome_11 : decode cX3_outcome 11 = .ok (.aload_n 0, 1) := dk_42 (dk_at dksX3_outcome_0 11 rfl rfl)
theorem dX3_outcome_12 : decode cX3_outcome 12 = .ok (.invokevirtual 499, 3) := dk_182 1 243 (dk_at dksX3_outcome_0 12 rfl rfl)
theorem dX3_outcome_15 : decode cX3_outcome 15 = .ok (.iconst 1, 1) := dk_4 (dk_at dksX3_outcome_0 15 rfl rfl)
theorem dX3_outcome_16 : decode cX3_outcome 16 = .ok (.isub, 1) := dk_100 (dk_at dksX3_outcome_0 16 rfl rfl)
theorem dX3_outcome_17 : decode cX3_outcome 17 = .ok (.invokestatic 85, 3) := dk_184 0 85 (dk_at dksX3_outcome_0 17 rfl rfl)
theorem dX3_outcome_20 : decode cX3_outcome 20 = .ok (.ifCond .ne 5, 3) := dk_154 0 5 (dk_at dksX3_outcome_0 20 rfl rfl)
theorem dX3_outcome_23 : decode cX3_outcome 23 = .ok (.iconst (-1), 1) := dk_2 (dk_at dksX3_outcome_0 23 rfl rfl)
theorem dX3_outcome_24 : decode cX3_outcome 24 = .ok (.ireturn, 1) := dk_172 (dk_at dksX3_outcome_1 0 rfl rfl)
theorem dX3_outcome_25 : decode cX3_outcome 25 = .ok (.iconst (-1), 1) := dk_2 (dk_at dksX3_outcome_1 1 rfl rfl)
theorem dX3_outcome_26 : decode cX3_outcome 26 = .ok (.istore_n 3, 1) := dk_62 (dk_at dksX3_outcome_1 2 rfl rfl)
theorem dX3_outcome_27 : decode cX3_outcome 27 = .ok (.iconst 0, 1) := dk_3 (dk_at dksX3_outcome_1 3 rfl rfl)
theorem dX3_outcome_28 : decode cX3_outcome 28 = .ok (.istore 4, 2) := dk_54 4 (dk_at dksX3_outcome_1 4 rfl rfl)
theorem dX3_outcome_30 : decode cX3_outcome 30 = .ok (.iload 4, 2) := dk_21 4 (dk_at dksX3_outcome_1 6 rfl rfl)
theorem dX3_outcome_32 : decode cX3_outcome 32 = .ok (.iload_n 1, 1) := dk_27 (dk_at dksX3_outcome_1 8 rfl rfl)
theorem dX3_outcome_33 : decode cX3_outcome 33 = .ok (.if_icmp .gt 35, 3) := dk_163 0 35 (dk_at dksX3_outcome_1 9 rfl rfl)
theorem dX3_outcome_36 : decode cX3_outcome 36 = .ok (.iinc 3 1, 3) := dk_132 3 1 (dk_at dksX3_outcome_1 12 rfl rfl)
theorem dX3_outcome_39 : decode cX3_outcome 39 = .ok (.aload_n 0, 1) := dk_42 (dk_at dksX3_outcome_1 15 rfl rfl)
theorem dX3_outcome_40 : decode cX3_outcome 40 = .ok (.iload_n 3, 1) := dk_29 (dk_at dksX3_outcome_1 16 rfl rfl)
theorem dX3_outcome_41 : decode cX3_outcome 41 = .ok (.invokevirtual 398, 3) := dk_182 1 142 (dk_at dksX3_outcome_1 17 rfl rfl)
theorem dX3_outcome_44 : decode cX3_outcome 44 = .ok (.ifCond .eq 12, 3) := dk_153 0 12 (dk_at dksX3_outcome_1 20 rfl rfl)
theorem dX3_outcome_47 : decode cX3_outcome 47 = .ok (.aload_n 0, 1) := dk_42 (dk_at dksX3_outcome_1 23 rfl rfl)
theorem dX3_outcome_48 : decode cX3_outcome 48 = .ok (.iload_n 3, 1) := dk_29 (dk_at dksX3_outcome_2 0 rfl rfl)
theorem dX3_outcome_49 : decode cX3_outcome 49 = .ok (.invokevirtual 496, 3) := dk_182 1 240 (dk_at dksX3_outcome_2 1 rfl rfl)
theorem dX3_outcome_52 : decode cX3_outcome 52 = .ok (.iload_n 3, 1) := dk_29 (dk_at dksX3_outcome_2 4 rfl rfl)
theorem dX3_outcome_53 : decode cX3_outcome 53 = .ok (.if_icmp .eq 9, 3) := dk_159 0 9 (dk_at dksX3_outcome_2 5 rfl rfl)
theorem dX3_outcome_56 : decode cX3_outcome 56 = .ok (.iinc 3 1, 3) := dk_132 3 1 (dk_at dksX3_outcome_2 8 rfl rfl)
theorem dX3_outcome_59 : decode cX3_outcome 59 = .ok (.goto (-20), 3) := dk_167 255 236 (dk_at dksX3_outcome_2 11 rfl rfl)
theorem dX3_outcome_62 : decode cX3_outcome 62 = .ok (.iinc 4 1, 3) := dk_132 4 1 (dk_at dksX3_outcome_2 14 rfl rfl)
theorem dX3_outcome_65 : decode cX3_outcome 65 = .ok (.goto (-35), 3) := dk_167 255 221 (dk_at dksX3_outcome_2 17 rfl rfl)
theorem dX3_outcome_68 : decode cX3_outcome 68 = .ok (.iconst 0, 1) := dk_3 (dk_at dksX3_outcome_2 20 rfl rfl)
theorem dX3_outcome_69 : decode cX3_outcome 69 = .ok (.istore 4, 2) := dk_54 4 (dk_at dksX3_outcome_2 21 rfl rfl)
theorem dX3_outcome_71 : decode cX3_outcome 71 = .ok (.iconst 0, 1) := dk_3 (dk_at dksX3_outcome_2 23 rfl rfl)
theorem dX3_outcome_72 : decode cX3_outcome 72 = .ok (.istore 5, 2) := dk_54 5 (dk_at dksX3_outcome_3 0 rfl rfl)
theorem dX3_outcome_74 : decode cX3_outcome 74 = .ok (.iload 5, 2) := dk_21 5 (dk_at dksX3_outcome_3 2 rfl rfl)
theorem dX3_outcome_76 : decode cX3_outcome 76 = .ok (.sipush 256, 3) := dk_17 1 0 (dk_at dksX3_outcome_3 4 rfl rfl)
theorem dX3_outcome_79 : decode cX3_outcome 79 = .ok (.if_icmp .ge 44, 3) := dk_162 0 44 (dk_at dksX3_outcome_3 7 rfl rfl)
theorem dX3_outcome_82 : decode cX3_outcome 82 = .ok (.iload 4, 2) := dk_21 4 (dk_at dksX3_outcome_3 10 rfl rfl)
theorem dX3_outcome_84 : decode cX3_outcome 84 = .ok (.aload_n 0, 1) := dk_42 (dk_at dksX3_outcome_3 12 rfl rfl)
theorem dX3_outcome_85 : decode cX3_outcome 85 = .ok (.iload 5, 2) := dk_21 5 (dk_at dksX3_outcome_3 13 rfl rfl)
theorem dX3_outcome_87 : decode cX3_outcome 87 = .ok (.invokevirtual 398, 3) := dk_182 1 142 (dk_at dksX3_outcome_3 15 rfl rfl)
theorem dX3_outcome_90 : decode cX3_outcome 90 = .ok (.ifCond .eq 23, 3) := dk_153 0 23 (dk_at dksX3_outcome_3 18 rfl rfl)
theorem dX3_outcome_93 : decode cX3_outcome 93 = .ok (.aload_n 0, 1) := dk_42 (dk_at dksX3_outcome_3 21 rfl rfl)
theorem dX3_outcome_94 : decode cX3_outcome 94 = .ok (.getfield 76, 3) := dk_180 0 76 (dk_at dksX3_outcome_4 0 rfl rfl)
theorem dX3_outcome_97 : decode cX3_outcome 97 = .ok (.iload 5, 2) := dk_21 5 (dk_at dksX3_outcome_4 3 rfl rfl)
theorem dX3_outcome_99 : decode cX3_outcome 99 = .ok (.iaload, 1) := dk_46 (dk_at dksX3_outcome_4 5 rfl rfl)
theorem dX3_outcome_100 : decode cX3_outcome 100 = .ok (.aload_n 0, 1) := dk_42 (dk_at dksX3_outcome_4 6 rfl rfl)
theorem dX3_outcome_101 : decode cX3_outcome 101 = .ok (.getfield 76, 3) := dk_180 0 76 (dk_at dksX3_outcome_4 7 rfl rfl)
theorem dX3_outcome_104 : decode cX3_outcome 104 = .ok (.iload_n 3, 1) := dk_29 (dk_at dksX3_outcome_4 10 rfl rfl)
theorem dX3_outcome_105 : decode cX3_outcome 105 = .ok (.iaload, 1) := dk_46 (dk_at dksX3_outcome_4 11 rfl rfl)
theorem dX3_outcome_106 : decode cX3_outcome 106 = .ok (.if_icmp .ne 7, 3) := dk_160 0 7 (dk_at dksX3_outcome_4 12 rfl rfl)
theorem dX3_outcome_109 : decode cX3_outcome 109 = .ok (.iconst 1, 1) := dk_4 (dk_at dksX3_outcome_4 15 rfl rfl)
theorem dX3_outcome_110 : decode cX3_outcome 110 = .ok (.goto 4, 3) := dk_167 0 4 (dk_at dksX3_outcome_4 16 rfl rfl)
theorem dX3_outcome_113 : decode cX3_outcome 113 = .ok (.iconst 0, 1) := dk_3 (dk_at dksX3_outcome_4 19 rfl rfl)
theorem dX3_outcome_114 : decode cX3_outcome 114 = .ok (.iadd, 1) := dk_96 (dk_at dksX3_outcome_4 20 rfl rfl)
theorem dX3_outcome_115 : decode cX3_outcome 115 = .ok (.istore 4, 2) := dk_54 4 (dk_at dksX3_outcome_4 21 rfl rfl)
theorem dX3_outcome_117 : decode cX3_outcome 117 = .ok (.iinc 5 1, 3) := dk_132 5 1 (dk_at dksX3_outcome_5 0 rfl rfl)
theorem dX3_outcome_120 : decode cX3_outcome 120 = .ok (.goto (-46), 3) := dk_167 255 210 (dk_at dksX3_outcome_5 3 rfl rfl)
theorem dX3_outcome_123 : decode cX3_outcome 123 = .ok (.iload_n 2, 1) := dk_28 (dk_at dksX3_outcome_5 6 rfl rfl)
theorem dX3_outcome_124 : decode cX3_outcome 124 = .ok (.ifCond .ne 12, 3) := dk_154 0 12 (dk_at dksX3_outcome_5 7 rfl rfl)
theorem dX3_outcome_127 : decode cX3_outcome 127 = .ok (.aload_n 0, 1) := dk_42 (dk_at dksX3_outcome_5 10 rfl rfl)
theorem dX3_outcome_128 : decode cX3_outcome 128 = .ok (.getfield 76, 3) := dk_180 0 76 (dk_at dksX3_outcome_5 11 rfl rfl)
theorem dX3_outcome_131 : decode cX3_outcome 131 = .ok (.iload_n 3, 1) := dk_29 (dk_at dksX3_outcome_5 14 rfl rfl)
theorem dX3_outcome_132 : decode cX3_outcome 132 = .ok (.iaload, 1) := dk_46 (dk_at dksX3_outcome_5 15 rfl rfl)
theorem dX3_outcome_133 : decode cX3_outcome 133 = .ok (.goto 14, 3) := dk_167 0 14 (dk_at dksX3_outcome_5 16 rfl rfl)
theorem dX3_outcome_136 : decode cX3_outcome 136 = .ok (.iload_n 2, 1) := dk_28 (dk_at dksX3_outcome_5 19 rfl rfl)
theorem dX3_outcome_137 : decode cX3_outcome 137 = .ok (.iconst 1, 1) := dk_4 (dk_at dksX3_outcome_5 20 rfl rfl)
theorem dX3_outcome_138 : decode cX3_outcome 138 = .ok (.if_icmp .ne 8, 3) := dk_160 0 8 (dk_at dksX3_outcome_5 21 rfl rfl)
theorem dX3_outcome_141 : decode cX3_outcome 141 = .ok (.iload 4, 2) := dk_21 4 (dk_at dksX3_outcome_6 0 rfl rfl)
theorem dX3_outcome_143 : decode cX3_outcome 143 = .ok (.goto 4, 3) := dk_167 0 4 (dk_at dksX3_outcome_6 2 rfl rfl)
theorem dX3_outcome_146 : decode cX3_outcome 146 = .ok (.iload_n 3, 1) := dk_29 (dk_at dksX3_outcome_6 5 rfl rfl)
theorem dX3_outcome_147 : decode cX3_outcome 147 = .ok (.ireturn, 1) := dk_172 (dk_at dksX3_outcome_6 6 rfl rfl)
abbrev cX3_together : ByteArray := prog_18_method_133_code
def yX3_together : MethodName := ⟨RX3, "together", "(I)I"⟩
def dkwX3_together_4 : List UInt8 := [172]
abbrev dktX3_together_4 : List UInt8 := dkwX3_together_4 ++ []
def dkwX3_together_3 : List UInt8 := [167, 0, 4, 3, 62, 132, 4, 1, 167, 255, 212, 29, 153, 0, 5, 4, 172, 132, 2, 1, 167, 255, 184, 3]
abbrev dktX3_together_3 : List UInt8 := dkwX3_together_3 ++ dktX3_together_4
def dkwX3_together_2 : List UInt8 := [29, 153, 0, 34, 27, 21, 4, 184, 0, 239, 153, 0, 13, 42, 21, 4, 28, 182, 1, 160, 153, 0, 7, 4]
abbrev dktX3_together_2 : List UInt8 := dkwX3_together_2 ++ dktX3_together_3
def dkwX3_together_1 : List UInt8 := [162, 0, 71, 42, 28, 182, 1, 142, 62, 3, 54, 4, 21, 4, 42, 180, 0, 23, 16, 18, 46, 162, 0, 38]
abbrev dktX3_together_1 : List UInt8 := dkwX3_together_1 ++ dktX3_together_2
def dkwX3_together_0 : List UInt8 := [27, 155, 0, 15, 27, 42, 180, 0, 23, 16, 18, 46, 122, 153, 0, 5, 2, 172, 3, 61, 28, 17, 1, 0]
abbrev dktX3_together_0 : List UInt8 := dkwX3_together_0 ++ dktX3_together_1
theorem dksX3_together_0 : cX3_together.data.toList.drop 0 = dktX3_together_0 := by decide +kernel
theorem dksX3_together_1 : cX3_together.data.toList.drop 24 = dktX3_together_1 := dk_seg dksX3_together_0 24 rfl rfl
theorem dksX3_together_2 : cX3_together.data.toList.drop 48 = dktX3_together_2 := dk_seg dksX3_together_1 24 rfl rfl
theorem dksX3_together_3 : cX3_together.data.toList.drop 72 = dktX3_together_3 := dk_seg dksX3_together_2 24 rfl rfl
theorem dksX3_together_4 : cX3_together.data.toList.drop 96 = dktX3_together_4 := dk_seg dksX3_together_3 24 rfl rfl
theorem dX3_together_0 : decode cX3_together 0 = .ok (.iload_n 1, 1) := dk_27 (dk_at dksX3_together_0 0 rfl rfl)
theorem dX3_together_1 : decode cX3_together 1 = .ok (.ifCond .lt 15, 3) := dk_155 0 15 (dk_at dksX3_together_0 1 rfl rfl)
theorem dX3_together_4 : decode cX3_together 4 = .ok (.iload_n 1, 1) := dk_27 (dk_at dksX3_together_0 4 rfl rfl)
theorem dX3_together_5 : decode cX3_together 5 = .ok (.aload_n 0, 1) := dk_42 (dk_at dksX3_together_0 5 rfl rfl)
theorem dX3_together_6 : decode cX3_together 6 = .ok (.getfield 23, 3) := dk_180 0 23 (dk_at dksX3_together_0 6 rfl rfl)
theorem dX3_together_9 : decode cX3_together 9 = .ok (.bipush 18, 2) := dk_16 18 (dk_at dksX3_together_0 9 rfl rfl)
theorem dX3_together_11 : decode cX3_together 11 = .ok (.iaload, 1) := dk_46 (dk_at dksX3_together_0 11 rfl rfl)
theorem dX3_together_12 : decode cX3_together 12 = .ok (.ishr, 1) := dk_122 (dk_at dksX3_together_0 12 rfl rfl)
theorem dX3_together_13 : decode cX3_together 13 = .ok (.ifCond .eq 5, 3) := dk_153 0 5 (dk_at dksX3_together_0 13 rfl rfl)
theorem dX3_together_16 : decode cX3_together 16 = .ok (.iconst (-1), 1) := dk_2 (dk_at dksX3_together_0 16 rfl rfl)
theorem dX3_together_17 : decode cX3_together 17 = .ok (.ireturn, 1) := dk_172 (dk_at dksX3_together_0 17 rfl rfl)
theorem dX3_together_18 : decode cX3_together 18 = .ok (.iconst 0, 1) := dk_3 (dk_at dksX3_together_0 18 rfl rfl)
theorem dX3_together_19 : decode cX3_together 19 = .ok (.istore_n 2, 1) := dk_61 (dk_at dksX3_together_0 19 rfl rfl)
theorem dX3_together_20 : decode cX3_together 20 = .ok (.iload_n 2, 1) := dk_28 (dk_at dksX3_together_0 20 rfl rfl)
theorem dX3_together_21 : decode cX3_together 21 = .ok (.sipush 256, 3) := dk_17 1 0 (dk_at dksX3_together_0 21 rfl rfl)
theorem dX3_together_24 : decode cX3_together 24 = .ok (.if_icmp .ge 71, 3) := dk_162 0 71 (dk_at dksX3_together_1 0 rfl rfl)
theorem dX3_together_27 : decode cX3_together 27 = .ok (.aload_n 0, 1) := dk_42 (dk_at dksX3_together_1 3 rfl rfl)
theorem dX3_together_28 : decode cX3_together 28 = .ok (.iload_n 2, 1) := dk_28 (dk_at dksX3_together_1 4 rfl rfl)
theorem dX3_together_29 : decode cX3_together 29 = .ok (.invokevirtual 398, 3) := dk_182 1 142 (dk_at dksX3_together_1 5 rfl rfl)
theorem dX3_together_32 : decode cX3_together 32 = .ok (.istore_n 3, 1) := dk_62 (dk_at dksX3_together_1 8 rfl rfl)
theorem dX3_together_33 : decode cX3_together 33 = .ok (.iconst 0, 1) := dk_3 (dk_at dksX3_together_1 9 rfl rfl)
theorem dX3_together_34 : decode cX3_together 34 = .ok (.istore 4, 2) := dk_54 4 (dk_at dksX3_together_1 10 rfl rfl)
theorem dX3_together_36 : decode cX3_together 36 = .ok (.iload 4, 2) := dk_21 4 (dk_at dksX3_together_1 12 rfl rfl)
theorem dX3_together_38 : decode cX3_together 38 = .ok (.aload_n 0, 1) := dk_42 (dk_at dksX3_together_1 14 rfl rfl)
theorem dX3_together_39 : decode cX3_together 39 = .ok (.getfield 23, 3) := dk_180 0 23 (dk_at dksX3_together_1 15 rfl rfl)
theorem dX3_together_42 : decode cX3_together 42 = .ok (.bipush 18, 2) := dk_16 18 (dk_at dksX3_together_1 18 rfl rfl)
theorem dX3_together_44 : decode cX3_together 44 = .ok (.iaload, 1) := dk_46 (dk_at dksX3_together_1 20 rfl rfl)
theorem dX3_together_45 : decode cX3_together 45 = .ok (.if_icmp .ge 38, 3) := dk_162 0 38 (dk_at dksX3_together_1 21 rfl rfl)
theorem dX3_together_48 : decode cX3_together 48 = .ok (.iload_n 3, 1) := dk_29 (dk_at dksX3_together_2 0 rfl rfl)
theorem dX3_together_49 : decode cX3_together 49 = .ok (.ifCond .eq 34, 3) := dk_153 0 34 (dk_at dksX3_together_2 1 rfl rfl)
theorem dX3_together_52 : decode cX3_together 52 = .ok (.iload_n 1, 1) := dk_27 (dk_at dksX3_together_2 4 rfl rfl)
theorem dX3_together_53 : decode cX3_together 53 = .ok (.iload 4, 2) := dk_21 4 (dk_at dksX3_together_2 5 rfl rfl)
theorem dX3_together_55 : decode cX3_together 55 = .ok (.invokestatic 239, 3) := dk_184 0 239 (dk_at dksX3_together_2 7 rfl rfl)
theorem dX3_together_58 : decode cX3_together 58 = .ok (.ifCond .eq 13, 3) := dk_153 0 13 (dk_at dksX3_together_2 10 rfl rfl)
theorem dX3_together_61 : decode cX3_together 61 = .ok (.aload_n 0, 1) := dk_42 (dk_at dksX3_together_2 13 rfl rfl)
theorem dX3_together_62 : decode cX3_together 62 = .ok (.iload 4, 2) := dk_21 4 (dk_at dksX3_together_2 14 rfl rfl)
theorem dX3_together_64 : decode cX3_together 64 = .ok (.iload_n 2, 1) := dk_28 (dk_at dksX3_together_2 16 rfl rfl)
theorem dX3_together_65 : decode cX3_together 65 = .ok (.invokevirtual 416, 3) := dk_182 1 160 (dk_at dksX3_together_2 17 rfl rfl)
theorem dX3_together_68 : decode cX3_together 68 = .ok (.ifCond .eq 7, 3) := dk_153 0 7 (dk_at dksX3_together_2 20 rfl rfl)
theorem dX3_together_71 : decode cX3_together 71 = .ok (.iconst 1, 1) := dk_4 (dk_at dksX3_together_2 23 rfl rfl)
theorem dX3_together_72 : decode cX3_together 72 = .ok (.goto 4, 3) := dk_167 0 4 (dk_at dksX3_together_3 0 rfl rfl)
theorem dX3_together_75 : decode cX3_together 75 = .ok (.iconst 0, 1) := dk_3 (dk_at dksX3_together_3 3 rfl rfl)
theorem dX3_together_76 : decode cX3_together 76 = .ok (.istore_n 3, 1) := dk_62 (dk_at dksX3_together_3 4 rfl rfl)
theorem dX3_together_77 : decode cX3_together 77 = .ok (.iinc 4 1, 3) := dk_132 4 1 (dk_at dksX3_together_3 5 rfl rfl)
theorem dX3_together_80 : decode cX3_together 80 = .ok (.goto (-44), 3) := dk_167 255 212 (dk_at dksX3_together_3 8 rfl rfl)
theorem dX3_together_83 : decode cX3_together 83 = .ok (.iload_n 3, 1) := dk_29 (dk_at dksX3_together_3 11 rfl rfl)
theorem dX3_together_84 : decode cX3_together 84 = .ok (.ifCond .eq 5, 3) := dk_153 0 5 (dk_at dksX3_together_3 12 rfl rfl)
theorem dX3_together_87 : decode cX3_together 87 = .ok (.iconst 1, 1) := dk_4 (dk_at dksX3_together_3 15 rfl rfl)
theorem dX3_together_88 : decode cX3_together 88 = .ok (.ireturn, 1) := dk_172 (dk_at dksX3_together_3 16 rfl rfl)
theorem dX3_together_89 : decode cX3_together 89 = .ok (.iinc 2 1, 3) := dk_132 2 1 (dk_at dksX3_together_3 17 rfl rfl)
theorem dX3_together_92 : decode cX3_together 92 = .ok (.goto (-72), 3) := dk_167 255 184 (dk_at dksX3_together_3 20 rfl rfl)
theorem dX3_together_95 : decode cX3_together 95 = .ok (.iconst 0, 1) := dk_3 (dk_at dksX3_together_3 23 rfl rfl)
theorem dX3_together_96 : decode cX3_together 96 = .ok (.ireturn, 1) := dk_172 (dk_at dksX3_together_4 0 rfl rfl)
abbrev cX3_elect : ByteArray := prog_18_method_134_code
def yX3_elect : MethodName := ⟨RX3, "elect", "(I)I"⟩
def dkwX3_elect_4 : List UInt8 := [184, 1, 59, 167, 0, 4, 28, 172]
abbrev dktX3_elect_4 : List UInt8 := dkwX3_elect_4 ++ []
def dkwX3_elect_3 : List UInt8 := [21, 4, 28, 162, 0, 8, 21, 4, 167, 0, 4, 28, 61, 132, 3, 1, 167, 255, 189, 27, 154, 0, 10, 28]
abbrev dktX3_elect_3 : List UInt8 := dkwX3_elect_3 ++ dktX3_elect_4
def dkwX3_elect_2 : List UInt8 := [21, 4, 184, 1, 59, 28, 184, 1, 59, 163, 0, 21, 21, 4, 184, 1, 59, 28, 184, 1, 59, 160, 0, 14]
abbrev dktX3_elect_2 : List UInt8 := dkwX3_elect_2 ++ dktX3_elect_3
def dkwX3_elect_1 : List UInt8 := [162, 0, 66, 42, 29, 182, 1, 142, 153, 0, 12, 42, 180, 0, 76, 29, 46, 167, 0, 4, 3, 54, 4]
abbrev dktX3_elect_1 : List UInt8 := dkwX3_elect_1 ++ dktX3_elect_2
def dkwX3_elect_0 : List UInt8 := [27, 3, 4, 184, 0, 85, 154, 0, 5, 2, 172, 42, 182, 1, 232, 3, 61, 3, 62, 29, 17, 1, 0]
abbrev dktX3_elect_0 : List UInt8 := dkwX3_elect_0 ++ dktX3_elect_1
theorem dksX3_elect_0 : cX3_elect.data.toList.drop 0 = dktX3_elect_0 := by decide +kernel
theorem dksX3_elect_1 : cX3_elect.data.toList.drop 23 = dktX3_elect_1 := dk_seg dksX3_elect_0 23 rfl rfl
theorem dksX3_elect_2 : cX3_elect.data.toList.drop 46 = dktX3_elect_2 := dk_seg dksX3_elect_1 23 rfl rfl
theorem dksX3_elect_3 : cX3_elect.data.toList.drop 70 = dktX3_elect_3 := dk_seg dksX3_elect_2 24 rfl rfl
theorem dksX3_elect_4 : cX3_elect.data.toList.drop 94 = dktX3_elect_4 := dk_seg dksX3_elect_3 24 rfl rfl
theorem dX3_elect_0 : decode cX3_elect 0 = .ok (.iload_n 1, 1) := dk_27 (dk_at dksX3_elect_0 0 rfl rfl)
theorem dX3_elect_1 : decode cX3_elect 1 = .ok (.iconst 0, 1) := dk_3 (dk_at dksX3_elect_0 1 rfl rfl)
theorem dX3_elect_2 : decode cX3_elect 2 = .ok (.iconst 1, 1) := dk_4 (dk_at dksX3_elect_0 2 rfl rfl)
theorem dX3_elect_3 : decode cX3_elect 3 = .ok (.invokestatic 85, 3) := dk_184 0 85 (dk_at dksX3_elect_0 3 rfl rfl)
theorem dX3_elect_6 : decode cX3_elect 6 = .ok (.ifCond .ne 5, 3) := dk_154 0 5 (dk_at dksX3_elect_0 6 rfl rfl)
theorem dX3_elect_9 : decode cX3_elect 9 = .ok (.iconst (-1), 1) := dk_2 (dk_at dksX3_elect_0 9 rfl rfl)
theorem dX3_elect_10 : decode cX3_elect 10 = .ok (.ireturn, 1) := dk_172 (dk_at dksX3_elect_0 10 rfl rfl)
theorem dX3_elect_11 : decode cX3_elect 11 = .ok (.aload_n 0, 1) := dk_42 (dk_at dksX3_elect_0 11 rfl rfl)
theorem dX3_elect_12 : decode cX3_elect 12 = .ok (.invokevirtual 488, 3) := dk_182 1 232 (dk_at dksX3_elect_0 12 rfl rfl)
theorem dX3_elect_15 : decode cX3_elect 15 = .ok (.iconst 0, 1) := dk_3 (dk_at dksX3_elect_0 15 rfl rfl)
theorem dX3_elect_16 : decode cX3_elect 16 = .ok (.istore_n 2, 1) := dk_61 (dk_at dksX3_elect_0 16 rfl rfl)
theorem dX3_elect_17 : decode cX3_elect 17 = .ok (.iconst 0, 1) := dk_3 (dk_at dksX3_elect_0 17 rfl rfl)
theorem dX3_elect_18 : decode cX3_elect 18 = .ok (.istore_n 3, 1) := dk_62 (dk_at dksX3_elect_0 18 rfl rfl)
theorem dX3_elect_19 : decode cX3_elect 19 = .ok (.iload_n 3, 1) := dk_29 (dk_at dksX3_elect_0 19 rfl rfl)
theorem dX3_elect_20 : decode cX3_elect 20 = .ok (.sipush 256, 3) := dk_17 1 0 (dk_at dksX3_elect_0 20 rfl rfl)
theorem dX3_elect_23 : decode cX3_elect 23 = .ok (.if_icmp .ge 66, 3) := dk_162 0 66 (dk_at dksX3_elect_1 0 rfl rfl)
theorem dX3_elect_26 : decode cX3_elect 26 = .ok (.aload_n 0, 1) := dk_42 (dk_at dksX3_elect_1 3 rfl rfl)
theorem dX3_elect_27 : decode cX3_elect 27 = .ok (.iload_n 3, 1) := dk_29 (dk_at dksX3_elect_1 4 rfl rfl)
theorem dX3_elect_28 : decode cX3_elect 28 = .ok (.invokevirtual 398, 3) := dk_182 1 142 (dk_at dksX3_elect_1 5 rfl rfl)
theorem dX3_elect_31 : decode cX3_elect 31 = .ok (.ifCond .eq 12, 3) := dk_153 0 12 (dk_at dksX3_elect_1 8 rfl rfl)
theorem dX3_elect_34 : decode cX3_elect 34 = .ok (.aload_n 0, 1) := dk_42 (dk_at dksX3_elect_1 11 rfl rfl)
theorem dX3_elect_35 : decode cX3_elect 35 = .ok (.getfield 76, 3) := dk_180 0 76 (dk_at dksX3_elect_1 12 rfl rfl)
theorem dX3_elect_38 : decode cX3_elect 38 = .ok (.iload_n 3, 1) := dk_29 (dk_at dksX3_elect_1 15 rfl rfl)
theorem dX3_elect_39 : decode cX3_elect 39 = .ok (.iaload, 1) := dk_46 (dk_at dksX3_elect_1 16 rfl rfl)
theorem dX3_elect_40 : decode cX3_elect 40 = .ok (.goto 4, 3) := dk_167 0 4 (dk_at dksX3_elect_1 17 rfl rfl)
theorem dX3_elect_43 : decode cX3_elect 43 = .ok (.iconst 0, 1) := dk_3 (dk_at dksX3_elect_1 20 rfl rfl)
theorem dX3_elect_44 : decode cX3_elect 44 = .ok (.istore 4, 2) := dk_54 4 (dk_at dksX3_elect_1 21 rfl rfl)
theorem dX3_elect_46 : decode cX3_elect 46 = .ok (.iload 4, 2) := dk_21 4 (dk_at dksX3_elect_2 0 rfl rfl)
theorem dX3_elect_48 : decode cX3_elect 48 = .ok (.invokestatic 315, 3) := dk_184 1 59 (dk_at dksX3_elect_2 2 rfl rfl)
theorem dX3_elect_51 : decode cX3_elect 51 = .ok (.iload_n 2, 1) := dk_28 (dk_at dksX3_elect_2 5 rfl rfl)
theorem dX3_elect_52 : decode cX3_elect 52 = .ok (.invokestatic 315, 3) := dk_184 1 59 (dk_at dksX3_elect_2 6 rfl rfl)
theorem dX3_elect_55 : decode cX3_elect 55 = .ok (.if_icmp .gt 21, 3) := dk_163 0 21 (dk_at dksX3_elect_2 9 rfl rfl)
theorem dX3_elect_58 : decode cX3_elect 58 = .ok (.iload 4, 2) := dk_21 4 (dk_at dksX3_elect_2 12 rfl rfl)
theorem dX3_elect_60 : decode cX3_elect 60 = .ok (.invokestatic 315, 3) := dk_184 1 59 (dk_at dksX3_elect_2 14 rfl rfl)
theorem dX3_elect_63 : decode cX3_elect 63 = .ok (.iload_n 2, 1) := dk_28 (dk_at dksX3_elect_2 17 rfl rfl)
theorem dX3_elect_64 : decode cX3_elect 64 = .ok (.invokestatic 315, 3) := dk_184 1 59 (dk_at dksX3_elect_2 18 rfl rfl)
theorem dX3_elect_67 : decode cX3_elect 67 = .ok (.if_icmp .ne 14, 3) := dk_160 0 14 (dk_at dksX3_elect_2 21 rfl rfl)
theorem dX3_elect_70 : decode cX3_elect 70 = .ok (.iload 4, 2) := dk_21 4 (dk_at dksX3_elect_3 0 rfl rfl)
theorem dX3_elect_72 : decode cX3_elect 72 = .ok (.iload_n 2, 1) := dk_28 (dk_at dksX3_elect_3 2 rfl rfl)
theorem dX3_elect_73 : decode cX3_elect 73 = .ok (.if_icmp .ge 8, 3) := dk_162 0 8 (dk_at dksX3_elect_3 3 rfl rfl)
theorem dX3_elect_76 : decode cX3_elect 76 = .ok (.iload 4, 2) := dk_21 4 (dk_at dksX3_elect_3 6 rfl rfl)
theorem dX3_elect_78 : decode cX3_elect 78 = .ok (.goto 4, 3) := dk_167 0 4 (dk_at dksX3_elect_3 8 rfl rfl)
theorem dX3_elect_81 : decode cX3_elect 81 = .ok (.iload_n 2, 1) := dk_28 (dk_at dksX3_elect_3 11 rfl rfl)
theorem dX3_elect_82 : decode cX3_elect 82 = .ok (.istore_n 2, 1) := dk_61 (dk_at dksX3_elect_3 12 rfl rfl)
theorem dX3_elect_83 : decode cX3_elect 83 = .ok (.iinc 3 1, 3) := dk_132 3 1 (dk_at dksX3_elect_3 13 rfl rfl)
theorem dX3_elect_86 : decode cX3_elect 86 = .ok (.goto (-67), 3) := dk_167 255 189 (dk_at dksX3_elect_3 16 rfl rfl)
theorem dX3_elect_89 : decode cX3_elect 89 = .ok (.iload_n 1, 1) := dk_27 (dk_at dksX3_elect_3 19 rfl rfl)
theorem dX3_elect_90 : decode cX3_elect 90 = .ok (.ifCond .ne 10, 3) := dk_154 0 10 (dk_at dksX3_elect_3 20 rfl rfl)
theorem dX3_elect_93 : decode cX3_elect 93 = .ok (.iload_n 2, 1) := dk_28 (dk_at dksX3_elect_3 23 rfl rfl)
theorem dX3_elect_94 : decode cX3_elect 94 = .ok (.invokestatic 315, 3) := dk_184 1 59 (dk_at dksX3_elect_4 0 rfl rfl)
theorem dX3_elect_97 : decode cX3_elect 97 = .ok (.goto 4, 3) := dk_167 0 4 (dk_at dksX3_elect_4 3 rfl rfl)
theorem dX3_elect_100 : decode cX3_elect 100 = .ok (.iload_n 2, 1) := dk_28 (dk_at dksX3_elect_4 6 rfl rfl)
theorem dX3_elect_101 : decode cX3_elect 101 = .ok (.ireturn, 1) := dk_172 (dk_at dksX3_elect_4 7 rfl rfl)
abbrev cX3_ask : ByteArray := prog_18_method_135_code
def yX3_ask : MethodName := ⟨RX3, "ask", "()I"⟩
def dkwX3_ask_10 : List UInt8 := [184, 1, 66, 160, 0, 7, 4, 167, 0, 4, 5, 172]
abbrev dktX3_ask_10 : List UInt8 := dkwX3_ask_10 ++ []
def dkwX3_ask_9 : List UInt8 := [181, 1, 246, 42, 42, 180, 1, 218, 181, 1, 249, 27, 154, 0, 7, 3, 167, 0, 19, 27, 42, 180, 0, 55]
abbrev dktX3_ask_9 : List UInt8 := dkwX3_ask_9 ++ dktX3_ask_10
def dkwX3_ask_8 : List UInt8 := [132, 6, 1, 167, 255, 159, 42, 32, 22, 4, 182, 1, 225, 42, 4, 181, 1, 34, 42, 42, 180, 1, 215]
abbrev dktX3_ask_8 : List UInt8 := dkwX3_ask_8 ++ dktX3_ask_9
def dkwX3_ask_7 : List UInt8 := [22, 4, 42, 21, 6, 182, 1, 142, 153, 0, 12, 42, 21, 6, 182, 1, 221, 167, 0, 4, 9, 97, 55, 4]
abbrev dktX3_ask_7 : List UInt8 := dkwX3_ask_7 ++ dktX3_ask_8
def dkwX3_ask_6 : List UInt8 := [167, 0, 4, 3, 96, 60, 32, 21, 7, 153, 0, 12, 42, 21, 6, 182, 1, 221, 167, 0, 4, 9, 97, 65]
abbrev dktX3_ask_6 : List UInt8 := dkwX3_ask_6 ++ dktX3_ask_7
def dkwX3_ask_5 : List UInt8 := [21, 6, 182, 1, 37, 4, 160, 0, 7, 4, 167, 0, 4, 3, 54, 7, 27, 21, 7, 153, 0, 7, 4]
abbrev dktX3_ask_5 : List UInt8 := dkwX3_ask_5 ++ dktX3_ask_6
def dkwX3_ask_4 : List UInt8 := [21, 6, 17, 1, 0, 162, 0, 95, 42, 21, 6, 182, 1, 142, 153, 0, 22, 42, 42, 180, 0, 13, 3]
abbrev dktX3_ask_4 : List UInt8 := dkwX3_ask_4 ++ dktX3_ask_5
def dkwX3_ask_3 : List UInt8 := [42, 4, 182, 0, 165, 42, 182, 1, 21, 154, 0, 5, 2, 172, 3, 60, 9, 65, 9, 55, 4, 3, 54, 6]
abbrev dktX3_ask_3 : List UInt8 := dkwX3_ask_3 ++ dktX3_ask_4
def dkwX3_ask_2 : List UInt8 := [180, 0, 16, 27, 47, 80, 132, 1, 1, 167, 255, 235, 42, 182, 0, 232, 87, 42, 180, 0, 109, 153, 0, 8]
abbrev dktX3_ask_2 : List UInt8 := dkwX3_ask_2 ++ dktX3_ask_3
def dkwX3_ask_1 : List UInt8 := [42, 180, 0, 13, 16, 7, 3, 79, 3, 60, 27, 16, 8, 162, 0, 21, 42, 180, 0, 20, 27, 42]
abbrev dktX3_ask_1 : List UInt8 := dkwX3_ask_1 ++ dktX3_ask_2
def dkwX3_ask_0 : List UInt8 := [42, 182, 1, 15, 42, 180, 0, 13, 4, 42, 180, 0, 7, 4, 46, 79, 42, 180, 0, 13, 16, 6, 3, 79]
abbrev dktX3_ask_0 : List UInt8 := dkwX3_ask_0 ++ dktX3_ask_1
theorem dksX3_ask_0 : cX3_ask.data.toList.drop 0 = dktX3_ask_0 := by decide +kernel
theorem dksX3_ask_1 : cX3_ask.data.toList.drop 24 = dktX3_ask_1 := dk_seg dksX3_ask_0 24 rfl rfl
theorem dksX3_ask_2 : cX3_ask.data.toList.drop 46 = dktX3_ask_2 := dk_seg dksX3_ask_1 22 rfl rfl
theorem dksX3_ask_3 : cX3_ask.data.toList.drop 70 = dktX3_ask_3 := dk_seg dksX3_ask_2 24 rfl rfl
theorem dksX3_ask_4 : cX3_ask.data.toList.drop 94 = dktX3_ask_4 := dk_seg dksX3_ask_3 24 rfl rfl
theorem dksX3_ask_5 : cX3_ask.data.toList.drop 117 = dktX3_ask_5 := dk_seg dksX3_ask_4 23 rfl rfl
theorem dksX3_ask_6 : cX3_ask.data.toList.drop 140 = dktX3_ask_6 := dk_seg dksX3_ask_5 23 rfl rfl
theorem dksX3_ask_7 : cX3_ask.data.toList.drop 164 = dktX3_ask_7 := dk_seg dksX3_ask_6 24 rfl rfl
theorem dksX3_ask_8 : cX3_ask.data.toList.drop 188 = dktX3_ask_8 := dk_seg dksX3_ask_7 24 rfl rfl
theorem dksX3_ask_9 : cX3_ask.data.toList.drop 211 = dktX3_ask_9 := dk_seg dksX3_ask_8 23 rfl rfl
theorem dksX3_ask_10 : cX3_ask.data.toList.drop 235 = dktX3_ask_10 := dk_seg dksX3_ask_9 24 rfl rfl
theorem dX3_ask_0 : decode cX3_ask 0 = .ok (.aload_n 0, 1) := dk_42 (dk_at dksX3_ask_0 0 rfl rfl)
theorem dX3_ask_1 : decode cX3_ask 1 = .ok (.invokevirtual 271, 3) := dk_182 1 15 (dk_at dksX3_ask_0 1 rfl rfl)
theorem dX3_ask_4 : decode cX3_ask 4 = .ok (.aload_n 0, 1) := dk_42 (dk_at dksX3_ask_0 4 rfl rfl)
theorem dX3_ask_5 : decode cX3_ask 5 = .ok (.getfield 13, 3) := dk_180 0 13 (dk_at dksX3_ask_0 5 rfl rfl)
theorem dX3_ask_8 : decode cX3_ask 8 = .ok (.iconst 1, 1) := dk_4 (dk_at dksX3_ask_0 8 rfl rfl)
theorem dX3_ask_9 : decode cX3_ask 9 = .ok (.aload_n 0, 1) := dk_42 (dk_at dksX3_ask_0 9 rfl rfl)
theorem dX3_ask_10 : decode cX3_ask 10 = .ok (.getfield 7, 3) := dk_180 0 7 (dk_at dksX3_ask_0 10 rfl rfl)
theorem dX3_ask_13 : decode cX3_ask 13 = .ok (.iconst 1, 1) := dk_4 (dk_at dksX3_ask_0 13 rfl rfl)
theorem dX3_ask_14 : decode cX3_ask 14 = .ok (.iaload, 1) := dk_46 (dk_at dksX3_ask_0 14 rfl rfl)
theorem dX3_ask_15 : decode cX3_ask 15 = .ok (.iastore, 1) := dk_79 (dk_at dksX3_ask_0 15 rfl rfl)
theorem dX3_ask_16 : decode cX3_ask 16 = .ok (.aload_n 0, 1) := dk_42 (dk_at dksX3_ask_0 16 rfl rfl)
theorem dX3_ask_17 : decode cX3_ask 17 = .ok (.getfield 13, 3) := dk_180 0 13 (dk_at dksX3_ask_0 17 rfl rfl)
theorem dX3_ask_20 : decode cX3_ask 20 = .ok (.bipush 6, 2) := dk_16 6 (dk_at dksX3_ask_0 20 rfl rfl)
theorem dX3_ask_22 : decode cX3_ask 22 = .ok (.iconst 0, 1) := dk_3 (dk_at dksX3_ask_0 22 rfl rfl)
theorem dX3_ask_23 : decode cX3_ask 23 = .ok (.iastore, 1) := dk_79 (dk_at dksX3_ask_0 23 rfl rfl)
theorem dX3_ask_24 : decode cX3_ask 24 = .ok (.aload_n 0, 1) := dk_42 (dk_at dksX3_ask_1 0 rfl rfl)
theorem dX3_ask_25 : decode cX3_ask 25 = .ok (.getfield 13, 3) := dk_180 0 13 (dk_at dksX3_ask_1 1 rfl rfl)
theorem dX3_ask_28 : decode cX3_ask 28 = .ok (.bipush 7, 2) := dk_16 7 (dk_at dksX3_ask_1 4 rfl rfl)
theorem dX3_ask_30 : decode cX3_ask 30 = .ok (.iconst 0, 1) := dk_3 (dk_at dksX3_ask_1 6 rfl rfl)
theorem dX3_ask_31 : decode cX3_ask 31 = .ok (.iastore, 1) := dk_79 (dk_at dksX3_ask_1 7 rfl rfl)
theorem dX3_ask_32 : decode cX3_ask 32 = .ok (.iconst 0, 1) := dk_3 (dk_at dksX3_ask_1 8 rfl rfl)
theorem dX3_ask_33 : decode cX3_ask 33 = .ok (.istore_n 1, 1) := dk_60 (dk_at dksX3_ask_1 9 rfl rfl)
theorem dX3_ask_34 : decode cX3_ask 34 = .ok (.iload_n 1, 1) := dk_27 (dk_at dksX3_ask_1 10 rfl rfl)
theorem dX3_ask_35 : decode cX3_ask 35 = .ok (.bipush 8, 2) := dk_16 8 (dk_at dksX3_ask_1 11 rfl rfl)
theorem dX3_ask_37 : decode cX3_ask 37 = .ok (.if_icmp .ge 21, 3) := dk_162 0 21 (dk_at dksX3_ask_1 13 rfl rfl)
theorem dX3_ask_40 : decode cX3_ask 40 = .ok (.aload_n 0, 1) := dk_42 (dk_at dksX3_ask_1 16 rfl rfl)
theorem dX3_ask_41 : decode cX3_ask 41 = .ok (.getfield 20, 3) := dk_180 0 20 (dk_at dksX3_ask_1 17 rfl rfl)
theorem dX3_ask_44 : decode cX3_ask 44 = .ok (.iload_n 1, 1) := dk_27 (dk_at dksX3_ask_1 20 rfl rfl)
theorem dX3_ask_45 : decode cX3_ask 45 = .ok (.aload_n 0, 1) := dk_42 (dk_at dksX3_ask_1 21 rfl rfl)
theorem dX3_ask_46 : decode cX3_ask 46 = .ok (.getfield 16, 3) := dk_180 0 16 (dk_at dksX3_ask_2 0 rfl rfl)
theorem dX3_ask_49 : decode cX3_ask 49 = .ok (.iload_n 1, 1) := dk_27 (dk_at dksX3_ask_2 3 rfl rfl)
theorem dX3_ask_50 : decode cX3_ask 50 = .ok (.laload, 1) := dk_47 (dk_at dksX3_ask_2 4 rfl rfl)
theorem dX3_ask_51 : decode cX3_ask 51 = .ok (.lastore, 1) := dk_80 (dk_at dksX3_ask_2 5 rfl rfl)
theorem dX3_ask_52 : decode cX3_ask 52 = .ok (.iinc 1 1, 3) := dk_132 1 1 (dk_at dksX3_ask_2 6 rfl rfl)
theorem dX3_ask_55 : decode cX3_ask 55 = .ok (.goto (-21), 3) := dk_167 255 235 (dk_at dksX3_ask_2 9 rfl rfl)
theorem dX3_ask_58 : decode cX3_ask 58 = .ok (.aload_n 0, 1) := dk_42 (dk_at dksX3_ask_2 12 rfl rfl)
theorem dX3_ask_59 : decode cX3_ask 59 = .ok (.invokevirtual 232, 3) := dk_182 0 232 (dk_at dksX3_ask_2 13 rfl rfl)
theorem dX3_ask_62 : decode cX3_ask 62 = .ok (.pop, 1) := dk_87 (dk_at dksX3_ask_2 16 rfl rfl)
theorem dX3_ask_63 : decode cX3_ask 63 = .ok (.aload_n 0, 1) := dk_42 (dk_at dksX3_ask_2 17 rfl rfl)
theorem dX3_ask_64 : decode cX3_ask 64 = .ok (.getfield 109, 3) := dk_180 0 109 (dk_at dksX3_ask_2 18 rfl rfl)
theorem dX3_ask_67 : decode cX3_ask 67 = .ok (.ifCond .eq 8, 3) := dk_153 0 8 (dk_at dksX3_ask_2 21 rfl rfl)
theorem dX3_ask_70 : decode cX3_ask 70 = .ok (.aload_n 0, 1) := dk_42 (dk_at dksX3_ask_3 0 rfl rfl)
theorem dX3_ask_71 : decode cX3_ask 71 = .ok (.iconst 1, 1) := dk_4 (dk_at dksX3_ask_3 1 rfl rfl)
theorem dX3_ask_72 : decode cX3_ask 72 = .ok (.invokevirtual 165, 3) := dk_182 0 165 (dk_at dksX3_ask_3 2 rfl rfl)
theorem dX3_ask_75 : decode cX3_ask 75 = .ok (.aload_n 0, 1) := dk_42 (dk_at dksX3_ask_3 5 rfl rfl)
theorem dX3_ask_76 : decode cX3_ask 76 = .ok (.invokevirtual 277, 3) := dk_182 1 21 (dk_at dksX3_ask_3 6 rfl rfl)
theorem dX3_ask_79 : decode cX3_ask 79 = .ok (.ifCond .ne 5, 3) := dk_154 0 5 (dk_at dksX3_ask_3 9 rfl rfl)
theorem dX3_ask_82 : decode cX3_ask 82 = .ok (.iconst (-1), 1) := dk_2 (dk_at dksX3_ask_3 12 rfl rfl)
theorem dX3_ask_83 : decode cX3_ask 83 = .ok (.ireturn, 1) := dk_172 (dk_at dksX3_ask_3 13 rfl rfl)
theorem dX3_ask_84 : decode cX3_ask 84 = .ok (.iconst 0, 1) := dk_3 (dk_at dksX3_ask_3 14 rfl rfl)
theorem dX3_ask_85 : decode cX3_ask 85 = .ok (.istore_n 1, 1) := dk_60 (dk_at dksX3_ask_3 15 rfl rfl)
theorem dX3_ask_86 : decode cX3_ask 86 = .ok (.lconst 0, 1) := dk_9 (dk_at dksX3_ask_3 16 rfl rfl)
theorem dX3_ask_87 : decode cX3_ask 87 = .ok (.lstore_n 2, 1) := dk_65 (dk_at dksX3_ask_3 17 rfl rfl)
theorem dX3_ask_88 : decode cX3_ask 88 = .ok (.lconst 0, 1) := dk_9 (dk_at dksX3_ask_3 18 rfl rfl)
theorem dX3_ask_89 : decode cX3_ask 89 = .ok (.lstore 4, 2) := dk_55 4 (dk_at dksX3_ask_3 19 rfl rfl)
theorem dX3_ask_91 : decode cX3_ask 91 = .ok (.iconst 0, 1) := dk_3 (dk_at dksX3_ask_3 21 rfl rfl)
theorem dX3_ask_92 : decode cX3_ask 92 = .ok (.istore 6, 2) := dk_54 6 (dk_at dksX3_ask_3 22 rfl rfl)
theorem dX3_ask_94 : decode cX3_ask 94 = .ok (.iload 6, 2) := dk_21 6 (dk_at dksX3_ask_4 0 rfl rfl)
theorem dX3_ask_96 : decode cX3_ask 96 = .ok (.sipush 256, 3) := dk_17 1 0 (dk_at dksX3_ask_4 2 rfl rfl)
theorem dX3_ask_99 : decode cX3_ask 99 = .ok (.if_icmp .ge 95, 3) := dk_162 0 95 (dk_at dksX3_ask_4 5 rfl rfl)
theorem dX3_ask_102 : decode cX3_ask 102 = .ok (.aload_n 0, 1) := dk_42 (dk_at dksX3_ask_4 8 rfl rfl)
theorem dX3_ask_103 : decode cX3_ask 103 = .ok (.iload 6, 2) := dk_21 6 (dk_at dksX3_ask_4 9 rfl rfl)
theorem dX3_ask_105 : decode cX3_ask 105 = .ok (.invokevirtual 398, 3) := dk_182 1 142 (dk_at dksX3_ask_4 11 rfl rfl)
theorem dX3_ask_108 : decode cX3_ask 108 = .ok (.ifCond .eq 22, 3) := dk_153 0 22 (dk_at dksX3_ask_4 14 rfl rfl)
theorem dX3_ask_111 : decode cX3_ask 111 = .ok (.aload_n 0, 1) := dk_42 (dk_at dksX3_ask_4 17 rfl rfl)
theorem dX3_ask_112 : decode cX3_ask 112 = .ok (.aload_n 0, 1) := dk_42 (dk_at dksX3_ask_4 18 rfl rfl)
theorem dX3_ask_113 : decode cX3_ask 113 = .ok (.getfield 13, 3) := dk_180 0 13 (dk_at dksX3_ask_4 19 rfl rfl)
theorem dX3_ask_116 : decode cX3_ask 116 = .ok (.iconst 0, 1) := dk_3 (dk_at dksX3_ask_4 22 rfl rfl)
theorem dX3_ask_117 : decode cX3_ask 117 = .ok (.iload 6, 2) := dk_21 6 (dk_at dksX3_ask_5 0 rfl rfl)
theorem dX3_ask_119 : decode cX3_ask 119 = .ok (.invokevirtual 293, 3) := dk_182 1 37 (dk_at dksX3_ask_5 2 rfl rfl)
theorem dX3_ask_122 : decode cX3_ask 122 = .ok (.iconst 1, 1) := dk_4 (dk_at dksX3_ask_5 5 rfl rfl)
theorem dX3_ask_123 : decode cX3_ask 123 = .ok (.if_icmp .ne 7, 3) := dk_160 0 7 (dk_at dksX3_ask_5 6 rfl rfl)
theorem dX3_ask_126 : decode cX3_ask 126 = .ok (.iconst 1, 1) := dk_4 (dk_at dksX3_ask_5 9 rfl rfl)
theorem dX3_ask_127 : decode cX3_ask 127 = .ok (.goto 4, 3) := dk_167 0 4 (dk_at dksX3_ask_5 10 rfl rfl)
theorem dX3_ask_130 : decode cX3_ask 130 = .ok (.iconst 0, 1) := dk_3 (dk_at dksX3_ask_5 13 rfl rfl)
theorem dX3_ask_131 : decode cX3_ask 131 = .ok (.istore 7, 2) := dk_54 7 (dk_at dksX3_ask_5 14 rfl rfl)
theorem dX3_ask_133 : decode cX3_ask 133 = .ok (.iload_n 1, 1) := dk_27 (dk_at dksX3_ask_5 16 rfl rfl)
theorem dX3_ask_134 : decode cX3_ask 134 = .ok (.iload 7, 2) := dk_21 7 (dk_at dksX3_ask_5 17 rfl rfl)
theorem dX3_ask_136 : decode cX3_ask 136 = .ok (.ifCond .eq 7, 3) := dk_153 0 7 (dk_at dksX3_ask_5 19 rfl rfl)
theorem dX3_ask_139 : decode cX3_ask 139 = .ok (.iconst 1, 1) := dk_4 (dk_at dksX3_ask_5 22 rfl rfl)
theorem dX3_ask_140 : decode cX3_ask 140 = .ok (.goto 4, 3) := dk_167 0 4 (dk_at dksX3_ask_6 0 rfl rfl)
theorem dX3_ask_143 : decode cX3_ask 143 = .ok (.iconst 0, 1) := dk_3 (dk_at dksX3_ask_6 3 rfl rfl)
theorem dX3_ask_144 : decode cX3_ask 144 = .ok (.iadd, 1) := dk_96 (dk_at dksX3_ask_6 4 rfl rfl)
theorem dX3_ask_145 : decode cX3_ask 145 = .ok (.istore_n 1, 1) := dk_60 (dk_at dksX3_ask_6 5 rfl rfl)
theorem dX3_ask_146 : decode cX3_ask 146 = .ok (.lload_n 2, 1) := dk_32 (dk_at dksX3_ask_6 6 rfl rfl)
theorem dX3_ask_147 : decode cX3_ask 147 = .ok (.iload 7, 2) := dk_21 7 (dk_at dksX3_ask_6 7 rfl rfl)
theorem dX3_ask_149 : decode cX3_ask 149 = .ok (.ifCond .eq 12, 3) := dk_153 0 12 (dk_at dksX3_ask_6 9 rfl rfl)
theorem dX3_ask_152 : decode cX3_ask 152 = .ok (.aload_n 0, 1) := dk_42 (dk_at dksX3_ask_6 12 rfl rfl)
theorem dX3_ask_153 : decode cX3_ask 153 = .ok (.iload 6, 2) := dk_21 6 (dk_at dksX3_ask_6 13 rfl rfl)
theorem dX3_ask_155 : decode cX3_ask 155 = .ok (.invokevirtual 477, 3) := dk_182 1 221 (dk_at dksX3_ask_6 15 rfl rfl)
theorem dX3_ask_158 : decode cX3_ask 158 = .ok (.goto 4, 3) := dk_167 0 4 (dk_at dksX3_ask_6 18 rfl rfl)
theorem dX3_ask_161 : decode cX3_ask 161 = .ok (.lconst 0, 1) := dk_9 (dk_at dksX3_ask_6 21 rfl rfl)
theorem dX3_ask_162 : decode cX3_ask 162 = .ok (.ladd, 1) := dk_97 (dk_at dksX3_ask_6 22 rfl rfl)
theorem dX3_ask_163 : decode cX3_ask 163 = .ok (.lstore_n 2, 1) := dk_65 (dk_at dksX3_ask_6 23 rfl rfl)
theorem dX3_ask_164 : decode cX3_ask 164 = .ok (.lload 4, 2) := dk_22 4 (dk_at dksX3_ask_7 0 rfl rfl)
theorem dX3_ask_166 : decode cX3_ask 166 = .ok (.aload_n 0, 1) := dk_42 (dk_at dksX3_ask_7 2 rfl rfl)
theorem dX3_ask_167 : decode cX3_ask 167 = .ok (.iload 6, 2) := dk_21 6 (dk_at dksX3_ask_7 3 rfl rfl)
theorem dX3_ask_169 : decode cX3_ask 169 = .ok (.invokevirtual 398, 3) := dk_182 1 142 (dk_at dksX3_ask_7 5 rfl rfl)
theorem dX3_ask_172 : decode cX3_ask 172 = .ok (.ifCond .eq 12, 3) := dk_153 0 12 (dk_at dksX3_ask_7 8 rfl rfl)
theorem dX3_ask_175 : decode cX3_ask 175 = .ok (.aload_n 0, 1) := dk_42 (dk_at dksX3_ask_7 11 rfl rfl)
theorem dX3_ask_176 : decode cX3_ask 176 = .ok (.iload 6, 2) := dk_21 6 (dk_at dksX3_ask_7 12 rfl rfl)
theorem dX3_ask_178 : decode cX3_ask 178 = .ok (.invokevirtual 477, 3) := dk_182 1 221 (dk_at dksX3_ask_7 14 rfl rfl)
theorem dX3_ask_181 : decode cX3_ask 181 = .ok (.goto 4, 3) := dk_167 0 4 (dk_at dksX3_ask_7 17 rfl rfl)
theorem dX3_ask_184 : decode cX3_ask 184 = .ok (.lconst 0, 1) := dk_9 (dk_at dksX3_ask_7 20 rfl rfl)
theorem dX3_ask_185 : decode cX3_ask 185 = .ok (.ladd, 1) := dk_97 (dk_at dksX3_ask_7 21 rfl rfl)
theorem dX3_ask_186 : decode cX3_ask 186 = .ok (.lstore 4, 2) := dk_55 4 (dk_at dksX3_ask_7 22 rfl rfl)
theorem dX3_ask_188 : decode cX3_ask 188 = .ok (.iinc 6 1, 3) := dk_132 6 1 (dk_at dksX3_ask_8 0 rfl rfl)
theorem dX3_ask_191 : decode cX3_ask 191 = .ok (.goto (-97), 3) := dk_167 255 159 (dk_at dksX3_ask_8 3 rfl rfl)
theorem dX3_ask_194 : decode cX3_ask 194 = .ok (.aload_n 0, 1) := dk_42 (dk_at dksX3_ask_8 6 rfl rfl)
theorem dX3_ask_195 : decode cX3_ask 195 = .ok (.lload_n 2, 1) := dk_32 (dk_at dksX3_ask_8 7 rfl rfl)
theorem dX3_ask_196 : decode cX3_ask 196 = .ok (.lload 4, 2) := dk_22 4 (dk_at dksX3_ask_8 8 rfl rfl)
theorem dX3_ask_198 : decode cX3_ask 198 = .ok (.invokevirtual 481, 3) := dk_182 1 225 (dk_at dksX3_ask_8 10 rfl rfl)
theorem dX3_ask_201 : decode cX3_ask 201 = .ok (.aload_n 0, 1) := dk_42 (dk_at dksX3_ask_8 13 rfl rfl)
theorem dX3_ask_202 : decode cX3_ask 202 = .ok (.iconst 1, 1) := dk_4 (dk_at dksX3_ask_8 14 rfl rfl)
theorem dX3_ask_203 : decode cX3_ask 203 = .ok (.putfield 290, 3) := dk_181 1 34 (dk_at dksX3_ask_8 15 rfl rfl)
theorem dX3_ask_206 : decode cX3_ask 206 = .ok (.aload_n 0, 1) := dk_42 (dk_at dksX3_ask_8 18 rfl rfl)
theorem dX3_ask_207 : decode cX3_ask 207 = .ok (.aload_n 0, 1) := dk_42 (dk_at dksX3_ask_8 19 rfl rfl)
theorem dX3_ask_208 : decode cX3_ask 208 = .ok (.getfield 471, 3) := dk_180 1 215 (dk_at dksX3_ask_8 20 rfl rfl)
theorem dX3_ask_211 : decode cX3_ask 211 = .ok (.putfield 502, 3) := dk_181 1 246 (dk_at dksX3_ask_9 0 rfl rfl)
theorem dX3_ask_214 : decode cX3_ask 214 = .ok (.aload_n 0, 1) := dk_42 (dk_at dksX3_ask_9 3 rfl rfl)
theorem dX3_ask_215 : decode cX3_ask 215 = .ok (.aload_n 0, 1) := dk_42 (dk_at dksX3_ask_9 4 rfl rfl)
theorem dX3_ask_216 : decode cX3_ask 216 = .ok (.getfield 474, 3) := dk_180 1 218 (dk_at dksX3_ask_9 5 rfl rfl)
theorem dX3_ask_219 : decode cX3_ask 219 = .ok (.putfield 505, 3) := dk_181 1 249 (dk_at dksX3_ask_9 8 rfl rfl)
theorem dX3_ask_222 : decode cX3_ask 222 = .ok (.iload_n 1, 1) := dk_27 (dk_at dksX3_ask_9 11 rfl rfl)
theorem dX3_ask_223 : decode cX3_ask 223 = .ok (.ifCond .ne 7, 3) := dk_154 0 7 (dk_at dksX3_ask_9 12 rfl rfl)
theorem dX3_ask_226 : decode cX3_ask 226 = .ok (.iconst 0, 1) := dk_3 (dk_at dksX3_ask_9 15 rfl rfl)
theorem dX3_ask_227 : decode cX3_ask 227 = .ok (.goto 19, 3) := dk_167 0 19 (dk_at dksX3_ask_9 16 rfl rfl)
theorem dX3_ask_230 : decode cX3_ask 230 = .ok (.iload_n 1, 1) := dk_27 (dk_at dksX3_ask_9 19 rfl rfl)
theorem dX3_ask_231 : decode cX3_ask 231 = .ok (.aload_n 0, 1) := dk_42 (dk_at dksX3_ask_9 20 rfl rfl)
theorem dX3_ask_232 : decode cX3_ask 232 = .ok (.getfield 55, 3) := dk_180 0 55 (dk_at dksX3_ask_9 21 rfl rfl)
theorem dX3_ask_235 : decode cX3_ask 235 = .ok (.invokestatic 322, 3) := dk_184 1 66 (dk_at dksX3_ask_10 0 rfl rfl)
theorem dX3_ask_238 : decode cX3_ask 238 = .ok (.if_icmp .ne 7, 3) := dk_160 0 7 (dk_at dksX3_ask_10 3 rfl rfl)
theorem dX3_ask_241 : decode cX3_ask 241 = .ok (.iconst 1, 1) := dk_4 (dk_at dksX3_ask_10 6 rfl rfl)
theorem dX3_ask_242 : decode cX3_ask 242 = .ok (.goto 4, 3) := dk_167 0 4 (dk_at dksX3_ask_10 7 rfl rfl)
theorem dX3_ask_245 : decode cX3_ask 245 = .ok (.iconst 2, 1) := dk_5 (dk_at dksX3_ask_10 10 rfl rfl)
theorem dX3_ask_246 : decode cX3_ask 246 = .ok (.ireturn, 1) := dk_172 (dk_at dksX3_ask_10 11 rfl rfl)
abbrev cX3_asked : ByteArray := prog_18_method_136_code
def yX3_asked : MethodName := ⟨RX3, "asked", "(I)I"⟩
def dkwX3_asked_1 : List UInt8 := [42, 180, 1, 246, 167, 0, 7, 42, 180, 1, 249, 136, 172]
abbrev dktX3_asked_1 : List UInt8 := dkwX3_asked_1 ++ []
def dkwX3_asked_0 : List UInt8 := [42, 180, 1, 34, 153, 0, 12, 27, 3, 4, 184, 0, 85, 154, 0, 7, 2, 167, 0, 19, 27, 154, 0, 10]
abbrev dktX3_asked_0 : List UInt8 := dkwX3_asked_0 ++ dktX3_asked_1
theorem dksX3_asked_0 : cX3_asked.data.toList.drop 0 = dktX3_asked_0 := by decide +kernel
theorem dksX3_asked_1 : cX3_asked.data.toList.drop 24 = dktX3_asked_1 := dk_seg dksX3_asked_0 24 rfl rfl
theorem dX3_asked_0 : decode cX3_asked 0 = .ok (.aload_n 0, 1) := dk_42 (dk_at dksX3_asked_0 0 rfl rfl)
theorem dX3_asked_1 : decode cX3_asked 1 = .ok (.getfield 290, 3) := dk_180 1 34 (dk_at dksX3_asked_0 1 rfl rfl)
theorem dX3_asked_4 : decode cX3_asked 4 = .ok (.ifCond .eq 12, 3) := dk_153 0 12 (dk_at dksX3_asked_0 4 rfl rfl)
theorem dX3_asked_7 : decode cX3_asked 7 = .ok (.iload_n 1, 1) := dk_27 (dk_at dksX3_asked_0 7 rfl rfl)
theorem dX3_asked_8 : decode cX3_asked 8 = .ok (.iconst 0, 1) := dk_3 (dk_at dksX3_asked_0 8 rfl rfl)
theorem dX3_asked_9 : decode cX3_asked 9 = .ok (.iconst 1, 1) := dk_4 (dk_at dksX3_asked_0 9 rfl rfl)
theorem dX3_asked_10 : decode cX3_asked 10 = .ok (.invokestatic 85, 3) := dk_184 0 85 (dk_at dksX3_asked_0 10 rfl rfl)
theorem dX3_asked_13 : decode cX3_asked 13 = .ok (.ifCond .ne 7, 3) := dk_154 0 7 (dk_at dksX3_asked_0 13 rfl rfl)
theorem dX3_asked_16 : decode cX3_asked 16 = .ok (.iconst (-1), 1) := dk_2 (dk_at dksX3_asked_0 16 rfl rfl)
theorem dX3_asked_17 : decode cX3_asked 17 = .ok (.goto 19, 3) := dk_167 0 19 (dk_at dksX3_asked_0 17 rfl rfl)
theorem dX3_asked_20 : decode cX3_asked 20 = .ok (.iload_n 1, 1) := dk_27 (dk_at dksX3_asked_0 20 rfl rfl)
theorem dX3_asked_21 : decode cX3_asked 21 = .ok (.ifCond .ne 10, 3) := dk_154 0 10 (dk_at dksX3_asked_0 21 rfl rfl)
theorem dX3_asked_24 : decode cX3_asked 24 = .ok (.aload_n 0, 1) := dk_42 (dk_at dksX3_asked_1 0 rfl rfl)
theorem dX3_asked_25 : decode cX3_asked 25 = .ok (.getfield 502, 3) := dk_180 1 246 (dk_at dksX3_asked_1 1 rfl rfl)
theorem dX3_asked_28 : decode cX3_asked 28 = .ok (.goto 7, 3) := dk_167 0 7 (dk_at dksX3_asked_1 4 rfl rfl)
theorem dX3_asked_31 : decode cX3_asked 31 = .ok (.aload_n 0, 1) := dk_42 (dk_at dksX3_asked_1 7 rfl rfl)
theorem dX3_asked_32 : decode cX3_asked 32 = .ok (.getfield 505, 3) := dk_180 1 249 (dk_at dksX3_asked_1 8 rfl rfl)
theorem dX3_asked_35 : decode cX3_asked 35 = .ok (.l2i, 1) := dk_136 (dk_at dksX3_asked_1 11 rfl rfl)
theorem dX3_asked_36 : decode cX3_asked 36 = .ok (.ireturn, 1) := dk_172 (dk_at dksX3_asked_1 12 rfl rfl)
abbrev cX3_count : ByteArray := prog_18_method_137_code
def yX3_count : MethodName := ⟨RX3, "count", "(I)I"⟩
def dkwX3_count_5 : List UInt8 := [2, 172]
abbrev dktX3_count_5 : List UInt8 := dkwX3_count_5 ++ []
def dkwX3_count_4 : List UInt8 := [182, 1, 73, 184, 1, 59, 172, 42, 180, 1, 31, 172, 42, 180, 0, 82, 172, 42, 180, 0, 7, 8, 46, 172]
abbrev dktX3_count_4 : List UInt8 := dkwX3_count_4 ++ dktX3_count_5
def dkwX3_count_3 : List UInt8 := [182, 1, 229, 184, 1, 59, 172, 42, 180, 0, 23, 16, 17, 46, 172, 42, 180, 0, 23, 16, 16, 46, 172, 42]
abbrev dktX3_count_3 : List UInt8 := dkwX3_count_3 ++ dktX3_count_4
def dkwX3_count_2 : List UInt8 := [42, 180, 0, 7, 3, 46, 172, 42, 180, 0, 7, 4, 46, 172, 42, 180, 0, 23, 16, 18, 46, 172, 42]
abbrev dktX3_count_2 : List UInt8 := dkwX3_count_2 ++ dktX3_count_3
def dkwX3_count_1 : List UInt8 := [170, 0, 0, 0, 0, 0, 126, 0, 0, 0, 0, 0, 0, 0, 9, 0, 0, 0, 55, 0, 0, 0, 62, 0, 0, 0, 69, 0, 0, 0, 77, 0, 0, 0, 85, 0, 0, 0, 93, 0, 0, 0, 101, 0, 0, 0, 109, 0, 0, 0, 114, 0, 0, 0, 119]
abbrev dktX3_count_1 : List UInt8 := dkwX3_count_1 ++ dktX3_count_2
def dkwX3_count_0 : List UInt8 := [27]
abbrev dktX3_count_0 : List UInt8 := dkwX3_count_0 ++ dktX3_count_1
theorem dksX3_count_0 : cX3_count.data.toList.drop 0 = dktX3_count_0 := by decide +kernel
theorem dksX3_count_1 : cX3_count.data.toList.drop 1 = dktX3_count_1 := dk_seg dksX3_count_0 1 rfl rfl
theorem dksX3_count_2 : cX3_count.data.toList.drop 56 = dktX3_count_2 := dk_seg dksX3_count_1 55 rfl rfl
theorem dksX3_count_3 : cX3_count.data.toList.drop 79 = dktX3_count_3 := dk_seg dksX3_count_2 23 rfl rfl
theorem dksX3_count_4 : cX3_count.data.toList.drop 103 = dktX3_count_4 := dk_seg dksX3_count_3 24 rfl rfl
theorem dksX3_count_5 : cX3_count.data.toList.drop 127 = dktX3_count_5 := dk_seg dksX3_count_4 24 rfl rfl
theorem dX3_count_0 : decode cX3_count 0 = .ok (.iload_n 1, 1) := dk_27 (dk_at dksX3_count_0 0 rfl rfl)
theorem dX3_count_1 : decode cX3_count 1 = .ok (.tableswitch 126 0 9 #[55, 62, 69, 77, 85, 93, 101, 109, 114, 119], 55) := by decide +kernel
theorem dX3_count_56 : decode cX3_count 56 = .ok (.aload_n 0, 1) := dk_42 (dk_at dksX3_count_2 0 rfl rfl)
theorem dX3_count_57 : decode cX3_count 57 = .ok (.getfield 7, 3) := dk_180 0 7 (dk_at dksX3_count_2 1 rfl rfl)
theorem dX3_count_60 : decode cX3_count 60 = .ok (.iconst 0, 1) := dk_3 (dk_at dksX3_count_2 4 rfl rfl)
theorem dX3_count_61 : decode cX3_count 61 = .ok (.iaload, 1) := dk_46 (dk_at dksX3_count_2 5 rfl rfl)
theorem dX3_count_62 : decode cX3_count 62 = .ok (.ireturn, 1) := dk_172 (dk_at dksX3_count_2 6 rfl rfl)
theorem dX3_count_63 : decode cX3_count 63 = .ok (.aload_n 0, 1) := dk_42 (dk_at dksX3_count_2 7 rfl rfl)
theorem dX3_count_64 : decode cX3_count 64 = .ok (.getfield 7, 3) := dk_180 0 7 (dk_at dksX3_count_2 8 rfl rfl)
theorem dX3_count_67 : decode cX3_count 67 = .ok (.iconst 1, 1) := dk_4 (dk_at dksX3_count_2 11 rfl rfl)
theorem dX3_count_68 : decode cX3_count 68 = .ok (.iaload, 1) := dk_46 (dk_at dksX3_count_2 12 rfl rfl)
theorem dX3_count_69 : decode cX3_count 69 = .ok (.ireturn, 1) := dk_172 (dk_at dksX3_count_2 13 rfl rfl)
theorem dX3_count_70 : decode cX3_count 70 = .ok (.aload_n 0, 1) := dk_42 (dk_at dksX3_count_2 14 rfl rfl)
theorem dX3_count_71 : decode cX3_count 71 = .ok (.getfield 23, 3) := dk_180 0 23 (dk_at dksX3_count_2 15 rfl rfl)
theorem dX3_count_74 : decode cX3_count 74 = .ok (.bipush 18, 2) := dk_16 18 (dk_at dksX3_count_2 18 rfl rfl)
theorem dX3_count_76 : decode cX3_count 76 = .ok (.iaload, 1) := dk_46 (dk_at dksX3_count_2 20 rfl rfl)
theorem dX3_count_77 : decode cX3_count 77 = .ok (.ireturn, 1) := dk_172 (dk_at dksX3_count_2 21 rfl rfl)
theorem dX3_count_78 : decode cX3_count 78 = .ok (.aload_n 0, 1) := dk_42 (dk_at dksX3_count_2 22 rfl rfl)
theorem dX3_count_79 : decode cX3_count 79 = .ok (.invokevirtual 485, 3) := dk_182 1 229 (dk_at dksX3_count_3 0 rfl rfl)
theorem dX3_count_82 : decode cX3_count 82 = .ok (.invokestatic 315, 3) := dk_184 1 59 (dk_at dksX3_count_3 3 rfl rfl)
theorem dX3_count_85 : decode cX3_count 85 = .ok (.ireturn, 1) := dk_172 (dk_at dksX3_count_3 6 rfl rfl)
theorem dX3_count_86 : decode cX3_count 86 = .ok (.aload_n 0, 1) := dk_42 (dk_at dksX3_count_3 7 rfl rfl)
theorem dX3_count_87 : decode cX3_count 87 = .ok (.getfield 23, 3) := dk_180 0 23 (dk_at dksX3_count_3 8 rfl rfl)
theorem dX3_count_90 : decode cX3_count 90 = .ok (.bipush 17, 2) := dk_16 17 (dk_at dksX3_count_3 11 rfl rfl)
theorem dX3_count_92 : decode cX3_count 92 = .ok (.iaload, 1) := dk_46 (dk_at dksX3_count_3 13 rfl rfl)
theorem dX3_count_93 : decode cX3_count 93 = .ok (.ireturn, 1) := dk_172 (dk_at dksX3_count_3 14 rfl rfl)
theorem dX3_count_94 : decode cX3_count 94 = .ok (.aload_n 0, 1) := dk_42 (dk_at dksX3_count_3 15 rfl rfl)
theorem dX3_count_95 : decode cX3_count 95 = .ok (.getfield 23, 3) := dk_180 0 23 (dk_at dksX3_count_3 16 rfl rfl)
theorem dX3_count_98 : decode cX3_count 98 = .ok (.bipush 16, 2) := dk_16 16 (dk_at dksX3_count_3 19 rfl rfl)
theorem dX3_count_100 : decode cX3_count 100 = .ok (.iaload, 1) := dk_46 (dk_at dksX3_count_3 21 rfl rfl)
theorem dX3_count_101 : decode cX3_count 101 = .ok (.ireturn, 1) := dk_172 (dk_at dksX3_count_3 22 rfl rfl)
theorem dX3_count_102 : decode cX3_count 102 = .ok (.aload_n 0, 1) := dk_42 (dk_at dksX3_count_3 23 rfl rfl)
theorem dX3_count_103 : decode cX3_count 103 = .ok (.invokevirtual 329, 3) := dk_182 1 73 (dk_at dksX3_count_4 0 rfl rfl)
theorem dX3_count_106 : decode cX3_count 106 = .ok (.invokestatic 315, 3) := dk_184 1 59 (dk_at dksX3_count_4 3 rfl rfl)
theorem dX3_count_109 : decode cX3_count 109 = .ok (.ireturn, 1) := dk_172 (dk_at dksX3_count_4 6 rfl rfl)
theorem dX3_count_110 : decode cX3_count 110 = .ok (.aload_n 0, 1) := dk_42 (dk_at dksX3_count_4 7 rfl rfl)
theorem dX3_count_111 : decode cX3_count 111 = .ok (.getfield 287, 3) := dk_180 1 31 (dk_at dksX3_count_4 8 rfl rfl)
theorem dX3_count_114 : decode cX3_count 114 = .ok (.ireturn, 1) := dk_172 (dk_at dksX3_count_4 11 rfl rfl)
theorem dX3_count_115 : decode cX3_count 115 = .ok (.aload_n 0, 1) := dk_42 (dk_at dksX3_count_4 12 rfl rfl)
theorem dX3_count_116 : decode cX3_count 116 = .ok (.getfield 82, 3) := dk_180 0 82 (dk_at dksX3_count_4 13 rfl rfl)
theorem dX3_count_119 : decode cX3_count 119 = .ok (.ireturn, 1) := dk_172 (dk_at dksX3_count_4 16 rfl rfl)
theorem dX3_count_120 : decode cX3_count 120 = .ok (.aload_n 0, 1) := dk_42 (dk_at dksX3_count_4 17 rfl rfl)
theorem dX3_count_121 : decode cX3_count 121 = .ok (.getfield 7, 3) := dk_180 0 7 (dk_at dksX3_count_4 18 rfl rfl)
theorem dX3_count_124 : decode cX3_count 124 = .ok (.iconst 5, 1) := dk_8 (dk_at dksX3_count_4 21 rfl rfl)
theorem dX3_count_125 : decode cX3_count 125 = .ok (.iaload, 1) := dk_46 (dk_at dksX3_count_4 22 rfl rfl)
theorem dX3_count_126 : decode cX3_count 126 = .ok (.ireturn, 1) := dk_172 (dk_at dksX3_count_4 23 rfl rfl)
theorem dX3_count_127 : decode cX3_count 127 = .ok (.iconst (-1), 1) := dk_2 (dk_at dksX3_count_5 0 rfl rfl)
theorem dX3_count_128 : decode cX3_count 128 = .ok (.ireturn, 1) := dk_172 (dk_at dksX3_count_5 1 rfl rfl)
