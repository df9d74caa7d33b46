theorem q155 : (Jvm.Cond.initialized "StruckCountsLaw") ∈ lw_all := lw_g (lw_at lw_m1 0 rfl) rfl
set_option maxRecDepth 100000
theorem q206 : (Jvm.Cond.classLink "StruckCountsLaw" (7 : Nat) "StruckCounts") ∈ lw_all := lw_g (lw_at lw_m1 51 rfl) rfl
theorem q208 : (Jvm.Cond.methodLink "StruckCountsLaw" (9 : Nat) ({ cls := "StruckCounts", name := "<init>", desc := "()V" } : Jvm.MethodName)) ∈ lw_all := lw_g (lw_at lw_m1 53 rfl) rfl
theorem q644 : (Jvm.Cond.methodLink "StruckCountsLaw" (13 : Nat) ({ cls := "StruckCounts", name := "sign", desc := "(I)I" } : Jvm.MethodName)) ∈ lw_all := lw_g (lw_at lw_m3 9 rfl) rfl
theorem q648 : (Jvm.Cond.methodLink "StruckCountsLaw" (18 : Nat) ({ cls := "StruckCounts", name := "end", desc := "(I)Z" } : Jvm.MethodName)) ∈ lw_all := lw_g (lw_at lw_m3 13 rfl) rfl
theorem q655 : (Jvm.Cond.methodLink "StruckCountsLaw" (23 : Nat) ({ cls := "StruckCounts", name := "suit", desc := "()I" } : Jvm.MethodName)) ∈ lw_all := lw_g (lw_at lw_m3 20 rfl) rfl
theorem q1897 : (Jvm.Cond.methodLink "StruckCountsLaw" (28 : Nat) ({ cls := "StruckCounts", name := "fault", desc := "(I)I" } : Jvm.MethodName)) ∈ lw_all := lw_g (lw_at lw_m8 62 rfl) rfl
theorem q1901 : (Jvm.Cond.methodLink "StruckCountsLaw" (32 : Nat) ({ cls := "StruckCounts", name := "fact", desc := "(II)I" } : Jvm.MethodName)) ∈ lw_all := lw_g (lw_at lw_m8 66 rfl) rfl
theorem q1914 : (Jvm.Cond.methodLink "StruckCountsLaw" (37 : Nat) ({ cls := "StruckCounts", name := "of", desc := "(II)I" } : Jvm.MethodName)) ∈ lw_all := lw_g (lw_at lw_m8 79 rfl) rfl
theorem q1990 : (Jvm.Cond.methodLink "StruckCountsLaw" (41 : Nat) ({ cls := "StruckCounts", name := "element", desc := "(III)I" } : Jvm.MethodName)) ∈ lw_all := lw_g (lw_at lw_m8 155 rfl) rfl
theorem q2042 : (Jvm.Cond.methodLink "StruckCountsLaw" (46 : Nat) ({ cls := "StruckCounts", name := "bar", desc := "(III)I" } : Jvm.MethodName)) ∈ lw_all := lw_g (lw_at lw_m8 207 rfl) rfl
theorem q2046 : (Jvm.Cond.methodLink "StruckCountsLaw" (50 : Nat) ({ cls := "StruckCounts", name := "answer", desc := "(II)I" } : Jvm.MethodName)) ∈ lw_all := lw_g (lw_at lw_m8 211 rfl) rfl
theorem q2074 : (Jvm.Cond.methodLink "StruckCountsLaw" (54 : Nat) ({ cls := "StruckCounts", name := "withdraw", desc := "(I)I" } : Jvm.MethodName)) ∈ lw_all := lw_g (lw_at lw_m8 239 rfl) rfl
theorem q2078 : (Jvm.Cond.methodLink "StruckCountsLaw" (58 : Nat) ({ cls := "StruckCounts", name := "close", desc := "()I" } : Jvm.MethodName)) ∈ lw_all := lw_g (lw_at lw_m9 3 rfl) rfl
theorem q2086 : (Jvm.Cond.methodLink "StruckCountsLaw" (62 : Nat) ({ cls := "StruckCounts", name := "find", desc := "(IZ)I" } : Jvm.MethodName)) ∈ lw_all := lw_g (lw_at lw_m9 11 rfl) rfl
theorem q2090 : (Jvm.Cond.methodLink "StruckCountsLaw" (67 : Nat) ({ cls := "StruckCounts", name := "say", desc := "(III)I" } : Jvm.MethodName)) ∈ lw_all := lw_g (lw_at lw_m9 15 rfl) rfl
theorem q2098 : (Jvm.Cond.methodLink "StruckCountsLaw" (71 : Nat) ({ cls := "StruckCounts", name := "add", desc := "(III)I" } : Jvm.MethodName)) ∈ lw_all := lw_g (lw_at lw_m9 23 rfl) rfl
theorem q2103 : (Jvm.Cond.methodLink "StruckCountsLaw" (75 : Nat) ({ cls := "StruckCounts", name := "strike", desc := "(I)I" } : Jvm.MethodName)) ∈ lw_all := lw_g (lw_at lw_m9 28 rfl) rfl
theorem q2107 : (Jvm.Cond.methodLink "StruckCountsLaw" (79 : Nat) ({ cls := "StruckCounts", name := "days", desc := "(I)I" } : Jvm.MethodName)) ∈ lw_all := lw_g (lw_at lw_m9 32 rfl) rfl
theorem q2111 : (Jvm.Cond.methodLink "StruckCountsLaw" (83 : Nat) ({ cls := "StruckCounts", name := "undo", desc := "()I" } : Jvm.MethodName)) ∈ lw_all := lw_g (lw_at lw_m9 36 rfl) rfl
theorem q2115 : (Jvm.Cond.methodLink "StruckCountsLaw" (87 : Nat) ({ cls := "StruckCounts", name := "keep", desc := "(I)Z" } : Jvm.MethodName)) ∈ lw_all := lw_g (lw_at lw_m9 40 rfl) rfl
theorem q2119 : (Jvm.Cond.methodLink "StruckCountsLaw" (91 : Nat) ({ cls := "StruckCounts", name := "again", desc := "(I)Z" } : Jvm.MethodName)) ∈ lw_all := lw_g (lw_at lw_m9 44 rfl) rfl
theorem q2123 : (Jvm.Cond.methodLink "StruckCountsLaw" (95 : Nat) ({ cls := "StruckCounts", name := "worlds", desc := "(I)I" } : Jvm.MethodName)) ∈ lw_all := lw_g (lw_at lw_m9 48 rfl) rfl
theorem q2131 : (Jvm.Cond.methodLink "StruckCountsLaw" (99 : Nat) ({ cls := "StruckCounts", name := "clash", desc := "(II)I" } : Jvm.MethodName)) ∈ lw_all := lw_g (lw_at lw_m9 56 rfl) rfl
theorem q2135 : (Jvm.Cond.methodLink "StruckCountsLaw" (103 : Nat) ({ cls := "StruckCounts", name := "implied", desc := "(II)I" } : Jvm.MethodName)) ∈ lw_all := lw_g (lw_at lw_m9 60 rfl) rfl
theorem q2146 : (Jvm.Cond.methodLink "StruckCountsLaw" (107 : Nat) ({ cls := "StruckCounts", name := "lacks", desc := "(II)I" } : Jvm.MethodName)) ∈ lw_all := lw_g (lw_at lw_m9 71 rfl) rfl
theorem q2158 : (Jvm.Cond.methodLink "StruckCountsLaw" (111 : Nat) ({ cls := "StruckCounts", name := "grown", desc := "(II)I" } : Jvm.MethodName)) ∈ lw_all := lw_g (lw_at lw_m9 83 rfl) rfl
theorem q2192 : (Jvm.Cond.methodLink "StruckCountsLaw" (115 : Nat) ({ cls := "StruckCounts", name := "issues", desc := "(I)I" } : Jvm.MethodName)) ∈ lw_all := lw_g (lw_at lw_m9 117 rfl) rfl
theorem q2200 : (Jvm.Cond.methodLink "StruckCountsLaw" (119 : Nat) ({ cls := "StruckCounts", name := "judged", desc := "(I)I" } : Jvm.MethodName)) ∈ lw_all := lw_g (lw_at lw_m9 125 rfl) rfl
theorem q2211 : (Jvm.Cond.methodLink "StruckCountsLaw" (123 : Nat) ({ cls := "StruckCounts", name := "tries", desc := "(II)I" } : Jvm.MethodName)) ∈ lw_all := lw_g (lw_at lw_m9 136 rfl) rfl
theorem q2223 : (Jvm.Cond.methodLink "StruckCountsLaw" (127 : Nat) ({ cls := "StruckCounts", name := "chance", desc := "(II)I" } : Jvm.MethodName)) ∈ lw_all := lw_g (lw_at lw_m9 148 rfl) rfl
theorem q2241 : (Jvm.Cond.methodLink "StruckCountsLaw" (131 : Nat) ({ cls := "StruckCounts", name := "award", desc := "(I)I" } : Jvm.MethodName)) ∈ lw_all := lw_g (lw_at lw_m9 166 rfl) rfl
theorem q2257 : (Jvm.Cond.methodLink "StruckCountsLaw" (135 : Nat) ({ cls := "StruckCounts", name := "meant", desc := "(I)J" } : Jvm.MethodName)) ∈ lw_all := lw_g (lw_at lw_m9 182 rfl) rfl
theorem q2262 : (Jvm.Cond.methodLink "StruckCountsLaw" (140 : Nat) ({ cls := "StruckCounts", name := "outcomes", desc := "()I" } : Jvm.MethodName)) ∈ lw_all := lw_g (lw_at lw_m9 187 rfl) rfl
theorem q2302 : (Jvm.Cond.methodLink "StruckCountsLaw" (144 : Nat) ({ cls := "StruckCounts", name := "outcome", desc := "(II)I" } : Jvm.MethodName)) ∈ lw_all := lw_g (lw_at lw_m9 227 rfl) rfl
theorem q2306 : (Jvm.Cond.methodLink "StruckCountsLaw" (148 : Nat) ({ cls := "StruckCounts", name := "proofs", desc := "(IZ)I" } : Jvm.MethodName)) ∈ lw_all := lw_g (lw_at lw_m9 231 rfl) rfl
theorem q2322 : (Jvm.Cond.methodLink "StruckCountsLaw" (152 : Nat) ({ cls := "StruckCounts", name := "proof", desc := "(IZII)I" } : Jvm.MethodName)) ∈ lw_all := lw_g (lw_at lw_m10 7 rfl) rfl
theorem q2326 : (Jvm.Cond.methodLink "StruckCountsLaw" (157 : Nat) ({ cls := "StruckCounts", name := "duel", desc := "(II)I" } : Jvm.MethodName)) ∈ lw_all := lw_g (lw_at lw_m10 11 rfl) rfl
theorem q2334 : (Jvm.Cond.methodLink "StruckCountsLaw" (161 : Nat) ({ cls := "StruckCounts", name := "turn", desc := "(III)I" } : Jvm.MethodName)) ∈ lw_all := lw_g (lw_at lw_m10 19 rfl) rfl
theorem q2338 : (Jvm.Cond.methodLink "StruckCountsLaw" (165 : Nat) ({ cls := "StruckCounts", name := "together", desc := "(I)I" } : Jvm.MethodName)) ∈ lw_all := lw_g (lw_at lw_m10 23 rfl) rfl
theorem q2342 : (Jvm.Cond.methodLink "StruckCountsLaw" (169 : Nat) ({ cls := "StruckCounts", name := "elect", desc := "(I)I" } : Jvm.MethodName)) ∈ lw_all := lw_g (lw_at lw_m10 27 rfl) rfl
theorem q2346 : (Jvm.Cond.methodLink "StruckCountsLaw" (173 : Nat) ({ cls := "StruckCounts", name := "ask", desc := "()I" } : Jvm.MethodName)) ∈ lw_all := lw_g (lw_at lw_m10 31 rfl) rfl
theorem q2355 : (Jvm.Cond.methodLink "StruckCountsLaw" (177 : Nat) ({ cls := "StruckCounts", name := "asked", desc := "(I)I" } : Jvm.MethodName)) ∈ lw_all := lw_g (lw_at lw_m10 40 rfl) rfl
theorem q2359 : (Jvm.Cond.methodLink "StruckCountsLaw" (181 : Nat) ({ cls := "StruckCounts", name := "count", desc := "(I)I" } : Jvm.MethodName)) ∈ lw_all := lw_g (lw_at lw_m10 44 rfl) rfl
theorem q2363 : (Jvm.Cond.classLink "StruckCountsLaw" (10 : Nat) "StruckCountsModel") ∈ lw_all := lw_g (lw_at lw_m10 48 rfl) rfl
theorem q2365 : (Jvm.Cond.methodLink "StruckCountsLaw" (12 : Nat) ({ cls := "StruckCountsModel", name := "<init>", desc := "()V" } : Jvm.MethodName)) ∈ lw_all := lw_g (lw_at lw_m10 50 rfl) rfl
theorem q2542 : (Jvm.Cond.methodLink "StruckCountsLaw" (17 : Nat) ({ cls := "StruckCountsModel", name := "sign", desc := "(I)I" } : Jvm.MethodName)) ∈ lw_all := lw_g (lw_at lw_m10 227 rfl) rfl
theorem q2546 : (Jvm.Cond.methodLink "StruckCountsLaw" (22 : Nat) ({ cls := "StruckCountsModel", name := "end", desc := "(I)Z" } : Jvm.MethodName)) ∈ lw_all := lw_g (lw_at lw_m10 231 rfl) rfl
theorem q2553 : (Jvm.Cond.methodLink "StruckCountsLaw" (27 : Nat) ({ cls := "StruckCountsModel", name := "suit", desc := "()I" } : Jvm.MethodName)) ∈ lw_all := lw_g (lw_at lw_m10 238 rfl) rfl
theorem q2728 : (Jvm.Cond.methodLink "StruckCountsLaw" (31 : Nat) ({ cls := "StruckCountsModel", name := "fault", desc := "(I)I" } : Jvm.MethodName)) ∈ lw_all := lw_g (lw_at lw_m11 173 rfl) rfl
theorem q2732 : (Jvm.Cond.methodLink "StruckCountsLaw" (36 : Nat) ({ cls := "StruckCountsModel", name := "fact", desc := "(II)I" } : Jvm.MethodName)) ∈ lw_all := lw_g (lw_at lw_m11 177 rfl) rfl
theorem q2748 : (Jvm.Cond.methodLink "StruckCountsLaw" (40 : Nat) ({ cls := "StruckCountsModel", name := "of", desc := "(II)I" } : Jvm.MethodName)) ∈ lw_all := lw_g (lw_at lw_m11 193 rfl) rfl
theorem q2807 : (Jvm.Cond.methodLink "StruckCountsLaw" (45 : Nat) ({ cls := "StruckCountsModel", name := "element", desc := "(III)I" } : Jvm.MethodName)) ∈ lw_all := lw_g (lw_at lw_m12 12 rfl) rfl
theorem q2825 : (Jvm.Cond.methodLink "StruckCountsLaw" (49 : Nat) ({ cls := "StruckCountsModel", name := "bar", desc := "(III)I" } : Jvm.MethodName)) ∈ lw_all := lw_g (lw_at lw_m12 30 rfl) rfl
theorem q2829 : (Jvm.Cond.methodLink "StruckCountsLaw" (53 : Nat) ({ cls := "StruckCountsModel", name := "answer", desc := "(II)I" } : Jvm.MethodName)) ∈ lw_all := lw_g (lw_at lw_m12 34 rfl) rfl
theorem q2853 : (Jvm.Cond.methodLink "StruckCountsLaw" (57 : Nat) ({ cls := "StruckCountsModel", name := "withdraw", desc := "(I)I" } : Jvm.MethodName)) ∈ lw_all := lw_g (lw_at lw_m12 58 rfl) rfl
theorem q2857 : (Jvm.Cond.methodLink "StruckCountsLaw" (61 : Nat) ({ cls := "StruckCountsModel", name := "close", desc := "()I" } : Jvm.MethodName)) ∈ lw_all := lw_g (lw_at lw_m12 62 rfl) rfl
theorem q2865 : (Jvm.Cond.methodLink "StruckCountsLaw" (66 : Nat) ({ cls := "StruckCountsModel", name := "find", desc := "(IZ)I" } : Jvm.MethodName)) ∈ lw_all := lw_g (lw_at lw_m12 70 rfl) rfl
theorem q2869 : (Jvm.Cond.methodLink "StruckCountsLaw" (70 : Nat) ({ cls := "StruckCountsModel", name := "say", desc := "(III)I" } : Jvm.MethodName)) ∈ lw_all := lw_g (lw_at lw_m12 74 rfl) rfl
theorem q2873 : (Jvm.Cond.methodLink "StruckCountsLaw" (74 : Nat) ({ cls := "StruckCountsModel", name := "add", desc := "(III)I" } : Jvm.MethodName)) ∈ lw_all := lw_g (lw_at lw_m12 78 rfl) rfl
theorem q2877 : (Jvm.Cond.methodLink "StruckCountsLaw" (78 : Nat) ({ cls := "StruckCountsModel", name := "strike", desc := "(I)I" } : Jvm.MethodName)) ∈ lw_all := lw_g (lw_at lw_m12 82 rfl) rfl
theorem q2881 : (Jvm.Cond.methodLink "StruckCountsLaw" (82 : Nat) ({ cls := "StruckCountsModel", name := "days", desc := "(I)I" } : Jvm.MethodName)) ∈ lw_all := lw_g (lw_at lw_m12 86 rfl) rfl
theorem q2885 : (Jvm.Cond.methodLink "StruckCountsLaw" (86 : Nat) ({ cls := "StruckCountsModel", name := "undo", desc := "()I" } : Jvm.MethodName)) ∈ lw_all := lw_g (lw_at lw_m12 90 rfl) rfl
theorem q2889 : (Jvm.Cond.methodLink "StruckCountsLaw" (90 : Nat) ({ cls := "StruckCountsModel", name := "keep", desc := "(I)Z" } : Jvm.MethodName)) ∈ lw_all := lw_g (lw_at lw_m12 94 rfl) rfl
theorem q2893 : (Jvm.Cond.methodLink "StruckCountsLaw" (94 : Nat) ({ cls := "StruckCountsModel", name := "again", desc := "(I)Z" } : Jvm.MethodName)) ∈ lw_all := lw_g (lw_at lw_m12 98 rfl) rfl
theorem q2897 : (Jvm.Cond.methodLink "StruckCountsLaw" (98 : Nat) ({ cls := "StruckCountsModel", name := "worlds", desc := "(I)I" } : Jvm.MethodName)) ∈ lw_all := lw_g (lw_at lw_m12 102 rfl) rfl
theorem q2901 : (Jvm.Cond.methodLink "StruckCountsLaw" (102 : Nat) ({ cls := "StruckCountsModel", name := "clash", desc := "(II)I" } : Jvm.MethodName)) ∈ lw_all := lw_g (lw_at lw_m12 106 rfl) rfl
theorem q2905 : (Jvm.Cond.methodLink "StruckCountsLaw" (106 : Nat) ({ cls := "StruckCountsModel", name := "implied", desc := "(II)I" } : Jvm.MethodName)) ∈ lw_all := lw_g (lw_at lw_m12 110 rfl) rfl
theorem q2913 : (Jvm.Cond.methodLink "StruckCountsLaw" (110 : Nat) ({ cls := "StruckCountsModel", name := "lacks", desc := "(II)I" } : Jvm.MethodName)) ∈ lw_all := lw_g (lw_at lw_m12 118 rfl) rfl
theorem q2921 : (Jvm.Cond.methodLink "StruckCountsLaw" (114 : Nat) ({ cls := "StruckCountsModel", name := "grown", desc := "(II)I" } : Jvm.MethodName)) ∈ lw_all := lw_g (lw_at lw_m12 126 rfl) rfl
theorem q2927 : (Jvm.Cond.methodLink "StruckCountsLaw" (118 : Nat) ({ cls := "StruckCountsModel", name := "issues", desc := "(I)I" } : Jvm.MethodName)) ∈ lw_all := lw_g (lw_at lw_m12 132 rfl) rfl
theorem q2931 : (Jvm.Cond.methodLink "StruckCountsLaw" (122 : Nat) ({ cls := "StruckCountsModel", name := "judged", desc := "(I)I" } : Jvm.MethodName)) ∈ lw_all := lw_g (lw_at lw_m12 136 rfl) rfl
theorem q2948 : (Jvm.Cond.methodLink "StruckCountsLaw" (126 : Nat) ({ cls := "StruckCountsModel", name := "tries", desc := "(II)I" } : Jvm.MethodName)) ∈ lw_all := lw_g (lw_at lw_m12 153 rfl) rfl
theorem q2961 : (Jvm.Cond.methodLink "StruckCountsLaw" (160 : Nat) ({ cls := "StruckCountsModel", name := "duel", desc := "(II)I" } : Jvm.MethodName)) ∈ lw_all := lw_g (lw_at lw_m12 166 rfl) rfl
theorem q2969 : (Jvm.Cond.methodLink "StruckCountsLaw" (164 : Nat) ({ cls := "StruckCountsModel", name := "turn", desc := "(III)I" } : Jvm.MethodName)) ∈ lw_all := lw_g (lw_at lw_m12 174 rfl) rfl
theorem q2973 : (Jvm.Cond.methodLink "StruckCountsLaw" (151 : Nat) ({ cls := "StruckCountsModel", name := "proofs", desc := "(IZ)I" } : Jvm.MethodName)) ∈ lw_all := lw_g (lw_at lw_m12 178 rfl) rfl
theorem q2992 : (Jvm.Cond.methodLink "StruckCountsLaw" (156 : Nat) ({ cls := "StruckCountsModel", name := "proof", desc := "(IZII)I" } : Jvm.MethodName)) ∈ lw_all := lw_g (lw_at lw_m12 197 rfl) rfl
theorem q2996 : (Jvm.Cond.methodLink "StruckCountsLaw" (130 : Nat) ({ cls := "StruckCountsModel", name := "chance", desc := "(II)I" } : Jvm.MethodName)) ∈ lw_all := lw_g (lw_at lw_m12 201 rfl) rfl
theorem q3008 : (Jvm.Cond.methodLink "StruckCountsLaw" (134 : Nat) ({ cls := "StruckCountsModel", name := "award", desc := "(I)I" } : Jvm.MethodName)) ∈ lw_all := lw_g (lw_at lw_m12 213 rfl) rfl
theorem q3024 : (Jvm.Cond.methodLink "StruckCountsLaw" (139 : Nat) ({ cls := "StruckCountsModel", name := "meant", desc := "(I)J" } : Jvm.MethodName)) ∈ lw_all := lw_g (lw_at lw_m12 229 rfl) rfl
theorem q3029 : (Jvm.Cond.methodLink "StruckCountsLaw" (143 : Nat) ({ cls := "StruckCountsModel", name := "outcomes", desc := "()I" } : Jvm.MethodName)) ∈ lw_all := lw_g (lw_at lw_m12 234 rfl) rfl
theorem q3037 : (Jvm.Cond.methodLink "StruckCountsLaw" (147 : Nat) ({ cls := "StruckCountsModel", name := "outcome", desc := "(II)I" } : Jvm.MethodName)) ∈ lw_all := lw_g (lw_at lw_m13 2 rfl) rfl
theorem q3042 : (Jvm.Cond.methodLink "StruckCountsLaw" (168 : Nat) ({ cls := "StruckCountsModel", name := "together", desc := "(I)I" } : Jvm.MethodName)) ∈ lw_all := lw_g (lw_at lw_m13 7 rfl) rfl
theorem q3046 : (Jvm.Cond.methodLink "StruckCountsLaw" (172 : Nat) ({ cls := "StruckCountsModel", name := "elect", desc := "(I)I" } : Jvm.MethodName)) ∈ lw_all := lw_g (lw_at lw_m13 11 rfl) rfl
theorem q3050 : (Jvm.Cond.methodLink "StruckCountsLaw" (176 : Nat) ({ cls := "StruckCountsModel", name := "ask", desc := "()I" } : Jvm.MethodName)) ∈ lw_all := lw_g (lw_at lw_m13 15 rfl) rfl
theorem q3054 : (Jvm.Cond.methodLink "StruckCountsLaw" (180 : Nat) ({ cls := "StruckCountsModel", name := "asked", desc := "(I)I" } : Jvm.MethodName)) ∈ lw_all := lw_g (lw_at lw_m13 19 rfl) rfl
theorem q3058 : (Jvm.Cond.methodLink "StruckCountsLaw" (184 : Nat) ({ cls := "StruckCountsModel", name := "count", desc := "(I)I" } : Jvm.MethodName)) ∈ lw_all := lw_g (lw_at lw_m13 23 rfl) rfl

theorem q741 : (Jvm.Cond.sameMethod "[B" "java/lang/Object" "clone" "()Ljava/lang/Object;") ∈ lw_all := lw_g (lw_at lw_m3 106 rfl) rfl
set_option maxRecDepth 100000
theorem q744 : (Jvm.Cond.selects "[B" ({ cls := "[B", name := "clone", desc := "()Ljava/lang/Object;" } : Jvm.MethodName) ({ cls := "java/lang/Object", name := "clone", desc := "()Ljava/lang/Object;" } : Jvm.MethodName)) ∈ lw_all := lw_g (lw_at lw_m3 109 rfl) rfl
theorem q745 : (Jvm.Cond.castable "[B" "java/lang/Cloneable") ∈ lw_tbl := lw_at lw_m3 110 rfl
theorem q3112 : (Jvm.Cond.castable "[B" "java/lang/Object") ∈ lw_tbl := lw_at lw_m13 77 rfl

theorem q3114 : (Jvm.Cond.castable "[I" "java/lang/Object") ∈ lw_tbl := lw_at lw_m13 79 rfl
set_option maxRecDepth 100000

theorem q3119 : (Jvm.Cond.castable "[J" "java/lang/Object") ∈ lw_tbl := lw_at lw_m13 84 rfl
set_option maxRecDepth 100000

theorem q3117 : (Jvm.Cond.castable "[LStruckCounts$Outcome;" "java/lang/Object") ∈ lw_tbl := lw_at lw_m13 82 rfl
set_option maxRecDepth 100000

theorem q3116 : (Jvm.Cond.castable "[LStruckCounts$State;" "java/lang/Object") ∈ lw_tbl := lw_at lw_m13 81 rfl
set_option maxRecDepth 100000

theorem q3109 : (Jvm.Cond.sameMethod "[Ljava/lang/Object;" "java/lang/Object" "getClass" "()Ljava/lang/Class;") ∈ lw_all := lw_g (lw_at lw_m13 74 rfl) rfl
set_option maxRecDepth 100000
theorem q3110 : (Jvm.Cond.selects "[Ljava/lang/Object;" ({ cls := "java/lang/Object", name := "getClass", desc := "()Ljava/lang/Class;" } : Jvm.MethodName) ({ cls := "java/lang/Object", name := "getClass", desc := "()Ljava/lang/Class;" } : Jvm.MethodName)) ∈ lw_all := lw_g (lw_at lw_m13 75 rfl) rfl
theorem q3113 : (Jvm.Cond.castable "[Ljava/lang/Object;" "java/lang/Object") ∈ lw_tbl := lw_at lw_m13 78 rfl

theorem q3118 : (Jvm.Cond.castable "[Ljava/util/HashMap$Node;" "java/lang/Object") ∈ lw_tbl := lw_at lw_m13 83 rfl
set_option maxRecDepth 100000

theorem q3115 : (Jvm.Cond.castable "[Z" "java/lang/Object") ∈ lw_tbl := lw_at lw_m13 80 rfl
set_option maxRecDepth 100000

theorem q1260 : (Jvm.Cond.interfaceMethod "java/lang/Comparable" "java/lang/Comparable" "compareTo" "(Ljava/lang/Object;)I") ∈ lw_tbl := lw_at lw_m5 145 rfl
set_option maxRecDepth 100000
theorem q1261 : (Jvm.Cond.declares ({ cls := "java/lang/Comparable", name := "compareTo", desc := "(Ljava/lang/Object;)I" } : Jvm.MethodName)) ∈ lw_tbl := lw_at lw_m5 146 rfl

theorem q169 : (Jvm.Cond.initialized "java/lang/Number") ∈ lw_all := lw_g (lw_at lw_m1 14 rfl) rfl
set_option maxRecDepth 100000

theorem q181 : (Jvm.Cond.initialized "java/lang/System") ∈ lw_all := lw_g (lw_at lw_m1 26 rfl) rfl
set_option maxRecDepth 100000
theorem q751 : (Jvm.Cond.static ({ cls := "java/lang/System", name := "arraycopy", desc := "(Ljava/lang/Object;ILjava/lang/Object;II)V" } : Jvm.MethodName)) ∈ lw_all := lw_g (lw_at lw_m3 116 rfl) rfl
theorem q752 : (Jvm.Cond.native ({ cls := "java/lang/System", name := "arraycopy", desc := "(Ljava/lang/Object;ILjava/lang/Object;II)V" } : Jvm.MethodName)) ∈ lw_all := lw_g (lw_at lw_m3 117 rfl) rfl

theorem q1077 : (Jvm.Cond.interfaceMethod "jdk/internal/access/JavaLangAccess" "jdk/internal/access/JavaLangAccess" "getUTF16Char" "([BI)C") ∈ lw_tbl := lw_at lw_m4 202 rfl
set_option maxRecDepth 100000
theorem q1078 : (Jvm.Cond.declares ({ cls := "jdk/internal/access/JavaLangAccess", name := "getUTF16Char", desc := "([BI)C" } : Jvm.MethodName)) ∈ lw_tbl := lw_at lw_m4 203 rfl

theorem q188 : (Jvm.Cond.initialized "jdk/internal/misc/UnsafeConstants") ∈ lw_all := lw_g (lw_at lw_m1 33 rfl) rfl
set_option maxRecDepth 100000
theorem q1318 : (Jvm.Cond.laysStatic "jdk/internal/misc/UnsafeConstants" "BIG_ENDIAN" "Z") ∈ lw_tbl := lw_at lw_m5 203 rfl

theorem q269 : (Jvm.Cond.arrayClass Jvm.ClassFile.FieldType.byte) ∈ lw_all := lw_g (lw_at lw_m1 114 rfl) rfl
set_option maxRecDepth 100000
theorem q308 : (Jvm.Cond.arrayOver (Jvm.ClassFile.FieldType.object "java/lang/Object")) ∈ lw_tbl := lw_at lw_m1 153 rfl
theorem q376 : (Jvm.Cond.arrayClass Jvm.ClassFile.FieldType.int) ∈ lw_all := lw_g (lw_at lw_m1 221 rfl) rfl
theorem q377 : (Jvm.Cond.arrayClass Jvm.ClassFile.FieldType.boolean) ∈ lw_all := lw_g (lw_at lw_m1 222 rfl) rfl
theorem q536 : (Jvm.Cond.arrayOver (Jvm.ClassFile.FieldType.object "StruckCounts$State")) ∈ lw_tbl := lw_at lw_m2 141 rfl
theorem q570 : (Jvm.Cond.arrayOver (Jvm.ClassFile.FieldType.object "StruckCounts$Outcome")) ∈ lw_tbl := lw_at lw_m2 175 rfl
theorem q1471 : (Jvm.Cond.arrayOver (Jvm.ClassFile.FieldType.object "java/util/HashMap$Node")) ∈ lw_tbl := lw_at lw_m6 116 rfl
theorem q2541 : (Jvm.Cond.arrayClass Jvm.ClassFile.FieldType.long) ∈ lw_all := lw_g (lw_at lw_m10 226 rfl) rfl
theorem q3120 : (Jvm.Cond.arrayClass Jvm.ClassFile.FieldType.char) ∈ lw_all := lw_g (lw_at lw_m13 85 rfl) rfl
theorem q3121 : (Jvm.Cond.arrayClass Jvm.ClassFile.FieldType.short) ∈ lw_all := lw_g (lw_at lw_m13 86 rfl) rfl
