/-! SafeBucketsLaw -/
set_option maxRecDepth 100000
def RX0 : String := "SafeBucketsLaw"
abbrev cX0_table : ByteArray := method_3_code
def yX0_table : MethodName := ⟨RX0, "table", "(LSafeBuckets;II[J)I"⟩
def dkwX0_table_0 : List UInt8 := [45, 3, 42, 27, 28, 182, 0, 7, 133, 80, 167, 0, 7, 58, 4, 4, 172, 3, 172]
abbrev dktX0_table_0 : List UInt8 := dkwX0_table_0 ++ []
theorem dksX0_table_0 : cX0_table.data.toList.drop 0 = dktX0_table_0 := by decide +kernel
theorem dX0_table_0 : decode cX0_table 0 = .ok (.aload_n 3, 1) := dk_45 (dk_at dksX0_table_0 0 rfl rfl)
theorem dX0_table_1 : decode cX0_table 1 = .ok (.iconst 0, 1) := dk_3 (dk_at dksX0_table_0 1 rfl rfl)
theorem dX0_table_2 : decode cX0_table 2 = .ok (.aload_n 0, 1) := dk_42 (dk_at dksX0_table_0 2 rfl rfl)
theorem dX0_table_3 : decode cX0_table 3 = .ok (.iload_n 1, 1) := dk_27 (dk_at dksX0_table_0 3 rfl rfl)
theorem dX0_table_4 : decode cX0_table 4 = .ok (.iload_n 2, 1) := dk_28 (dk_at dksX0_table_0 4 rfl rfl)
theorem dX0_table_5 : decode cX0_table 5 = .ok (.invokevirtual 7, 3) := dk_182 0 7 (dk_at dksX0_table_0 5 rfl rfl)
theorem dX0_table_8 : decode cX0_table 8 = .ok (.i2l, 1) := dk_133 (dk_at dksX0_table_0 8 rfl rfl)
theorem dX0_table_9 : decode cX0_table 9 = .ok (.lastore, 1) := dk_80 (dk_at dksX0_table_0 9 rfl rfl)
theorem dX0_table_10 : decode cX0_table 10 = .ok (.goto 7, 3) := dk_167 0 7 (dk_at dksX0_table_0 10 rfl rfl)
theorem dX0_table_13 : decode cX0_table 13 = .ok (.astore 4, 2) := dk_58 4 (dk_at dksX0_table_0 13 rfl rfl)
theorem dX0_table_15 : decode cX0_table 15 = .ok (.iconst 1, 1) := dk_4 (dk_at dksX0_table_0 15 rfl rfl)
theorem dX0_table_16 : decode cX0_table 16 = .ok (.ireturn, 1) := dk_172 (dk_at dksX0_table_0 16 rfl rfl)
theorem dX0_table_17 : decode cX0_table 17 = .ok (.iconst 0, 1) := dk_3 (dk_at dksX0_table_0 17 rfl rfl)
theorem dX0_table_18 : decode cX0_table 18 = .ok (.ireturn, 1) := dk_172 (dk_at dksX0_table_0 18 rfl rfl)
theorem q115 : (Jvm.Cond.initialized "SafeBucketsLaw") ∈ lw_all := lw_g (lw_at lw_m1 0 rfl) rfl
theorem q156 : (Jvm.Cond.methodLink "SafeBucketsLaw" (19 : Nat) ({ cls := "SafeBuckets", name := "feed", desc := "(IIIII)I" } : Jvm.MethodName)) ∈ lw_all := lw_g (lw_at lw_m1 41 rfl) rfl
theorem q168 : (Jvm.Cond.methodLink "SafeBucketsLaw" (24 : Nat) ({ cls := "SafeBuckets", name := "end", desc := "(I)Z" } : Jvm.MethodName)) ∈ lw_all := lw_g (lw_at lw_m1 53 rfl) rfl
theorem q172 : (Jvm.Cond.classLink "SafeBucketsLaw" (8 : Nat) "SafeBuckets") ∈ lw_all := lw_g (lw_at lw_m1 57 rfl) rfl
theorem q173 : (Jvm.Cond.methodLink "SafeBucketsLaw" (15 : Nat) ({ cls := "SafeBuckets", name := "<init>", desc := "()V" } : Jvm.MethodName)) ∈ lw_all := lw_g (lw_at lw_m1 58 rfl) rfl
theorem q477 : (Jvm.Cond.methodLink "SafeBucketsLaw" (29 : Nat) ({ cls := "SafeBuckets", name := "fault", desc := "(I)I" } : Jvm.MethodName)) ∈ lw_all := lw_g (lw_at lw_m2 122 rfl) rfl
theorem q854 : (Jvm.Cond.methodLink "SafeBucketsLaw" (34 : Nat) ({ cls := "SafeBuckets", name := "text", desc := "(I)I" } : Jvm.MethodName)) ∈ lw_all := lw_g (lw_at lw_m4 19 rfl) rfl
theorem q911 : (Jvm.Cond.methodLink "SafeBucketsLaw" (154 : Nat) ({ cls := "SafeBuckets", name := "unit", desc := "(III)I" } : Jvm.MethodName)) ∈ lw_all := lw_g (lw_at lw_m4 76 rfl) rfl
theorem q925 : (Jvm.Cond.methodLink "SafeBucketsLaw" (38 : Nat) ({ cls := "SafeBuckets", name := "rule", desc := "(I)I" } : Jvm.MethodName)) ∈ lw_all := lw_g (lw_at lw_m4 90 rfl) rfl
theorem q930 : (Jvm.Cond.methodLink "SafeBucketsLaw" (52 : Nat) ({ cls := "SafeBuckets", name := "rows", desc := "(III)I" } : Jvm.MethodName)) ∈ lw_all := lw_g (lw_at lw_m4 95 rfl) rfl
theorem q952 : (Jvm.Cond.methodLink "SafeBucketsLaw" (57 : Nat) ({ cls := "SafeBuckets", name := "countOf", desc := "(III)I" } : Jvm.MethodName)) ∈ lw_all := lw_g (lw_at lw_m4 117 rfl) rfl
theorem q960 : (Jvm.Cond.methodLink "SafeBucketsLaw" (61 : Nat) ({ cls := "SafeBuckets", name := "bucket", desc := "(IIII)I" } : Jvm.MethodName)) ∈ lw_all := lw_g (lw_at lw_m4 125 rfl) rfl
theorem q968 : (Jvm.Cond.methodLink "SafeBucketsLaw" (66 : Nat) ({ cls := "SafeBuckets", name := "column", desc := "(III)I" } : Jvm.MethodName)) ∈ lw_all := lw_g (lw_at lw_m4 133 rfl) rfl
theorem q976 : (Jvm.Cond.methodLink "SafeBucketsLaw" (70 : Nat) ({ cls := "SafeBuckets", name := "error", desc := "(III)J" } : Jvm.MethodName)) ∈ lw_all := lw_g (lw_at lw_m4 141 rfl) rfl
theorem q986 : (Jvm.Cond.methodLink "SafeBucketsLaw" (75 : Nat) ({ cls := "SafeBuckets", name := "border", desc := "(IIII)I" } : Jvm.MethodName)) ∈ lw_all := lw_g (lw_at lw_m4 151 rfl) rfl
theorem q990 : (Jvm.Cond.methodLink "SafeBucketsLaw" (79 : Nat) ({ cls := "SafeBuckets", name := "tried", desc := "(IIII)I" } : Jvm.MethodName)) ∈ lw_all := lw_g (lw_at lw_m4 155 rfl) rfl
theorem q994 : (Jvm.Cond.methodLink "SafeBucketsLaw" (85 : Nat) ({ cls := "SafeBuckets", name := "fewest", desc := "(IIJ)I" } : Jvm.MethodName)) ∈ lw_all := lw_g (lw_at lw_m4 159 rfl) rfl
theorem q998 : (Jvm.Cond.methodLink "SafeBucketsLaw" (90 : Nat) ({ cls := "SafeBuckets", name := "add", desc := "(IIII)I" } : Jvm.MethodName)) ∈ lw_all := lw_g (lw_at lw_m4 163 rfl) rfl
theorem q1070 : (Jvm.Cond.methodLink "SafeBucketsLaw" (94 : Nat) ({ cls := "SafeBuckets", name := "drop", desc := "(IIII)I" } : Jvm.MethodName)) ∈ lw_all := lw_g (lw_at lw_m4 235 rfl) rfl
theorem q1074 : (Jvm.Cond.methodLink "SafeBucketsLaw" (98 : Nat) ({ cls := "SafeBuckets", name := "move", desc := "(IIIII)I" } : Jvm.MethodName)) ∈ lw_all := lw_g (lw_at lw_m4 239 rfl) rfl
theorem q1078 : (Jvm.Cond.methodLink "SafeBucketsLaw" (102 : Nat) ({ cls := "SafeBuckets", name := "build", desc := "(II)I" } : Jvm.MethodName)) ∈ lw_all := lw_g (lw_at lw_m5 3 rfl) rfl
theorem q1087 : (Jvm.Cond.methodLink "SafeBucketsLaw" (106 : Nat) ({ cls := "SafeBuckets", name := "budget", desc := "(I)I" } : Jvm.MethodName)) ∈ lw_all := lw_g (lw_at lw_m5 12 rfl) rfl
theorem q1092 : (Jvm.Cond.methodLink "SafeBucketsLaw" (110 : Nat) ({ cls := "SafeBuckets", name := "years", desc := "(IJ)I" } : Jvm.MethodName)) ∈ lw_all := lw_g (lw_at lw_m5 17 rfl) rfl
theorem q1114 : (Jvm.Cond.methodLink "SafeBucketsLaw" (115 : Nat) ({ cls := "SafeBuckets", name := "status", desc := "(I)I" } : Jvm.MethodName)) ∈ lw_all := lw_g (lw_at lw_m5 39 rfl) rfl
theorem q1119 : (Jvm.Cond.methodLink "SafeBucketsLaw" (119 : Nat) ({ cls := "SafeBuckets", name := "undo", desc := "()I" } : Jvm.MethodName)) ∈ lw_all := lw_g (lw_at lw_m5 44 rfl) rfl
theorem q1123 : (Jvm.Cond.methodLink "SafeBucketsLaw" (123 : Nat) ({ cls := "SafeBuckets", name := "log", desc := "(II)I" } : Jvm.MethodName)) ∈ lw_all := lw_g (lw_at lw_m5 48 rfl) rfl
theorem q1127 : (Jvm.Cond.methodLink "SafeBucketsLaw" (127 : Nat) ({ cls := "SafeBuckets", name := "where", desc := "(III)I" } : Jvm.MethodName)) ∈ lw_all := lw_g (lw_at lw_m5 52 rfl) rfl
theorem q1379 : (Jvm.Cond.methodLink "SafeBucketsLaw" (131 : Nat) ({ cls := "SafeBuckets", name := "join", desc := "(IIIII)J" } : Jvm.MethodName)) ∈ lw_all := lw_g (lw_at lw_m6 64 rfl) rfl
theorem q1406 : (Jvm.Cond.methodLink "SafeBucketsLaw" (136 : Nat) ({ cls := "SafeBuckets", name := "chain", desc := "(I)J" } : Jvm.MethodName)) ∈ lw_all := lw_g (lw_at lw_m6 91 rfl) rfl
theorem q1419 : (Jvm.Cond.methodLink "SafeBucketsLaw" (141 : Nat) ({ cls := "SafeBuckets", name := "trace", desc := "(I)I" } : Jvm.MethodName)) ∈ lw_all := lw_g (lw_at lw_m6 104 rfl) rfl
theorem q1423 : (Jvm.Cond.methodLink "SafeBucketsLaw" (145 : Nat) ({ cls := "SafeBuckets", name := "narrow", desc := "(III)I" } : Jvm.MethodName)) ∈ lw_all := lw_g (lw_at lw_m6 108 rfl) rfl
theorem q1460 : (Jvm.Cond.methodLink "SafeBucketsLaw" (149 : Nat) ({ cls := "SafeBuckets", name := "odds", desc := "(IIII)J" } : Jvm.MethodName)) ∈ lw_all := lw_g (lw_at lw_m6 145 rfl) rfl
theorem q1486 : (Jvm.Cond.methodLink "SafeBucketsLaw" (158 : Nat) ({ cls := "SafeBuckets", name := "shares", desc := "(II)I" } : Jvm.MethodName)) ∈ lw_all := lw_g (lw_at lw_m6 171 rfl) rfl
theorem q1490 : (Jvm.Cond.methodLink "SafeBucketsLaw" (162 : Nat) ({ cls := "SafeBuckets", name := "most", desc := "(I)I" } : Jvm.MethodName)) ∈ lw_all := lw_g (lw_at lw_m6 175 rfl) rfl
theorem q1519 : (Jvm.Cond.methodLink "SafeBucketsLaw" (166 : Nat) ({ cls := "SafeBuckets", name := "image", desc := "()I" } : Jvm.MethodName)) ∈ lw_all := lw_g (lw_at lw_m6 204 rfl) rfl
theorem q1523 : (Jvm.Cond.methodLink "SafeBucketsLaw" (170 : Nat) ({ cls := "SafeBuckets", name := "back", desc := "()I" } : Jvm.MethodName)) ∈ lw_all := lw_g (lw_at lw_m6 208 rfl) rfl
theorem q1527 : (Jvm.Cond.methodLink "SafeBucketsLaw" (174 : Nat) ({ cls := "SafeBuckets", name := "count", desc := "(I)I" } : Jvm.MethodName)) ∈ lw_all := lw_g (lw_at lw_m6 212 rfl) rfl
theorem q1531 : (Jvm.Cond.methodLink "SafeBucketsLaw" (42 : Nat) ({ cls := "SafeBucketsLaw", name := "table", desc := "(LSafeBuckets;II[J)I" } : Jvm.MethodName)) ∈ lw_all := lw_g (lw_at lw_m6 216 rfl) rfl
theorem q1532 : (Jvm.Cond.static ({ cls := "SafeBucketsLaw", name := "table", desc := "(LSafeBuckets;II[J)I" } : Jvm.MethodName)) ∈ lw_all := lw_g (lw_at lw_m6 217 rfl) rfl
theorem q1533 : (Jvm.Cond.codeWith ({ cls := "SafeBucketsLaw", name := "table", desc := "(LSafeBuckets;II[J)I" } : Jvm.MethodName) method_3_code (5 : Nat) (Option.some Jvm.ClassFile.FieldType.int) [((0 : Nat), (10 : Nat), (13 : Nat), (13 : Nat))]) ∈ lw_all := lw_g (lw_at lw_m6 218 rfl) rfl
theorem q1534 : (Jvm.Cond.classLink "SafeBucketsLaw" (13 : Nat) "java/util/NoSuchElementException") ∈ lw_all := lw_g (lw_at lw_m6 219 rfl) rfl
theorem q1535 : (Jvm.Cond.methodLink "SafeBucketsLaw" (7 : Nat) ({ cls := "SafeBuckets", name := "table", desc := "(II)I" } : Jvm.MethodName)) ∈ lw_all := lw_g (lw_at lw_m6 220 rfl) rfl
theorem q1563 : (Jvm.Cond.classLink "SafeBucketsLaw" (16 : Nat) "SafeBucketsModel") ∈ lw_all := lw_g (lw_at lw_m7 8 rfl) rfl
theorem q1565 : (Jvm.Cond.methodLink "SafeBucketsLaw" (18 : Nat) ({ cls := "SafeBucketsModel", name := "<init>", desc := "()V" } : Jvm.MethodName)) ∈ lw_all := lw_g (lw_at lw_m7 10 rfl) rfl
theorem q1670 : (Jvm.Cond.methodLink "SafeBucketsLaw" (48 : Nat) ({ cls := "SafeBucketsModel", name := "thrown", desc := "()I" } : Jvm.MethodName)) ∈ lw_all := lw_g (lw_at lw_m7 115 rfl) rfl
theorem q1674 : (Jvm.Cond.methodLink "SafeBucketsLaw" (23 : Nat) ({ cls := "SafeBucketsModel", name := "feed", desc := "(IIIII)I" } : Jvm.MethodName)) ∈ lw_all := lw_g (lw_at lw_m7 119 rfl) rfl
theorem q1681 : (Jvm.Cond.methodLink "SafeBucketsLaw" (28 : Nat) ({ cls := "SafeBucketsModel", name := "end", desc := "(I)Z" } : Jvm.MethodName)) ∈ lw_all := lw_g (lw_at lw_m7 126 rfl) rfl
theorem q1688 : (Jvm.Cond.methodLink "SafeBucketsLaw" (33 : Nat) ({ cls := "SafeBucketsModel", name := "fault", desc := "(I)I" } : Jvm.MethodName)) ∈ lw_all := lw_g (lw_at lw_m7 133 rfl) rfl
theorem q1746 : (Jvm.Cond.methodLink "SafeBucketsLaw" (37 : Nat) ({ cls := "SafeBucketsModel", name := "text", desc := "(I)I" } : Jvm.MethodName)) ∈ lw_all := lw_g (lw_at lw_m7 191 rfl) rfl
theorem q1799 : (Jvm.Cond.methodLink "SafeBucketsLaw" (41 : Nat) ({ cls := "SafeBucketsModel", name := "rule", desc := "(I)I" } : Jvm.MethodName)) ∈ lw_all := lw_g (lw_at lw_m8 4 rfl) rfl
theorem q1808 : (Jvm.Cond.methodLink "SafeBucketsLaw" (47 : Nat) ({ cls := "SafeBucketsModel", name := "table", desc := "(II)I" } : Jvm.MethodName)) ∈ lw_all := lw_g (lw_at lw_m8 13 rfl) rfl
theorem q1821 : (Jvm.Cond.methodLink "SafeBucketsLaw" (56 : Nat) ({ cls := "SafeBucketsModel", name := "rows", desc := "(III)I" } : Jvm.MethodName)) ∈ lw_all := lw_g (lw_at lw_m8 26 rfl) rfl
theorem q1830 : (Jvm.Cond.methodLink "SafeBucketsLaw" (60 : Nat) ({ cls := "SafeBucketsModel", name := "countOf", desc := "(III)I" } : Jvm.MethodName)) ∈ lw_all := lw_g (lw_at lw_m8 35 rfl) rfl
theorem q1838 : (Jvm.Cond.methodLink "SafeBucketsLaw" (65 : Nat) ({ cls := "SafeBucketsModel", name := "bucket", desc := "(IIII)I" } : Jvm.MethodName)) ∈ lw_all := lw_g (lw_at lw_m8 43 rfl) rfl
theorem q1851 : (Jvm.Cond.methodLink "SafeBucketsLaw" (69 : Nat) ({ cls := "SafeBucketsModel", name := "column", desc := "(III)I" } : Jvm.MethodName)) ∈ lw_all := lw_g (lw_at lw_m8 56 rfl) rfl
theorem q1859 : (Jvm.Cond.methodLink "SafeBucketsLaw" (74 : Nat) ({ cls := "SafeBucketsModel", name := "error", desc := "(III)J" } : Jvm.MethodName)) ∈ lw_all := lw_g (lw_at lw_m8 64 rfl) rfl
theorem q1867 : (Jvm.Cond.methodLink "SafeBucketsLaw" (78 : Nat) ({ cls := "SafeBucketsModel", name := "border", desc := "(IIII)I" } : Jvm.MethodName)) ∈ lw_all := lw_g (lw_at lw_m8 72 rfl) rfl
theorem q1871 : (Jvm.Cond.methodLink "SafeBucketsLaw" (82 : Nat) ({ cls := "SafeBucketsModel", name := "tried", desc := "(IIII)I" } : Jvm.MethodName)) ∈ lw_all := lw_g (lw_at lw_m8 76 rfl) rfl
theorem q1879 : (Jvm.Cond.methodLink "SafeBucketsLaw" (89 : Nat) ({ cls := "SafeBucketsModel", name := "fewest", desc := "(IIJ)I" } : Jvm.MethodName)) ∈ lw_all := lw_g (lw_at lw_m8 84 rfl) rfl
theorem q1883 : (Jvm.Cond.methodLink "SafeBucketsLaw" (93 : Nat) ({ cls := "SafeBucketsModel", name := "add", desc := "(IIII)I" } : Jvm.MethodName)) ∈ lw_all := lw_g (lw_at lw_m8 88 rfl) rfl
theorem q1916 : (Jvm.Cond.methodLink "SafeBucketsLaw" (97 : Nat) ({ cls := "SafeBucketsModel", name := "drop", desc := "(IIII)I" } : Jvm.MethodName)) ∈ lw_all := lw_g (lw_at lw_m8 121 rfl) rfl
theorem q1924 : (Jvm.Cond.methodLink "SafeBucketsLaw" (101 : Nat) ({ cls := "SafeBucketsModel", name := "move", desc := "(IIIII)I" } : Jvm.MethodName)) ∈ lw_all := lw_g (lw_at lw_m8 129 rfl) rfl
theorem q1928 : (Jvm.Cond.methodLink "SafeBucketsLaw" (105 : Nat) ({ cls := "SafeBucketsModel", name := "build", desc := "(II)I" } : Jvm.MethodName)) ∈ lw_all := lw_g (lw_at lw_m8 133 rfl) rfl
theorem q1936 : (Jvm.Cond.methodLink "SafeBucketsLaw" (109 : Nat) ({ cls := "SafeBucketsModel", name := "budget", desc := "(I)I" } : Jvm.MethodName)) ∈ lw_all := lw_g (lw_at lw_m8 141 rfl) rfl
theorem q1941 : (Jvm.Cond.methodLink "SafeBucketsLaw" (114 : Nat) ({ cls := "SafeBucketsModel", name := "years", desc := "(IJ)I" } : Jvm.MethodName)) ∈ lw_all := lw_g (lw_at lw_m8 146 rfl) rfl
theorem q1967 : (Jvm.Cond.methodLink "SafeBucketsLaw" (118 : Nat) ({ cls := "SafeBucketsModel", name := "status", desc := "(I)I" } : Jvm.MethodName)) ∈ lw_all := lw_g (lw_at lw_m8 172 rfl) rfl
theorem q1972 : (Jvm.Cond.methodLink "SafeBucketsLaw" (122 : Nat) ({ cls := "SafeBucketsModel", name := "undo", desc := "()I" } : Jvm.MethodName)) ∈ lw_all := lw_g (lw_at lw_m8 177 rfl) rfl
theorem q1976 : (Jvm.Cond.methodLink "SafeBucketsLaw" (126 : Nat) ({ cls := "SafeBucketsModel", name := "log", desc := "(II)I" } : Jvm.MethodName)) ∈ lw_all := lw_g (lw_at lw_m8 181 rfl) rfl
theorem q1980 : (Jvm.Cond.methodLink "SafeBucketsLaw" (144 : Nat) ({ cls := "SafeBucketsModel", name := "trace", desc := "(I)I" } : Jvm.MethodName)) ∈ lw_all := lw_g (lw_at lw_m8 185 rfl) rfl
theorem q1984 : (Jvm.Cond.methodLink "SafeBucketsLaw" (130 : Nat) ({ cls := "SafeBucketsModel", name := "where", desc := "(III)I" } : Jvm.MethodName)) ∈ lw_all := lw_g (lw_at lw_m8 189 rfl) rfl
theorem q2044 : (Jvm.Cond.methodLink "SafeBucketsLaw" (135 : Nat) ({ cls := "SafeBucketsModel", name := "join", desc := "(IIIII)J" } : Jvm.MethodName)) ∈ lw_all := lw_g (lw_at lw_m9 9 rfl) rfl
theorem q2068 : (Jvm.Cond.methodLink "SafeBucketsLaw" (140 : Nat) ({ cls := "SafeBucketsModel", name := "chain", desc := "(I)J" } : Jvm.MethodName)) ∈ lw_all := lw_g (lw_at lw_m9 33 rfl) rfl
theorem q2080 : (Jvm.Cond.methodLink "SafeBucketsLaw" (148 : Nat) ({ cls := "SafeBucketsModel", name := "narrow", desc := "(III)I" } : Jvm.MethodName)) ∈ lw_all := lw_g (lw_at lw_m9 45 rfl) rfl
theorem q2088 : (Jvm.Cond.methodLink "SafeBucketsLaw" (153 : Nat) ({ cls := "SafeBucketsModel", name := "odds", desc := "(IIII)J" } : Jvm.MethodName)) ∈ lw_all := lw_g (lw_at lw_m9 53 rfl) rfl
theorem q2092 : (Jvm.Cond.methodLink "SafeBucketsLaw" (157 : Nat) ({ cls := "SafeBucketsModel", name := "unit", desc := "(III)I" } : Jvm.MethodName)) ∈ lw_all := lw_g (lw_at lw_m9 57 rfl) rfl
theorem q2096 : (Jvm.Cond.methodLink "SafeBucketsLaw" (161 : Nat) ({ cls := "SafeBucketsModel", name := "shares", desc := "(II)I" } : Jvm.MethodName)) ∈ lw_all := lw_g (lw_at lw_m9 61 rfl) rfl
theorem q2100 : (Jvm.Cond.methodLink "SafeBucketsLaw" (165 : Nat) ({ cls := "SafeBucketsModel", name := "most", desc := "(I)I" } : Jvm.MethodName)) ∈ lw_all := lw_g (lw_at lw_m9 65 rfl) rfl
theorem q2125 : (Jvm.Cond.methodLink "SafeBucketsLaw" (169 : Nat) ({ cls := "SafeBucketsModel", name := "image", desc := "()I" } : Jvm.MethodName)) ∈ lw_all := lw_g (lw_at lw_m9 90 rfl) rfl
theorem q2129 : (Jvm.Cond.methodLink "SafeBucketsLaw" (173 : Nat) ({ cls := "SafeBucketsModel", name := "back", desc := "()I" } : Jvm.MethodName)) ∈ lw_all := lw_g (lw_at lw_m9 94 rfl) rfl
theorem q2133 : (Jvm.Cond.methodLink "SafeBucketsLaw" (177 : Nat) ({ cls := "SafeBucketsModel", name := "count", desc := "(I)I" } : Jvm.MethodName)) ∈ lw_all := lw_g (lw_at lw_m9 98 rfl) rfl
theorem q2137 : (Jvm.Cond.constantLong "SafeBucketsLaw" (83 : Nat) (4294967295 : Int64)) ∈ lw_all := lw_g (lw_at lw_m9 102 rfl) rfl

/-! the law's own entry -/
set_option maxRecDepth 100000
abbrev cL_law : ByteArray := code
def dkwL_law_68 : List UInt8 := [21, 4, 4, 96, 46, 182, 0, 177, 159, 0, 5, 3, 172, 132, 4, 6, 167, 249, 66, 4, 172]
abbrev dktL_law_68 : List UInt8 := dkwL_law_68 ++ []
def dkwL_law_67 : List UInt8 := [182, 0, 170, 44, 182, 0, 173, 159, 0, 30, 3, 172, 43, 42, 21, 4, 4, 96, 46, 182, 0, 174, 44, 42]
abbrev dktL_law_67 : List UInt8 := dkwL_law_67 ++ dktL_law_68
def dkwL_law_66 : List UInt8 := [46, 182, 0, 165, 159, 0, 56, 3, 172, 43, 182, 0, 166, 44, 182, 0, 169, 159, 0, 43, 3, 172, 43]
abbrev dktL_law_66 : List UInt8 := dkwL_law_66 ++ dktL_law_67
def dkwL_law_65 : List UInt8 := [182, 0, 161, 159, 0, 81, 3, 172, 43, 42, 21, 4, 4, 96, 46, 182, 0, 162, 44, 42, 21, 4, 4, 96]
abbrev dktL_law_65 : List UInt8 := dkwL_law_65 ++ dktL_law_66
def dkwL_law_64 : List UInt8 := [42, 21, 4, 5, 96, 46, 182, 0, 158, 44, 42, 21, 4, 4, 96, 46, 42, 21, 4, 5, 96, 46]
abbrev dktL_law_64 : List UInt8 := dkwL_law_64 ++ dktL_law_65
def dkwL_law_63 : List UInt8 := [5, 96, 46, 42, 21, 4, 6, 96, 46, 182, 0, 157, 159, 0, 118, 3, 172, 43, 42, 21, 4, 4, 96, 46]
abbrev dktL_law_63 : List UInt8 := dkwL_law_63 ++ dktL_law_64
def dkwL_law_62 : List UInt8 := [21, 4, 5, 96, 46, 42, 21, 4, 6, 96, 46, 182, 0, 154, 44, 42, 21, 4, 4, 96, 46, 42, 21, 4]
abbrev dktL_law_62 : List UInt8 := dkwL_law_62 ++ dktL_law_63
def dkwL_law_61 : List UInt8 := [46, 42, 21, 4, 7, 96, 46, 182, 0, 153, 148, 153, 0, 167, 3, 172, 43, 42, 21, 4, 4, 96, 46, 42]
abbrev dktL_law_61 : List UInt8 := dkwL_law_61 ++ dktL_law_62
def dkwL_law_60 : List UInt8 := [7, 96, 46, 182, 0, 149, 44, 42, 21, 4, 4, 96, 46, 42, 21, 4, 5, 96, 46, 42, 21, 4, 6, 96]
abbrev dktL_law_60 : List UInt8 := dkwL_law_60 ++ dktL_law_61
def dkwL_law_59 : List UInt8 := [3, 172, 43, 42, 21, 4, 4, 96, 46, 42, 21, 4, 5, 96, 46, 42, 21, 4, 6, 96, 46, 42, 21, 4]
abbrev dktL_law_59 : List UInt8 := dkwL_law_59 ++ dktL_law_60
def dkwL_law_58 : List UInt8 := [42, 21, 4, 4, 96, 46, 42, 21, 4, 5, 96, 46, 42, 21, 4, 6, 96, 46, 182, 0, 148, 159, 0, 229]
abbrev dktL_law_58 : List UInt8 := dkwL_law_58 ++ dktL_law_59
def dkwL_law_57 : List UInt8 := [172, 43, 42, 21, 4, 4, 96, 46, 42, 21, 4, 5, 96, 46, 42, 21, 4, 6, 96, 46, 182, 0, 145, 44]
abbrev dktL_law_57 : List UInt8 := dkwL_law_57 ++ dktL_law_58
def dkwL_law_56 : List UInt8 := [43, 42, 21, 4, 4, 96, 46, 182, 0, 141, 44, 42, 21, 4, 4, 96, 46, 182, 0, 144, 159, 1, 22, 3]
abbrev dktL_law_56 : List UInt8 := dkwL_law_56 ++ dktL_law_57
def dkwL_law_55 : List UInt8 := [21, 4, 4, 96, 46, 182, 0, 136, 44, 42, 21, 4, 4, 96, 46, 182, 0, 140, 148, 153, 1, 47, 3, 172]
abbrev dktL_law_55 : List UInt8 := dkwL_law_55 ++ dktL_law_56
def dkwL_law_54 : List UInt8 := [46, 42, 21, 4, 7, 96, 46, 42, 21, 4, 8, 96, 46, 182, 0, 135, 148, 153, 1, 73, 3, 172, 43, 42]
abbrev dktL_law_54 : List UInt8 := dkwL_law_54 ++ dktL_law_55
def dkwL_law_53 : List UInt8 := [8, 96, 46, 182, 0, 131, 44, 42, 21, 4, 4, 96, 46, 42, 21, 4, 5, 96, 46, 42, 21, 4, 6, 96]
abbrev dktL_law_53 : List UInt8 := dkwL_law_53 ++ dktL_law_54
def dkwL_law_52 : List UInt8 := [4, 96, 46, 42, 21, 4, 5, 96, 46, 42, 21, 4, 6, 96, 46, 42, 21, 4, 7, 96, 46, 42, 21, 4]
abbrev dktL_law_52 : List UInt8 := dkwL_law_52 ++ dktL_law_53
def dkwL_law_51 : List UInt8 := [42, 21, 4, 5, 96, 46, 42, 21, 4, 6, 96, 46, 182, 0, 130, 159, 1, 147, 3, 172, 43, 42, 21, 4]
abbrev dktL_law_51 : List UInt8 := dkwL_law_51 ++ dktL_law_52
def dkwL_law_50 : List UInt8 := [96, 46, 42, 21, 4, 5, 96, 46, 42, 21, 4, 6, 96, 46, 182, 0, 127, 44, 42, 21, 4, 4, 96, 46]
abbrev dktL_law_50 : List UInt8 := dkwL_law_50 ++ dktL_law_51
def dkwL_law_49 : List UInt8 := [21, 4, 4, 96, 46, 42, 21, 4, 5, 96, 46, 182, 0, 126, 159, 1, 196, 3, 172, 43, 42, 21, 4, 4]
abbrev dktL_law_49 : List UInt8 := dkwL_law_49 ++ dktL_law_50
def dkwL_law_48 : List UInt8 := [159, 1, 233, 3, 172, 43, 42, 21, 4, 4, 96, 46, 42, 21, 4, 5, 96, 46, 182, 0, 123, 44, 42]
abbrev dktL_law_48 : List UInt8 := dkwL_law_48 ++ dktL_law_49
def dkwL_law_47 : List UInt8 := [42, 21, 4, 4, 96, 46, 182, 0, 118, 159, 1, 246, 3, 172, 43, 182, 0, 119, 44, 182, 0, 122]
abbrev dktL_law_47 : List UInt8 := dkwL_law_47 ++ dktL_law_48
def dkwL_law_46 : List UInt8 := [20, 0, 83, 127, 129, 182, 0, 114, 159, 2, 15, 3, 172, 43, 42, 21, 4, 4, 96, 46, 182, 0, 115, 44]
abbrev dktL_law_46 : List UInt8 := dkwL_law_46 ++ dktL_law_47
def dkwL_law_45 : List UInt8 := [21, 4, 4, 96, 46, 42, 21, 4, 5, 96, 46, 133, 16, 32, 121, 42, 21, 4, 6, 96, 46, 133]
abbrev dktL_law_45 : List UInt8 := dkwL_law_45 ++ dktL_law_46
def dkwL_law_44 : List UInt8 := [5, 96, 46, 133, 16, 32, 121, 42, 21, 4, 6, 96, 46, 133, 20, 0, 83, 127, 129, 182, 0, 110, 44, 42]
abbrev dktL_law_44 : List UInt8 := dkwL_law_44 ++ dktL_law_45
def dkwL_law_43 : List UInt8 := [42, 21, 4, 4, 96, 46, 182, 0, 109, 159, 2, 84, 3, 172, 43, 42, 21, 4, 4, 96, 46, 42, 21, 4]
abbrev dktL_law_43 : List UInt8 := dkwL_law_43 ++ dktL_law_44
def dkwL_law_42 : List UInt8 := [21, 4, 5, 96, 46, 182, 0, 105, 159, 2, 109, 3, 172, 43, 42, 21, 4, 4, 96, 46, 182, 0, 106, 44]
abbrev dktL_law_42 : List UInt8 := dkwL_law_42 ++ dktL_law_43
def dkwL_law_41 : List UInt8 := [42, 21, 4, 4, 96, 46, 42, 21, 4, 5, 96, 46, 182, 0, 102, 44, 42, 21, 4, 4, 96, 46, 42]
abbrev dktL_law_41 : List UInt8 := dkwL_law_41 ++ dktL_law_42
def dkwL_law_40 : List UInt8 := [6, 96, 46, 42, 21, 4, 7, 96, 46, 42, 21, 4, 8, 96, 46, 182, 0, 101, 159, 2, 146, 3, 172, 43]
abbrev dktL_law_40 : List UInt8 := dkwL_law_40 ++ dktL_law_41
def dkwL_law_39 : List UInt8 := [21, 4, 8, 96, 46, 182, 0, 98, 44, 42, 21, 4, 4, 96, 46, 42, 21, 4, 5, 96, 46, 42, 21, 4]
abbrev dktL_law_39 : List UInt8 := dkwL_law_39 ++ dktL_law_40
def dkwL_law_38 : List UInt8 := [21, 4, 4, 96, 46, 42, 21, 4, 5, 96, 46, 42, 21, 4, 6, 96, 46, 42, 21, 4, 7, 96, 46, 42]
abbrev dktL_law_38 : List UInt8 := dkwL_law_38 ++ dktL_law_39
def dkwL_law_37 : List UInt8 := [46, 42, 21, 4, 6, 96, 46, 42, 21, 4, 7, 96, 46, 182, 0, 97, 159, 2, 219, 3, 172, 43, 42]
abbrev dktL_law_37 : List UInt8 := dkwL_law_37 ++ dktL_law_38
def dkwL_law_36 : List UInt8 := [6, 96, 46, 42, 21, 4, 7, 96, 46, 182, 0, 94, 44, 42, 21, 4, 4, 96, 46, 42, 21, 4, 5, 96]
abbrev dktL_law_36 : List UInt8 := dkwL_law_36 ++ dktL_law_37
def dkwL_law_35 : List UInt8 := [182, 0, 93, 159, 3, 24, 3, 172, 43, 42, 21, 4, 4, 96, 46, 42, 21, 4, 5, 96, 46, 42, 21, 4]
abbrev dktL_law_35 : List UInt8 := dkwL_law_35 ++ dktL_law_36
def dkwL_law_34 : List UInt8 := [21, 4, 4, 96, 46, 42, 21, 4, 5, 96, 46, 42, 21, 4, 6, 96, 46, 42, 21, 4, 7, 96, 46]
abbrev dktL_law_34 : List UInt8 := dkwL_law_34 ++ dktL_law_35
def dkwL_law_33 : List UInt8 := [42, 21, 4, 5, 96, 46, 42, 21, 4, 6, 96, 46, 42, 21, 4, 7, 96, 46, 182, 0, 90, 44, 42]
abbrev dktL_law_33 : List UInt8 := dkwL_law_33 ++ dktL_law_34
def dkwL_law_32 : List UInt8 := [7, 96, 46, 133, 20, 0, 83, 127, 129, 182, 0, 89, 159, 3, 85, 3, 172, 43, 42, 21, 4, 4, 96, 46]
abbrev dktL_law_32 : List UInt8 := dkwL_law_32 ++ dktL_law_33
def dkwL_law_31 : List UInt8 := [21, 4, 4, 96, 46, 42, 21, 4, 5, 96, 46, 42, 21, 4, 6, 96, 46, 133, 16, 32, 121, 42, 21, 4]
abbrev dktL_law_31 : List UInt8 := dkwL_law_31 ++ dktL_law_32
def dkwL_law_30 : List UInt8 := [6, 96, 46, 133, 16, 32, 121, 42, 21, 4, 7, 96, 46, 133, 20, 0, 83, 127, 129, 182, 0, 85, 44, 42]
abbrev dktL_law_30 : List UInt8 := dkwL_law_30 ++ dktL_law_31
def dkwL_law_29 : List UInt8 := [182, 0, 82, 159, 3, 166, 3, 172, 43, 42, 21, 4, 4, 96, 46, 42, 21, 4, 5, 96, 46, 42, 21, 4]
abbrev dktL_law_29 : List UInt8 := dkwL_law_29 ++ dktL_law_30
def dkwL_law_28 : List UInt8 := [42, 21, 4, 4, 96, 46, 42, 21, 4, 5, 96, 46, 42, 21, 4, 6, 96, 46, 42, 21, 4, 7, 96, 46]
abbrev dktL_law_28 : List UInt8 := dkwL_law_28 ++ dktL_law_29
def dkwL_law_27 : List UInt8 := [96, 46, 42, 21, 4, 5, 96, 46, 42, 21, 4, 6, 96, 46, 42, 21, 4, 7, 96, 46, 182, 0, 79, 44]
abbrev dktL_law_27 : List UInt8 := dkwL_law_27 ++ dktL_law_28
def dkwL_law_26 : List UInt8 := [21, 4, 6, 96, 46, 42, 21, 4, 7, 96, 46, 182, 0, 78, 159, 3, 227, 3, 172, 43, 42, 21, 4, 4]
abbrev dktL_law_26 : List UInt8 := dkwL_law_26 ++ dktL_law_27
def dkwL_law_25 : List UInt8 := [42, 21, 4, 7, 96, 46, 182, 0, 75, 44, 42, 21, 4, 4, 96, 46, 42, 21, 4, 5, 96, 46, 42]
abbrev dktL_law_25 : List UInt8 := dkwL_law_25 ++ dktL_law_26
def dkwL_law_24 : List UInt8 := [153, 4, 32, 3, 172, 43, 42, 21, 4, 4, 96, 46, 42, 21, 4, 5, 96, 46, 42, 21, 4, 6, 96, 46]
abbrev dktL_law_24 : List UInt8 := dkwL_law_24 ++ dktL_law_25
def dkwL_law_23 : List UInt8 := [44, 42, 21, 4, 4, 96, 46, 42, 21, 4, 5, 96, 46, 42, 21, 4, 6, 96, 46, 182, 0, 74, 148]
abbrev dktL_law_23 : List UInt8 := dkwL_law_23 ++ dktL_law_24
def dkwL_law_22 : List UInt8 := [3, 172, 43, 42, 21, 4, 4, 96, 46, 42, 21, 4, 5, 96, 46, 42, 21, 4, 6, 96, 46, 182, 0, 70]
abbrev dktL_law_22 : List UInt8 := dkwL_law_22 ++ dktL_law_23
def dkwL_law_21 : List UInt8 := [42, 21, 4, 4, 96, 46, 42, 21, 4, 5, 96, 46, 42, 21, 4, 6, 96, 46, 182, 0, 69, 159, 4, 82]
abbrev dktL_law_21 : List UInt8 := dkwL_law_21 ++ dktL_law_22
def dkwL_law_20 : List UInt8 := [172, 43, 42, 21, 4, 4, 96, 46, 42, 21, 4, 5, 96, 46, 42, 21, 4, 6, 96, 46, 182, 0, 66, 44]
abbrev dktL_law_20 : List UInt8 := dkwL_law_20 ++ dktL_law_21
def dkwL_law_19 : List UInt8 := [21, 4, 5, 96, 46, 42, 21, 4, 6, 96, 46, 42, 21, 4, 7, 96, 46, 182, 0, 65, 159, 4, 131, 3]
abbrev dktL_law_19 : List UInt8 := dkwL_law_19 ++ dktL_law_20
def dkwL_law_18 : List UInt8 := [42, 21, 4, 6, 96, 46, 42, 21, 4, 7, 96, 46, 182, 0, 61, 44, 42, 21, 4, 4, 96, 46, 42]
abbrev dktL_law_18 : List UInt8 := dkwL_law_18 ++ dktL_law_19
def dkwL_law_17 : List UInt8 := [6, 96, 46, 182, 0, 60, 159, 4, 192, 3, 172, 43, 42, 21, 4, 4, 96, 46, 42, 21, 4, 5, 96, 46]
abbrev dktL_law_17 : List UInt8 := dkwL_law_17 ++ dktL_law_18
def dkwL_law_16 : List UInt8 := [21, 4, 6, 96, 46, 182, 0, 57, 44, 42, 21, 4, 4, 96, 46, 42, 21, 4, 5, 96, 46, 42, 21, 4]
abbrev dktL_law_16 : List UInt8 := dkwL_law_16 ++ dktL_law_17
def dkwL_law_15 : List UInt8 := [46, 182, 0, 56, 159, 4, 241, 3, 172, 43, 42, 21, 4, 4, 96, 46, 42, 21, 4, 5, 96, 46, 42]
abbrev dktL_law_15 : List UInt8 := dkwL_law_15 ++ dktL_law_16
def dkwL_law_14 : List UInt8 := [6, 96, 46, 182, 0, 52, 44, 42, 21, 4, 4, 96, 46, 42, 21, 4, 5, 96, 46, 42, 21, 4, 6, 96]
abbrev dktL_law_14 : List UInt8 := dkwL_law_14 ++ dktL_law_15
def dkwL_law_13 : List UInt8 := [153, 0, 5, 3, 172, 167, 5, 32, 43, 42, 21, 4, 4, 96, 46, 42, 21, 4, 5, 96, 46, 42, 21, 4]
abbrev dktL_law_13 : List UInt8 := dkwL_law_13 ++ dktL_law_14
def dkwL_law_12 : List UInt8 := [182, 0, 48, 21, 5, 159, 0, 5, 3, 172, 21, 5, 154, 0, 15, 45, 3, 47, 21, 6, 133, 148]
abbrev dktL_law_12 : List UInt8 := dkwL_law_12 ++ dktL_law_13
def dkwL_law_11 : List UInt8 := [184, 0, 42, 54, 5, 44, 42, 21, 4, 4, 96, 46, 42, 21, 4, 5, 96, 46, 182, 0, 47, 54, 6, 44]
abbrev dktL_law_11 : List UInt8 := dkwL_law_11 ++ dktL_law_12
def dkwL_law_10 : List UInt8 := [46, 182, 0, 41, 159, 5, 102, 3, 172, 43, 42, 21, 4, 4, 96, 46, 42, 21, 4, 5, 96, 46, 45]
abbrev dktL_law_10 : List UInt8 := dkwL_law_10 ++ dktL_law_11
def dkwL_law_9 : List UInt8 := [182, 0, 37, 159, 5, 127, 3, 172, 43, 42, 21, 4, 4, 96, 46, 182, 0, 38, 44, 42, 21, 4, 4, 96]
abbrev dktL_law_9 : List UInt8 := dkwL_law_9 ++ dktL_law_10
def dkwL_law_8 : List UInt8 := [159, 5, 152, 3, 172, 43, 42, 21, 4, 4, 96, 46, 182, 0, 34, 44, 42, 21, 4, 4, 96, 46]
abbrev dktL_law_8 : List UInt8 := dkwL_law_8 ++ dktL_law_9
def dkwL_law_7 : List UInt8 := [3, 172, 43, 42, 21, 4, 4, 96, 46, 182, 0, 29, 44, 42, 21, 4, 4, 96, 46, 182, 0, 33]
abbrev dktL_law_7 : List UInt8 := dkwL_law_7 ++ dktL_law_8
def dkwL_law_6 : List UInt8 := [172, 43, 42, 21, 4, 4, 96, 46, 182, 0, 24, 44, 42, 21, 4, 4, 96, 46, 182, 0, 28, 159, 5, 177]
abbrev dktL_law_6 : List UInt8 := dkwL_law_6 ++ dktL_law_7
def dkwL_law_5 : List UInt8 := [21, 4, 6, 96, 46, 42, 21, 4, 7, 96, 46, 42, 21, 4, 8, 96, 46, 182, 0, 23, 159, 5, 202, 3]
abbrev dktL_law_5 : List UInt8 := dkwL_law_5 ++ dktL_law_6
def dkwL_law_4 : List UInt8 := [46, 42, 21, 4, 8, 96, 46, 182, 0, 19, 44, 42, 21, 4, 4, 96, 46, 42, 21, 4, 5, 96, 46, 42]
abbrev dktL_law_4 : List UInt8 := dkwL_law_4 ++ dktL_law_5
def dkwL_law_3 : List UInt8 := [43, 42, 21, 4, 4, 96, 46, 42, 21, 4, 5, 96, 46, 42, 21, 4, 6, 96, 46, 42, 21, 4, 7, 96]
abbrev dktL_law_3 : List UInt8 := dkwL_law_3 ++ dktL_law_4
def dkwL_law_2 : List UInt8 := [170, 0, 0, 0, 0, 0, 6, 170, 0, 0, 0, 0, 0, 0, 0, 34, 0, 0, 0, 156, 0, 0, 0, 229, 0, 0, 0, 254, 0, 0, 1, 23, 0, 0, 1, 48, 0, 0, 1, 73, 0, 0, 1, 141, 0, 0, 1, 190, 0, 0, 1, 239, 0, 0, 2, 44, 0, 0, 2, 93, 0, 0, 2, 143, 0, 0, 2, 204, 0, 0, 3, 9, 0, 0, 3, 90, 0, 0, 3, 151, 0, 0, 3, 212, 0, 0, 4, 29, 0, 0, 4, 66, 0, 0, 4, 91, 0, 0, 4, 160, 0, 0, 4, 185, 0, 0, 4, 198, 0, 0, 4, 235, 0, 0, 5, 28, 0, 0, 5, 102, 0, 0, 5, 128, 0, 0, 5, 153, 0, 0, 5, 202, 0, 0, 6, 8, 0, 0, 6, 57, 0, 0, 6, 94, 0, 0, 6, 119, 0, 0, 6, 132, 0, 0, 6, 145]
abbrev dktL_law_2 : List UInt8 := dkwL_law_2 ++ dktL_law_3
def dkwL_law_1 : List UInt8 := [21, 4, 42, 190, 16, 6, 100, 163, 6, 186, 42, 21, 4, 46, 16, 63, 126]
abbrev dktL_law_1 : List UInt8 := dkwL_law_1 ++ dktL_law_2
def dkwL_law_0 : List UInt8 := [187, 0, 8, 89, 183, 0, 15, 76, 187, 0, 16, 89, 183, 0, 18, 77, 4, 188, 11, 78, 3, 54, 4]
abbrev dktL_law_0 : List UInt8 := dkwL_law_0 ++ dktL_law_1
theorem dksL_law_0 : cL_law.data.toList.drop 0 = dktL_law_0 := by decide +kernel
theorem dksL_law_1 : cL_law.data.toList.drop 23 = dktL_law_1 := dk_seg dksL_law_0 23 rfl rfl
theorem dksL_law_2 : cL_law.data.toList.drop 40 = dktL_law_2 := dk_seg dksL_law_1 17 rfl rfl
theorem dksL_law_3 : cL_law.data.toList.drop 196 = dktL_law_3 := dk_seg dksL_law_2 156 rfl rfl
theorem dksL_law_4 : cL_law.data.toList.drop 220 = dktL_law_4 := dk_seg dksL_law_3 24 rfl rfl
theorem dksL_law_5 : cL_law.data.toList.drop 244 = dktL_law_5 := dk_seg dksL_law_4 24 rfl rfl
theorem dksL_law_6 : cL_law.data.toList.drop 268 = dktL_law_6 := dk_seg dksL_law_5 24 rfl rfl
theorem dksL_law_7 : cL_law.data.toList.drop 292 = dktL_law_7 := dk_seg dksL_law_6 24 rfl rfl
theorem dksL_law_8 : cL_law.data.toList.drop 314 = dktL_law_8 := dk_seg dksL_law_7 22 rfl rfl
theorem dksL_law_9 : cL_law.data.toList.drop 336 = dktL_law_9 := dk_seg dksL_law_8 22 rfl rfl
theorem dksL_law_10 : cL_law.data.toList.drop 360 = dktL_law_10 := dk_seg dksL_law_9 24 rfl rfl
theorem dksL_law_11 : cL_law.data.toList.drop 383 = dktL_law_11 := dk_seg dksL_law_10 23 rfl rfl
theorem dksL_law_12 : cL_law.data.toList.drop 407 = dktL_law_12 := dk_seg dksL_law_11 24 rfl rfl
theorem dksL_law_13 : cL_law.data.toList.drop 429 = dktL_law_13 := dk_seg dksL_law_12 22 rfl rfl
theorem dksL_law_14 : cL_law.data.toList.drop 453 = dktL_law_14 := dk_seg dksL_law_13 24 rfl rfl
theorem dksL_law_15 : cL_law.data.toList.drop 477 = dktL_law_15 := dk_seg dksL_law_14 24 rfl rfl
theorem dksL_law_16 : cL_law.data.toList.drop 500 = dktL_law_16 := dk_seg dksL_law_15 23 rfl rfl
theorem dksL_law_17 : cL_law.data.toList.drop 524 = dktL_law_17 := dk_seg dksL_law_16 24 rfl rfl
theorem dksL_law_18 : cL_law.data.toList.drop 548 = dktL_law_18 := dk_seg dksL_law_17 24 rfl rfl
theorem dksL_law_19 : cL_law.data.toList.drop 571 = dktL_law_19 := dk_seg dksL_law_18 23 rfl rfl
theorem dksL_law_20 : cL_law.data.toList.drop 595 = dktL_law_20 := dk_seg dksL_law_19 24 rfl rfl
theorem dksL_law_21 : cL_law.data.toList.drop 619 = dktL_law_21 := dk_seg dksL_law_20 24 rfl rfl
theorem dksL_law_22 : cL_law.data.toList.drop 643 = dktL_law_22 := dk_seg dksL_law_21 24 rfl rfl
theorem dksL_law_23 : cL_law.data.toList.drop 667 = dktL_law_23 := dk_seg dksL_law_22 24 rfl rfl
theorem dksL_law_24 : cL_law.data.toList.drop 690 = dktL_law_24 := dk_seg dksL_law_23 23 rfl rfl
theorem dksL_law_25 : cL_law.data.toList.drop 714 = dktL_law_25 := dk_seg dksL_law_24 24 rfl rfl
theorem dksL_law_26 : cL_law.data.toList.drop 737 = dktL_law_26 := dk_seg dksL_law_25 23 rfl rfl
theorem dksL_law_27 : cL_law.data.toList.drop 761 = dktL_law_27 := dk_seg dksL_law_26 24 rfl rfl
theorem dksL_law_28 : cL_law.data.toList.drop 785 = dktL_law_28 := dk_seg dksL_law_27 24 rfl rfl
theorem dksL_law_29 : cL_law.data.toList.drop 809 = dktL_law_29 := dk_seg dksL_law_28 24 rfl rfl
theorem dksL_law_30 : cL_law.data.toList.drop 833 = dktL_law_30 := dk_seg dksL_law_29 24 rfl rfl
theorem dksL_law_31 : cL_law.data.toList.drop 857 = dktL_law_31 := dk_seg dksL_law_30 24 rfl rfl
theorem dksL_law_32 : cL_law.data.toList.drop 881 = dktL_law_32 := dk_seg dksL_law_31 24 rfl rfl
theorem dksL_law_33 : cL_law.data.toList.drop 905 = dktL_law_33 := dk_seg dksL_law_32 24 rfl rfl
theorem dksL_law_34 : cL_law.data.toList.drop 928 = dktL_law_34 := dk_seg dksL_law_33 23 rfl rfl
theorem dksL_law_35 : cL_law.data.toList.drop 951 = dktL_law_35 := dk_seg dksL_law_34 23 rfl rfl
theorem dksL_law_36 : cL_law.data.toList.drop 975 = dktL_law_36 := dk_seg dksL_law_35 24 rfl rfl
theorem dksL_law_37 : cL_law.data.toList.drop 999 = dktL_law_37 := dk_seg dksL_law_36 24 rfl rfl
theorem dksL_law_38 : cL_law.data.toList.drop 1022 = dktL_law_38 := dk_seg dksL_law_37 23 rfl rfl
theorem dksL_law_39 : cL_law.data.toList.drop 1046 = dktL_law_39 := dk_seg dksL_law_38 24 rfl rfl
theorem dksL_law_40 : cL_law.data.toList.drop 1070 = dktL_law_40 := dk_seg dksL_law_39 24 rfl rfl
theorem dksL_law_41 : cL_law.data.toList.drop 1094 = dktL_law_41 := dk_seg dksL_law_40 24 rfl rfl
theorem dksL_law_42 : cL_law.data.toList.drop 1117 = dktL_law_42 := dk_seg dksL_law_41 23 rfl rfl
theorem dksL_law_43 : cL_law.data.toList.drop 1141 = dktL_law_43 := dk_seg dksL_law_42 24 rfl rfl
theorem dksL_law_44 : cL_law.data.toList.drop 1165 = dktL_law_44 := dk_seg dksL_law_43 24 rfl rfl
theorem dksL_law_45 : cL_law.data.toList.drop 1189 = dktL_law_45 := dk_seg dksL_law_44 24 rfl rfl
theorem dksL_law_46 : cL_law.data.toList.drop 1211 = dktL_law_46 := dk_seg dksL_law_45 22 rfl rfl
theorem dksL_law_47 : cL_law.data.toList.drop 1235 = dktL_law_47 := dk_seg dksL_law_46 24 rfl rfl
theorem dksL_law_48 : cL_law.data.toList.drop 1257 = dktL_law_48 := dk_seg dksL_law_47 22 rfl rfl
theorem dksL_law_49 : cL_law.data.toList.drop 1280 = dktL_law_49 := dk_seg dksL_law_48 23 rfl rfl
theorem dksL_law_50 : cL_law.data.toList.drop 1304 = dktL_law_50 := dk_seg dksL_law_49 24 rfl rfl
theorem dksL_law_51 : cL_law.data.toList.drop 1328 = dktL_law_51 := dk_seg dksL_law_50 24 rfl rfl
theorem dksL_law_52 : cL_law.data.toList.drop 1352 = dktL_law_52 := dk_seg dksL_law_51 24 rfl rfl
theorem dksL_law_53 : cL_law.data.toList.drop 1376 = dktL_law_53 := dk_seg dksL_law_52 24 rfl rfl
theorem dksL_law_54 : cL_law.data.toList.drop 1400 = dktL_law_54 := dk_seg dksL_law_53 24 rfl rfl
theorem dksL_law_55 : cL_law.data.toList.drop 1424 = dktL_law_55 := dk_seg dksL_law_54 24 rfl rfl
theorem dksL_law_56 : cL_law.data.toList.drop 1448 = dktL_law_56 := dk_seg dksL_law_55 24 rfl rfl
theorem dksL_law_57 : cL_law.data.toList.drop 1472 = dktL_law_57 := dk_seg dksL_law_56 24 rfl rfl
theorem dksL_law_58 : cL_law.data.toList.drop 1496 = dktL_law_58 := dk_seg dksL_law_57 24 rfl rfl
theorem dksL_law_59 : cL_law.data.toList.drop 1520 = dktL_law_59 := dk_seg dksL_law_58 24 rfl rfl
theorem dksL_law_60 : cL_law.data.toList.drop 1544 = dktL_law_60 := dk_seg dksL_law_59 24 rfl rfl
theorem dksL_law_61 : cL_law.data.toList.drop 1568 = dktL_law_61 := dk_seg dksL_law_60 24 rfl rfl
theorem dksL_law_62 : cL_law.data.toList.drop 1592 = dktL_law_62 := dk_seg dksL_law_61 24 rfl rfl
theorem dksL_law_63 : cL_law.data.toList.drop 1616 = dktL_law_63 := dk_seg dksL_law_62 24 rfl rfl
theorem dksL_law_64 : cL_law.data.toList.drop 1640 = dktL_law_64 := dk_seg dksL_law_63 24 rfl rfl
theorem dksL_law_65 : cL_law.data.toList.drop 1662 = dktL_law_65 := dk_seg dksL_law_64 22 rfl rfl
theorem dksL_law_66 : cL_law.data.toList.drop 1686 = dktL_law_66 := dk_seg dksL_law_65 24 rfl rfl
theorem dksL_law_67 : cL_law.data.toList.drop 1709 = dktL_law_67 := dk_seg dksL_law_66 23 rfl rfl
theorem dksL_law_68 : cL_law.data.toList.drop 1733 = dktL_law_68 := dk_seg dksL_law_67 24 rfl rfl
theorem dL_law_0 : decode cL_law 0 = .ok (.new 8, 3) := dk_187 0 8 (dk_at dksL_law_0 0 rfl rfl)
theorem dL_law_3 : decode cL_law 3 = .ok (.dup, 1) := dk_89 (dk_at dksL_law_0 3 rfl rfl)
theorem dL_law_4 : decode cL_law 4 = .ok (.invokespecial 15, 3) := dk_183 0 15 (dk_at dksL_law_0 4 rfl rfl)
theorem dL_law_7 : decode cL_law 7 = .ok (.astore_n 1, 1) := dk_76 (dk_at dksL_law_0 7 rfl rfl)
theorem dL_law_8 : decode cL_law 8 = .ok (.new 16, 3) := dk_187 0 16 (dk_at dksL_law_0 8 rfl rfl)
theorem dL_law_11 : decode cL_law 11 = .ok (.dup, 1) := dk_89 (dk_at dksL_law_0 11 rfl rfl)
theorem dL_law_12 : decode cL_law 12 = .ok (.invokespecial 18, 3) := dk_183 0 18 (dk_at dksL_law_0 12 rfl rfl)
theorem dL_law_15 : decode cL_law 15 = .ok (.astore_n 2, 1) := dk_77 (dk_at dksL_law_0 15 rfl rfl)
theorem dL_law_16 : decode cL_law 16 = .ok (.iconst 1, 1) := dk_4 (dk_at dksL_law_0 16 rfl rfl)
theorem dL_law_17 : decode cL_law 17 = .ok (.newarray .long, 2) := dk_188_11 (dk_at dksL_law_0 17 rfl rfl)
theorem dL_law_19 : decode cL_law 19 = .ok (.astore_n 3, 1) := dk_78 (dk_at dksL_law_0 19 rfl rfl)
theorem dL_law_20 : decode cL_law 20 = .ok (.iconst 0, 1) := dk_3 (dk_at dksL_law_0 20 rfl rfl)
theorem dL_law_21 : decode cL_law 21 = .ok (.istore 4, 2) := dk_54 4 (dk_at dksL_law_0 21 rfl rfl)
theorem dL_law_23 : decode cL_law 23 = .ok (.iload 4, 2) := dk_21 4 (dk_at dksL_law_1 0 rfl rfl)
theorem dL_law_25 : decode cL_law 25 = .ok (.aload_n 0, 1) := dk_42 (dk_at dksL_law_1 2 rfl rfl)
theorem dL_law_26 : decode cL_law 26 = .ok (.arraylength, 1) := dk_190 (dk_at dksL_law_1 3 rfl rfl)
theorem dL_law_27 : decode cL_law 27 = .ok (.bipush 6, 2) := dk_16 6 (dk_at dksL_law_1 4 rfl rfl)
theorem dL_law_29 : decode cL_law 29 = .ok (.isub, 1) := dk_100 (dk_at dksL_law_1 6 rfl rfl)
theorem dL_law_30 : decode cL_law 30 = .ok (.if_icmp .gt 1722, 3) := dk_163 6 186 (dk_at dksL_law_1 7 rfl rfl)
theorem dL_law_33 : decode cL_law 33 = .ok (.aload_n 0, 1) := dk_42 (dk_at dksL_law_1 10 rfl rfl)
theorem dL_law_34 : decode cL_law 34 = .ok (.iload 4, 2) := dk_21 4 (dk_at dksL_law_1 11 rfl rfl)
theorem dL_law_36 : decode cL_law 36 = .ok (.iaload, 1) := dk_46 (dk_at dksL_law_1 13 rfl rfl)
theorem dL_law_37 : decode cL_law 37 = .ok (.bipush 63, 2) := dk_16 63 (dk_at dksL_law_1 14 rfl rfl)
theorem dL_law_39 : decode cL_law 39 = .ok (.iand, 1) := dk_126 (dk_at dksL_law_1 16 rfl rfl)
theorem dL_law_40 : decode cL_law 40 = .ok (.tableswitch 1706 0 34 #[156, 229, 254, 279, 304, 329, 397, 446, 495, 556, 605, 655, 716, 777, 858, 919, 980, 1053, 1090, 1115, 1184, 1209, 1222, 1259, 1308, 1382, 1408, 1433, 1482, 1544, 1593, 1630, 1655, 1668, 1681], 156) := by decide +kernel
theorem dL_law_196 : decode cL_law 196 = .ok (.aload_n 1, 1) := dk_43 (dk_at dksL_law_3 0 rfl rfl)
theorem dL_law_197 : decode cL_law 197 = .ok (.aload_n 0, 1) := dk_42 (dk_at dksL_law_3 1 rfl rfl)
theorem dL_law_198 : decode cL_law 198 = .ok (.iload 4, 2) := dk_21 4 (dk_at dksL_law_3 2 rfl rfl)
theorem dL_law_200 : decode cL_law 200 = .ok (.iconst 1, 1) := dk_4 (dk_at dksL_law_3 4 rfl rfl)
theorem dL_law_201 : decode cL_law 201 = .ok (.iadd, 1) := dk_96 (dk_at dksL_law_3 5 rfl rfl)
theorem dL_law_202 : decode cL_law 202 = .ok (.iaload, 1) := dk_46 (dk_at dksL_law_3 6 rfl rfl)
theorem dL_law_203 : decode cL_law 203 = .ok (.aload_n 0, 1) := dk_42 (dk_at dksL_law_3 7 rfl rfl)
theorem dL_law_204 : decode cL_law 204 = .ok (.iload 4, 2) := dk_21 4 (dk_at dksL_law_3 8 rfl rfl)
theorem dL_law_206 : decode cL_law 206 = .ok (.iconst 2, 1) := dk_5 (dk_at dksL_law_3 10 rfl rfl)
theorem dL_law_207 : decode cL_law 207 = .ok (.iadd, 1) := dk_96 (dk_at dksL_law_3 11 rfl rfl)
theorem dL_law_208 : decode cL_law 208 = .ok (.iaload, 1) := dk_46 (dk_at dksL_law_3 12 rfl rfl)
theorem dL_law_209 : decode cL_law 209 = .ok (.aload_n 0, 1) := dk_42 (dk_at dksL_law_3 13 rfl rfl)
theorem dL_law_210 : decode cL_law 210 = .ok (.iload 4, 2) := dk_21 4 (dk_at dksL_law_3 14 rfl rfl)
theorem dL_law_212 : decode cL_law 212 = .ok (.iconst 3, 1) := dk_6 (dk_at dksL_law_3 16 rfl rfl)
theorem dL_law_213 : decode cL_law 213 = .ok (.iadd, 1) := dk_96 (dk_at dksL_law_3 17 rfl rfl)
theorem dL_law_214 : decode cL_law 214 = .ok (.iaload, 1) := dk_46 (dk_at dksL_law_3 18 rfl rfl)
theorem dL_law_215 : decode cL_law 215 = .ok (.aload_n 0, 1) := dk_42 (dk_at dksL_law_3 19 rfl rfl)
theorem dL_law_216 : decode cL_law 216 = .ok (.iload 4, 2) := dk_21 4 (dk_at dksL_law_3 20 rfl rfl)
theorem dL_law_218 : decode cL_law 218 = .ok (.iconst 4, 1) := dk_7 (dk_at dksL_law_3 22 rfl rfl)
theorem dL_law_219 : decode cL_law 219 = .ok (.iadd, 1) := dk_96 (dk_at dksL_law_3 23 rfl rfl)
theorem dL_law_220 : decode cL_law 220 = .ok (.iaload, 1) := dk_46 (dk_at dksL_law_4 0 rfl rfl)
theorem dL_law_221 : decode cL_law 221 = .ok (.aload_n 0, 1) := dk_42 (dk_at dksL_law_4 1 rfl rfl)
theorem dL_law_222 : decode cL_law 222 = .ok (.iload 4, 2) := dk_21 4 (dk_at dksL_law_4 2 rfl rfl)
theorem dL_law_224 : decode cL_law 224 = .ok (.iconst 5, 1) := dk_8 (dk_at dksL_law_4 4 rfl rfl)
theorem dL_law_225 : decode cL_law 225 = .ok (.iadd, 1) := dk_96 (dk_at dksL_law_4 5 rfl rfl)
theorem dL_law_226 : decode cL_law 226 = .ok (.iaload, 1) := dk_46 (dk_at dksL_law_4 6 rfl rfl)
theorem dL_law_227 : decode cL_law 227 = .ok (.invokevirtual 19, 3) := dk_182 0 19 (dk_at dksL_law_4 7 rfl rfl)
theorem dL_law_230 : decode cL_law 230 = .ok (.aload_n 2, 1) := dk_44 (dk_at dksL_law_4 10 rfl rfl)
theorem dL_law_231 : decode cL_law 231 = .ok (.aload_n 0, 1) := dk_42 (dk_at dksL_law_4 11 rfl rfl)
theorem dL_law_232 : decode cL_law 232 = .ok (.iload 4, 2) := dk_21 4 (dk_at dksL_law_4 12 rfl rfl)
theorem dL_law_234 : decode cL_law 234 = .ok (.iconst 1, 1) := dk_4 (dk_at dksL_law_4 14 rfl rfl)
theorem dL_law_235 : decode cL_law 235 = .ok (.iadd, 1) := dk_96 (dk_at dksL_law_4 15 rfl rfl)
theorem dL_law_236 : decode cL_law 236 = .ok (.iaload, 1) := dk_46 (dk_at dksL_law_4 16 rfl rfl)
theorem dL_law_237 : decode cL_law 237 = .ok (.aload_n 0, 1) := dk_42 (dk_at dksL_law_4 17 rfl rfl)
theorem dL_law_238 : decode cL_law 238 = .ok (.iload 4, 2) := dk_21 4 (dk_at dksL_law_4 18 rfl rfl)
theorem dL_law_240 : decode cL_law 240 = .ok (.iconst 2, 1) := dk_5 (dk_at dksL_law_4 20 rfl rfl)
theorem dL_law_241 : decode cL_law 241 = .ok (.iadd, 1) := dk_96 (dk_at dksL_law_4 21 rfl rfl)
theorem dL_law_242 : decode cL_law 242 = .ok (.iaload, 1) := dk_46 (dk_at dksL_law_4 22 rfl rfl)
theorem dL_law_243 : decode cL_law 243 = .ok (.aload_n 0, 1) := dk_42 (dk_at dksL_law_4 23 rfl rfl)
theorem dL_law_244 : decode cL_law 244 = .ok (.iload 4, 2) := dk_21 4 (dk_at dksL_law_5 0 rfl rfl)
theorem dL_law_246 : decode cL_law 246 = .ok (.iconst 3, 1) := dk_6 (dk_at dksL_law_5 2 rfl rfl)
theorem dL_law_247 : decode cL_law 247 = .ok (.iadd, 1) := dk_96 (dk_at dksL_law_5 3 rfl rfl)
theorem dL_law_248 : decode cL_law 248 = .ok (.iaload, 1) := dk_46 (dk_at dksL_law_5 4 rfl rfl)
theorem dL_law_249 : decode cL_law 249 = .ok (.aload_n 0, 1) := dk_42 (dk_at dksL_law_5 5 rfl rfl)
theorem dL_law_250 : decode cL_law 250 = .ok (.iload 4, 2) := dk_21 4 (dk_at dksL_law_5 6 rfl rfl)
theorem dL_law_252 : decode cL_law 252 = .ok (.iconst 4, 1) := dk_7 (dk_at dksL_law_5 8 rfl rfl)
theorem dL_law_253 : decode cL_law 253 = .ok (.iadd, 1) := dk_96 (dk_at dksL_law_5 9 rfl rfl)
theorem dL_law_254 : decode cL_law 254 = .ok (.iaload, 1) := dk_46 (dk_at dksL_law_5 10 rfl rfl)
theorem dL_law_255 : decode cL_law 255 = .ok (.aload_n 0, 1) := dk_42 (dk_at dksL_law_5 11 rfl rfl)
theorem dL_law_256 : decode cL_law 256 = .ok (.iload 4, 2) := dk_21 4 (dk_at dksL_law_5 12 rfl rfl)
theorem dL_law_258 : decode cL_law 258 = .ok (.iconst 5, 1) := dk_8 (dk_at dksL_law_5 14 rfl rfl)
theorem dL_law_259 : decode cL_law 259 = .ok (.iadd, 1) := dk_96 (dk_at dksL_law_5 15 rfl rfl)
theorem dL_law_260 : decode cL_law 260 = .ok (.iaload, 1) := dk_46 (dk_at dksL_law_5 16 rfl rfl)
theorem dL_law_261 : decode cL_law 261 = .ok (.invokevirtual 23, 3) := dk_182 0 23 (dk_at dksL_law_5 17 rfl rfl)
theorem dL_law_264 : decode cL_law 264 = .ok (.if_icmp .eq 1482, 3) := dk_159 5 202 (dk_at dksL_law_5 20 rfl rfl)
theorem dL_law_267 : decode cL_law 267 = .ok (.iconst 0, 1) := dk_3 (dk_at dksL_law_5 23 rfl rfl)
theorem dL_law_268 : decode cL_law 268 = .ok (.ireturn, 1) := dk_172 (dk_at dksL_law_6 0 rfl rfl)
theorem dL_law_269 : decode cL_law 269 = .ok (.aload_n 1, 1) := dk_43 (dk_at dksL_law_6 1 rfl rfl)
theorem dL_law_270 : decode cL_law 270 = .ok (.aload_n 0, 1) := dk_42 (dk_at dksL_law_6 2 rfl rfl)
theorem dL_law_271 : decode cL_law 271 = .ok (.iload 4, 2) := dk_21 4 (dk_at dksL_law_6 3 rfl rfl)
theorem dL_law_273 : decode cL_law 273 = .ok (.iconst 1, 1) := dk_4 (dk_at dksL_law_6 5 rfl rfl)
theorem dL_law_274 : decode cL_law 274 = .ok (.iadd, 1) := dk_96 (dk_at dksL_law_6 6 rfl rfl)
theorem dL_law_275 : decode cL_law 275 = .ok (.iaload, 1) := dk_46 (dk_at dksL_law_6 7 rfl rfl)
theorem dL_law_276 : decode cL_law 276 = .ok (.invokevirtual 24, 3) := dk_182 0 24 (dk_at dksL_law_6 8 rfl rfl)
theorem dL_law_279 : decode cL_law 279 = .ok (.aload_n 2, 1) := dk_44 (dk_at dksL_law_6 11 rfl rfl)
theorem dL_law_280 : decode cL_law 280 = .ok (.aload_n 0, 1) := dk_42 (dk_at dksL_law_6 12 rfl rfl)
theorem dL_law_281 : decode cL_law 281 = .ok (.iload 4, 2) := dk_21 4 (dk_at dksL_law_6 13 rfl rfl)
theorem dL_law_283 : decode cL_law 283 = .ok (.iconst 1, 1) := dk_4 (dk_at dksL_law_6 15 rfl rfl)
theorem dL_law_284 : decode cL_law 284 = .ok (.iadd, 1) := dk_96 (dk_at dksL_law_6 16 rfl rfl)
theorem dL_law_285 : decode cL_law 285 = .ok (.iaload, 1) := dk_46 (dk_at dksL_law_6 17 rfl rfl)
theorem dL_law_286 : decode cL_law 286 = .ok (.invokevirtual 28, 3) := dk_182 0 28 (dk_at dksL_law_6 18 rfl rfl)
theorem dL_law_289 : decode cL_law 289 = .ok (.if_icmp .eq 1457, 3) := dk_159 5 177 (dk_at dksL_law_6 21 rfl rfl)
theorem dL_law_292 : decode cL_law 292 = .ok (.iconst 0, 1) := dk_3 (dk_at dksL_law_7 0 rfl rfl)
theorem dL_law_293 : decode cL_law 293 = .ok (.ireturn, 1) := dk_172 (dk_at dksL_law_7 1 rfl rfl)
theorem dL_law_294 : decode cL_law 294 = .ok (.aload_n 1, 1) := dk_43 (dk_at dksL_law_7 2 rfl rfl)
theorem dL_law_295 : decode cL_law 295 = .ok (.aload_n 0, 1) := dk_42 (dk_at dksL_law_7 3 rfl rfl)
theorem dL_law_296 : decode cL_law 296 = .ok (.iload 4, 2) := dk_21 4 (dk_at dksL_law_7 4 rfl rfl)
theorem dL_law_298 : decode cL_law 298 = .ok (.iconst 1, 1) := dk_4 (dk_at dksL_law_7 6 rfl rfl)
theorem dL_law_299 : decode cL_law 299 = .ok (.iadd, 1) := dk_96 (dk_at dksL_law_7 7 rfl rfl)
theorem dL_law_300 : decode cL_law 300 = .ok (.iaload, 1) := dk_46 (dk_at dksL_law_7 8 rfl rfl)
theorem dL_law_301 : decode cL_law 301 = .ok (.invokevirtual 29, 3) := dk_182 0 29 (dk_at dksL_law_7 9 rfl rfl)
theorem dL_law_304 : decode cL_law 304 = .ok (.aload_n 2, 1) := dk_44 (dk_at dksL_law_7 12 rfl rfl)
theorem dL_law_305 : decode cL_law 305 = .ok (.aload_n 0, 1) := dk_42 (dk_at dksL_law_7 13 rfl rfl)
theorem dL_law_306 : decode cL_law 306 = .ok (.iload 4, 2) := dk_21 4 (dk_at dksL_law_7 14 rfl rfl)
theorem dL_law_308 : decode cL_law 308 = .ok (.iconst 1, 1) := dk_4 (dk_at dksL_law_7 16 rfl rfl)
theorem dL_law_309 : decode cL_law 309 = .ok (.iadd, 1) := dk_96 (dk_at dksL_law_7 17 rfl rfl)
theorem dL_law_310 : decode cL_law 310 = .ok (.iaload, 1) := dk_46 (dk_at dksL_law_7 18 rfl rfl)
theorem dL_law_311 : decode cL_law 311 = .ok (.invokevirtual 33, 3) := dk_182 0 33 (dk_at dksL_law_7 19 rfl rfl)
theorem dL_law_314 : decode cL_law 314 = .ok (.if_icmp .eq 1432, 3) := dk_159 5 152 (dk_at dksL_law_8 0 rfl rfl)
theorem dL_law_317 : decode cL_law 317 = .ok (.iconst 0, 1) := dk_3 (dk_at dksL_law_8 3 rfl rfl)
theorem dL_law_318 : decode cL_law 318 = .ok (.ireturn, 1) := dk_172 (dk_at dksL_law_8 4 rfl rfl)
theorem dL_law_319 : decode cL_law 319 = .ok (.aload_n 1, 1) := dk_43 (dk_at dksL_law_8 5 rfl rfl)
theorem dL_law_320 : decode cL_law 320 = .ok (.aload_n 0, 1) := dk_42 (dk_at dksL_law_8 6 rfl rfl)
theorem dL_law_321 : decode cL_law 321 = .ok (.iload 4, 2) := dk_21 4 (dk_at dksL_law_8 7 rfl rfl)
theorem dL_law_323 : decode cL_law 323 = .ok (.iconst 1, 1) := dk_4 (dk_at dksL_law_8 9 rfl rfl)
theorem dL_law_324 : decode cL_law 324 = .ok (.iadd, 1) := dk_96 (dk_at dksL_law_8 10 rfl rfl)
theorem dL_law_325 : decode cL_law 325 = .ok (.iaload, 1) := dk_46 (dk_at dksL_law_8 11 rfl rfl)
theorem dL_law_326 : decode cL_law 326 = .ok (.invokevirtual 34, 3) := dk_182 0 34 (dk_at dksL_law_8 12 rfl rfl)
theorem dL_law_329 : decode cL_law 329 = .ok (.aload_n 2, 1) := dk_44 (dk_at dksL_law_8 15 rfl rfl)
theorem dL_law_330 : decode cL_law 330 = .ok (.aload_n 0, 1) := dk_42 (dk_at dksL_law_8 16 rfl rfl)
theorem dL_law_331 : decode cL_law 331 = .ok (.iload 4, 2) := dk_21 4 (dk_at dksL_law_8 17 rfl rfl)
theorem dL_law_333 : decode cL_law 333 = .ok (.iconst 1, 1) := dk_4 (dk_at dksL_law_8 19 rfl rfl)
theorem dL_law_334 : decode cL_law 334 = .ok (.iadd, 1) := dk_96 (dk_at dksL_law_8 20 rfl rfl)
theorem dL_law_335 : decode cL_law 335 = .ok (.iaload, 1) := dk_46 (dk_at dksL_law_8 21 rfl rfl)
theorem dL_law_336 : decode cL_law 336 = .ok (.invokevirtual 37, 3) := dk_182 0 37 (dk_at dksL_law_9 0 rfl rfl)
theorem dL_law_339 : decode cL_law 339 = .ok (.if_icmp .eq 1407, 3) := dk_159 5 127 (dk_at dksL_law_9 3 rfl rfl)
theorem dL_law_342 : decode cL_law 342 = .ok (.iconst 0, 1) := dk_3 (dk_at dksL_law_9 6 rfl rfl)
theorem dL_law_343 : decode cL_law 343 = .ok (.ireturn, 1) := dk_172 (dk_at dksL_law_9 7 rfl rfl)
theorem dL_law_344 : decode cL_law 344 = .ok (.aload_n 1, 1) := dk_43 (dk_at dksL_law_9 8 rfl rfl)
theorem dL_law_345 : decode cL_law 345 = .ok (.aload_n 0, 1) := dk_42 (dk_at dksL_law_9 9 rfl rfl)
theorem dL_law_346 : decode cL_law 346 = .ok (.iload 4, 2) := dk_21 4 (dk_at dksL_law_9 10 rfl rfl)
theorem dL_law_348 : decode cL_law 348 = .ok (.iconst 1, 1) := dk_4 (dk_at dksL_law_9 12 rfl rfl)
theorem dL_law_349 : decode cL_law 349 = .ok (.iadd, 1) := dk_96 (dk_at dksL_law_9 13 rfl rfl)
theorem dL_law_350 : decode cL_law 350 = .ok (.iaload, 1) := dk_46 (dk_at dksL_law_9 14 rfl rfl)
theorem dL_law_351 : decode cL_law 351 = .ok (.invokevirtual 38, 3) := dk_182 0 38 (dk_at dksL_law_9 15 rfl rfl)
theorem dL_law_354 : decode cL_law 354 = .ok (.aload_n 2, 1) := dk_44 (dk_at dksL_law_9 18 rfl rfl)
theorem dL_law_355 : decode cL_law 355 = .ok (.aload_n 0, 1) := dk_42 (dk_at dksL_law_9 19 rfl rfl)
theorem dL_law_356 : decode cL_law 356 = .ok (.iload 4, 2) := dk_21 4 (dk_at dksL_law_9 20 rfl rfl)
theorem dL_law_358 : decode cL_law 358 = .ok (.iconst 1, 1) := dk_4 (dk_at dksL_law_9 22 rfl rfl)
theorem dL_law_359 : decode cL_law 359 = .ok (.iadd, 1) := dk_96 (dk_at dksL_law_9 23 rfl rfl)
theorem dL_law_360 : decode cL_law 360 = .ok (.iaload, 1) := dk_46 (dk_at dksL_law_10 0 rfl rfl)
theorem dL_law_361 : decode cL_law 361 = .ok (.invokevirtual 41, 3) := dk_182 0 41 (dk_at dksL_law_10 1 rfl rfl)
theorem dL_law_364 : decode cL_law 364 = .ok (.if_icmp .eq 1382, 3) := dk_159 5 102 (dk_at dksL_law_10 4 rfl rfl)
theorem dL_law_367 : decode cL_law 367 = .ok (.iconst 0, 1) := dk_3 (dk_at dksL_law_10 7 rfl rfl)
theorem dL_law_368 : decode cL_law 368 = .ok (.ireturn, 1) := dk_172 (dk_at dksL_law_10 8 rfl rfl)
theorem dL_law_369 : decode cL_law 369 = .ok (.aload_n 1, 1) := dk_43 (dk_at dksL_law_10 9 rfl rfl)
theorem dL_law_370 : decode cL_law 370 = .ok (.aload_n 0, 1) := dk_42 (dk_at dksL_law_10 10 rfl rfl)
theorem dL_law_371 : decode cL_law 371 = .ok (.iload 4, 2) := dk_21 4 (dk_at dksL_law_10 11 rfl rfl)
theorem dL_law_373 : decode cL_law 373 = .ok (.iconst 1, 1) := dk_4 (dk_at dksL_law_10 13 rfl rfl)
theorem dL_law_374 : decode cL_law 374 = .ok (.iadd, 1) := dk_96 (dk_at dksL_law_10 14 rfl rfl)
theorem dL_law_375 : decode cL_law 375 = .ok (.iaload, 1) := dk_46 (dk_at dksL_law_10 15 rfl rfl)
theorem dL_law_376 : decode cL_law 376 = .ok (.aload_n 0, 1) := dk_42 (dk_at dksL_law_10 16 rfl rfl)
theorem dL_law_377 : decode cL_law 377 = .ok (.iload 4, 2) := dk_21 4 (dk_at dksL_law_10 17 rfl rfl)
theorem dL_law_379 : decode cL_law 379 = .ok (.iconst 2, 1) := dk_5 (dk_at dksL_law_10 19 rfl rfl)
theorem dL_law_380 : decode cL_law 380 = .ok (.iadd, 1) := dk_96 (dk_at dksL_law_10 20 rfl rfl)
theorem dL_law_381 : decode cL_law 381 = .ok (.iaload, 1) := dk_46 (dk_at dksL_law_10 21 rfl rfl)
theorem dL_law_382 : decode cL_law 382 = .ok (.aload_n 3, 1) := dk_45 (dk_at dksL_law_10 22 rfl rfl)
theorem dL_law_383 : decode cL_law 383 = .ok (.invokestatic 42, 3) := dk_184 0 42 (dk_at dksL_law_11 0 rfl rfl)
theorem dL_law_386 : decode cL_law 386 = .ok (.istore 5, 2) := dk_54 5 (dk_at dksL_law_11 3 rfl rfl)
theorem dL_law_388 : decode cL_law 388 = .ok (.aload_n 2, 1) := dk_44 (dk_at dksL_law_11 5 rfl rfl)
theorem dL_law_389 : decode cL_law 389 = .ok (.aload_n 0, 1) := dk_42 (dk_at dksL_law_11 6 rfl rfl)
theorem dL_law_390 : decode cL_law 390 = .ok (.iload 4, 2) := dk_21 4 (dk_at dksL_law_11 7 rfl rfl)
theorem dL_law_392 : decode cL_law 392 = .ok (.iconst 1, 1) := dk_4 (dk_at dksL_law_11 9 rfl rfl)
theorem dL_law_393 : decode cL_law 393 = .ok (.iadd, 1) := dk_96 (dk_at dksL_law_11 10 rfl rfl)
theorem dL_law_394 : decode cL_law 394 = .ok (.iaload, 1) := dk_46 (dk_at dksL_law_11 11 rfl rfl)
theorem dL_law_395 : decode cL_law 395 = .ok (.aload_n 0, 1) := dk_42 (dk_at dksL_law_11 12 rfl rfl)
theorem dL_law_396 : decode cL_law 396 = .ok (.iload 4, 2) := dk_21 4 (dk_at dksL_law_11 13 rfl rfl)
theorem dL_law_398 : decode cL_law 398 = .ok (.iconst 2, 1) := dk_5 (dk_at dksL_law_11 15 rfl rfl)
theorem dL_law_399 : decode cL_law 399 = .ok (.iadd, 1) := dk_96 (dk_at dksL_law_11 16 rfl rfl)
theorem dL_law_400 : decode cL_law 400 = .ok (.iaload, 1) := dk_46 (dk_at dksL_law_11 17 rfl rfl)
theorem dL_law_401 : decode cL_law 401 = .ok (.invokevirtual 47, 3) := dk_182 0 47 (dk_at dksL_law_11 18 rfl rfl)
theorem dL_law_404 : decode cL_law 404 = .ok (.istore 6, 2) := dk_54 6 (dk_at dksL_law_11 21 rfl rfl)
theorem dL_law_406 : decode cL_law 406 = .ok (.aload_n 2, 1) := dk_44 (dk_at dksL_law_11 23 rfl rfl)
theorem dL_law_407 : decode cL_law 407 = .ok (.invokevirtual 48, 3) := dk_182 0 48 (dk_at dksL_law_12 0 rfl rfl)
theorem dL_law_410 : decode cL_law 410 = .ok (.iload 5, 2) := dk_21 5 (dk_at dksL_law_12 3 rfl rfl)
theorem dL_law_412 : decode cL_law 412 = .ok (.if_icmp .eq 5, 3) := dk_159 0 5 (dk_at dksL_law_12 5 rfl rfl)
theorem dL_law_415 : decode cL_law 415 = .ok (.iconst 0, 1) := dk_3 (dk_at dksL_law_12 8 rfl rfl)
theorem dL_law_416 : decode cL_law 416 = .ok (.ireturn, 1) := dk_172 (dk_at dksL_law_12 9 rfl rfl)
theorem dL_law_417 : decode cL_law 417 = .ok (.iload 5, 2) := dk_21 5 (dk_at dksL_law_12 10 rfl rfl)
theorem dL_law_419 : decode cL_law 419 = .ok (.ifCond .ne 15, 3) := dk_154 0 15 (dk_at dksL_law_12 12 rfl rfl)
theorem dL_law_422 : decode cL_law 422 = .ok (.aload_n 3, 1) := dk_45 (dk_at dksL_law_12 15 rfl rfl)
theorem dL_law_423 : decode cL_law 423 = .ok (.iconst 0, 1) := dk_3 (dk_at dksL_law_12 16 rfl rfl)
theorem dL_law_424 : decode cL_law 424 = .ok (.laload, 1) := dk_47 (dk_at dksL_law_12 17 rfl rfl)
theorem dL_law_425 : decode cL_law 425 = .ok (.iload 6, 2) := dk_21 6 (dk_at dksL_law_12 18 rfl rfl)
theorem dL_law_427 : decode cL_law 427 = .ok (.i2l, 1) := dk_133 (dk_at dksL_law_12 20 rfl rfl)
theorem dL_law_428 : decode cL_law 428 = .ok (.lcmp, 1) := dk_148 (dk_at dksL_law_12 21 rfl rfl)
theorem dL_law_429 : decode cL_law 429 = .ok (.ifCond .eq 5, 3) := dk_153 0 5 (dk_at dksL_law_13 0 rfl rfl)
theorem dL_law_432 : decode cL_law 432 = .ok (.iconst 0, 1) := dk_3 (dk_at dksL_law_13 3 rfl rfl)
theorem dL_law_433 : decode cL_law 433 = .ok (.ireturn, 1) := dk_172 (dk_at dksL_law_13 4 rfl rfl)
theorem dL_law_434 : decode cL_law 434 = .ok (.goto 1312, 3) := dk_167 5 32 (dk_at dksL_law_13 5 rfl rfl)
theorem dL_law_437 : decode cL_law 437 = .ok (.aload_n 1, 1) := dk_43 (dk_at dksL_law_13 8 rfl rfl)
theorem dL_law_438 : decode cL_law 438 = .ok (.aload_n 0, 1) := dk_42 (dk_at dksL_law_13 9 rfl rfl)
theorem dL_law_439 : decode cL_law 439 = .ok (.iload 4, 2) := dk_21 4 (dk_at dksL_law_13 10 rfl rfl)
theorem dL_law_441 : decode cL_law 441 = .ok (.iconst 1, 1) := dk_4 (dk_at dksL_law_13 12 rfl rfl)
theorem dL_law_442 : decode cL_law 442 = .ok (.iadd, 1) := dk_96 (dk_at dksL_law_13 13 rfl rfl)
theorem dL_law_443 : decode cL_law 443 = .ok (.iaload, 1) := dk_46 (dk_at dksL_law_13 14 rfl rfl)
theorem dL_law_444 : decode cL_law 444 = .ok (.aload_n 0, 1) := dk_42 (dk_at dksL_law_13 15 rfl rfl)
theorem dL_law_445 : decode cL_law 445 = .ok (.iload 4, 2) := dk_21 4 (dk_at dksL_law_13 16 rfl rfl)
theorem dL_law_447 : decode cL_law 447 = .ok (.iconst 2, 1) := dk_5 (dk_at dksL_law_13 18 rfl rfl)
theorem dL_law_448 : decode cL_law 448 = .ok (.iadd, 1) := dk_96 (dk_at dksL_law_13 19 rfl rfl)
theorem dL_law_449 : decode cL_law 449 = .ok (.iaload, 1) := dk_46 (dk_at dksL_law_13 20 rfl rfl)
theorem dL_law_450 : decode cL_law 450 = .ok (.aload_n 0, 1) := dk_42 (dk_at dksL_law_13 21 rfl rfl)
theorem dL_law_451 : decode cL_law 451 = .ok (.iload 4, 2) := dk_21 4 (dk_at dksL_law_13 22 rfl rfl)
theorem dL_law_453 : decode cL_law 453 = .ok (.iconst 3, 1) := dk_6 (dk_at dksL_law_14 0 rfl rfl)
theorem dL_law_454 : decode cL_law 454 = .ok (.iadd, 1) := dk_96 (dk_at dksL_law_14 1 rfl rfl)
theorem dL_law_455 : decode cL_law 455 = .ok (.iaload, 1) := dk_46 (dk_at dksL_law_14 2 rfl rfl)
theorem dL_law_456 : decode cL_law 456 = .ok (.invokevirtual 52, 3) := dk_182 0 52 (dk_at dksL_law_14 3 rfl rfl)
theorem dL_law_459 : decode cL_law 459 = .ok (.aload_n 2, 1) := dk_44 (dk_at dksL_law_14 6 rfl rfl)
theorem dL_law_460 : decode cL_law 460 = .ok (.aload_n 0, 1) := dk_42 (dk_at dksL_law_14 7 rfl rfl)
theorem dL_law_461 : decode cL_law 461 = .ok (.iload 4, 2) := dk_21 4 (dk_at dksL_law_14 8 rfl rfl)
theorem dL_law_463 : decode cL_law 463 = .ok (.iconst 1, 1) := dk_4 (dk_at dksL_law_14 10 rfl rfl)
theorem dL_law_464 : decode cL_law 464 = .ok (.iadd, 1) := dk_96 (dk_at dksL_law_14 11 rfl rfl)
theorem dL_law_465 : decode cL_law 465 = .ok (.iaload, 1) := dk_46 (dk_at dksL_law_14 12 rfl rfl)
theorem dL_law_466 : decode cL_law 466 = .ok (.aload_n 0, 1) := dk_42 (dk_at dksL_law_14 13 rfl rfl)
theorem dL_law_467 : decode cL_law 467 = .ok (.iload 4, 2) := dk_21 4 (dk_at dksL_law_14 14 rfl rfl)
theorem dL_law_469 : decode cL_law 469 = .ok (.iconst 2, 1) := dk_5 (dk_at dksL_law_14 16 rfl rfl)
theorem dL_law_470 : decode cL_law 470 = .ok (.iadd, 1) := dk_96 (dk_at dksL_law_14 17 rfl rfl)
theorem dL_law_471 : decode cL_law 471 = .ok (.iaload, 1) := dk_46 (dk_at dksL_law_14 18 rfl rfl)
theorem dL_law_472 : decode cL_law 472 = .ok (.aload_n 0, 1) := dk_42 (dk_at dksL_law_14 19 rfl rfl)
theorem dL_law_473 : decode cL_law 473 = .ok (.iload 4, 2) := dk_21 4 (dk_at dksL_law_14 20 rfl rfl)
theorem dL_law_475 : decode cL_law 475 = .ok (.iconst 3, 1) := dk_6 (dk_at dksL_law_14 22 rfl rfl)
theorem dL_law_476 : decode cL_law 476 = .ok (.iadd, 1) := dk_96 (dk_at dksL_law_14 23 rfl rfl)
theorem dL_law_477 : decode cL_law 477 = .ok (.iaload, 1) := dk_46 (dk_at dksL_law_15 0 rfl rfl)
theorem dL_law_478 : decode cL_law 478 = .ok (.invokevirtual 56, 3) := dk_182 0 56 (dk_at dksL_law_15 1 rfl rfl)
theorem dL_law_481 : decode cL_law 481 = .ok (.if_icmp .eq 1265, 3) := dk_159 4 241 (dk_at dksL_law_15 4 rfl rfl)
theorem dL_law_484 : decode cL_law 484 = .ok (.iconst 0, 1) := dk_3 (dk_at dksL_law_15 7 rfl rfl)
theorem dL_law_485 : decode cL_law 485 = .ok (.ireturn, 1) := dk_172 (dk_at dksL_law_15 8 rfl rfl)
theorem dL_law_486 : decode cL_law 486 = .ok (.aload_n 1, 1) := dk_43 (dk_at dksL_law_15 9 rfl rfl)
theorem dL_law_487 : decode cL_law 487 = .ok (.aload_n 0, 1) := dk_42 (dk_at dksL_law_15 10 rfl rfl)
theorem dL_law_488 : decode cL_law 488 = .ok (.iload 4, 2) := dk_21 4 (dk_at dksL_law_15 11 rfl rfl)
theorem dL_law_490 : decode cL_law 490 = .ok (.iconst 1, 1) := dk_4 (dk_at dksL_law_15 13 rfl rfl)
theorem dL_law_491 : decode cL_law 491 = .ok (.iadd, 1) := dk_96 (dk_at dksL_law_15 14 rfl rfl)
theorem dL_law_492 : decode cL_law 492 = .ok (.iaload, 1) := dk_46 (dk_at dksL_law_15 15 rfl rfl)
theorem dL_law_493 : decode cL_law 493 = .ok (.aload_n 0, 1) := dk_42 (dk_at dksL_law_15 16 rfl rfl)
theorem dL_law_494 : decode cL_law 494 = .ok (.iload 4, 2) := dk_21 4 (dk_at dksL_law_15 17 rfl rfl)
theorem dL_law_496 : decode cL_law 496 = .ok (.iconst 2, 1) := dk_5 (dk_at dksL_law_15 19 rfl rfl)
theorem dL_law_497 : decode cL_law 497 = .ok (.iadd, 1) := dk_96 (dk_at dksL_law_15 20 rfl rfl)
theorem dL_law_498 : decode cL_law 498 = .ok (.iaload, 1) := dk_46 (dk_at dksL_law_15 21 rfl rfl)
theorem dL_law_499 : decode cL_law 499 = .ok (.aload_n 0, 1) := dk_42 (dk_at dksL_law_15 22 rfl rfl)
theorem dL_law_500 : decode cL_law 500 = .ok (.iload 4, 2) := dk_21 4 (dk_at dksL_law_16 0 rfl rfl)
theorem dL_law_502 : decode cL_law 502 = .ok (.iconst 3, 1) := dk_6 (dk_at dksL_law_16 2 rfl rfl)
theorem dL_law_503 : decode cL_law 503 = .ok (.iadd, 1) := dk_96 (dk_at dksL_law_16 3 rfl rfl)
theorem dL_law_504 : decode cL_law 504 = .ok (.iaload, 1) := dk_46 (dk_at dksL_law_16 4 rfl rfl)
theorem dL_law_505 : decode cL_law 505 = .ok (.invokevirtual 57, 3) := dk_182 0 57 (dk_at dksL_law_16 5 rfl rfl)
theorem dL_law_508 : decode cL_law 508 = .ok (.aload_n 2, 1) := dk_44 (dk_at dksL_law_16 8 rfl rfl)
theorem dL_law_509 : decode cL_law 509 = .ok (.aload_n 0, 1) := dk_42 (dk_at dksL_law_16 9 rfl rfl)
theorem dL_law_510 : decode cL_law 510 = .ok (.iload 4, 2) := dk_21 4 (dk_at dksL_law_16 10 rfl rfl)
theorem dL_law_512 : decode cL_law 512 = .ok (.iconst 1, 1) := dk_4 (dk_at dksL_law_16 12 rfl rfl)
theorem dL_law_513 : decode cL_law 513 = .ok (.iadd, 1) := dk_96 (dk_at dksL_law_16 13 rfl rfl)
theorem dL_law_514 : decode cL_law 514 = .ok (.iaload, 1) := dk_46 (dk_at dksL_law_16 14 rfl rfl)
theorem dL_law_515 : decode cL_law 515 = .ok (.aload_n 0, 1) := dk_42 (dk_at dksL_law_16 15 rfl rfl)
theorem dL_law_516 : decode cL_law 516 = .ok (.iload 4, 2) := dk_21 4 (dk_at dksL_law_16 16 rfl rfl)
theorem dL_law_518 : decode cL_law 518 = .ok (.iconst 2, 1) := dk_5 (dk_at dksL_law_16 18 rfl rfl)
theorem dL_law_519 : decode cL_law 519 = .ok (.iadd, 1) := dk_96 (dk_at dksL_law_16 19 rfl rfl)
theorem dL_law_520 : decode cL_law 520 = .ok (.iaload, 1) := dk_46 (dk_at dksL_law_16 20 rfl rfl)
theorem dL_law_521 : decode cL_law 521 = .ok (.aload_n 0, 1) := dk_42 (dk_at dksL_law_16 21 rfl rfl)
theorem dL_law_522 : decode cL_law 522 = .ok (.iload 4, 2) := dk_21 4 (dk_at dksL_law_16 22 rfl rfl)
theorem dL_law_524 : decode cL_law 524 = .ok (.iconst 3, 1) := dk_6 (dk_at dksL_law_17 0 rfl rfl)
theorem dL_law_525 : decode cL_law 525 = .ok (.iadd, 1) := dk_96 (dk_at dksL_law_17 1 rfl rfl)
theorem dL_law_526 : decode cL_law 526 = .ok (.iaload, 1) := dk_46 (dk_at dksL_law_17 2 rfl rfl)
theorem dL_law_527 : decode cL_law 527 = .ok (.invokevirtual 60, 3) := dk_182 0 60 (dk_at dksL_law_17 3 rfl rfl)
theorem dL_law_530 : decode cL_law 530 = .ok (.if_icmp .eq 1216, 3) := dk_159 4 192 (dk_at dksL_law_17 6 rfl rfl)
theorem dL_law_533 : decode cL_law 533 = .ok (.iconst 0, 1) := dk_3 (dk_at dksL_law_17 9 rfl rfl)
theorem dL_law_534 : decode cL_law 534 = .ok (.ireturn, 1) := dk_172 (dk_at dksL_law_17 10 rfl rfl)
theorem dL_law_535 : decode cL_law 535 = .ok (.aload_n 1, 1) := dk_43 (dk_at dksL_law_17 11 rfl rfl)
theorem dL_law_536 : decode cL_law 536 = .ok (.aload_n 0, 1) := dk_42 (dk_at dksL_law_17 12 rfl rfl)
theorem dL_law_537 : decode cL_law 537 = .ok (.iload 4, 2) := dk_21 4 (dk_at dksL_law_17 13 rfl rfl)
theorem dL_law_539 : decode cL_law 539 = .ok (.iconst 1, 1) := dk_4 (dk_at dksL_law_17 15 rfl rfl)
theorem dL_law_540 : decode cL_law 540 = .ok (.iadd, 1) := dk_96 (dk_at dksL_law_17 16 rfl rfl)
theorem dL_law_541 : decode cL_law 541 = .ok (.iaload, 1) := dk_46 (dk_at dksL_law_17 17 rfl rfl)
theorem dL_law_542 : decode cL_law 542 = .ok (.aload_n 0, 1) := dk_42 (dk_at dksL_law_17 18 rfl rfl)
theorem dL_law_543 : decode cL_law 543 = .ok (.iload 4, 2) := dk_21 4 (dk_at dksL_law_17 19 rfl rfl)
theorem dL_law_545 : decode cL_law 545 = .ok (.iconst 2, 1) := dk_5 (dk_at dksL_law_17 21 rfl rfl)
theorem dL_law_546 : decode cL_law 546 = .ok (.iadd, 1) := dk_96 (dk_at dksL_law_17 22 rfl rfl)
theorem dL_law_547 : decode cL_law 547 = .ok (.iaload, 1) := dk_46 (dk_at dksL_law_17 23 rfl rfl)
theorem dL_law_548 : decode cL_law 548 = .ok (.aload_n 0, 1) := dk_42 (dk_at dksL_law_18 0 rfl rfl)
theorem dL_law_549 : decode cL_law 549 = .ok (.iload 4, 2) := dk_21 4 (dk_at dksL_law_18 1 rfl rfl)
theorem dL_law_551 : decode cL_law 551 = .ok (.iconst 3, 1) := dk_6 (dk_at dksL_law_18 3 rfl rfl)
theorem dL_law_552 : decode cL_law 552 = .ok (.iadd, 1) := dk_96 (dk_at dksL_law_18 4 rfl rfl)
theorem dL_law_553 : decode cL_law 553 = .ok (.iaload, 1) := dk_46 (dk_at dksL_law_18 5 rfl rfl)
theorem dL_law_554 : decode cL_law 554 = .ok (.aload_n 0, 1) := dk_42 (dk_at dksL_law_18 6 rfl rfl)
theorem dL_law_555 : decode cL_law 555 = .ok (.iload 4, 2) := dk_21 4 (dk_at dksL_law_18 7 rfl rfl)
theorem dL_law_557 : decode cL_law 557 = .ok (.iconst 4, 1) := dk_7 (dk_at dksL_law_18 9 rfl rfl)
theorem dL_law_558 : decode cL_law 558 = .ok (.iadd, 1) := dk_96 (dk_at dksL_law_18 10 rfl rfl)
theorem dL_law_559 : decode cL_law 559 = .ok (.iaload, 1) := dk_46 (dk_at dksL_law_18 11 rfl rfl)
theorem dL_law_560 : decode cL_law 560 = .ok (.invokevirtual 61, 3) := dk_182 0 61 (dk_at dksL_law_18 12 rfl rfl)
theorem dL_law_563 : decode cL_law 563 = .ok (.aload_n 2, 1) := dk_44 (dk_at dksL_law_18 15 rfl rfl)
theorem dL_law_564 : decode cL_law 564 = .ok (.aload_n 0, 1) := dk_42 (dk_at dksL_law_18 16 rfl rfl)
theorem dL_law_565 : decode cL_law 565 = .ok (.iload 4, 2) := dk_21 4 (dk_at dksL_law_18 17 rfl rfl)
theorem dL_law_567 : decode cL_law 567 = .ok (.iconst 1, 1) := dk_4 (dk_at dksL_law_18 19 rfl rfl)
theorem dL_law_568 : decode cL_law 568 = .ok (.iadd, 1) := dk_96 (dk_at dksL_law_18 20 rfl rfl)
theorem dL_law_569 : decode cL_law 569 = .ok (.iaload, 1) := dk_46 (dk_at dksL_law_18 21 rfl rfl)
theorem dL_law_570 : decode cL_law 570 = .ok (.aload_n 0, 1) := dk_42 (dk_at dksL_law_18 22 rfl rfl)
theorem dL_law_571 : decode cL_law 571 = .ok (.iload 4, 2) := dk_21 4 (dk_at dksL_law_19 0 rfl rfl)
theorem dL_law_573 : decode cL_law 573 = .ok (.iconst 2, 1) := dk_5 (dk_at dksL_law_19 2 rfl rfl)
theorem dL_law_574 : decode cL_law 574 = .ok (.iadd, 1) := dk_96 (dk_at dksL_law_19 3 rfl rfl)
theorem dL_law_575 : decode cL_law 575 = .ok (.iaload, 1) := dk_46 (dk_at dksL_law_19 4 rfl rfl)
theorem dL_law_576 : decode cL_law 576 = .ok (.aload_n 0, 1) := dk_42 (dk_at dksL_law_19 5 rfl rfl)
theorem dL_law_577 : decode cL_law 577 = .ok (.iload 4, 2) := dk_21 4 (dk_at dksL_law_19 6 rfl rfl)
theorem dL_law_579 : decode cL_law 579 = .ok (.iconst 3, 1) := dk_6 (dk_at dksL_law_19 8 rfl rfl)
theorem dL_law_580 : decode cL_law 580 = .ok (.iadd, 1) := dk_96 (dk_at dksL_law_19 9 rfl rfl)
theorem dL_law_581 : decode cL_law 581 = .ok (.iaload, 1) := dk_46 (dk_at dksL_law_19 10 rfl rfl)
theorem dL_law_582 : decode cL_law 582 = .ok (.aload_n 0, 1) := dk_42 (dk_at dksL_law_19 11 rfl rfl)
theorem dL_law_583 : decode cL_law 583 = .ok (.iload 4, 2) := dk_21 4 (dk_at dksL_law_19 12 rfl rfl)
theorem dL_law_585 : decode cL_law 585 = .ok (.iconst 4, 1) := dk_7 (dk_at dksL_law_19 14 rfl rfl)
theorem dL_law_586 : decode cL_law 586 = .ok (.iadd, 1) := dk_96 (dk_at dksL_law_19 15 rfl rfl)
theorem dL_law_587 : decode cL_law 587 = .ok (.iaload, 1) := dk_46 (dk_at dksL_law_19 16 rfl rfl)
theorem dL_law_588 : decode cL_law 588 = .ok (.invokevirtual 65, 3) := dk_182 0 65 (dk_at dksL_law_19 17 rfl rfl)
theorem dL_law_591 : decode cL_law 591 = .ok (.if_icmp .eq 1155, 3) := dk_159 4 131 (dk_at dksL_law_19 20 rfl rfl)
theorem dL_law_594 : decode cL_law 594 = .ok (.iconst 0, 1) := dk_3 (dk_at dksL_law_19 23 rfl rfl)
theorem dL_law_595 : decode cL_law 595 = .ok (.ireturn, 1) := dk_172 (dk_at dksL_law_20 0 rfl rfl)
theorem dL_law_596 : decode cL_law 596 = .ok (.aload_n 1, 1) := dk_43 (dk_at dksL_law_20 1 rfl rfl)
theorem dL_law_597 : decode cL_law 597 = .ok (.aload_n 0, 1) := dk_42 (dk_at dksL_law_20 2 rfl rfl)
theorem dL_law_598 : decode cL_law 598 = .ok (.iload 4, 2) := dk_21 4 (dk_at dksL_law_20 3 rfl rfl)
theorem dL_law_600 : decode cL_law 600 = .ok (.iconst 1, 1) := dk_4 (dk_at dksL_law_20 5 rfl rfl)
theorem dL_law_601 : decode cL_law 601 = .ok (.iadd, 1) := dk_96 (dk_at dksL_law_20 6 rfl rfl)
theorem dL_law_602 : decode cL_law 602 = .ok (.iaload, 1) := dk_46 (dk_at dksL_law_20 7 rfl rfl)
theorem dL_law_603 : decode cL_law 603 = .ok (.aload_n 0, 1) := dk_42 (dk_at dksL_law_20 8 rfl rfl)
theorem dL_law_604 : decode cL_law 604 = .ok (.iload 4, 2) := dk_21 4 (dk_at dksL_law_20 9 rfl rfl)
theorem dL_law_606 : decode cL_law 606 = .ok (.iconst 2, 1) := dk_5 (dk_at dksL_law_20 11 rfl rfl)
theorem dL_law_607 : decode cL_law 607 = .ok (.iadd, 1) := dk_96 (dk_at dksL_law_20 12 rfl rfl)
theorem dL_law_608 : decode cL_law 608 = .ok (.iaload, 1) := dk_46 (dk_at dksL_law_20 13 rfl rfl)
theorem dL_law_609 : decode cL_law 609 = .ok (.aload_n 0, 1) := dk_42 (dk_at dksL_law_20 14 rfl rfl)
theorem dL_law_610 : decode cL_law 610 = .ok (.iload 4, 2) := dk_21 4 (dk_at dksL_law_20 15 rfl rfl)
theorem dL_law_612 : decode cL_law 612 = .ok (.iconst 3, 1) := dk_6 (dk_at dksL_law_20 17 rfl rfl)
theorem dL_law_613 : decode cL_law 613 = .ok (.iadd, 1) := dk_96 (dk_at dksL_law_20 18 rfl rfl)
theorem dL_law_614 : decode cL_law 614 = .ok (.iaload, 1) := dk_46 (dk_at dksL_law_20 19 rfl rfl)
theorem dL_law_615 : decode cL_law 615 = .ok (.invokevirtual 66, 3) := dk_182 0 66 (dk_at dksL_law_20 20 rfl rfl)
theorem dL_law_618 : decode cL_law 618 = .ok (.aload_n 2, 1) := dk_44 (dk_at dksL_law_20 23 rfl rfl)
theorem dL_law_619 : decode cL_law 619 = .ok (.aload_n 0, 1) := dk_42 (dk_at dksL_law_21 0 rfl rfl)
theorem dL_law_620 : decode cL_law 620 = .ok (.iload 4, 2) := dk_21 4 (dk_at dksL_law_21 1 rfl rfl)
theorem dL_law_622 : decode cL_law 622 = .ok (.iconst 1, 1) := dk_4 (dk_at dksL_law_21 3 rfl rfl)
theorem dL_law_623 : decode cL_law 623 = .ok (.iadd, 1) := dk_96 (dk_at dksL_law_21 4 rfl rfl)
theorem dL_law_624 : decode cL_law 624 = .ok (.iaload, 1) := dk_46 (dk_at dksL_law_21 5 rfl rfl)
theorem dL_law_625 : decode cL_law 625 = .ok (.aload_n 0, 1) := dk_42 (dk_at dksL_law_21 6 rfl rfl)
theorem dL_law_626 : decode cL_law 626 = .ok (.iload 4, 2) := dk_21 4 (dk_at dksL_law_21 7 rfl rfl)
theorem dL_law_628 : decode cL_law 628 = .ok (.iconst 2, 1) := dk_5 (dk_at dksL_law_21 9 rfl rfl)
theorem dL_law_629 : decode cL_law 629 = .ok (.iadd, 1) := dk_96 (dk_at dksL_law_21 10 rfl rfl)
theorem dL_law_630 : decode cL_law 630 = .ok (.iaload, 1) := dk_46 (dk_at dksL_law_21 11 rfl rfl)
theorem dL_law_631 : decode cL_law 631 = .ok (.aload_n 0, 1) := dk_42 (dk_at dksL_law_21 12 rfl rfl)
theorem dL_law_632 : decode cL_law 632 = .ok (.iload 4, 2) := dk_21 4 (dk_at dksL_law_21 13 rfl rfl)
theorem dL_law_634 : decode cL_law 634 = .ok (.iconst 3, 1) := dk_6 (dk_at dksL_law_21 15 rfl rfl)
theorem dL_law_635 : decode cL_law 635 = .ok (.iadd, 1) := dk_96 (dk_at dksL_law_21 16 rfl rfl)
theorem dL_law_636 : decode cL_law 636 = .ok (.iaload, 1) := dk_46 (dk_at dksL_law_21 17 rfl rfl)
theorem dL_law_637 : decode cL_law 637 = .ok (.invokevirtual 69, 3) := dk_182 0 69 (dk_at dksL_law_21 18 rfl rfl)
theorem dL_law_640 : decode cL_law 640 = .ok (.if_icmp .eq 1106, 3) := dk_159 4 82 (dk_at dksL_law_21 21 rfl rfl)
theorem dL_law_643 : decode cL_law 643 = .ok (.iconst 0, 1) := dk_3 (dk_at dksL_law_22 0 rfl rfl)
theorem dL_law_644 : decode cL_law 644 = .ok (.ireturn, 1) := dk_172 (dk_at dksL_law_22 1 rfl rfl)
theorem dL_law_645 : decode cL_law 645 = .ok (.aload_n 1, 1) := dk_43 (dk_at dksL_law_22 2 rfl rfl)
theorem dL_law_646 : decode cL_law 646 = .ok (.aload_n 0, 1) := dk_42 (dk_at dksL_law_22 3 rfl rfl)
theorem dL_law_647 : decode cL_law 647 = .ok (.iload 4, 2) := dk_21 4 (dk_at dksL_law_22 4 rfl rfl)
theorem dL_law_649 : decode cL_law 649 = .ok (.iconst 1, 1) := dk_4 (dk_at dksL_law_22 6 rfl rfl)
theorem dL_law_650 : decode cL_law 650 = .ok (.iadd, 1) := dk_96 (dk_at dksL_law_22 7 rfl rfl)
theorem dL_law_651 : decode cL_law 651 = .ok (.iaload, 1) := dk_46 (dk_at dksL_law_22 8 rfl rfl)
theorem dL_law_652 : decode cL_law 652 = .ok (.aload_n 0, 1) := dk_42 (dk_at dksL_law_22 9 rfl rfl)
theorem dL_law_653 : decode cL_law 653 = .ok (.iload 4, 2) := dk_21 4 (dk_at dksL_law_22 10 rfl rfl)
theorem dL_law_655 : decode cL_law 655 = .ok (.iconst 2, 1) := dk_5 (dk_at dksL_law_22 12 rfl rfl)
theorem dL_law_656 : decode cL_law 656 = .ok (.iadd, 1) := dk_96 (dk_at dksL_law_22 13 rfl rfl)
theorem dL_law_657 : decode cL_law 657 = .ok (.iaload, 1) := dk_46 (dk_at dksL_law_22 14 rfl rfl)
theorem dL_law_658 : decode cL_law 658 = .ok (.aload_n 0, 1) := dk_42 (dk_at dksL_law_22 15 rfl rfl)
theorem dL_law_659 : decode cL_law 659 = .ok (.iload 4, 2) := dk_21 4 (dk_at dksL_law_22 16 rfl rfl)
theorem dL_law_661 : decode cL_law 661 = .ok (.iconst 3, 1) := dk_6 (dk_at dksL_law_22 18 rfl rfl)
theorem dL_law_662 : decode cL_law 662 = .ok (.iadd, 1) := dk_96 (dk_at dksL_law_22 19 rfl rfl)
theorem dL_law_663 : decode cL_law 663 = .ok (.iaload, 1) := dk_46 (dk_at dksL_law_22 20 rfl rfl)
theorem dL_law_664 : decode cL_law 664 = .ok (.invokevirtual 70, 3) := dk_182 0 70 (dk_at dksL_law_22 21 rfl rfl)
theorem dL_law_667 : decode cL_law 667 = .ok (.aload_n 2, 1) := dk_44 (dk_at dksL_law_23 0 rfl rfl)
theorem dL_law_668 : decode cL_law 668 = .ok (.aload_n 0, 1) := dk_42 (dk_at dksL_law_23 1 rfl rfl)
theorem dL_law_669 : decode cL_law 669 = .ok (.iload 4, 2) := dk_21 4 (dk_at dksL_law_23 2 rfl rfl)
theorem dL_law_671 : decode cL_law 671 = .ok (.iconst 1, 1) := dk_4 (dk_at dksL_law_23 4 rfl rfl)
theorem dL_law_672 : decode cL_law 672 = .ok (.iadd, 1) := dk_96 (dk_at dksL_law_23 5 rfl rfl)
theorem dL_law_673 : decode cL_law 673 = .ok (.iaload, 1) := dk_46 (dk_at dksL_law_23 6 rfl rfl)
theorem dL_law_674 : decode cL_law 674 = .ok (.aload_n 0, 1) := dk_42 (dk_at dksL_law_23 7 rfl rfl)
theorem dL_law_675 : decode cL_law 675 = .ok (.iload 4, 2) := dk_21 4 (dk_at dksL_law_23 8 rfl rfl)
theorem dL_law_677 : decode cL_law 677 = .ok (.iconst 2, 1) := dk_5 (dk_at dksL_law_23 10 rfl rfl)
theorem dL_law_678 : decode cL_law 678 = .ok (.iadd, 1) := dk_96 (dk_at dksL_law_23 11 rfl rfl)
theorem dL_law_679 : decode cL_law 679 = .ok (.iaload, 1) := dk_46 (dk_at dksL_law_23 12 rfl rfl)
theorem dL_law_680 : decode cL_law 680 = .ok (.aload_n 0, 1) := dk_42 (dk_at dksL_law_23 13 rfl rfl)
theorem dL_law_681 : decode cL_law 681 = .ok (.iload 4, 2) := dk_21 4 (dk_at dksL_law_23 14 rfl rfl)
theorem dL_law_683 : decode cL_law 683 = .ok (.iconst 3, 1) := dk_6 (dk_at dksL_law_23 16 rfl rfl)
theorem dL_law_684 : decode cL_law 684 = .ok (.iadd, 1) := dk_96 (dk_at dksL_law_23 17 rfl rfl)
theorem dL_law_685 : decode cL_law 685 = .ok (.iaload, 1) := dk_46 (dk_at dksL_law_23 18 rfl rfl)
theorem dL_law_686 : decode cL_law 686 = .ok (.invokevirtual 74, 3) := dk_182 0 74 (dk_at dksL_law_23 19 rfl rfl)
theorem dL_law_689 : decode cL_law 689 = .ok (.lcmp, 1) := dk_148 (dk_at dksL_law_23 22 rfl rfl)
theorem dL_law_690 : decode cL_law 690 = .ok (.ifCond .eq 1056, 3) := dk_153 4 32 (dk_at dksL_law_24 0 rfl rfl)
theorem dL_law_693 : decode cL_law 693 = .ok (.iconst 0, 1) := dk_3 (dk_at dksL_law_24 3 rfl rfl)
theorem dL_law_694 : decode cL_law 694 = .ok (.ireturn, 1) := dk_172 (dk_at dksL_law_24 4 rfl rfl)
theorem dL_law_695 : decode cL_law 695 = .ok (.aload_n 1, 1) := dk_43 (dk_at dksL_law_24 5 rfl rfl)
theorem dL_law_696 : decode cL_law 696 = .ok (.aload_n 0, 1) := dk_42 (dk_at dksL_law_24 6 rfl rfl)
theorem dL_law_697 : decode cL_law 697 = .ok (.iload 4, 2) := dk_21 4 (dk_at dksL_law_24 7 rfl rfl)
theorem dL_law_699 : decode cL_law 699 = .ok (.iconst 1, 1) := dk_4 (dk_at dksL_law_24 9 rfl rfl)
theorem dL_law_700 : decode cL_law 700 = .ok (.iadd, 1) := dk_96 (dk_at dksL_law_24 10 rfl rfl)
theorem dL_law_701 : decode cL_law 701 = .ok (.iaload, 1) := dk_46 (dk_at dksL_law_24 11 rfl rfl)
theorem dL_law_702 : decode cL_law 702 = .ok (.aload_n 0, 1) := dk_42 (dk_at dksL_law_24 12 rfl rfl)
theorem dL_law_703 : decode cL_law 703 = .ok (.iload 4, 2) := dk_21 4 (dk_at dksL_law_24 13 rfl rfl)
theorem dL_law_705 : decode cL_law 705 = .ok (.iconst 2, 1) := dk_5 (dk_at dksL_law_24 15 rfl rfl)
theorem dL_law_706 : decode cL_law 706 = .ok (.iadd, 1) := dk_96 (dk_at dksL_law_24 16 rfl rfl)
theorem dL_law_707 : decode cL_law 707 = .ok (.iaload, 1) := dk_46 (dk_at dksL_law_24 17 rfl rfl)
theorem dL_law_708 : decode cL_law 708 = .ok (.aload_n 0, 1) := dk_42 (dk_at dksL_law_24 18 rfl rfl)
theorem dL_law_709 : decode cL_law 709 = .ok (.iload 4, 2) := dk_21 4 (dk_at dksL_law_24 19 rfl rfl)
theorem dL_law_711 : decode cL_law 711 = .ok (.iconst 3, 1) := dk_6 (dk_at dksL_law_24 21 rfl rfl)
theorem dL_law_712 : decode cL_law 712 = .ok (.iadd, 1) := dk_96 (dk_at dksL_law_24 22 rfl rfl)
theorem dL_law_713 : decode cL_law 713 = .ok (.iaload, 1) := dk_46 (dk_at dksL_law_24 23 rfl rfl)
theorem dL_law_714 : decode cL_law 714 = .ok (.aload_n 0, 1) := dk_42 (dk_at dksL_law_25 0 rfl rfl)
theorem dL_law_715 : decode cL_law 715 = .ok (.iload 4, 2) := dk_21 4 (dk_at dksL_law_25 1 rfl rfl)
theorem dL_law_717 : decode cL_law 717 = .ok (.iconst 4, 1) := dk_7 (dk_at dksL_law_25 3 rfl rfl)
theorem dL_law_718 : decode cL_law 718 = .ok (.iadd, 1) := dk_96 (dk_at dksL_law_25 4 rfl rfl)
theorem dL_law_719 : decode cL_law 719 = .ok (.iaload, 1) := dk_46 (dk_at dksL_law_25 5 rfl rfl)
theorem dL_law_720 : decode cL_law 720 = .ok (.invokevirtual 75, 3) := dk_182 0 75 (dk_at dksL_law_25 6 rfl rfl)
theorem dL_law_723 : decode cL_law 723 = .ok (.aload_n 2, 1) := dk_44 (dk_at dksL_law_25 9 rfl rfl)
theorem dL_law_724 : decode cL_law 724 = .ok (.aload_n 0, 1) := dk_42 (dk_at dksL_law_25 10 rfl rfl)
theorem dL_law_725 : decode cL_law 725 = .ok (.iload 4, 2) := dk_21 4 (dk_at dksL_law_25 11 rfl rfl)
theorem dL_law_727 : decode cL_law 727 = .ok (.iconst 1, 1) := dk_4 (dk_at dksL_law_25 13 rfl rfl)
theorem dL_law_728 : decode cL_law 728 = .ok (.iadd, 1) := dk_96 (dk_at dksL_law_25 14 rfl rfl)
theorem dL_law_729 : decode cL_law 729 = .ok (.iaload, 1) := dk_46 (dk_at dksL_law_25 15 rfl rfl)
theorem dL_law_730 : decode cL_law 730 = .ok (.aload_n 0, 1) := dk_42 (dk_at dksL_law_25 16 rfl rfl)
theorem dL_law_731 : decode cL_law 731 = .ok (.iload 4, 2) := dk_21 4 (dk_at dksL_law_25 17 rfl rfl)
theorem dL_law_733 : decode cL_law 733 = .ok (.iconst 2, 1) := dk_5 (dk_at dksL_law_25 19 rfl rfl)
theorem dL_law_734 : decode cL_law 734 = .ok (.iadd, 1) := dk_96 (dk_at dksL_law_25 20 rfl rfl)
theorem dL_law_735 : decode cL_law 735 = .ok (.iaload, 1) := dk_46 (dk_at dksL_law_25 21 rfl rfl)
theorem dL_law_736 : decode cL_law 736 = .ok (.aload_n 0, 1) := dk_42 (dk_at dksL_law_25 22 rfl rfl)
theorem dL_law_737 : decode cL_law 737 = .ok (.iload 4, 2) := dk_21 4 (dk_at dksL_law_26 0 rfl rfl)
theorem dL_law_739 : decode cL_law 739 = .ok (.iconst 3, 1) := dk_6 (dk_at dksL_law_26 2 rfl rfl)
theorem dL_law_740 : decode cL_law 740 = .ok (.iadd, 1) := dk_96 (dk_at dksL_law_26 3 rfl rfl)
theorem dL_law_741 : decode cL_law 741 = .ok (.iaload, 1) := dk_46 (dk_at dksL_law_26 4 rfl rfl)
theorem dL_law_742 : decode cL_law 742 = .ok (.aload_n 0, 1) := dk_42 (dk_at dksL_law_26 5 rfl rfl)
theorem dL_law_743 : decode cL_law 743 = .ok (.iload 4, 2) := dk_21 4 (dk_at dksL_law_26 6 rfl rfl)
theorem dL_law_745 : decode cL_law 745 = .ok (.iconst 4, 1) := dk_7 (dk_at dksL_law_26 8 rfl rfl)
theorem dL_law_746 : decode cL_law 746 = .ok (.iadd, 1) := dk_96 (dk_at dksL_law_26 9 rfl rfl)
theorem dL_law_747 : decode cL_law 747 = .ok (.iaload, 1) := dk_46 (dk_at dksL_law_26 10 rfl rfl)
theorem dL_law_748 : decode cL_law 748 = .ok (.invokevirtual 78, 3) := dk_182 0 78 (dk_at dksL_law_26 11 rfl rfl)
theorem dL_law_751 : decode cL_law 751 = .ok (.if_icmp .eq 995, 3) := dk_159 3 227 (dk_at dksL_law_26 14 rfl rfl)
theorem dL_law_754 : decode cL_law 754 = .ok (.iconst 0, 1) := dk_3 (dk_at dksL_law_26 17 rfl rfl)
theorem dL_law_755 : decode cL_law 755 = .ok (.ireturn, 1) := dk_172 (dk_at dksL_law_26 18 rfl rfl)
theorem dL_law_756 : decode cL_law 756 = .ok (.aload_n 1, 1) := dk_43 (dk_at dksL_law_26 19 rfl rfl)
theorem dL_law_757 : decode cL_law 757 = .ok (.aload_n 0, 1) := dk_42 (dk_at dksL_law_26 20 rfl rfl)
theorem dL_law_758 : decode cL_law 758 = .ok (.iload 4, 2) := dk_21 4 (dk_at dksL_law_26 21 rfl rfl)
theorem dL_law_760 : decode cL_law 760 = .ok (.iconst 1, 1) := dk_4 (dk_at dksL_law_26 23 rfl rfl)
theorem dL_law_761 : decode cL_law 761 = .ok (.iadd, 1) := dk_96 (dk_at dksL_law_27 0 rfl rfl)
theorem dL_law_762 : decode cL_law 762 = .ok (.iaload, 1) := dk_46 (dk_at dksL_law_27 1 rfl rfl)
theorem dL_law_763 : decode cL_law 763 = .ok (.aload_n 0, 1) := dk_42 (dk_at dksL_law_27 2 rfl rfl)
theorem dL_law_764 : decode cL_law 764 = .ok (.iload 4, 2) := dk_21 4 (dk_at dksL_law_27 3 rfl rfl)
theorem dL_law_766 : decode cL_law 766 = .ok (.iconst 2, 1) := dk_5 (dk_at dksL_law_27 5 rfl rfl)
theorem dL_law_767 : decode cL_law 767 = .ok (.iadd, 1) := dk_96 (dk_at dksL_law_27 6 rfl rfl)
theorem dL_law_768 : decode cL_law 768 = .ok (.iaload, 1) := dk_46 (dk_at dksL_law_27 7 rfl rfl)
theorem dL_law_769 : decode cL_law 769 = .ok (.aload_n 0, 1) := dk_42 (dk_at dksL_law_27 8 rfl rfl)
theorem dL_law_770 : decode cL_law 770 = .ok (.iload 4, 2) := dk_21 4 (dk_at dksL_law_27 9 rfl rfl)
theorem dL_law_772 : decode cL_law 772 = .ok (.iconst 3, 1) := dk_6 (dk_at dksL_law_27 11 rfl rfl)
theorem dL_law_773 : decode cL_law 773 = .ok (.iadd, 1) := dk_96 (dk_at dksL_law_27 12 rfl rfl)
theorem dL_law_774 : decode cL_law 774 = .ok (.iaload, 1) := dk_46 (dk_at dksL_law_27 13 rfl rfl)
theorem dL_law_775 : decode cL_law 775 = .ok (.aload_n 0, 1) := dk_42 (dk_at dksL_law_27 14 rfl rfl)
theorem dL_law_776 : decode cL_law 776 = .ok (.iload 4, 2) := dk_21 4 (dk_at dksL_law_27 15 rfl rfl)
theorem dL_law_778 : decode cL_law 778 = .ok (.iconst 4, 1) := dk_7 (dk_at dksL_law_27 17 rfl rfl)
theorem dL_law_779 : decode cL_law 779 = .ok (.iadd, 1) := dk_96 (dk_at dksL_law_27 18 rfl rfl)
theorem dL_law_780 : decode cL_law 780 = .ok (.iaload, 1) := dk_46 (dk_at dksL_law_27 19 rfl rfl)
theorem dL_law_781 : decode cL_law 781 = .ok (.invokevirtual 79, 3) := dk_182 0 79 (dk_at dksL_law_27 20 rfl rfl)
theorem dL_law_784 : decode cL_law 784 = .ok (.aload_n 2, 1) := dk_44 (dk_at dksL_law_27 23 rfl rfl)
theorem dL_law_785 : decode cL_law 785 = .ok (.aload_n 0, 1) := dk_42 (dk_at dksL_law_28 0 rfl rfl)
theorem dL_law_786 : decode cL_law 786 = .ok (.iload 4, 2) := dk_21 4 (dk_at dksL_law_28 1 rfl rfl)
theorem dL_law_788 : decode cL_law 788 = .ok (.iconst 1, 1) := dk_4 (dk_at dksL_law_28 3 rfl rfl)
theorem dL_law_789 : decode cL_law 789 = .ok (.iadd, 1) := dk_96 (dk_at dksL_law_28 4 rfl rfl)
theorem dL_law_790 : decode cL_law 790 = .ok (.iaload, 1) := dk_46 (dk_at dksL_law_28 5 rfl rfl)
theorem dL_law_791 : decode cL_law 791 = .ok (.aload_n 0, 1) := dk_42 (dk_at dksL_law_28 6 rfl rfl)
theorem dL_law_792 : decode cL_law 792 = .ok (.iload 4, 2) := dk_21 4 (dk_at dksL_law_28 7 rfl rfl)
theorem dL_law_794 : decode cL_law 794 = .ok (.iconst 2, 1) := dk_5 (dk_at dksL_law_28 9 rfl rfl)
theorem dL_law_795 : decode cL_law 795 = .ok (.iadd, 1) := dk_96 (dk_at dksL_law_28 10 rfl rfl)
theorem dL_law_796 : decode cL_law 796 = .ok (.iaload, 1) := dk_46 (dk_at dksL_law_28 11 rfl rfl)
theorem dL_law_797 : decode cL_law 797 = .ok (.aload_n 0, 1) := dk_42 (dk_at dksL_law_28 12 rfl rfl)
theorem dL_law_798 : decode cL_law 798 = .ok (.iload 4, 2) := dk_21 4 (dk_at dksL_law_28 13 rfl rfl)
theorem dL_law_800 : decode cL_law 800 = .ok (.iconst 3, 1) := dk_6 (dk_at dksL_law_28 15 rfl rfl)
theorem dL_law_801 : decode cL_law 801 = .ok (.iadd, 1) := dk_96 (dk_at dksL_law_28 16 rfl rfl)
theorem dL_law_802 : decode cL_law 802 = .ok (.iaload, 1) := dk_46 (dk_at dksL_law_28 17 rfl rfl)
theorem dL_law_803 : decode cL_law 803 = .ok (.aload_n 0, 1) := dk_42 (dk_at dksL_law_28 18 rfl rfl)
theorem dL_law_804 : decode cL_law 804 = .ok (.iload 4, 2) := dk_21 4 (dk_at dksL_law_28 19 rfl rfl)
theorem dL_law_806 : decode cL_law 806 = .ok (.iconst 4, 1) := dk_7 (dk_at dksL_law_28 21 rfl rfl)
theorem dL_law_807 : decode cL_law 807 = .ok (.iadd, 1) := dk_96 (dk_at dksL_law_28 22 rfl rfl)
theorem dL_law_808 : decode cL_law 808 = .ok (.iaload, 1) := dk_46 (dk_at dksL_law_28 23 rfl rfl)
theorem dL_law_809 : decode cL_law 809 = .ok (.invokevirtual 82, 3) := dk_182 0 82 (dk_at dksL_law_29 0 rfl rfl)
theorem dL_law_812 : decode cL_law 812 = .ok (.if_icmp .eq 934, 3) := dk_159 3 166 (dk_at dksL_law_29 3 rfl rfl)
theorem dL_law_815 : decode cL_law 815 = .ok (.iconst 0, 1) := dk_3 (dk_at dksL_law_29 6 rfl rfl)
theorem dL_law_816 : decode cL_law 816 = .ok (.ireturn, 1) := dk_172 (dk_at dksL_law_29 7 rfl rfl)
theorem dL_law_817 : decode cL_law 817 = .ok (.aload_n 1, 1) := dk_43 (dk_at dksL_law_29 8 rfl rfl)
theorem dL_law_818 : decode cL_law 818 = .ok (.aload_n 0, 1) := dk_42 (dk_at dksL_law_29 9 rfl rfl)
theorem dL_law_819 : decode cL_law 819 = .ok (.iload 4, 2) := dk_21 4 (dk_at dksL_law_29 10 rfl rfl)
theorem dL_law_821 : decode cL_law 821 = .ok (.iconst 1, 1) := dk_4 (dk_at dksL_law_29 12 rfl rfl)
theorem dL_law_822 : decode cL_law 822 = .ok (.iadd, 1) := dk_96 (dk_at dksL_law_29 13 rfl rfl)
theorem dL_law_823 : decode cL_law 823 = .ok (.iaload, 1) := dk_46 (dk_at dksL_law_29 14 rfl rfl)
theorem dL_law_824 : decode cL_law 824 = .ok (.aload_n 0, 1) := dk_42 (dk_at dksL_law_29 15 rfl rfl)
theorem dL_law_825 : decode cL_law 825 = .ok (.iload 4, 2) := dk_21 4 (dk_at dksL_law_29 16 rfl rfl)
theorem dL_law_827 : decode cL_law 827 = .ok (.iconst 2, 1) := dk_5 (dk_at dksL_law_29 18 rfl rfl)
theorem dL_law_828 : decode cL_law 828 = .ok (.iadd, 1) := dk_96 (dk_at dksL_law_29 19 rfl rfl)
theorem dL_law_829 : decode cL_law 829 = .ok (.iaload, 1) := dk_46 (dk_at dksL_law_29 20 rfl rfl)
theorem dL_law_830 : decode cL_law 830 = .ok (.aload_n 0, 1) := dk_42 (dk_at dksL_law_29 21 rfl rfl)
theorem dL_law_831 : decode cL_law 831 = .ok (.iload 4, 2) := dk_21 4 (dk_at dksL_law_29 22 rfl rfl)
theorem dL_law_833 : decode cL_law 833 = .ok (.iconst 3, 1) := dk_6 (dk_at dksL_law_30 0 rfl rfl)
theorem dL_law_834 : decode cL_law 834 = .ok (.iadd, 1) := dk_96 (dk_at dksL_law_30 1 rfl rfl)
theorem dL_law_835 : decode cL_law 835 = .ok (.iaload, 1) := dk_46 (dk_at dksL_law_30 2 rfl rfl)
theorem dL_law_836 : decode cL_law 836 = .ok (.i2l, 1) := dk_133 (dk_at dksL_law_30 3 rfl rfl)
theorem dL_law_837 : decode cL_law 837 = .ok (.bipush 32, 2) := dk_16 32 (dk_at dksL_law_30 4 rfl rfl)
theorem dL_law_839 : decode cL_law 839 = .ok (.lshl, 1) := dk_121 (dk_at dksL_law_30 6 rfl rfl)
theorem dL_law_840 : decode cL_law 840 = .ok (.aload_n 0, 1) := dk_42 (dk_at dksL_law_30 7 rfl rfl)
theorem dL_law_841 : decode cL_law 841 = .ok (.iload 4, 2) := dk_21 4 (dk_at dksL_law_30 8 rfl rfl)
theorem dL_law_843 : decode cL_law 843 = .ok (.iconst 4, 1) := dk_7 (dk_at dksL_law_30 10 rfl rfl)
theorem dL_law_844 : decode cL_law 844 = .ok (.iadd, 1) := dk_96 (dk_at dksL_law_30 11 rfl rfl)
theorem dL_law_845 : decode cL_law 845 = .ok (.iaload, 1) := dk_46 (dk_at dksL_law_30 12 rfl rfl)
theorem dL_law_846 : decode cL_law 846 = .ok (.i2l, 1) := dk_133 (dk_at dksL_law_30 13 rfl rfl)
theorem dL_law_847 : decode cL_law 847 = .ok (.ldc2_w 83, 3) := dk_20 0 83 (dk_at dksL_law_30 14 rfl rfl)
theorem dL_law_850 : decode cL_law 850 = .ok (.land, 1) := dk_127 (dk_at dksL_law_30 17 rfl rfl)
theorem dL_law_851 : decode cL_law 851 = .ok (.lor, 1) := dk_129 (dk_at dksL_law_30 18 rfl rfl)
theorem dL_law_852 : decode cL_law 852 = .ok (.invokevirtual 85, 3) := dk_182 0 85 (dk_at dksL_law_30 19 rfl rfl)
theorem dL_law_855 : decode cL_law 855 = .ok (.aload_n 2, 1) := dk_44 (dk_at dksL_law_30 22 rfl rfl)
theorem dL_law_856 : decode cL_law 856 = .ok (.aload_n 0, 1) := dk_42 (dk_at dksL_law_30 23 rfl rfl)
theorem dL_law_857 : decode cL_law 857 = .ok (.iload 4, 2) := dk_21 4 (dk_at dksL_law_31 0 rfl rfl)
theorem dL_law_859 : decode cL_law 859 = .ok (.iconst 1, 1) := dk_4 (dk_at dksL_law_31 2 rfl rfl)
theorem dL_law_860 : decode cL_law 860 = .ok (.iadd, 1) := dk_96 (dk_at dksL_law_31 3 rfl rfl)
theorem dL_law_861 : decode cL_law 861 = .ok (.iaload, 1) := dk_46 (dk_at dksL_law_31 4 rfl rfl)
theorem dL_law_862 : decode cL_law 862 = .ok (.aload_n 0, 1) := dk_42 (dk_at dksL_law_31 5 rfl rfl)
theorem dL_law_863 : decode cL_law 863 = .ok (.iload 4, 2) := dk_21 4 (dk_at dksL_law_31 6 rfl rfl)
theorem dL_law_865 : decode cL_law 865 = .ok (.iconst 2, 1) := dk_5 (dk_at dksL_law_31 8 rfl rfl)
theorem dL_law_866 : decode cL_law 866 = .ok (.iadd, 1) := dk_96 (dk_at dksL_law_31 9 rfl rfl)
theorem dL_law_867 : decode cL_law 867 = .ok (.iaload, 1) := dk_46 (dk_at dksL_law_31 10 rfl rfl)
theorem dL_law_868 : decode cL_law 868 = .ok (.aload_n 0, 1) := dk_42 (dk_at dksL_law_31 11 rfl rfl)
theorem dL_law_869 : decode cL_law 869 = .ok (.iload 4, 2) := dk_21 4 (dk_at dksL_law_31 12 rfl rfl)
theorem dL_law_871 : decode cL_law 871 = .ok (.iconst 3, 1) := dk_6 (dk_at dksL_law_31 14 rfl rfl)
theorem dL_law_872 : decode cL_law 872 = .ok (.iadd, 1) := dk_96 (dk_at dksL_law_31 15 rfl rfl)
theorem dL_law_873 : decode cL_law 873 = .ok (.iaload, 1) := dk_46 (dk_at dksL_law_31 16 rfl rfl)
theorem dL_law_874 : decode cL_law 874 = .ok (.i2l, 1) := dk_133 (dk_at dksL_law_31 17 rfl rfl)
theorem dL_law_875 : decode cL_law 875 = .ok (.bipush 32, 2) := dk_16 32 (dk_at dksL_law_31 18 rfl rfl)
theorem dL_law_877 : decode cL_law 877 = .ok (.lshl, 1) := dk_121 (dk_at dksL_law_31 20 rfl rfl)
theorem dL_law_878 : decode cL_law 878 = .ok (.aload_n 0, 1) := dk_42 (dk_at dksL_law_31 21 rfl rfl)
theorem dL_law_879 : decode cL_law 879 = .ok (.iload 4, 2) := dk_21 4 (dk_at dksL_law_31 22 rfl rfl)
theorem dL_law_881 : decode cL_law 881 = .ok (.iconst 4, 1) := dk_7 (dk_at dksL_law_32 0 rfl rfl)
theorem dL_law_882 : decode cL_law 882 = .ok (.iadd, 1) := dk_96 (dk_at dksL_law_32 1 rfl rfl)
theorem dL_law_883 : decode cL_law 883 = .ok (.iaload, 1) := dk_46 (dk_at dksL_law_32 2 rfl rfl)
theorem dL_law_884 : decode cL_law 884 = .ok (.i2l, 1) := dk_133 (dk_at dksL_law_32 3 rfl rfl)
theorem dL_law_885 : decode cL_law 885 = .ok (.ldc2_w 83, 3) := dk_20 0 83 (dk_at dksL_law_32 4 rfl rfl)
theorem dL_law_888 : decode cL_law 888 = .ok (.land, 1) := dk_127 (dk_at dksL_law_32 7 rfl rfl)
theorem dL_law_889 : decode cL_law 889 = .ok (.lor, 1) := dk_129 (dk_at dksL_law_32 8 rfl rfl)
theorem dL_law_890 : decode cL_law 890 = .ok (.invokevirtual 89, 3) := dk_182 0 89 (dk_at dksL_law_32 9 rfl rfl)
theorem dL_law_893 : decode cL_law 893 = .ok (.if_icmp .eq 853, 3) := dk_159 3 85 (dk_at dksL_law_32 12 rfl rfl)
theorem dL_law_896 : decode cL_law 896 = .ok (.iconst 0, 1) := dk_3 (dk_at dksL_law_32 15 rfl rfl)
theorem dL_law_897 : decode cL_law 897 = .ok (.ireturn, 1) := dk_172 (dk_at dksL_law_32 16 rfl rfl)
theorem dL_law_898 : decode cL_law 898 = .ok (.aload_n 1, 1) := dk_43 (dk_at dksL_law_32 17 rfl rfl)
theorem dL_law_899 : decode cL_law 899 = .ok (.aload_n 0, 1) := dk_42 (dk_at dksL_law_32 18 rfl rfl)
theorem dL_law_900 : decode cL_law 900 = .ok (.iload 4, 2) := dk_21 4 (dk_at dksL_law_32 19 rfl rfl)
theorem dL_law_902 : decode cL_law 902 = .ok (.iconst 1, 1) := dk_4 (dk_at dksL_law_32 21 rfl rfl)
theorem dL_law_903 : decode cL_law 903 = .ok (.iadd, 1) := dk_96 (dk_at dksL_law_32 22 rfl rfl)
theorem dL_law_904 : decode cL_law 904 = .ok (.iaload, 1) := dk_46 (dk_at dksL_law_32 23 rfl rfl)
theorem dL_law_905 : decode cL_law 905 = .ok (.aload_n 0, 1) := dk_42 (dk_at dksL_law_33 0 rfl rfl)
theorem dL_law_906 : decode cL_law 906 = .ok (.iload 4, 2) := dk_21 4 (dk_at dksL_law_33 1 rfl rfl)
theorem dL_law_908 : decode cL_law 908 = .ok (.iconst 2, 1) := dk_5 (dk_at dksL_law_33 3 rfl rfl)
theorem dL_law_909 : decode cL_law 909 = .ok (.iadd, 1) := dk_96 (dk_at dksL_law_33 4 rfl rfl)
theorem dL_law_910 : decode cL_law 910 = .ok (.iaload, 1) := dk_46 (dk_at dksL_law_33 5 rfl rfl)
theorem dL_law_911 : decode cL_law 911 = .ok (.aload_n 0, 1) := dk_42 (dk_at dksL_law_33 6 rfl rfl)
theorem dL_law_912 : decode cL_law 912 = .ok (.iload 4, 2) := dk_21 4 (dk_at dksL_law_33 7 rfl rfl)
theorem dL_law_914 : decode cL_law 914 = .ok (.iconst 3, 1) := dk_6 (dk_at dksL_law_33 9 rfl rfl)
theorem dL_law_915 : decode cL_law 915 = .ok (.iadd, 1) := dk_96 (dk_at dksL_law_33 10 rfl rfl)
theorem dL_law_916 : decode cL_law 916 = .ok (.iaload, 1) := dk_46 (dk_at dksL_law_33 11 rfl rfl)
theorem dL_law_917 : decode cL_law 917 = .ok (.aload_n 0, 1) := dk_42 (dk_at dksL_law_33 12 rfl rfl)
theorem dL_law_918 : decode cL_law 918 = .ok (.iload 4, 2) := dk_21 4 (dk_at dksL_law_33 13 rfl rfl)
theorem dL_law_920 : decode cL_law 920 = .ok (.iconst 4, 1) := dk_7 (dk_at dksL_law_33 15 rfl rfl)
theorem dL_law_921 : decode cL_law 921 = .ok (.iadd, 1) := dk_96 (dk_at dksL_law_33 16 rfl rfl)
theorem dL_law_922 : decode cL_law 922 = .ok (.iaload, 1) := dk_46 (dk_at dksL_law_33 17 rfl rfl)
theorem dL_law_923 : decode cL_law 923 = .ok (.invokevirtual 90, 3) := dk_182 0 90 (dk_at dksL_law_33 18 rfl rfl)
theorem dL_law_926 : decode cL_law 926 = .ok (.aload_n 2, 1) := dk_44 (dk_at dksL_law_33 21 rfl rfl)
theorem dL_law_927 : decode cL_law 927 = .ok (.aload_n 0, 1) := dk_42 (dk_at dksL_law_33 22 rfl rfl)
theorem dL_law_928 : decode cL_law 928 = .ok (.iload 4, 2) := dk_21 4 (dk_at dksL_law_34 0 rfl rfl)
theorem dL_law_930 : decode cL_law 930 = .ok (.iconst 1, 1) := dk_4 (dk_at dksL_law_34 2 rfl rfl)
theorem dL_law_931 : decode cL_law 931 = .ok (.iadd, 1) := dk_96 (dk_at dksL_law_34 3 rfl rfl)
theorem dL_law_932 : decode cL_law 932 = .ok (.iaload, 1) := dk_46 (dk_at dksL_law_34 4 rfl rfl)
theorem dL_law_933 : decode cL_law 933 = .ok (.aload_n 0, 1) := dk_42 (dk_at dksL_law_34 5 rfl rfl)
theorem dL_law_934 : decode cL_law 934 = .ok (.iload 4, 2) := dk_21 4 (dk_at dksL_law_34 6 rfl rfl)
theorem dL_law_936 : decode cL_law 936 = .ok (.iconst 2, 1) := dk_5 (dk_at dksL_law_34 8 rfl rfl)
theorem dL_law_937 : decode cL_law 937 = .ok (.iadd, 1) := dk_96 (dk_at dksL_law_34 9 rfl rfl)
theorem dL_law_938 : decode cL_law 938 = .ok (.iaload, 1) := dk_46 (dk_at dksL_law_34 10 rfl rfl)
theorem dL_law_939 : decode cL_law 939 = .ok (.aload_n 0, 1) := dk_42 (dk_at dksL_law_34 11 rfl rfl)
theorem dL_law_940 : decode cL_law 940 = .ok (.iload 4, 2) := dk_21 4 (dk_at dksL_law_34 12 rfl rfl)
theorem dL_law_942 : decode cL_law 942 = .ok (.iconst 3, 1) := dk_6 (dk_at dksL_law_34 14 rfl rfl)
theorem dL_law_943 : decode cL_law 943 = .ok (.iadd, 1) := dk_96 (dk_at dksL_law_34 15 rfl rfl)
theorem dL_law_944 : decode cL_law 944 = .ok (.iaload, 1) := dk_46 (dk_at dksL_law_34 16 rfl rfl)
theorem dL_law_945 : decode cL_law 945 = .ok (.aload_n 0, 1) := dk_42 (dk_at dksL_law_34 17 rfl rfl)
theorem dL_law_946 : decode cL_law 946 = .ok (.iload 4, 2) := dk_21 4 (dk_at dksL_law_34 18 rfl rfl)
theorem dL_law_948 : decode cL_law 948 = .ok (.iconst 4, 1) := dk_7 (dk_at dksL_law_34 20 rfl rfl)
theorem dL_law_949 : decode cL_law 949 = .ok (.iadd, 1) := dk_96 (dk_at dksL_law_34 21 rfl rfl)
theorem dL_law_950 : decode cL_law 950 = .ok (.iaload, 1) := dk_46 (dk_at dksL_law_34 22 rfl rfl)
theorem dL_law_951 : decode cL_law 951 = .ok (.invokevirtual 93, 3) := dk_182 0 93 (dk_at dksL_law_35 0 rfl rfl)
theorem dL_law_954 : decode cL_law 954 = .ok (.if_icmp .eq 792, 3) := dk_159 3 24 (dk_at dksL_law_35 3 rfl rfl)
theorem dL_law_957 : decode cL_law 957 = .ok (.iconst 0, 1) := dk_3 (dk_at dksL_law_35 6 rfl rfl)
theorem dL_law_958 : decode cL_law 958 = .ok (.ireturn, 1) := dk_172 (dk_at dksL_law_35 7 rfl rfl)
theorem dL_law_959 : decode cL_law 959 = .ok (.aload_n 1, 1) := dk_43 (dk_at dksL_law_35 8 rfl rfl)
theorem dL_law_960 : decode cL_law 960 = .ok (.aload_n 0, 1) := dk_42 (dk_at dksL_law_35 9 rfl rfl)
theorem dL_law_961 : decode cL_law 961 = .ok (.iload 4, 2) := dk_21 4 (dk_at dksL_law_35 10 rfl rfl)
theorem dL_law_963 : decode cL_law 963 = .ok (.iconst 1, 1) := dk_4 (dk_at dksL_law_35 12 rfl rfl)
theorem dL_law_964 : decode cL_law 964 = .ok (.iadd, 1) := dk_96 (dk_at dksL_law_35 13 rfl rfl)
theorem dL_law_965 : decode cL_law 965 = .ok (.iaload, 1) := dk_46 (dk_at dksL_law_35 14 rfl rfl)
theorem dL_law_966 : decode cL_law 966 = .ok (.aload_n 0, 1) := dk_42 (dk_at dksL_law_35 15 rfl rfl)
theorem dL_law_967 : decode cL_law 967 = .ok (.iload 4, 2) := dk_21 4 (dk_at dksL_law_35 16 rfl rfl)
theorem dL_law_969 : decode cL_law 969 = .ok (.iconst 2, 1) := dk_5 (dk_at dksL_law_35 18 rfl rfl)
theorem dL_law_970 : decode cL_law 970 = .ok (.iadd, 1) := dk_96 (dk_at dksL_law_35 19 rfl rfl)
theorem dL_law_971 : decode cL_law 971 = .ok (.iaload, 1) := dk_46 (dk_at dksL_law_35 20 rfl rfl)
theorem dL_law_972 : decode cL_law 972 = .ok (.aload_n 0, 1) := dk_42 (dk_at dksL_law_35 21 rfl rfl)
theorem dL_law_973 : decode cL_law 973 = .ok (.iload 4, 2) := dk_21 4 (dk_at dksL_law_35 22 rfl rfl)
theorem dL_law_975 : decode cL_law 975 = .ok (.iconst 3, 1) := dk_6 (dk_at dksL_law_36 0 rfl rfl)
theorem dL_law_976 : decode cL_law 976 = .ok (.iadd, 1) := dk_96 (dk_at dksL_law_36 1 rfl rfl)
theorem dL_law_977 : decode cL_law 977 = .ok (.iaload, 1) := dk_46 (dk_at dksL_law_36 2 rfl rfl)
theorem dL_law_978 : decode cL_law 978 = .ok (.aload_n 0, 1) := dk_42 (dk_at dksL_law_36 3 rfl rfl)
theorem dL_law_979 : decode cL_law 979 = .ok (.iload 4, 2) := dk_21 4 (dk_at dksL_law_36 4 rfl rfl)
theorem dL_law_981 : decode cL_law 981 = .ok (.iconst 4, 1) := dk_7 (dk_at dksL_law_36 6 rfl rfl)
theorem dL_law_982 : decode cL_law 982 = .ok (.iadd, 1) := dk_96 (dk_at dksL_law_36 7 rfl rfl)
theorem dL_law_983 : decode cL_law 983 = .ok (.iaload, 1) := dk_46 (dk_at dksL_law_36 8 rfl rfl)
theorem dL_law_984 : decode cL_law 984 = .ok (.invokevirtual 94, 3) := dk_182 0 94 (dk_at dksL_law_36 9 rfl rfl)
theorem dL_law_987 : decode cL_law 987 = .ok (.aload_n 2, 1) := dk_44 (dk_at dksL_law_36 12 rfl rfl)
theorem dL_law_988 : decode cL_law 988 = .ok (.aload_n 0, 1) := dk_42 (dk_at dksL_law_36 13 rfl rfl)
theorem dL_law_989 : decode cL_law 989 = .ok (.iload 4, 2) := dk_21 4 (dk_at dksL_law_36 14 rfl rfl)
theorem dL_law_991 : decode cL_law 991 = .ok (.iconst 1, 1) := dk_4 (dk_at dksL_law_36 16 rfl rfl)
theorem dL_law_992 : decode cL_law 992 = .ok (.iadd, 1) := dk_96 (dk_at dksL_law_36 17 rfl rfl)
theorem dL_law_993 : decode cL_law 993 = .ok (.iaload, 1) := dk_46 (dk_at dksL_law_36 18 rfl rfl)
theorem dL_law_994 : decode cL_law 994 = .ok (.aload_n 0, 1) := dk_42 (dk_at dksL_law_36 19 rfl rfl)
theorem dL_law_995 : decode cL_law 995 = .ok (.iload 4, 2) := dk_21 4 (dk_at dksL_law_36 20 rfl rfl)
theorem dL_law_997 : decode cL_law 997 = .ok (.iconst 2, 1) := dk_5 (dk_at dksL_law_36 22 rfl rfl)
theorem dL_law_998 : decode cL_law 998 = .ok (.iadd, 1) := dk_96 (dk_at dksL_law_36 23 rfl rfl)
theorem dL_law_999 : decode cL_law 999 = .ok (.iaload, 1) := dk_46 (dk_at dksL_law_37 0 rfl rfl)
theorem dL_law_1000 : decode cL_law 1000 = .ok (.aload_n 0, 1) := dk_42 (dk_at dksL_law_37 1 rfl rfl)
theorem dL_law_1001 : decode cL_law 1001 = .ok (.iload 4, 2) := dk_21 4 (dk_at dksL_law_37 2 rfl rfl)
theorem dL_law_1003 : decode cL_law 1003 = .ok (.iconst 3, 1) := dk_6 (dk_at dksL_law_37 4 rfl rfl)
theorem dL_law_1004 : decode cL_law 1004 = .ok (.iadd, 1) := dk_96 (dk_at dksL_law_37 5 rfl rfl)
theorem dL_law_1005 : decode cL_law 1005 = .ok (.iaload, 1) := dk_46 (dk_at dksL_law_37 6 rfl rfl)
theorem dL_law_1006 : decode cL_law 1006 = .ok (.aload_n 0, 1) := dk_42 (dk_at dksL_law_37 7 rfl rfl)
theorem dL_law_1007 : decode cL_law 1007 = .ok (.iload 4, 2) := dk_21 4 (dk_at dksL_law_37 8 rfl rfl)
theorem dL_law_1009 : decode cL_law 1009 = .ok (.iconst 4, 1) := dk_7 (dk_at dksL_law_37 10 rfl rfl)
theorem dL_law_1010 : decode cL_law 1010 = .ok (.iadd, 1) := dk_96 (dk_at dksL_law_37 11 rfl rfl)
theorem dL_law_1011 : decode cL_law 1011 = .ok (.iaload, 1) := dk_46 (dk_at dksL_law_37 12 rfl rfl)
theorem dL_law_1012 : decode cL_law 1012 = .ok (.invokevirtual 97, 3) := dk_182 0 97 (dk_at dksL_law_37 13 rfl rfl)
theorem dL_law_1015 : decode cL_law 1015 = .ok (.if_icmp .eq 731, 3) := dk_159 2 219 (dk_at dksL_law_37 16 rfl rfl)
theorem dL_law_1018 : decode cL_law 1018 = .ok (.iconst 0, 1) := dk_3 (dk_at dksL_law_37 19 rfl rfl)
theorem dL_law_1019 : decode cL_law 1019 = .ok (.ireturn, 1) := dk_172 (dk_at dksL_law_37 20 rfl rfl)
theorem dL_law_1020 : decode cL_law 1020 = .ok (.aload_n 1, 1) := dk_43 (dk_at dksL_law_37 21 rfl rfl)
theorem dL_law_1021 : decode cL_law 1021 = .ok (.aload_n 0, 1) := dk_42 (dk_at dksL_law_37 22 rfl rfl)
theorem dL_law_1022 : decode cL_law 1022 = .ok (.iload 4, 2) := dk_21 4 (dk_at dksL_law_38 0 rfl rfl)
theorem dL_law_1024 : decode cL_law 1024 = .ok (.iconst 1, 1) := dk_4 (dk_at dksL_law_38 2 rfl rfl)
theorem dL_law_1025 : decode cL_law 1025 = .ok (.iadd, 1) := dk_96 (dk_at dksL_law_38 3 rfl rfl)
theorem dL_law_1026 : decode cL_law 1026 = .ok (.iaload, 1) := dk_46 (dk_at dksL_law_38 4 rfl rfl)
theorem dL_law_1027 : decode cL_law 1027 = .ok (.aload_n 0, 1) := dk_42 (dk_at dksL_law_38 5 rfl rfl)
theorem dL_law_1028 : decode cL_law 1028 = .ok (.iload 4, 2) := dk_21 4 (dk_at dksL_law_38 6 rfl rfl)
theorem dL_law_1030 : decode cL_law 1030 = .ok (.iconst 2, 1) := dk_5 (dk_at dksL_law_38 8 rfl rfl)
theorem dL_law_1031 : decode cL_law 1031 = .ok (.iadd, 1) := dk_96 (dk_at dksL_law_38 9 rfl rfl)
theorem dL_law_1032 : decode cL_law 1032 = .ok (.iaload, 1) := dk_46 (dk_at dksL_law_38 10 rfl rfl)
theorem dL_law_1033 : decode cL_law 1033 = .ok (.aload_n 0, 1) := dk_42 (dk_at dksL_law_38 11 rfl rfl)
theorem dL_law_1034 : decode cL_law 1034 = .ok (.iload 4, 2) := dk_21 4 (dk_at dksL_law_38 12 rfl rfl)
theorem dL_law_1036 : decode cL_law 1036 = .ok (.iconst 3, 1) := dk_6 (dk_at dksL_law_38 14 rfl rfl)
theorem dL_law_1037 : decode cL_law 1037 = .ok (.iadd, 1) := dk_96 (dk_at dksL_law_38 15 rfl rfl)
theorem dL_law_1038 : decode cL_law 1038 = .ok (.iaload, 1) := dk_46 (dk_at dksL_law_38 16 rfl rfl)
theorem dL_law_1039 : decode cL_law 1039 = .ok (.aload_n 0, 1) := dk_42 (dk_at dksL_law_38 17 rfl rfl)
theorem dL_law_1040 : decode cL_law 1040 = .ok (.iload 4, 2) := dk_21 4 (dk_at dksL_law_38 18 rfl rfl)
theorem dL_law_1042 : decode cL_law 1042 = .ok (.iconst 4, 1) := dk_7 (dk_at dksL_law_38 20 rfl rfl)
theorem dL_law_1043 : decode cL_law 1043 = .ok (.iadd, 1) := dk_96 (dk_at dksL_law_38 21 rfl rfl)
theorem dL_law_1044 : decode cL_law 1044 = .ok (.iaload, 1) := dk_46 (dk_at dksL_law_38 22 rfl rfl)
theorem dL_law_1045 : decode cL_law 1045 = .ok (.aload_n 0, 1) := dk_42 (dk_at dksL_law_38 23 rfl rfl)
theorem dL_law_1046 : decode cL_law 1046 = .ok (.iload 4, 2) := dk_21 4 (dk_at dksL_law_39 0 rfl rfl)
theorem dL_law_1048 : decode cL_law 1048 = .ok (.iconst 5, 1) := dk_8 (dk_at dksL_law_39 2 rfl rfl)
theorem dL_law_1049 : decode cL_law 1049 = .ok (.iadd, 1) := dk_96 (dk_at dksL_law_39 3 rfl rfl)
theorem dL_law_1050 : decode cL_law 1050 = .ok (.iaload, 1) := dk_46 (dk_at dksL_law_39 4 rfl rfl)
theorem dL_law_1051 : decode cL_law 1051 = .ok (.invokevirtual 98, 3) := dk_182 0 98 (dk_at dksL_law_39 5 rfl rfl)
theorem dL_law_1054 : decode cL_law 1054 = .ok (.aload_n 2, 1) := dk_44 (dk_at dksL_law_39 8 rfl rfl)
theorem dL_law_1055 : decode cL_law 1055 = .ok (.aload_n 0, 1) := dk_42 (dk_at dksL_law_39 9 rfl rfl)
theorem dL_law_1056 : decode cL_law 1056 = .ok (.iload 4, 2) := dk_21 4 (dk_at dksL_law_39 10 rfl rfl)
theorem dL_law_1058 : decode cL_law 1058 = .ok (.iconst 1, 1) := dk_4 (dk_at dksL_law_39 12 rfl rfl)
theorem dL_law_1059 : decode cL_law 1059 = .ok (.iadd, 1) := dk_96 (dk_at dksL_law_39 13 rfl rfl)
theorem dL_law_1060 : decode cL_law 1060 = .ok (.iaload, 1) := dk_46 (dk_at dksL_law_39 14 rfl rfl)
theorem dL_law_1061 : decode cL_law 1061 = .ok (.aload_n 0, 1) := dk_42 (dk_at dksL_law_39 15 rfl rfl)
theorem dL_law_1062 : decode cL_law 1062 = .ok (.iload 4, 2) := dk_21 4 (dk_at dksL_law_39 16 rfl rfl)
theorem dL_law_1064 : decode cL_law 1064 = .ok (.iconst 2, 1) := dk_5 (dk_at dksL_law_39 18 rfl rfl)
theorem dL_law_1065 : decode cL_law 1065 = .ok (.iadd, 1) := dk_96 (dk_at dksL_law_39 19 rfl rfl)
theorem dL_law_1066 : decode cL_law 1066 = .ok (.iaload, 1) := dk_46 (dk_at dksL_law_39 20 rfl rfl)
theorem dL_law_1067 : decode cL_law 1067 = .ok (.aload_n 0, 1) := dk_42 (dk_at dksL_law_39 21 rfl rfl)
theorem dL_law_1068 : decode cL_law 1068 = .ok (.iload 4, 2) := dk_21 4 (dk_at dksL_law_39 22 rfl rfl)
theorem dL_law_1070 : decode cL_law 1070 = .ok (.iconst 3, 1) := dk_6 (dk_at dksL_law_40 0 rfl rfl)
theorem dL_law_1071 : decode cL_law 1071 = .ok (.iadd, 1) := dk_96 (dk_at dksL_law_40 1 rfl rfl)
theorem dL_law_1072 : decode cL_law 1072 = .ok (.iaload, 1) := dk_46 (dk_at dksL_law_40 2 rfl rfl)
theorem dL_law_1073 : decode cL_law 1073 = .ok (.aload_n 0, 1) := dk_42 (dk_at dksL_law_40 3 rfl rfl)
theorem dL_law_1074 : decode cL_law 1074 = .ok (.iload 4, 2) := dk_21 4 (dk_at dksL_law_40 4 rfl rfl)
theorem dL_law_1076 : decode cL_law 1076 = .ok (.iconst 4, 1) := dk_7 (dk_at dksL_law_40 6 rfl rfl)
theorem dL_law_1077 : decode cL_law 1077 = .ok (.iadd, 1) := dk_96 (dk_at dksL_law_40 7 rfl rfl)
theorem dL_law_1078 : decode cL_law 1078 = .ok (.iaload, 1) := dk_46 (dk_at dksL_law_40 8 rfl rfl)
theorem dL_law_1079 : decode cL_law 1079 = .ok (.aload_n 0, 1) := dk_42 (dk_at dksL_law_40 9 rfl rfl)
theorem dL_law_1080 : decode cL_law 1080 = .ok (.iload 4, 2) := dk_21 4 (dk_at dksL_law_40 10 rfl rfl)
theorem dL_law_1082 : decode cL_law 1082 = .ok (.iconst 5, 1) := dk_8 (dk_at dksL_law_40 12 rfl rfl)
theorem dL_law_1083 : decode cL_law 1083 = .ok (.iadd, 1) := dk_96 (dk_at dksL_law_40 13 rfl rfl)
theorem dL_law_1084 : decode cL_law 1084 = .ok (.iaload, 1) := dk_46 (dk_at dksL_law_40 14 rfl rfl)
theorem dL_law_1085 : decode cL_law 1085 = .ok (.invokevirtual 101, 3) := dk_182 0 101 (dk_at dksL_law_40 15 rfl rfl)
theorem dL_law_1088 : decode cL_law 1088 = .ok (.if_icmp .eq 658, 3) := dk_159 2 146 (dk_at dksL_law_40 18 rfl rfl)
theorem dL_law_1091 : decode cL_law 1091 = .ok (.iconst 0, 1) := dk_3 (dk_at dksL_law_40 21 rfl rfl)
theorem dL_law_1092 : decode cL_law 1092 = .ok (.ireturn, 1) := dk_172 (dk_at dksL_law_40 22 rfl rfl)
theorem dL_law_1093 : decode cL_law 1093 = .ok (.aload_n 1, 1) := dk_43 (dk_at dksL_law_40 23 rfl rfl)
theorem dL_law_1094 : decode cL_law 1094 = .ok (.aload_n 0, 1) := dk_42 (dk_at dksL_law_41 0 rfl rfl)
theorem dL_law_1095 : decode cL_law 1095 = .ok (.iload 4, 2) := dk_21 4 (dk_at dksL_law_41 1 rfl rfl)
theorem dL_law_1097 : decode cL_law 1097 = .ok (.iconst 1, 1) := dk_4 (dk_at dksL_law_41 3 rfl rfl)
theorem dL_law_1098 : decode cL_law 1098 = .ok (.iadd, 1) := dk_96 (dk_at dksL_law_41 4 rfl rfl)
theorem dL_law_1099 : decode cL_law 1099 = .ok (.iaload, 1) := dk_46 (dk_at dksL_law_41 5 rfl rfl)
theorem dL_law_1100 : decode cL_law 1100 = .ok (.aload_n 0, 1) := dk_42 (dk_at dksL_law_41 6 rfl rfl)
theorem dL_law_1101 : decode cL_law 1101 = .ok (.iload 4, 2) := dk_21 4 (dk_at dksL_law_41 7 rfl rfl)
theorem dL_law_1103 : decode cL_law 1103 = .ok (.iconst 2, 1) := dk_5 (dk_at dksL_law_41 9 rfl rfl)
theorem dL_law_1104 : decode cL_law 1104 = .ok (.iadd, 1) := dk_96 (dk_at dksL_law_41 10 rfl rfl)
theorem dL_law_1105 : decode cL_law 1105 = .ok (.iaload, 1) := dk_46 (dk_at dksL_law_41 11 rfl rfl)
theorem dL_law_1106 : decode cL_law 1106 = .ok (.invokevirtual 102, 3) := dk_182 0 102 (dk_at dksL_law_41 12 rfl rfl)
theorem dL_law_1109 : decode cL_law 1109 = .ok (.aload_n 2, 1) := dk_44 (dk_at dksL_law_41 15 rfl rfl)
theorem dL_law_1110 : decode cL_law 1110 = .ok (.aload_n 0, 1) := dk_42 (dk_at dksL_law_41 16 rfl rfl)
theorem dL_law_1111 : decode cL_law 1111 = .ok (.iload 4, 2) := dk_21 4 (dk_at dksL_law_41 17 rfl rfl)
theorem dL_law_1113 : decode cL_law 1113 = .ok (.iconst 1, 1) := dk_4 (dk_at dksL_law_41 19 rfl rfl)
theorem dL_law_1114 : decode cL_law 1114 = .ok (.iadd, 1) := dk_96 (dk_at dksL_law_41 20 rfl rfl)
theorem dL_law_1115 : decode cL_law 1115 = .ok (.iaload, 1) := dk_46 (dk_at dksL_law_41 21 rfl rfl)
theorem dL_law_1116 : decode cL_law 1116 = .ok (.aload_n 0, 1) := dk_42 (dk_at dksL_law_41 22 rfl rfl)
theorem dL_law_1117 : decode cL_law 1117 = .ok (.iload 4, 2) := dk_21 4 (dk_at dksL_law_42 0 rfl rfl)
theorem dL_law_1119 : decode cL_law 1119 = .ok (.iconst 2, 1) := dk_5 (dk_at dksL_law_42 2 rfl rfl)
theorem dL_law_1120 : decode cL_law 1120 = .ok (.iadd, 1) := dk_96 (dk_at dksL_law_42 3 rfl rfl)
theorem dL_law_1121 : decode cL_law 1121 = .ok (.iaload, 1) := dk_46 (dk_at dksL_law_42 4 rfl rfl)
theorem dL_law_1122 : decode cL_law 1122 = .ok (.invokevirtual 105, 3) := dk_182 0 105 (dk_at dksL_law_42 5 rfl rfl)
theorem dL_law_1125 : decode cL_law 1125 = .ok (.if_icmp .eq 621, 3) := dk_159 2 109 (dk_at dksL_law_42 8 rfl rfl)
theorem dL_law_1128 : decode cL_law 1128 = .ok (.iconst 0, 1) := dk_3 (dk_at dksL_law_42 11 rfl rfl)
theorem dL_law_1129 : decode cL_law 1129 = .ok (.ireturn, 1) := dk_172 (dk_at dksL_law_42 12 rfl rfl)
theorem dL_law_1130 : decode cL_law 1130 = .ok (.aload_n 1, 1) := dk_43 (dk_at dksL_law_42 13 rfl rfl)
theorem dL_law_1131 : decode cL_law 1131 = .ok (.aload_n 0, 1) := dk_42 (dk_at dksL_law_42 14 rfl rfl)
theorem dL_law_1132 : decode cL_law 1132 = .ok (.iload 4, 2) := dk_21 4 (dk_at dksL_law_42 15 rfl rfl)
theorem dL_law_1134 : decode cL_law 1134 = .ok (.iconst 1, 1) := dk_4 (dk_at dksL_law_42 17 rfl rfl)
theorem dL_law_1135 : decode cL_law 1135 = .ok (.iadd, 1) := dk_96 (dk_at dksL_law_42 18 rfl rfl)
theorem dL_law_1136 : decode cL_law 1136 = .ok (.iaload, 1) := dk_46 (dk_at dksL_law_42 19 rfl rfl)
theorem dL_law_1137 : decode cL_law 1137 = .ok (.invokevirtual 106, 3) := dk_182 0 106 (dk_at dksL_law_42 20 rfl rfl)
theorem dL_law_1140 : decode cL_law 1140 = .ok (.aload_n 2, 1) := dk_44 (dk_at dksL_law_42 23 rfl rfl)
theorem dL_law_1141 : decode cL_law 1141 = .ok (.aload_n 0, 1) := dk_42 (dk_at dksL_law_43 0 rfl rfl)
theorem dL_law_1142 : decode cL_law 1142 = .ok (.iload 4, 2) := dk_21 4 (dk_at dksL_law_43 1 rfl rfl)
theorem dL_law_1144 : decode cL_law 1144 = .ok (.iconst 1, 1) := dk_4 (dk_at dksL_law_43 3 rfl rfl)
theorem dL_law_1145 : decode cL_law 1145 = .ok (.iadd, 1) := dk_96 (dk_at dksL_law_43 4 rfl rfl)
theorem dL_law_1146 : decode cL_law 1146 = .ok (.iaload, 1) := dk_46 (dk_at dksL_law_43 5 rfl rfl)
theorem dL_law_1147 : decode cL_law 1147 = .ok (.invokevirtual 109, 3) := dk_182 0 109 (dk_at dksL_law_43 6 rfl rfl)
theorem dL_law_1150 : decode cL_law 1150 = .ok (.if_icmp .eq 596, 3) := dk_159 2 84 (dk_at dksL_law_43 9 rfl rfl)
theorem dL_law_1153 : decode cL_law 1153 = .ok (.iconst 0, 1) := dk_3 (dk_at dksL_law_43 12 rfl rfl)
theorem dL_law_1154 : decode cL_law 1154 = .ok (.ireturn, 1) := dk_172 (dk_at dksL_law_43 13 rfl rfl)
theorem dL_law_1155 : decode cL_law 1155 = .ok (.aload_n 1, 1) := dk_43 (dk_at dksL_law_43 14 rfl rfl)
theorem dL_law_1156 : decode cL_law 1156 = .ok (.aload_n 0, 1) := dk_42 (dk_at dksL_law_43 15 rfl rfl)
theorem dL_law_1157 : decode cL_law 1157 = .ok (.iload 4, 2) := dk_21 4 (dk_at dksL_law_43 16 rfl rfl)
theorem dL_law_1159 : decode cL_law 1159 = .ok (.iconst 1, 1) := dk_4 (dk_at dksL_law_43 18 rfl rfl)
theorem dL_law_1160 : decode cL_law 1160 = .ok (.iadd, 1) := dk_96 (dk_at dksL_law_43 19 rfl rfl)
theorem dL_law_1161 : decode cL_law 1161 = .ok (.iaload, 1) := dk_46 (dk_at dksL_law_43 20 rfl rfl)
theorem dL_law_1162 : decode cL_law 1162 = .ok (.aload_n 0, 1) := dk_42 (dk_at dksL_law_43 21 rfl rfl)
theorem dL_law_1163 : decode cL_law 1163 = .ok (.iload 4, 2) := dk_21 4 (dk_at dksL_law_43 22 rfl rfl)
theorem dL_law_1165 : decode cL_law 1165 = .ok (.iconst 2, 1) := dk_5 (dk_at dksL_law_44 0 rfl rfl)
theorem dL_law_1166 : decode cL_law 1166 = .ok (.iadd, 1) := dk_96 (dk_at dksL_law_44 1 rfl rfl)
theorem dL_law_1167 : decode cL_law 1167 = .ok (.iaload, 1) := dk_46 (dk_at dksL_law_44 2 rfl rfl)
theorem dL_law_1168 : decode cL_law 1168 = .ok (.i2l, 1) := dk_133 (dk_at dksL_law_44 3 rfl rfl)
theorem dL_law_1169 : decode cL_law 1169 = .ok (.bipush 32, 2) := dk_16 32 (dk_at dksL_law_44 4 rfl rfl)
theorem dL_law_1171 : decode cL_law 1171 = .ok (.lshl, 1) := dk_121 (dk_at dksL_law_44 6 rfl rfl)
theorem dL_law_1172 : decode cL_law 1172 = .ok (.aload_n 0, 1) := dk_42 (dk_at dksL_law_44 7 rfl rfl)
theorem dL_law_1173 : decode cL_law 1173 = .ok (.iload 4, 2) := dk_21 4 (dk_at dksL_law_44 8 rfl rfl)
theorem dL_law_1175 : decode cL_law 1175 = .ok (.iconst 3, 1) := dk_6 (dk_at dksL_law_44 10 rfl rfl)
theorem dL_law_1176 : decode cL_law 1176 = .ok (.iadd, 1) := dk_96 (dk_at dksL_law_44 11 rfl rfl)
theorem dL_law_1177 : decode cL_law 1177 = .ok (.iaload, 1) := dk_46 (dk_at dksL_law_44 12 rfl rfl)
theorem dL_law_1178 : decode cL_law 1178 = .ok (.i2l, 1) := dk_133 (dk_at dksL_law_44 13 rfl rfl)
theorem dL_law_1179 : decode cL_law 1179 = .ok (.ldc2_w 83, 3) := dk_20 0 83 (dk_at dksL_law_44 14 rfl rfl)
theorem dL_law_1182 : decode cL_law 1182 = .ok (.land, 1) := dk_127 (dk_at dksL_law_44 17 rfl rfl)
theorem dL_law_1183 : decode cL_law 1183 = .ok (.lor, 1) := dk_129 (dk_at dksL_law_44 18 rfl rfl)
theorem dL_law_1184 : decode cL_law 1184 = .ok (.invokevirtual 110, 3) := dk_182 0 110 (dk_at dksL_law_44 19 rfl rfl)
theorem dL_law_1187 : decode cL_law 1187 = .ok (.aload_n 2, 1) := dk_44 (dk_at dksL_law_44 22 rfl rfl)
theorem dL_law_1188 : decode cL_law 1188 = .ok (.aload_n 0, 1) := dk_42 (dk_at dksL_law_44 23 rfl rfl)
theorem dL_law_1189 : decode cL_law 1189 = .ok (.iload 4, 2) := dk_21 4 (dk_at dksL_law_45 0 rfl rfl)
theorem dL_law_1191 : decode cL_law 1191 = .ok (.iconst 1, 1) := dk_4 (dk_at dksL_law_45 2 rfl rfl)
theorem dL_law_1192 : decode cL_law 1192 = .ok (.iadd, 1) := dk_96 (dk_at dksL_law_45 3 rfl rfl)
theorem dL_law_1193 : decode cL_law 1193 = .ok (.iaload, 1) := dk_46 (dk_at dksL_law_45 4 rfl rfl)
theorem dL_law_1194 : decode cL_law 1194 = .ok (.aload_n 0, 1) := dk_42 (dk_at dksL_law_45 5 rfl rfl)
theorem dL_law_1195 : decode cL_law 1195 = .ok (.iload 4, 2) := dk_21 4 (dk_at dksL_law_45 6 rfl rfl)
theorem dL_law_1197 : decode cL_law 1197 = .ok (.iconst 2, 1) := dk_5 (dk_at dksL_law_45 8 rfl rfl)
theorem dL_law_1198 : decode cL_law 1198 = .ok (.iadd, 1) := dk_96 (dk_at dksL_law_45 9 rfl rfl)
theorem dL_law_1199 : decode cL_law 1199 = .ok (.iaload, 1) := dk_46 (dk_at dksL_law_45 10 rfl rfl)
theorem dL_law_1200 : decode cL_law 1200 = .ok (.i2l, 1) := dk_133 (dk_at dksL_law_45 11 rfl rfl)
theorem dL_law_1201 : decode cL_law 1201 = .ok (.bipush 32, 2) := dk_16 32 (dk_at dksL_law_45 12 rfl rfl)
theorem dL_law_1203 : decode cL_law 1203 = .ok (.lshl, 1) := dk_121 (dk_at dksL_law_45 14 rfl rfl)
theorem dL_law_1204 : decode cL_law 1204 = .ok (.aload_n 0, 1) := dk_42 (dk_at dksL_law_45 15 rfl rfl)
theorem dL_law_1205 : decode cL_law 1205 = .ok (.iload 4, 2) := dk_21 4 (dk_at dksL_law_45 16 rfl rfl)
theorem dL_law_1207 : decode cL_law 1207 = .ok (.iconst 3, 1) := dk_6 (dk_at dksL_law_45 18 rfl rfl)
theorem dL_law_1208 : decode cL_law 1208 = .ok (.iadd, 1) := dk_96 (dk_at dksL_law_45 19 rfl rfl)
theorem dL_law_1209 : decode cL_law 1209 = .ok (.iaload, 1) := dk_46 (dk_at dksL_law_45 20 rfl rfl)
theorem dL_law_1210 : decode cL_law 1210 = .ok (.i2l, 1) := dk_133 (dk_at dksL_law_45 21 rfl rfl)
theorem dL_law_1211 : decode cL_law 1211 = .ok (.ldc2_w 83, 3) := dk_20 0 83 (dk_at dksL_law_46 0 rfl rfl)
theorem dL_law_1214 : decode cL_law 1214 = .ok (.land, 1) := dk_127 (dk_at dksL_law_46 3 rfl rfl)
theorem dL_law_1215 : decode cL_law 1215 = .ok (.lor, 1) := dk_129 (dk_at dksL_law_46 4 rfl rfl)
theorem dL_law_1216 : decode cL_law 1216 = .ok (.invokevirtual 114, 3) := dk_182 0 114 (dk_at dksL_law_46 5 rfl rfl)
theorem dL_law_1219 : decode cL_law 1219 = .ok (.if_icmp .eq 527, 3) := dk_159 2 15 (dk_at dksL_law_46 8 rfl rfl)
theorem dL_law_1222 : decode cL_law 1222 = .ok (.iconst 0, 1) := dk_3 (dk_at dksL_law_46 11 rfl rfl)
theorem dL_law_1223 : decode cL_law 1223 = .ok (.ireturn, 1) := dk_172 (dk_at dksL_law_46 12 rfl rfl)
theorem dL_law_1224 : decode cL_law 1224 = .ok (.aload_n 1, 1) := dk_43 (dk_at dksL_law_46 13 rfl rfl)
theorem dL_law_1225 : decode cL_law 1225 = .ok (.aload_n 0, 1) := dk_42 (dk_at dksL_law_46 14 rfl rfl)
theorem dL_law_1226 : decode cL_law 1226 = .ok (.iload 4, 2) := dk_21 4 (dk_at dksL_law_46 15 rfl rfl)
theorem dL_law_1228 : decode cL_law 1228 = .ok (.iconst 1, 1) := dk_4 (dk_at dksL_law_46 17 rfl rfl)
theorem dL_law_1229 : decode cL_law 1229 = .ok (.iadd, 1) := dk_96 (dk_at dksL_law_46 18 rfl rfl)
theorem dL_law_1230 : decode cL_law 1230 = .ok (.iaload, 1) := dk_46 (dk_at dksL_law_46 19 rfl rfl)
theorem dL_law_1231 : decode cL_law 1231 = .ok (.invokevirtual 115, 3) := dk_182 0 115 (dk_at dksL_law_46 20 rfl rfl)
theorem dL_law_1234 : decode cL_law 1234 = .ok (.aload_n 2, 1) := dk_44 (dk_at dksL_law_46 23 rfl rfl)
theorem dL_law_1235 : decode cL_law 1235 = .ok (.aload_n 0, 1) := dk_42 (dk_at dksL_law_47 0 rfl rfl)
theorem dL_law_1236 : decode cL_law 1236 = .ok (.iload 4, 2) := dk_21 4 (dk_at dksL_law_47 1 rfl rfl)
theorem dL_law_1238 : decode cL_law 1238 = .ok (.iconst 1, 1) := dk_4 (dk_at dksL_law_47 3 rfl rfl)
theorem dL_law_1239 : decode cL_law 1239 = .ok (.iadd, 1) := dk_96 (dk_at dksL_law_47 4 rfl rfl)
theorem dL_law_1240 : decode cL_law 1240 = .ok (.iaload, 1) := dk_46 (dk_at dksL_law_47 5 rfl rfl)
theorem dL_law_1241 : decode cL_law 1241 = .ok (.invokevirtual 118, 3) := dk_182 0 118 (dk_at dksL_law_47 6 rfl rfl)
theorem dL_law_1244 : decode cL_law 1244 = .ok (.if_icmp .eq 502, 3) := dk_159 1 246 (dk_at dksL_law_47 9 rfl rfl)
theorem dL_law_1247 : decode cL_law 1247 = .ok (.iconst 0, 1) := dk_3 (dk_at dksL_law_47 12 rfl rfl)
theorem dL_law_1248 : decode cL_law 1248 = .ok (.ireturn, 1) := dk_172 (dk_at dksL_law_47 13 rfl rfl)
theorem dL_law_1249 : decode cL_law 1249 = .ok (.aload_n 1, 1) := dk_43 (dk_at dksL_law_47 14 rfl rfl)
theorem dL_law_1250 : decode cL_law 1250 = .ok (.invokevirtual 119, 3) := dk_182 0 119 (dk_at dksL_law_47 15 rfl rfl)
theorem dL_law_1253 : decode cL_law 1253 = .ok (.aload_n 2, 1) := dk_44 (dk_at dksL_law_47 18 rfl rfl)
theorem dL_law_1254 : decode cL_law 1254 = .ok (.invokevirtual 122, 3) := dk_182 0 122 (dk_at dksL_law_47 19 rfl rfl)
theorem dL_law_1257 : decode cL_law 1257 = .ok (.if_icmp .eq 489, 3) := dk_159 1 233 (dk_at dksL_law_48 0 rfl rfl)
theorem dL_law_1260 : decode cL_law 1260 = .ok (.iconst 0, 1) := dk_3 (dk_at dksL_law_48 3 rfl rfl)
theorem dL_law_1261 : decode cL_law 1261 = .ok (.ireturn, 1) := dk_172 (dk_at dksL_law_48 4 rfl rfl)
theorem dL_law_1262 : decode cL_law 1262 = .ok (.aload_n 1, 1) := dk_43 (dk_at dksL_law_48 5 rfl rfl)
theorem dL_law_1263 : decode cL_law 1263 = .ok (.aload_n 0, 1) := dk_42 (dk_at dksL_law_48 6 rfl rfl)
theorem dL_law_1264 : decode cL_law 1264 = .ok (.iload 4, 2) := dk_21 4 (dk_at dksL_law_48 7 rfl rfl)
theorem dL_law_1266 : decode cL_law 1266 = .ok (.iconst 1, 1) := dk_4 (dk_at dksL_law_48 9 rfl rfl)
theorem dL_law_1267 : decode cL_law 1267 = .ok (.iadd, 1) := dk_96 (dk_at dksL_law_48 10 rfl rfl)
theorem dL_law_1268 : decode cL_law 1268 = .ok (.iaload, 1) := dk_46 (dk_at dksL_law_48 11 rfl rfl)
theorem dL_law_1269 : decode cL_law 1269 = .ok (.aload_n 0, 1) := dk_42 (dk_at dksL_law_48 12 rfl rfl)
theorem dL_law_1270 : decode cL_law 1270 = .ok (.iload 4, 2) := dk_21 4 (dk_at dksL_law_48 13 rfl rfl)
theorem dL_law_1272 : decode cL_law 1272 = .ok (.iconst 2, 1) := dk_5 (dk_at dksL_law_48 15 rfl rfl)
theorem dL_law_1273 : decode cL_law 1273 = .ok (.iadd, 1) := dk_96 (dk_at dksL_law_48 16 rfl rfl)
theorem dL_law_1274 : decode cL_law 1274 = .ok (.iaload, 1) := dk_46 (dk_at dksL_law_48 17 rfl rfl)
theorem dL_law_1275 : decode cL_law 1275 = .ok (.invokevirtual 123, 3) := dk_182 0 123 (dk_at dksL_law_48 18 rfl rfl)
theorem dL_law_1278 : decode cL_law 1278 = .ok (.aload_n 2, 1) := dk_44 (dk_at dksL_law_48 21 rfl rfl)
theorem dL_law_1279 : decode cL_law 1279 = .ok (.aload_n 0, 1) := dk_42 (dk_at dksL_law_48 22 rfl rfl)
theorem dL_law_1280 : decode cL_law 1280 = .ok (.iload 4, 2) := dk_21 4 (dk_at dksL_law_49 0 rfl rfl)
theorem dL_law_1282 : decode cL_law 1282 = .ok (.iconst 1, 1) := dk_4 (dk_at dksL_law_49 2 rfl rfl)
theorem dL_law_1283 : decode cL_law 1283 = .ok (.iadd, 1) := dk_96 (dk_at dksL_law_49 3 rfl rfl)
theorem dL_law_1284 : decode cL_law 1284 = .ok (.iaload, 1) := dk_46 (dk_at dksL_law_49 4 rfl rfl)
theorem dL_law_1285 : decode cL_law 1285 = .ok (.aload_n 0, 1) := dk_42 (dk_at dksL_law_49 5 rfl rfl)
theorem dL_law_1286 : decode cL_law 1286 = .ok (.iload 4, 2) := dk_21 4 (dk_at dksL_law_49 6 rfl rfl)
theorem dL_law_1288 : decode cL_law 1288 = .ok (.iconst 2, 1) := dk_5 (dk_at dksL_law_49 8 rfl rfl)
theorem dL_law_1289 : decode cL_law 1289 = .ok (.iadd, 1) := dk_96 (dk_at dksL_law_49 9 rfl rfl)
theorem dL_law_1290 : decode cL_law 1290 = .ok (.iaload, 1) := dk_46 (dk_at dksL_law_49 10 rfl rfl)
theorem dL_law_1291 : decode cL_law 1291 = .ok (.invokevirtual 126, 3) := dk_182 0 126 (dk_at dksL_law_49 11 rfl rfl)
theorem dL_law_1294 : decode cL_law 1294 = .ok (.if_icmp .eq 452, 3) := dk_159 1 196 (dk_at dksL_law_49 14 rfl rfl)
theorem dL_law_1297 : decode cL_law 1297 = .ok (.iconst 0, 1) := dk_3 (dk_at dksL_law_49 17 rfl rfl)
theorem dL_law_1298 : decode cL_law 1298 = .ok (.ireturn, 1) := dk_172 (dk_at dksL_law_49 18 rfl rfl)
theorem dL_law_1299 : decode cL_law 1299 = .ok (.aload_n 1, 1) := dk_43 (dk_at dksL_law_49 19 rfl rfl)
theorem dL_law_1300 : decode cL_law 1300 = .ok (.aload_n 0, 1) := dk_42 (dk_at dksL_law_49 20 rfl rfl)
theorem dL_law_1301 : decode cL_law 1301 = .ok (.iload 4, 2) := dk_21 4 (dk_at dksL_law_49 21 rfl rfl)
theorem dL_law_1303 : decode cL_law 1303 = .ok (.iconst 1, 1) := dk_4 (dk_at dksL_law_49 23 rfl rfl)
theorem dL_law_1304 : decode cL_law 1304 = .ok (.iadd, 1) := dk_96 (dk_at dksL_law_50 0 rfl rfl)
theorem dL_law_1305 : decode cL_law 1305 = .ok (.iaload, 1) := dk_46 (dk_at dksL_law_50 1 rfl rfl)
theorem dL_law_1306 : decode cL_law 1306 = .ok (.aload_n 0, 1) := dk_42 (dk_at dksL_law_50 2 rfl rfl)
theorem dL_law_1307 : decode cL_law 1307 = .ok (.iload 4, 2) := dk_21 4 (dk_at dksL_law_50 3 rfl rfl)
theorem dL_law_1309 : decode cL_law 1309 = .ok (.iconst 2, 1) := dk_5 (dk_at dksL_law_50 5 rfl rfl)
theorem dL_law_1310 : decode cL_law 1310 = .ok (.iadd, 1) := dk_96 (dk_at dksL_law_50 6 rfl rfl)
theorem dL_law_1311 : decode cL_law 1311 = .ok (.iaload, 1) := dk_46 (dk_at dksL_law_50 7 rfl rfl)
theorem dL_law_1312 : decode cL_law 1312 = .ok (.aload_n 0, 1) := dk_42 (dk_at dksL_law_50 8 rfl rfl)
theorem dL_law_1313 : decode cL_law 1313 = .ok (.iload 4, 2) := dk_21 4 (dk_at dksL_law_50 9 rfl rfl)
theorem dL_law_1315 : decode cL_law 1315 = .ok (.iconst 3, 1) := dk_6 (dk_at dksL_law_50 11 rfl rfl)
theorem dL_law_1316 : decode cL_law 1316 = .ok (.iadd, 1) := dk_96 (dk_at dksL_law_50 12 rfl rfl)
theorem dL_law_1317 : decode cL_law 1317 = .ok (.iaload, 1) := dk_46 (dk_at dksL_law_50 13 rfl rfl)
theorem dL_law_1318 : decode cL_law 1318 = .ok (.invokevirtual 127, 3) := dk_182 0 127 (dk_at dksL_law_50 14 rfl rfl)
theorem dL_law_1321 : decode cL_law 1321 = .ok (.aload_n 2, 1) := dk_44 (dk_at dksL_law_50 17 rfl rfl)
theorem dL_law_1322 : decode cL_law 1322 = .ok (.aload_n 0, 1) := dk_42 (dk_at dksL_law_50 18 rfl rfl)
theorem dL_law_1323 : decode cL_law 1323 = .ok (.iload 4, 2) := dk_21 4 (dk_at dksL_law_50 19 rfl rfl)
theorem dL_law_1325 : decode cL_law 1325 = .ok (.iconst 1, 1) := dk_4 (dk_at dksL_law_50 21 rfl rfl)
theorem dL_law_1326 : decode cL_law 1326 = .ok (.iadd, 1) := dk_96 (dk_at dksL_law_50 22 rfl rfl)
theorem dL_law_1327 : decode cL_law 1327 = .ok (.iaload, 1) := dk_46 (dk_at dksL_law_50 23 rfl rfl)
theorem dL_law_1328 : decode cL_law 1328 = .ok (.aload_n 0, 1) := dk_42 (dk_at dksL_law_51 0 rfl rfl)
theorem dL_law_1329 : decode cL_law 1329 = .ok (.iload 4, 2) := dk_21 4 (dk_at dksL_law_51 1 rfl rfl)
theorem dL_law_1331 : decode cL_law 1331 = .ok (.iconst 2, 1) := dk_5 (dk_at dksL_law_51 3 rfl rfl)
theorem dL_law_1332 : decode cL_law 1332 = .ok (.iadd, 1) := dk_96 (dk_at dksL_law_51 4 rfl rfl)
theorem dL_law_1333 : decode cL_law 1333 = .ok (.iaload, 1) := dk_46 (dk_at dksL_law_51 5 rfl rfl)
theorem dL_law_1334 : decode cL_law 1334 = .ok (.aload_n 0, 1) := dk_42 (dk_at dksL_law_51 6 rfl rfl)
theorem dL_law_1335 : decode cL_law 1335 = .ok (.iload 4, 2) := dk_21 4 (dk_at dksL_law_51 7 rfl rfl)
theorem dL_law_1337 : decode cL_law 1337 = .ok (.iconst 3, 1) := dk_6 (dk_at dksL_law_51 9 rfl rfl)
theorem dL_law_1338 : decode cL_law 1338 = .ok (.iadd, 1) := dk_96 (dk_at dksL_law_51 10 rfl rfl)
theorem dL_law_1339 : decode cL_law 1339 = .ok (.iaload, 1) := dk_46 (dk_at dksL_law_51 11 rfl rfl)
theorem dL_law_1340 : decode cL_law 1340 = .ok (.invokevirtual 130, 3) := dk_182 0 130 (dk_at dksL_law_51 12 rfl rfl)
theorem dL_law_1343 : decode cL_law 1343 = .ok (.if_icmp .eq 403, 3) := dk_159 1 147 (dk_at dksL_law_51 15 rfl rfl)
theorem dL_law_1346 : decode cL_law 1346 = .ok (.iconst 0, 1) := dk_3 (dk_at dksL_law_51 18 rfl rfl)
theorem dL_law_1347 : decode cL_law 1347 = .ok (.ireturn, 1) := dk_172 (dk_at dksL_law_51 19 rfl rfl)
theorem dL_law_1348 : decode cL_law 1348 = .ok (.aload_n 1, 1) := dk_43 (dk_at dksL_law_51 20 rfl rfl)
theorem dL_law_1349 : decode cL_law 1349 = .ok (.aload_n 0, 1) := dk_42 (dk_at dksL_law_51 21 rfl rfl)
theorem dL_law_1350 : decode cL_law 1350 = .ok (.iload 4, 2) := dk_21 4 (dk_at dksL_law_51 22 rfl rfl)
theorem dL_law_1352 : decode cL_law 1352 = .ok (.iconst 1, 1) := dk_4 (dk_at dksL_law_52 0 rfl rfl)
theorem dL_law_1353 : decode cL_law 1353 = .ok (.iadd, 1) := dk_96 (dk_at dksL_law_52 1 rfl rfl)
theorem dL_law_1354 : decode cL_law 1354 = .ok (.iaload, 1) := dk_46 (dk_at dksL_law_52 2 rfl rfl)
theorem dL_law_1355 : decode cL_law 1355 = .ok (.aload_n 0, 1) := dk_42 (dk_at dksL_law_52 3 rfl rfl)
theorem dL_law_1356 : decode cL_law 1356 = .ok (.iload 4, 2) := dk_21 4 (dk_at dksL_law_52 4 rfl rfl)
theorem dL_law_1358 : decode cL_law 1358 = .ok (.iconst 2, 1) := dk_5 (dk_at dksL_law_52 6 rfl rfl)
theorem dL_law_1359 : decode cL_law 1359 = .ok (.iadd, 1) := dk_96 (dk_at dksL_law_52 7 rfl rfl)
theorem dL_law_1360 : decode cL_law 1360 = .ok (.iaload, 1) := dk_46 (dk_at dksL_law_52 8 rfl rfl)
theorem dL_law_1361 : decode cL_law 1361 = .ok (.aload_n 0, 1) := dk_42 (dk_at dksL_law_52 9 rfl rfl)
theorem dL_law_1362 : decode cL_law 1362 = .ok (.iload 4, 2) := dk_21 4 (dk_at dksL_law_52 10 rfl rfl)
theorem dL_law_1364 : decode cL_law 1364 = .ok (.iconst 3, 1) := dk_6 (dk_at dksL_law_52 12 rfl rfl)
theorem dL_law_1365 : decode cL_law 1365 = .ok (.iadd, 1) := dk_96 (dk_at dksL_law_52 13 rfl rfl)
theorem dL_law_1366 : decode cL_law 1366 = .ok (.iaload, 1) := dk_46 (dk_at dksL_law_52 14 rfl rfl)
theorem dL_law_1367 : decode cL_law 1367 = .ok (.aload_n 0, 1) := dk_42 (dk_at dksL_law_52 15 rfl rfl)
theorem dL_law_1368 : decode cL_law 1368 = .ok (.iload 4, 2) := dk_21 4 (dk_at dksL_law_52 16 rfl rfl)
theorem dL_law_1370 : decode cL_law 1370 = .ok (.iconst 4, 1) := dk_7 (dk_at dksL_law_52 18 rfl rfl)
theorem dL_law_1371 : decode cL_law 1371 = .ok (.iadd, 1) := dk_96 (dk_at dksL_law_52 19 rfl rfl)
theorem dL_law_1372 : decode cL_law 1372 = .ok (.iaload, 1) := dk_46 (dk_at dksL_law_52 20 rfl rfl)
theorem dL_law_1373 : decode cL_law 1373 = .ok (.aload_n 0, 1) := dk_42 (dk_at dksL_law_52 21 rfl rfl)
theorem dL_law_1374 : decode cL_law 1374 = .ok (.iload 4, 2) := dk_21 4 (dk_at dksL_law_52 22 rfl rfl)
theorem dL_law_1376 : decode cL_law 1376 = .ok (.iconst 5, 1) := dk_8 (dk_at dksL_law_53 0 rfl rfl)
theorem dL_law_1377 : decode cL_law 1377 = .ok (.iadd, 1) := dk_96 (dk_at dksL_law_53 1 rfl rfl)
theorem dL_law_1378 : decode cL_law 1378 = .ok (.iaload, 1) := dk_46 (dk_at dksL_law_53 2 rfl rfl)
theorem dL_law_1379 : decode cL_law 1379 = .ok (.invokevirtual 131, 3) := dk_182 0 131 (dk_at dksL_law_53 3 rfl rfl)
theorem dL_law_1382 : decode cL_law 1382 = .ok (.aload_n 2, 1) := dk_44 (dk_at dksL_law_53 6 rfl rfl)
theorem dL_law_1383 : decode cL_law 1383 = .ok (.aload_n 0, 1) := dk_42 (dk_at dksL_law_53 7 rfl rfl)
theorem dL_law_1384 : decode cL_law 1384 = .ok (.iload 4, 2) := dk_21 4 (dk_at dksL_law_53 8 rfl rfl)
theorem dL_law_1386 : decode cL_law 1386 = .ok (.iconst 1, 1) := dk_4 (dk_at dksL_law_53 10 rfl rfl)
theorem dL_law_1387 : decode cL_law 1387 = .ok (.iadd, 1) := dk_96 (dk_at dksL_law_53 11 rfl rfl)
theorem dL_law_1388 : decode cL_law 1388 = .ok (.iaload, 1) := dk_46 (dk_at dksL_law_53 12 rfl rfl)
theorem dL_law_1389 : decode cL_law 1389 = .ok (.aload_n 0, 1) := dk_42 (dk_at dksL_law_53 13 rfl rfl)
theorem dL_law_1390 : decode cL_law 1390 = .ok (.iload 4, 2) := dk_21 4 (dk_at dksL_law_53 14 rfl rfl)
theorem dL_law_1392 : decode cL_law 1392 = .ok (.iconst 2, 1) := dk_5 (dk_at dksL_law_53 16 rfl rfl)
theorem dL_law_1393 : decode cL_law 1393 = .ok (.iadd, 1) := dk_96 (dk_at dksL_law_53 17 rfl rfl)
theorem dL_law_1394 : decode cL_law 1394 = .ok (.iaload, 1) := dk_46 (dk_at dksL_law_53 18 rfl rfl)
theorem dL_law_1395 : decode cL_law 1395 = .ok (.aload_n 0, 1) := dk_42 (dk_at dksL_law_53 19 rfl rfl)
theorem dL_law_1396 : decode cL_law 1396 = .ok (.iload 4, 2) := dk_21 4 (dk_at dksL_law_53 20 rfl rfl)
theorem dL_law_1398 : decode cL_law 1398 = .ok (.iconst 3, 1) := dk_6 (dk_at dksL_law_53 22 rfl rfl)
theorem dL_law_1399 : decode cL_law 1399 = .ok (.iadd, 1) := dk_96 (dk_at dksL_law_53 23 rfl rfl)
theorem dL_law_1400 : decode cL_law 1400 = .ok (.iaload, 1) := dk_46 (dk_at dksL_law_54 0 rfl rfl)
theorem dL_law_1401 : decode cL_law 1401 = .ok (.aload_n 0, 1) := dk_42 (dk_at dksL_law_54 1 rfl rfl)
theorem dL_law_1402 : decode cL_law 1402 = .ok (.iload 4, 2) := dk_21 4 (dk_at dksL_law_54 2 rfl rfl)
theorem dL_law_1404 : decode cL_law 1404 = .ok (.iconst 4, 1) := dk_7 (dk_at dksL_law_54 4 rfl rfl)
theorem dL_law_1405 : decode cL_law 1405 = .ok (.iadd, 1) := dk_96 (dk_at dksL_law_54 5 rfl rfl)
theorem dL_law_1406 : decode cL_law 1406 = .ok (.iaload, 1) := dk_46 (dk_at dksL_law_54 6 rfl rfl)
theorem dL_law_1407 : decode cL_law 1407 = .ok (.aload_n 0, 1) := dk_42 (dk_at dksL_law_54 7 rfl rfl)
theorem dL_law_1408 : decode cL_law 1408 = .ok (.iload 4, 2) := dk_21 4 (dk_at dksL_law_54 8 rfl rfl)
theorem dL_law_1410 : decode cL_law 1410 = .ok (.iconst 5, 1) := dk_8 (dk_at dksL_law_54 10 rfl rfl)
theorem dL_law_1411 : decode cL_law 1411 = .ok (.iadd, 1) := dk_96 (dk_at dksL_law_54 11 rfl rfl)
theorem dL_law_1412 : decode cL_law 1412 = .ok (.iaload, 1) := dk_46 (dk_at dksL_law_54 12 rfl rfl)
theorem dL_law_1413 : decode cL_law 1413 = .ok (.invokevirtual 135, 3) := dk_182 0 135 (dk_at dksL_law_54 13 rfl rfl)
theorem dL_law_1416 : decode cL_law 1416 = .ok (.lcmp, 1) := dk_148 (dk_at dksL_law_54 16 rfl rfl)
theorem dL_law_1417 : decode cL_law 1417 = .ok (.ifCond .eq 329, 3) := dk_153 1 73 (dk_at dksL_law_54 17 rfl rfl)
theorem dL_law_1420 : decode cL_law 1420 = .ok (.iconst 0, 1) := dk_3 (dk_at dksL_law_54 20 rfl rfl)
theorem dL_law_1421 : decode cL_law 1421 = .ok (.ireturn, 1) := dk_172 (dk_at dksL_law_54 21 rfl rfl)
theorem dL_law_1422 : decode cL_law 1422 = .ok (.aload_n 1, 1) := dk_43 (dk_at dksL_law_54 22 rfl rfl)
theorem dL_law_1423 : decode cL_law 1423 = .ok (.aload_n 0, 1) := dk_42 (dk_at dksL_law_54 23 rfl rfl)
theorem dL_law_1424 : decode cL_law 1424 = .ok (.iload 4, 2) := dk_21 4 (dk_at dksL_law_55 0 rfl rfl)
theorem dL_law_1426 : decode cL_law 1426 = .ok (.iconst 1, 1) := dk_4 (dk_at dksL_law_55 2 rfl rfl)
theorem dL_law_1427 : decode cL_law 1427 = .ok (.iadd, 1) := dk_96 (dk_at dksL_law_55 3 rfl rfl)
theorem dL_law_1428 : decode cL_law 1428 = .ok (.iaload, 1) := dk_46 (dk_at dksL_law_55 4 rfl rfl)
theorem dL_law_1429 : decode cL_law 1429 = .ok (.invokevirtual 136, 3) := dk_182 0 136 (dk_at dksL_law_55 5 rfl rfl)
theorem dL_law_1432 : decode cL_law 1432 = .ok (.aload_n 2, 1) := dk_44 (dk_at dksL_law_55 8 rfl rfl)
theorem dL_law_1433 : decode cL_law 1433 = .ok (.aload_n 0, 1) := dk_42 (dk_at dksL_law_55 9 rfl rfl)
theorem dL_law_1434 : decode cL_law 1434 = .ok (.iload 4, 2) := dk_21 4 (dk_at dksL_law_55 10 rfl rfl)
theorem dL_law_1436 : decode cL_law 1436 = .ok (.iconst 1, 1) := dk_4 (dk_at dksL_law_55 12 rfl rfl)
theorem dL_law_1437 : decode cL_law 1437 = .ok (.iadd, 1) := dk_96 (dk_at dksL_law_55 13 rfl rfl)
theorem dL_law_1438 : decode cL_law 1438 = .ok (.iaload, 1) := dk_46 (dk_at dksL_law_55 14 rfl rfl)
theorem dL_law_1439 : decode cL_law 1439 = .ok (.invokevirtual 140, 3) := dk_182 0 140 (dk_at dksL_law_55 15 rfl rfl)
theorem dL_law_1442 : decode cL_law 1442 = .ok (.lcmp, 1) := dk_148 (dk_at dksL_law_55 18 rfl rfl)
theorem dL_law_1443 : decode cL_law 1443 = .ok (.ifCond .eq 303, 3) := dk_153 1 47 (dk_at dksL_law_55 19 rfl rfl)
theorem dL_law_1446 : decode cL_law 1446 = .ok (.iconst 0, 1) := dk_3 (dk_at dksL_law_55 22 rfl rfl)
theorem dL_law_1447 : decode cL_law 1447 = .ok (.ireturn, 1) := dk_172 (dk_at dksL_law_55 23 rfl rfl)
theorem dL_law_1448 : decode cL_law 1448 = .ok (.aload_n 1, 1) := dk_43 (dk_at dksL_law_56 0 rfl rfl)
theorem dL_law_1449 : decode cL_law 1449 = .ok (.aload_n 0, 1) := dk_42 (dk_at dksL_law_56 1 rfl rfl)
theorem dL_law_1450 : decode cL_law 1450 = .ok (.iload 4, 2) := dk_21 4 (dk_at dksL_law_56 2 rfl rfl)
theorem dL_law_1452 : decode cL_law 1452 = .ok (.iconst 1, 1) := dk_4 (dk_at dksL_law_56 4 rfl rfl)
theorem dL_law_1453 : decode cL_law 1453 = .ok (.iadd, 1) := dk_96 (dk_at dksL_law_56 5 rfl rfl)
theorem dL_law_1454 : decode cL_law 1454 = .ok (.iaload, 1) := dk_46 (dk_at dksL_law_56 6 rfl rfl)
theorem dL_law_1455 : decode cL_law 1455 = .ok (.invokevirtual 141, 3) := dk_182 0 141 (dk_at dksL_law_56 7 rfl rfl)
theorem dL_law_1458 : decode cL_law 1458 = .ok (.aload_n 2, 1) := dk_44 (dk_at dksL_law_56 10 rfl rfl)
theorem dL_law_1459 : decode cL_law 1459 = .ok (.aload_n 0, 1) := dk_42 (dk_at dksL_law_56 11 rfl rfl)
theorem dL_law_1460 : decode cL_law 1460 = .ok (.iload 4, 2) := dk_21 4 (dk_at dksL_law_56 12 rfl rfl)
theorem dL_law_1462 : decode cL_law 1462 = .ok (.iconst 1, 1) := dk_4 (dk_at dksL_law_56 14 rfl rfl)
theorem dL_law_1463 : decode cL_law 1463 = .ok (.iadd, 1) := dk_96 (dk_at dksL_law_56 15 rfl rfl)
theorem dL_law_1464 : decode cL_law 1464 = .ok (.iaload, 1) := dk_46 (dk_at dksL_law_56 16 rfl rfl)
theorem dL_law_1465 : decode cL_law 1465 = .ok (.invokevirtual 144, 3) := dk_182 0 144 (dk_at dksL_law_56 17 rfl rfl)
theorem dL_law_1468 : decode cL_law 1468 = .ok (.if_icmp .eq 278, 3) := dk_159 1 22 (dk_at dksL_law_56 20 rfl rfl)
theorem dL_law_1471 : decode cL_law 1471 = .ok (.iconst 0, 1) := dk_3 (dk_at dksL_law_56 23 rfl rfl)
theorem dL_law_1472 : decode cL_law 1472 = .ok (.ireturn, 1) := dk_172 (dk_at dksL_law_57 0 rfl rfl)
theorem dL_law_1473 : decode cL_law 1473 = .ok (.aload_n 1, 1) := dk_43 (dk_at dksL_law_57 1 rfl rfl)
theorem dL_law_1474 : decode cL_law 1474 = .ok (.aload_n 0, 1) := dk_42 (dk_at dksL_law_57 2 rfl rfl)
theorem dL_law_1475 : decode cL_law 1475 = .ok (.iload 4, 2) := dk_21 4 (dk_at dksL_law_57 3 rfl rfl)
theorem dL_law_1477 : decode cL_law 1477 = .ok (.iconst 1, 1) := dk_4 (dk_at dksL_law_57 5 rfl rfl)
theorem dL_law_1478 : decode cL_law 1478 = .ok (.iadd, 1) := dk_96 (dk_at dksL_law_57 6 rfl rfl)
theorem dL_law_1479 : decode cL_law 1479 = .ok (.iaload, 1) := dk_46 (dk_at dksL_law_57 7 rfl rfl)
theorem dL_law_1480 : decode cL_law 1480 = .ok (.aload_n 0, 1) := dk_42 (dk_at dksL_law_57 8 rfl rfl)
theorem dL_law_1481 : decode cL_law 1481 = .ok (.iload 4, 2) := dk_21 4 (dk_at dksL_law_57 9 rfl rfl)
theorem dL_law_1483 : decode cL_law 1483 = .ok (.iconst 2, 1) := dk_5 (dk_at dksL_law_57 11 rfl rfl)
theorem dL_law_1484 : decode cL_law 1484 = .ok (.iadd, 1) := dk_96 (dk_at dksL_law_57 12 rfl rfl)
theorem dL_law_1485 : decode cL_law 1485 = .ok (.iaload, 1) := dk_46 (dk_at dksL_law_57 13 rfl rfl)
theorem dL_law_1486 : decode cL_law 1486 = .ok (.aload_n 0, 1) := dk_42 (dk_at dksL_law_57 14 rfl rfl)
theorem dL_law_1487 : decode cL_law 1487 = .ok (.iload 4, 2) := dk_21 4 (dk_at dksL_law_57 15 rfl rfl)
theorem dL_law_1489 : decode cL_law 1489 = .ok (.iconst 3, 1) := dk_6 (dk_at dksL_law_57 17 rfl rfl)
theorem dL_law_1490 : decode cL_law 1490 = .ok (.iadd, 1) := dk_96 (dk_at dksL_law_57 18 rfl rfl)
theorem dL_law_1491 : decode cL_law 1491 = .ok (.iaload, 1) := dk_46 (dk_at dksL_law_57 19 rfl rfl)
theorem dL_law_1492 : decode cL_law 1492 = .ok (.invokevirtual 145, 3) := dk_182 0 145 (dk_at dksL_law_57 20 rfl rfl)
theorem dL_law_1495 : decode cL_law 1495 = .ok (.aload_n 2, 1) := dk_44 (dk_at dksL_law_57 23 rfl rfl)
theorem dL_law_1496 : decode cL_law 1496 = .ok (.aload_n 0, 1) := dk_42 (dk_at dksL_law_58 0 rfl rfl)
theorem dL_law_1497 : decode cL_law 1497 = .ok (.iload 4, 2) := dk_21 4 (dk_at dksL_law_58 1 rfl rfl)
theorem dL_law_1499 : decode cL_law 1499 = .ok (.iconst 1, 1) := dk_4 (dk_at dksL_law_58 3 rfl rfl)
theorem dL_law_1500 : decode cL_law 1500 = .ok (.iadd, 1) := dk_96 (dk_at dksL_law_58 4 rfl rfl)
theorem dL_law_1501 : decode cL_law 1501 = .ok (.iaload, 1) := dk_46 (dk_at dksL_law_58 5 rfl rfl)
theorem dL_law_1502 : decode cL_law 1502 = .ok (.aload_n 0, 1) := dk_42 (dk_at dksL_law_58 6 rfl rfl)
theorem dL_law_1503 : decode cL_law 1503 = .ok (.iload 4, 2) := dk_21 4 (dk_at dksL_law_58 7 rfl rfl)
theorem dL_law_1505 : decode cL_law 1505 = .ok (.iconst 2, 1) := dk_5 (dk_at dksL_law_58 9 rfl rfl)
theorem dL_law_1506 : decode cL_law 1506 = .ok (.iadd, 1) := dk_96 (dk_at dksL_law_58 10 rfl rfl)
theorem dL_law_1507 : decode cL_law 1507 = .ok (.iaload, 1) := dk_46 (dk_at dksL_law_58 11 rfl rfl)
theorem dL_law_1508 : decode cL_law 1508 = .ok (.aload_n 0, 1) := dk_42 (dk_at dksL_law_58 12 rfl rfl)
theorem dL_law_1509 : decode cL_law 1509 = .ok (.iload 4, 2) := dk_21 4 (dk_at dksL_law_58 13 rfl rfl)
theorem dL_law_1511 : decode cL_law 1511 = .ok (.iconst 3, 1) := dk_6 (dk_at dksL_law_58 15 rfl rfl)
theorem dL_law_1512 : decode cL_law 1512 = .ok (.iadd, 1) := dk_96 (dk_at dksL_law_58 16 rfl rfl)
theorem dL_law_1513 : decode cL_law 1513 = .ok (.iaload, 1) := dk_46 (dk_at dksL_law_58 17 rfl rfl)
theorem dL_law_1514 : decode cL_law 1514 = .ok (.invokevirtual 148, 3) := dk_182 0 148 (dk_at dksL_law_58 18 rfl rfl)
theorem dL_law_1517 : decode cL_law 1517 = .ok (.if_icmp .eq 229, 3) := dk_159 0 229 (dk_at dksL_law_58 21 rfl rfl)
theorem dL_law_1520 : decode cL_law 1520 = .ok (.iconst 0, 1) := dk_3 (dk_at dksL_law_59 0 rfl rfl)
theorem dL_law_1521 : decode cL_law 1521 = .ok (.ireturn, 1) := dk_172 (dk_at dksL_law_59 1 rfl rfl)
theorem dL_law_1522 : decode cL_law 1522 = .ok (.aload_n 1, 1) := dk_43 (dk_at dksL_law_59 2 rfl rfl)
theorem dL_law_1523 : decode cL_law 1523 = .ok (.aload_n 0, 1) := dk_42 (dk_at dksL_law_59 3 rfl rfl)
theorem dL_law_1524 : decode cL_law 1524 = .ok (.iload 4, 2) := dk_21 4 (dk_at dksL_law_59 4 rfl rfl)
theorem dL_law_1526 : decode cL_law 1526 = .ok (.iconst 1, 1) := dk_4 (dk_at dksL_law_59 6 rfl rfl)
theorem dL_law_1527 : decode cL_law 1527 = .ok (.iadd, 1) := dk_96 (dk_at dksL_law_59 7 rfl rfl)
theorem dL_law_1528 : decode cL_law 1528 = .ok (.iaload, 1) := dk_46 (dk_at dksL_law_59 8 rfl rfl)
theorem dL_law_1529 : decode cL_law 1529 = .ok (.aload_n 0, 1) := dk_42 (dk_at dksL_law_59 9 rfl rfl)
theorem dL_law_1530 : decode cL_law 1530 = .ok (.iload 4, 2) := dk_21 4 (dk_at dksL_law_59 10 rfl rfl)
theorem dL_law_1532 : decode cL_law 1532 = .ok (.iconst 2, 1) := dk_5 (dk_at dksL_law_59 12 rfl rfl)
theorem dL_law_1533 : decode cL_law 1533 = .ok (.iadd, 1) := dk_96 (dk_at dksL_law_59 13 rfl rfl)
theorem dL_law_1534 : decode cL_law 1534 = .ok (.iaload, 1) := dk_46 (dk_at dksL_law_59 14 rfl rfl)
theorem dL_law_1535 : decode cL_law 1535 = .ok (.aload_n 0, 1) := dk_42 (dk_at dksL_law_59 15 rfl rfl)
theorem dL_law_1536 : decode cL_law 1536 = .ok (.iload 4, 2) := dk_21 4 (dk_at dksL_law_59 16 rfl rfl)
theorem dL_law_1538 : decode cL_law 1538 = .ok (.iconst 3, 1) := dk_6 (dk_at dksL_law_59 18 rfl rfl)
theorem dL_law_1539 : decode cL_law 1539 = .ok (.iadd, 1) := dk_96 (dk_at dksL_law_59 19 rfl rfl)
theorem dL_law_1540 : decode cL_law 1540 = .ok (.iaload, 1) := dk_46 (dk_at dksL_law_59 20 rfl rfl)
theorem dL_law_1541 : decode cL_law 1541 = .ok (.aload_n 0, 1) := dk_42 (dk_at dksL_law_59 21 rfl rfl)
theorem dL_law_1542 : decode cL_law 1542 = .ok (.iload 4, 2) := dk_21 4 (dk_at dksL_law_59 22 rfl rfl)
theorem dL_law_1544 : decode cL_law 1544 = .ok (.iconst 4, 1) := dk_7 (dk_at dksL_law_60 0 rfl rfl)
theorem dL_law_1545 : decode cL_law 1545 = .ok (.iadd, 1) := dk_96 (dk_at dksL_law_60 1 rfl rfl)
theorem dL_law_1546 : decode cL_law 1546 = .ok (.iaload, 1) := dk_46 (dk_at dksL_law_60 2 rfl rfl)
theorem dL_law_1547 : decode cL_law 1547 = .ok (.invokevirtual 149, 3) := dk_182 0 149 (dk_at dksL_law_60 3 rfl rfl)
theorem dL_law_1550 : decode cL_law 1550 = .ok (.aload_n 2, 1) := dk_44 (dk_at dksL_law_60 6 rfl rfl)
theorem dL_law_1551 : decode cL_law 1551 = .ok (.aload_n 0, 1) := dk_42 (dk_at dksL_law_60 7 rfl rfl)
theorem dL_law_1552 : decode cL_law 1552 = .ok (.iload 4, 2) := dk_21 4 (dk_at dksL_law_60 8 rfl rfl)
theorem dL_law_1554 : decode cL_law 1554 = .ok (.iconst 1, 1) := dk_4 (dk_at dksL_law_60 10 rfl rfl)
theorem dL_law_1555 : decode cL_law 1555 = .ok (.iadd, 1) := dk_96 (dk_at dksL_law_60 11 rfl rfl)
theorem dL_law_1556 : decode cL_law 1556 = .ok (.iaload, 1) := dk_46 (dk_at dksL_law_60 12 rfl rfl)
theorem dL_law_1557 : decode cL_law 1557 = .ok (.aload_n 0, 1) := dk_42 (dk_at dksL_law_60 13 rfl rfl)
theorem dL_law_1558 : decode cL_law 1558 = .ok (.iload 4, 2) := dk_21 4 (dk_at dksL_law_60 14 rfl rfl)
theorem dL_law_1560 : decode cL_law 1560 = .ok (.iconst 2, 1) := dk_5 (dk_at dksL_law_60 16 rfl rfl)
theorem dL_law_1561 : decode cL_law 1561 = .ok (.iadd, 1) := dk_96 (dk_at dksL_law_60 17 rfl rfl)
theorem dL_law_1562 : decode cL_law 1562 = .ok (.iaload, 1) := dk_46 (dk_at dksL_law_60 18 rfl rfl)
theorem dL_law_1563 : decode cL_law 1563 = .ok (.aload_n 0, 1) := dk_42 (dk_at dksL_law_60 19 rfl rfl)
theorem dL_law_1564 : decode cL_law 1564 = .ok (.iload 4, 2) := dk_21 4 (dk_at dksL_law_60 20 rfl rfl)
theorem dL_law_1566 : decode cL_law 1566 = .ok (.iconst 3, 1) := dk_6 (dk_at dksL_law_60 22 rfl rfl)
theorem dL_law_1567 : decode cL_law 1567 = .ok (.iadd, 1) := dk_96 (dk_at dksL_law_60 23 rfl rfl)
theorem dL_law_1568 : decode cL_law 1568 = .ok (.iaload, 1) := dk_46 (dk_at dksL_law_61 0 rfl rfl)
theorem dL_law_1569 : decode cL_law 1569 = .ok (.aload_n 0, 1) := dk_42 (dk_at dksL_law_61 1 rfl rfl)
theorem dL_law_1570 : decode cL_law 1570 = .ok (.iload 4, 2) := dk_21 4 (dk_at dksL_law_61 2 rfl rfl)
theorem dL_law_1572 : decode cL_law 1572 = .ok (.iconst 4, 1) := dk_7 (dk_at dksL_law_61 4 rfl rfl)
theorem dL_law_1573 : decode cL_law 1573 = .ok (.iadd, 1) := dk_96 (dk_at dksL_law_61 5 rfl rfl)
theorem dL_law_1574 : decode cL_law 1574 = .ok (.iaload, 1) := dk_46 (dk_at dksL_law_61 6 rfl rfl)
theorem dL_law_1575 : decode cL_law 1575 = .ok (.invokevirtual 153, 3) := dk_182 0 153 (dk_at dksL_law_61 7 rfl rfl)
theorem dL_law_1578 : decode cL_law 1578 = .ok (.lcmp, 1) := dk_148 (dk_at dksL_law_61 10 rfl rfl)
theorem dL_law_1579 : decode cL_law 1579 = .ok (.ifCond .eq 167, 3) := dk_153 0 167 (dk_at dksL_law_61 11 rfl rfl)
theorem dL_law_1582 : decode cL_law 1582 = .ok (.iconst 0, 1) := dk_3 (dk_at dksL_law_61 14 rfl rfl)
theorem dL_law_1583 : decode cL_law 1583 = .ok (.ireturn, 1) := dk_172 (dk_at dksL_law_61 15 rfl rfl)
theorem dL_law_1584 : decode cL_law 1584 = .ok (.aload_n 1, 1) := dk_43 (dk_at dksL_law_61 16 rfl rfl)
theorem dL_law_1585 : decode cL_law 1585 = .ok (.aload_n 0, 1) := dk_42 (dk_at dksL_law_61 17 rfl rfl)
theorem dL_law_1586 : decode cL_law 1586 = .ok (.iload 4, 2) := dk_21 4 (dk_at dksL_law_61 18 rfl rfl)
theorem dL_law_1588 : decode cL_law 1588 = .ok (.iconst 1, 1) := dk_4 (dk_at dksL_law_61 20 rfl rfl)
theorem dL_law_1589 : decode cL_law 1589 = .ok (.iadd, 1) := dk_96 (dk_at dksL_law_61 21 rfl rfl)
theorem dL_law_1590 : decode cL_law 1590 = .ok (.iaload, 1) := dk_46 (dk_at dksL_law_61 22 rfl rfl)
theorem dL_law_1591 : decode cL_law 1591 = .ok (.aload_n 0, 1) := dk_42 (dk_at dksL_law_61 23 rfl rfl)
theorem dL_law_1592 : decode cL_law 1592 = .ok (.iload 4, 2) := dk_21 4 (dk_at dksL_law_62 0 rfl rfl)
theorem dL_law_1594 : decode cL_law 1594 = .ok (.iconst 2, 1) := dk_5 (dk_at dksL_law_62 2 rfl rfl)
theorem dL_law_1595 : decode cL_law 1595 = .ok (.iadd, 1) := dk_96 (dk_at dksL_law_62 3 rfl rfl)
theorem dL_law_1596 : decode cL_law 1596 = .ok (.iaload, 1) := dk_46 (dk_at dksL_law_62 4 rfl rfl)
theorem dL_law_1597 : decode cL_law 1597 = .ok (.aload_n 0, 1) := dk_42 (dk_at dksL_law_62 5 rfl rfl)
theorem dL_law_1598 : decode cL_law 1598 = .ok (.iload 4, 2) := dk_21 4 (dk_at dksL_law_62 6 rfl rfl)
theorem dL_law_1600 : decode cL_law 1600 = .ok (.iconst 3, 1) := dk_6 (dk_at dksL_law_62 8 rfl rfl)
theorem dL_law_1601 : decode cL_law 1601 = .ok (.iadd, 1) := dk_96 (dk_at dksL_law_62 9 rfl rfl)
theorem dL_law_1602 : decode cL_law 1602 = .ok (.iaload, 1) := dk_46 (dk_at dksL_law_62 10 rfl rfl)
theorem dL_law_1603 : decode cL_law 1603 = .ok (.invokevirtual 154, 3) := dk_182 0 154 (dk_at dksL_law_62 11 rfl rfl)
theorem dL_law_1606 : decode cL_law 1606 = .ok (.aload_n 2, 1) := dk_44 (dk_at dksL_law_62 14 rfl rfl)
theorem dL_law_1607 : decode cL_law 1607 = .ok (.aload_n 0, 1) := dk_42 (dk_at dksL_law_62 15 rfl rfl)
theorem dL_law_1608 : decode cL_law 1608 = .ok (.iload 4, 2) := dk_21 4 (dk_at dksL_law_62 16 rfl rfl)
theorem dL_law_1610 : decode cL_law 1610 = .ok (.iconst 1, 1) := dk_4 (dk_at dksL_law_62 18 rfl rfl)
theorem dL_law_1611 : decode cL_law 1611 = .ok (.iadd, 1) := dk_96 (dk_at dksL_law_62 19 rfl rfl)
theorem dL_law_1612 : decode cL_law 1612 = .ok (.iaload, 1) := dk_46 (dk_at dksL_law_62 20 rfl rfl)
theorem dL_law_1613 : decode cL_law 1613 = .ok (.aload_n 0, 1) := dk_42 (dk_at dksL_law_62 21 rfl rfl)
theorem dL_law_1614 : decode cL_law 1614 = .ok (.iload 4, 2) := dk_21 4 (dk_at dksL_law_62 22 rfl rfl)
theorem dL_law_1616 : decode cL_law 1616 = .ok (.iconst 2, 1) := dk_5 (dk_at dksL_law_63 0 rfl rfl)
theorem dL_law_1617 : decode cL_law 1617 = .ok (.iadd, 1) := dk_96 (dk_at dksL_law_63 1 rfl rfl)
theorem dL_law_1618 : decode cL_law 1618 = .ok (.iaload, 1) := dk_46 (dk_at dksL_law_63 2 rfl rfl)
theorem dL_law_1619 : decode cL_law 1619 = .ok (.aload_n 0, 1) := dk_42 (dk_at dksL_law_63 3 rfl rfl)
theorem dL_law_1620 : decode cL_law 1620 = .ok (.iload 4, 2) := dk_21 4 (dk_at dksL_law_63 4 rfl rfl)
theorem dL_law_1622 : decode cL_law 1622 = .ok (.iconst 3, 1) := dk_6 (dk_at dksL_law_63 6 rfl rfl)
theorem dL_law_1623 : decode cL_law 1623 = .ok (.iadd, 1) := dk_96 (dk_at dksL_law_63 7 rfl rfl)
theorem dL_law_1624 : decode cL_law 1624 = .ok (.iaload, 1) := dk_46 (dk_at dksL_law_63 8 rfl rfl)
theorem dL_law_1625 : decode cL_law 1625 = .ok (.invokevirtual 157, 3) := dk_182 0 157 (dk_at dksL_law_63 9 rfl rfl)
theorem dL_law_1628 : decode cL_law 1628 = .ok (.if_icmp .eq 118, 3) := dk_159 0 118 (dk_at dksL_law_63 12 rfl rfl)
theorem dL_law_1631 : decode cL_law 1631 = .ok (.iconst 0, 1) := dk_3 (dk_at dksL_law_63 15 rfl rfl)
theorem dL_law_1632 : decode cL_law 1632 = .ok (.ireturn, 1) := dk_172 (dk_at dksL_law_63 16 rfl rfl)
theorem dL_law_1633 : decode cL_law 1633 = .ok (.aload_n 1, 1) := dk_43 (dk_at dksL_law_63 17 rfl rfl)
theorem dL_law_1634 : decode cL_law 1634 = .ok (.aload_n 0, 1) := dk_42 (dk_at dksL_law_63 18 rfl rfl)
theorem dL_law_1635 : decode cL_law 1635 = .ok (.iload 4, 2) := dk_21 4 (dk_at dksL_law_63 19 rfl rfl)
theorem dL_law_1637 : decode cL_law 1637 = .ok (.iconst 1, 1) := dk_4 (dk_at dksL_law_63 21 rfl rfl)
theorem dL_law_1638 : decode cL_law 1638 = .ok (.iadd, 1) := dk_96 (dk_at dksL_law_63 22 rfl rfl)
theorem dL_law_1639 : decode cL_law 1639 = .ok (.iaload, 1) := dk_46 (dk_at dksL_law_63 23 rfl rfl)
theorem dL_law_1640 : decode cL_law 1640 = .ok (.aload_n 0, 1) := dk_42 (dk_at dksL_law_64 0 rfl rfl)
theorem dL_law_1641 : decode cL_law 1641 = .ok (.iload 4, 2) := dk_21 4 (dk_at dksL_law_64 1 rfl rfl)
theorem dL_law_1643 : decode cL_law 1643 = .ok (.iconst 2, 1) := dk_5 (dk_at dksL_law_64 3 rfl rfl)
theorem dL_law_1644 : decode cL_law 1644 = .ok (.iadd, 1) := dk_96 (dk_at dksL_law_64 4 rfl rfl)
theorem dL_law_1645 : decode cL_law 1645 = .ok (.iaload, 1) := dk_46 (dk_at dksL_law_64 5 rfl rfl)
theorem dL_law_1646 : decode cL_law 1646 = .ok (.invokevirtual 158, 3) := dk_182 0 158 (dk_at dksL_law_64 6 rfl rfl)
theorem dL_law_1649 : decode cL_law 1649 = .ok (.aload_n 2, 1) := dk_44 (dk_at dksL_law_64 9 rfl rfl)
theorem dL_law_1650 : decode cL_law 1650 = .ok (.aload_n 0, 1) := dk_42 (dk_at dksL_law_64 10 rfl rfl)
theorem dL_law_1651 : decode cL_law 1651 = .ok (.iload 4, 2) := dk_21 4 (dk_at dksL_law_64 11 rfl rfl)
theorem dL_law_1653 : decode cL_law 1653 = .ok (.iconst 1, 1) := dk_4 (dk_at dksL_law_64 13 rfl rfl)
theorem dL_law_1654 : decode cL_law 1654 = .ok (.iadd, 1) := dk_96 (dk_at dksL_law_64 14 rfl rfl)
theorem dL_law_1655 : decode cL_law 1655 = .ok (.iaload, 1) := dk_46 (dk_at dksL_law_64 15 rfl rfl)
theorem dL_law_1656 : decode cL_law 1656 = .ok (.aload_n 0, 1) := dk_42 (dk_at dksL_law_64 16 rfl rfl)
theorem dL_law_1657 : decode cL_law 1657 = .ok (.iload 4, 2) := dk_21 4 (dk_at dksL_law_64 17 rfl rfl)
theorem dL_law_1659 : decode cL_law 1659 = .ok (.iconst 2, 1) := dk_5 (dk_at dksL_law_64 19 rfl rfl)
theorem dL_law_1660 : decode cL_law 1660 = .ok (.iadd, 1) := dk_96 (dk_at dksL_law_64 20 rfl rfl)
theorem dL_law_1661 : decode cL_law 1661 = .ok (.iaload, 1) := dk_46 (dk_at dksL_law_64 21 rfl rfl)
theorem dL_law_1662 : decode cL_law 1662 = .ok (.invokevirtual 161, 3) := dk_182 0 161 (dk_at dksL_law_65 0 rfl rfl)
theorem dL_law_1665 : decode cL_law 1665 = .ok (.if_icmp .eq 81, 3) := dk_159 0 81 (dk_at dksL_law_65 3 rfl rfl)
theorem dL_law_1668 : decode cL_law 1668 = .ok (.iconst 0, 1) := dk_3 (dk_at dksL_law_65 6 rfl rfl)
theorem dL_law_1669 : decode cL_law 1669 = .ok (.ireturn, 1) := dk_172 (dk_at dksL_law_65 7 rfl rfl)
theorem dL_law_1670 : decode cL_law 1670 = .ok (.aload_n 1, 1) := dk_43 (dk_at dksL_law_65 8 rfl rfl)
theorem dL_law_1671 : decode cL_law 1671 = .ok (.aload_n 0, 1) := dk_42 (dk_at dksL_law_65 9 rfl rfl)
theorem dL_law_1672 : decode cL_law 1672 = .ok (.iload 4, 2) := dk_21 4 (dk_at dksL_law_65 10 rfl rfl)
theorem dL_law_1674 : decode cL_law 1674 = .ok (.iconst 1, 1) := dk_4 (dk_at dksL_law_65 12 rfl rfl)
theorem dL_law_1675 : decode cL_law 1675 = .ok (.iadd, 1) := dk_96 (dk_at dksL_law_65 13 rfl rfl)
theorem dL_law_1676 : decode cL_law 1676 = .ok (.iaload, 1) := dk_46 (dk_at dksL_law_65 14 rfl rfl)
theorem dL_law_1677 : decode cL_law 1677 = .ok (.invokevirtual 162, 3) := dk_182 0 162 (dk_at dksL_law_65 15 rfl rfl)
theorem dL_law_1680 : decode cL_law 1680 = .ok (.aload_n 2, 1) := dk_44 (dk_at dksL_law_65 18 rfl rfl)
theorem dL_law_1681 : decode cL_law 1681 = .ok (.aload_n 0, 1) := dk_42 (dk_at dksL_law_65 19 rfl rfl)
theorem dL_law_1682 : decode cL_law 1682 = .ok (.iload 4, 2) := dk_21 4 (dk_at dksL_law_65 20 rfl rfl)
theorem dL_law_1684 : decode cL_law 1684 = .ok (.iconst 1, 1) := dk_4 (dk_at dksL_law_65 22 rfl rfl)
theorem dL_law_1685 : decode cL_law 1685 = .ok (.iadd, 1) := dk_96 (dk_at dksL_law_65 23 rfl rfl)
theorem dL_law_1686 : decode cL_law 1686 = .ok (.iaload, 1) := dk_46 (dk_at dksL_law_66 0 rfl rfl)
theorem dL_law_1687 : decode cL_law 1687 = .ok (.invokevirtual 165, 3) := dk_182 0 165 (dk_at dksL_law_66 1 rfl rfl)
theorem dL_law_1690 : decode cL_law 1690 = .ok (.if_icmp .eq 56, 3) := dk_159 0 56 (dk_at dksL_law_66 4 rfl rfl)
theorem dL_law_1693 : decode cL_law 1693 = .ok (.iconst 0, 1) := dk_3 (dk_at dksL_law_66 7 rfl rfl)
theorem dL_law_1694 : decode cL_law 1694 = .ok (.ireturn, 1) := dk_172 (dk_at dksL_law_66 8 rfl rfl)
theorem dL_law_1695 : decode cL_law 1695 = .ok (.aload_n 1, 1) := dk_43 (dk_at dksL_law_66 9 rfl rfl)
theorem dL_law_1696 : decode cL_law 1696 = .ok (.invokevirtual 166, 3) := dk_182 0 166 (dk_at dksL_law_66 10 rfl rfl)
theorem dL_law_1699 : decode cL_law 1699 = .ok (.aload_n 2, 1) := dk_44 (dk_at dksL_law_66 13 rfl rfl)
theorem dL_law_1700 : decode cL_law 1700 = .ok (.invokevirtual 169, 3) := dk_182 0 169 (dk_at dksL_law_66 14 rfl rfl)
theorem dL_law_1703 : decode cL_law 1703 = .ok (.if_icmp .eq 43, 3) := dk_159 0 43 (dk_at dksL_law_66 17 rfl rfl)
theorem dL_law_1706 : decode cL_law 1706 = .ok (.iconst 0, 1) := dk_3 (dk_at dksL_law_66 20 rfl rfl)
theorem dL_law_1707 : decode cL_law 1707 = .ok (.ireturn, 1) := dk_172 (dk_at dksL_law_66 21 rfl rfl)
theorem dL_law_1708 : decode cL_law 1708 = .ok (.aload_n 1, 1) := dk_43 (dk_at dksL_law_66 22 rfl rfl)
theorem dL_law_1709 : decode cL_law 1709 = .ok (.invokevirtual 170, 3) := dk_182 0 170 (dk_at dksL_law_67 0 rfl rfl)
theorem dL_law_1712 : decode cL_law 1712 = .ok (.aload_n 2, 1) := dk_44 (dk_at dksL_law_67 3 rfl rfl)
theorem dL_law_1713 : decode cL_law 1713 = .ok (.invokevirtual 173, 3) := dk_182 0 173 (dk_at dksL_law_67 4 rfl rfl)
theorem dL_law_1716 : decode cL_law 1716 = .ok (.if_icmp .eq 30, 3) := dk_159 0 30 (dk_at dksL_law_67 7 rfl rfl)
theorem dL_law_1719 : decode cL_law 1719 = .ok (.iconst 0, 1) := dk_3 (dk_at dksL_law_67 10 rfl rfl)
theorem dL_law_1720 : decode cL_law 1720 = .ok (.ireturn, 1) := dk_172 (dk_at dksL_law_67 11 rfl rfl)
theorem dL_law_1721 : decode cL_law 1721 = .ok (.aload_n 1, 1) := dk_43 (dk_at dksL_law_67 12 rfl rfl)
theorem dL_law_1722 : decode cL_law 1722 = .ok (.aload_n 0, 1) := dk_42 (dk_at dksL_law_67 13 rfl rfl)
theorem dL_law_1723 : decode cL_law 1723 = .ok (.iload 4, 2) := dk_21 4 (dk_at dksL_law_67 14 rfl rfl)
theorem dL_law_1725 : decode cL_law 1725 = .ok (.iconst 1, 1) := dk_4 (dk_at dksL_law_67 16 rfl rfl)
theorem dL_law_1726 : decode cL_law 1726 = .ok (.iadd, 1) := dk_96 (dk_at dksL_law_67 17 rfl rfl)
theorem dL_law_1727 : decode cL_law 1727 = .ok (.iaload, 1) := dk_46 (dk_at dksL_law_67 18 rfl rfl)
theorem dL_law_1728 : decode cL_law 1728 = .ok (.invokevirtual 174, 3) := dk_182 0 174 (dk_at dksL_law_67 19 rfl rfl)
theorem dL_law_1731 : decode cL_law 1731 = .ok (.aload_n 2, 1) := dk_44 (dk_at dksL_law_67 22 rfl rfl)
theorem dL_law_1732 : decode cL_law 1732 = .ok (.aload_n 0, 1) := dk_42 (dk_at dksL_law_67 23 rfl rfl)
theorem dL_law_1733 : decode cL_law 1733 = .ok (.iload 4, 2) := dk_21 4 (dk_at dksL_law_68 0 rfl rfl)
theorem dL_law_1735 : decode cL_law 1735 = .ok (.iconst 1, 1) := dk_4 (dk_at dksL_law_68 2 rfl rfl)
theorem dL_law_1736 : decode cL_law 1736 = .ok (.iadd, 1) := dk_96 (dk_at dksL_law_68 3 rfl rfl)
theorem dL_law_1737 : decode cL_law 1737 = .ok (.iaload, 1) := dk_46 (dk_at dksL_law_68 4 rfl rfl)
theorem dL_law_1738 : decode cL_law 1738 = .ok (.invokevirtual 177, 3) := dk_182 0 177 (dk_at dksL_law_68 5 rfl rfl)
theorem dL_law_1741 : decode cL_law 1741 = .ok (.if_icmp .eq 5, 3) := dk_159 0 5 (dk_at dksL_law_68 8 rfl rfl)
theorem dL_law_1744 : decode cL_law 1744 = .ok (.iconst 0, 1) := dk_3 (dk_at dksL_law_68 11 rfl rfl)
theorem dL_law_1745 : decode cL_law 1745 = .ok (.ireturn, 1) := dk_172 (dk_at dksL_law_68 12 rfl rfl)
theorem dL_law_1746 : decode cL_law 1746 = .ok (.iinc 4 6, 3) := dk_132 4 6 (dk_at dksL_law_68 13 rfl rfl)
theorem dL_law_1749 : decode cL_law 1749 = .ok (.goto (-1726), 3) := dk_167 249 66 (dk_at dksL_law_68 16 rfl rfl)
theorem dL_law_1752 : decode cL_law 1752 = .ok (.iconst 1, 1) := dk_4 (dk_at dksL_law_68 19 rfl rfl)
theorem dL_law_1753 : decode cL_law 1753 = .ok (.ireturn, 1) := dk_172 (dk_at dksL_law_68 20 rfl rfl)
