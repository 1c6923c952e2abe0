/-! HeirsAtLawLaw -/
set_option maxRecDepth 100000
def RX0 : String := "HeirsAtLawLaw"
abbrev cX0_person : ByteArray := method_3_code
def yX0_person : MethodName := ⟨RX0, "person", "(LHeirsAtLaw;II[J)I"⟩
def dkwX0_person_0 : List UInt8 := [45, 3, 42, 27, 28, 182, 0, 7, 133, 80, 167, 0, 7, 58, 4, 4, 172, 3, 172]
abbrev dktX0_person_0 : List UInt8 := dkwX0_person_0 ++ []
theorem dksX0_person_0 : cX0_person.data.toList.drop 0 = dktX0_person_0 := by decide +kernel
theorem dX0_person_0 : decode cX0_person 0 = .ok (.aload_n 3, 1) := dk_45 (dk_at dksX0_person_0 0 rfl rfl)
theorem dX0_person_1 : decode cX0_person 1 = .ok (.iconst 0, 1) := dk_3 (dk_at dksX0_person_0 1 rfl rfl)
theorem dX0_person_2 : decode cX0_person 2 = .ok (.aload_n 0, 1) := dk_42 (dk_at dksX0_person_0 2 rfl rfl)
theorem dX0_person_3 : decode cX0_person 3 = .ok (.iload_n 1, 1) := dk_27 (dk_at dksX0_person_0 3 rfl rfl)
theorem dX0_person_4 : decode cX0_person 4 = .ok (.iload_n 2, 1) := dk_28 (dk_at dksX0_person_0 4 rfl rfl)
theorem dX0_person_5 : decode cX0_person 5 = .ok (.invokevirtual 7, 3) := dk_182 0 7 (dk_at dksX0_person_0 5 rfl rfl)
theorem dX0_person_8 : decode cX0_person 8 = .ok (.i2l, 1) := dk_133 (dk_at dksX0_person_0 8 rfl rfl)
theorem dX0_person_9 : decode cX0_person 9 = .ok (.lastore, 1) := dk_80 (dk_at dksX0_person_0 9 rfl rfl)
theorem dX0_person_10 : decode cX0_person 10 = .ok (.goto 7, 3) := dk_167 0 7 (dk_at dksX0_person_0 10 rfl rfl)
theorem dX0_person_13 : decode cX0_person 13 = .ok (.astore 4, 2) := dk_58 4 (dk_at dksX0_person_0 13 rfl rfl)
theorem dX0_person_15 : decode cX0_person 15 = .ok (.iconst 1, 1) := dk_4 (dk_at dksX0_person_0 15 rfl rfl)
theorem dX0_person_16 : decode cX0_person 16 = .ok (.ireturn, 1) := dk_172 (dk_at dksX0_person_0 16 rfl rfl)
theorem dX0_person_17 : decode cX0_person 17 = .ok (.iconst 0, 1) := dk_3 (dk_at dksX0_person_0 17 rfl rfl)
theorem dX0_person_18 : decode cX0_person 18 = .ok (.ireturn, 1) := dk_172 (dk_at dksX0_person_0 18 rfl rfl)
abbrev cX0_mean : ByteArray := method_4_code
def yX0_mean : MethodName := ⟨RX0, "mean", "(LHeirsAtLaw;I[J)I"⟩
def dkwX0_mean_0 : List UInt8 := [44, 3, 42, 27, 182, 0, 15, 133, 80, 167, 0, 6, 78, 4, 172, 3, 172]
abbrev dktX0_mean_0 : List UInt8 := dkwX0_mean_0 ++ []
theorem dksX0_mean_0 : cX0_mean.data.toList.drop 0 = dktX0_mean_0 := by decide +kernel
theorem dX0_mean_0 : decode cX0_mean 0 = .ok (.aload_n 2, 1) := dk_44 (dk_at dksX0_mean_0 0 rfl rfl)
theorem dX0_mean_1 : decode cX0_mean 1 = .ok (.iconst 0, 1) := dk_3 (dk_at dksX0_mean_0 1 rfl rfl)
theorem dX0_mean_2 : decode cX0_mean 2 = .ok (.aload_n 0, 1) := dk_42 (dk_at dksX0_mean_0 2 rfl rfl)
theorem dX0_mean_3 : decode cX0_mean 3 = .ok (.iload_n 1, 1) := dk_27 (dk_at dksX0_mean_0 3 rfl rfl)
theorem dX0_mean_4 : decode cX0_mean 4 = .ok (.invokevirtual 15, 3) := dk_182 0 15 (dk_at dksX0_mean_0 4 rfl rfl)
theorem dX0_mean_7 : decode cX0_mean 7 = .ok (.i2l, 1) := dk_133 (dk_at dksX0_mean_0 7 rfl rfl)
theorem dX0_mean_8 : decode cX0_mean 8 = .ok (.lastore, 1) := dk_80 (dk_at dksX0_mean_0 8 rfl rfl)
theorem dX0_mean_9 : decode cX0_mean 9 = .ok (.goto 6, 3) := dk_167 0 6 (dk_at dksX0_mean_0 9 rfl rfl)
theorem dX0_mean_12 : decode cX0_mean 12 = .ok (.astore_n 3, 1) := dk_78 (dk_at dksX0_mean_0 12 rfl rfl)
theorem dX0_mean_13 : decode cX0_mean 13 = .ok (.iconst 1, 1) := dk_4 (dk_at dksX0_mean_0 13 rfl rfl)
theorem dX0_mean_14 : decode cX0_mean 14 = .ok (.ireturn, 1) := dk_172 (dk_at dksX0_mean_0 14 rfl rfl)
theorem dX0_mean_15 : decode cX0_mean 15 = .ok (.iconst 0, 1) := dk_3 (dk_at dksX0_mean_0 15 rfl rfl)
theorem dX0_mean_16 : decode cX0_mean 16 = .ok (.ireturn, 1) := dk_172 (dk_at dksX0_mean_0 16 rfl rfl)
theorem q124 : (Jvm.Cond.initialized "HeirsAtLawLaw") ∈ lw_all := lw_g (lw_at lw_m1 0 rfl) rfl
theorem q174 : (Jvm.Cond.classLink "HeirsAtLawLaw" (8 : Nat) "HeirsAtLaw") ∈ lw_all := lw_g (lw_at lw_m1 50 rfl) rfl
theorem q176 : (Jvm.Cond.methodLink "HeirsAtLawLaw" (19 : Nat) ({ cls := "HeirsAtLaw", name := "<init>", desc := "()V" } : Jvm.MethodName)) ∈ lw_all := lw_g (lw_at lw_m1 52 rfl) rfl
theorem q542 : (Jvm.Cond.methodLink "HeirsAtLawLaw" (23 : Nat) ({ cls := "HeirsAtLaw", name := "feed", desc := "(IIIII)I" } : Jvm.MethodName)) ∈ lw_all := lw_g (lw_at lw_m2 178 rfl) rfl
theorem q550 : (Jvm.Cond.methodLink "HeirsAtLawLaw" (28 : Nat) ({ cls := "HeirsAtLaw", name := "end", desc := "(I)Z" } : Jvm.MethodName)) ∈ lw_all := lw_g (lw_at lw_m2 186 rfl) rfl
theorem q554 : (Jvm.Cond.methodLink "HeirsAtLawLaw" (33 : Nat) ({ cls := "HeirsAtLaw", name := "family", desc := "()I" } : Jvm.MethodName)) ∈ lw_all := lw_g (lw_at lw_m2 190 rfl) rfl
theorem q1178 : (Jvm.Cond.methodLink "HeirsAtLawLaw" (38 : Nat) ({ cls := "HeirsAtLaw", name := "fault", desc := "()I" } : Jvm.MethodName)) ∈ lw_all := lw_g (lw_at lw_m5 94 rfl) rfl
theorem q1182 : (Jvm.Cond.methodLink "HeirsAtLawLaw" (51 : Nat) ({ cls := "HeirsAtLaw", name := "legacy", desc := "(II)I" } : Jvm.MethodName)) ∈ lw_all := lw_g (lw_at lw_m5 98 rfl) rfl
theorem q1187 : (Jvm.Cond.methodLink "HeirsAtLawLaw" (55 : Nat) ({ cls := "HeirsAtLaw", name := "degree", desc := "(II)I" } : Jvm.MethodName)) ∈ lw_all := lw_g (lw_at lw_m5 103 rfl) rfl
theorem q1212 : (Jvm.Cond.methodLink "HeirsAtLawLaw" (59 : Nat) ({ cls := "HeirsAtLaw", name := "now", desc := "(I)I" } : Jvm.MethodName)) ∈ lw_all := lw_g (lw_at lw_m5 128 rfl) rfl
theorem q1233 : (Jvm.Cond.methodLink "HeirsAtLawLaw" (63 : Nat) ({ cls := "HeirsAtLaw", name := "die", desc := "(I)I" } : Jvm.MethodName)) ∈ lw_all := lw_g (lw_at lw_m5 149 rfl) rfl
theorem q1414 : (Jvm.Cond.methodLink "HeirsAtLawLaw" (67 : Nat) ({ cls := "HeirsAtLaw", name := "wed", desc := "(II)I" } : Jvm.MethodName)) ∈ lw_all := lw_g (lw_at lw_m6 90 rfl) rfl
theorem q1442 : (Jvm.Cond.methodLink "HeirsAtLawLaw" (71 : Nat) ({ cls := "HeirsAtLaw", name := "part", desc := "(I)I" } : Jvm.MethodName)) ∈ lw_all := lw_g (lw_at lw_m6 118 rfl) rfl
theorem q1454 : (Jvm.Cond.methodLink "HeirsAtLawLaw" (75 : Nat) ({ cls := "HeirsAtLaw", name := "give", desc := "(III)I" } : Jvm.MethodName)) ∈ lw_all := lw_g (lw_at lw_m6 130 rfl) rfl
theorem q1470 : (Jvm.Cond.methodLink "HeirsAtLawLaw" (80 : Nat) ({ cls := "HeirsAtLaw", name := "leave", desc := "(III)I" } : Jvm.MethodName)) ∈ lw_all := lw_g (lw_at lw_m6 146 rfl) rfl
theorem q1486 : (Jvm.Cond.methodLink "HeirsAtLawLaw" (84 : Nat) ({ cls := "HeirsAtLaw", name := "revoke", desc := "(I)I" } : Jvm.MethodName)) ∈ lw_all := lw_g (lw_at lw_m6 162 rfl) rfl
theorem q1498 : (Jvm.Cond.methodLink "HeirsAtLawLaw" (88 : Nat) ({ cls := "HeirsAtLaw", name := "years", desc := "(I)I" } : Jvm.MethodName)) ∈ lw_all := lw_g (lw_at lw_m6 174 rfl) rfl
theorem q1504 : (Jvm.Cond.methodLink "HeirsAtLawLaw" (92 : Nat) ({ cls := "HeirsAtLaw", name := "undo", desc := "()I" } : Jvm.MethodName)) ∈ lw_all := lw_g (lw_at lw_m6 180 rfl) rfl
theorem q1508 : (Jvm.Cond.methodLink "HeirsAtLawLaw" (96 : Nat) ({ cls := "HeirsAtLaw", name := "gets", desc := "(II)I" } : Jvm.MethodName)) ∈ lw_all := lw_g (lw_at lw_m6 184 rfl) rfl
theorem q1518 : (Jvm.Cond.methodLink "HeirsAtLawLaw" (100 : Nat) ({ cls := "HeirsAtLaw", name := "after", desc := "()I" } : Jvm.MethodName)) ∈ lw_all := lw_g (lw_at lw_m6 194 rfl) rfl
theorem q1532 : (Jvm.Cond.methodLink "HeirsAtLawLaw" (104 : Nat) ({ cls := "HeirsAtLaw", name := "afterOf", desc := "(I)I" } : Jvm.MethodName)) ∈ lw_all := lw_g (lw_at lw_m6 208 rfl) rfl
theorem q1536 : (Jvm.Cond.methodLink "HeirsAtLawLaw" (108 : Nat) ({ cls := "HeirsAtLaw", name := "best", desc := "(I)I" } : Jvm.MethodName)) ∈ lw_all := lw_g (lw_at lw_m6 212 rfl) rfl
theorem q1548 : (Jvm.Cond.methodLink "HeirsAtLawLaw" (112 : Nat) ({ cls := "HeirsAtLaw", name := "bestAt", desc := "(I)I" } : Jvm.MethodName)) ∈ lw_all := lw_g (lw_at lw_m6 224 rfl) rfl
theorem q1552 : (Jvm.Cond.methodLink "HeirsAtLawLaw" (116 : Nat) ({ cls := "HeirsAtLaw", name := "clear", desc := "(II)I" } : Jvm.MethodName)) ∈ lw_all := lw_g (lw_at lw_m6 228 rfl) rfl
theorem q1561 : (Jvm.Cond.methodLink "HeirsAtLawLaw" (120 : Nat) ({ cls := "HeirsAtLaw", name := "cleared", desc := "()I" } : Jvm.MethodName)) ∈ lw_all := lw_g (lw_at lw_m6 237 rfl) rfl
theorem q1565 : (Jvm.Cond.methodLink "HeirsAtLawLaw" (124 : Nat) ({ cls := "HeirsAtLaw", name := "fits", desc := "()I" } : Jvm.MethodName)) ∈ lw_all := lw_g (lw_at lw_m7 1 rfl) rfl
theorem q1578 : (Jvm.Cond.methodLink "HeirsAtLawLaw" (128 : Nat) ({ cls := "HeirsAtLaw", name := "ask", desc := "()I" } : Jvm.MethodName)) ∈ lw_all := lw_g (lw_at lw_m7 14 rfl) rfl
theorem q1582 : (Jvm.Cond.methodLink "HeirsAtLawLaw" (132 : Nat) ({ cls := "HeirsAtLaw", name := "crown", desc := "(I)I" } : Jvm.MethodName)) ∈ lw_all := lw_g (lw_at lw_m7 18 rfl) rfl
theorem q1587 : (Jvm.Cond.methodLink "HeirsAtLawLaw" (136 : Nat) ({ cls := "HeirsAtLaw", name := "richest", desc := "()I" } : Jvm.MethodName)) ∈ lw_all := lw_g (lw_at lw_m7 23 rfl) rfl
theorem q1595 : (Jvm.Cond.methodLink "HeirsAtLawLaw" (140 : Nat) ({ cls := "HeirsAtLaw", name := "eldest", desc := "()I" } : Jvm.MethodName)) ∈ lw_all := lw_g (lw_at lw_m7 31 rfl) rfl
theorem q1604 : (Jvm.Cond.methodLink "HeirsAtLawLaw" (148 : Nat) ({ cls := "HeirsAtLaw", name := "tag", desc := "(I)I" } : Jvm.MethodName)) ∈ lw_all := lw_g (lw_at lw_m7 40 rfl) rfl
theorem q1652 : (Jvm.Cond.methodLink "HeirsAtLawLaw" (152 : Nat) ({ cls := "HeirsAtLaw", name := "byteAt", desc := "(I)I" } : Jvm.MethodName)) ∈ lw_all := lw_g (lw_at lw_m7 88 rfl) rfl
theorem q1667 : (Jvm.Cond.methodLink "HeirsAtLawLaw" (156 : Nat) ({ cls := "HeirsAtLaw", name := "drawn", desc := "(II)I" } : Jvm.MethodName)) ∈ lw_all := lw_g (lw_at lw_m7 103 rfl) rfl
theorem q1693 : (Jvm.Cond.methodLink "HeirsAtLawLaw" (160 : Nat) ({ cls := "HeirsAtLaw", name := "odds", desc := "(III)I" } : Jvm.MethodName)) ∈ lw_all := lw_g (lw_at lw_m7 129 rfl) rfl
theorem q1697 : (Jvm.Cond.methodLink "HeirsAtLawLaw" (164 : Nat) ({ cls := "HeirsAtLaw", name := "book", desc := "(I)I" } : Jvm.MethodName)) ∈ lw_all := lw_g (lw_at lw_m7 133 rfl) rfl
theorem q1789 : (Jvm.Cond.methodLink "HeirsAtLawLaw" (168 : Nat) ({ cls := "HeirsAtLaw", name := "told", desc := "(I)I" } : Jvm.MethodName)) ∈ lw_all := lw_g (lw_at lw_m7 225 rfl) rfl
theorem q1793 : (Jvm.Cond.methodLink "HeirsAtLawLaw" (172 : Nat) ({ cls := "HeirsAtLaw", name := "sentence", desc := "()I" } : Jvm.MethodName)) ∈ lw_all := lw_g (lw_at lw_m7 229 rfl) rfl
theorem q1948 : (Jvm.Cond.methodLink "HeirsAtLawLaw" (176 : Nat) ({ cls := "HeirsAtLaw", name := "said", desc := "(I)I" } : Jvm.MethodName)) ∈ lw_all := lw_g (lw_at lw_m8 144 rfl) rfl
theorem q1981 : (Jvm.Cond.methodLink "HeirsAtLawLaw" (180 : Nat) ({ cls := "HeirsAtLaw", name := "image", desc := "(I)Z" } : Jvm.MethodName)) ∈ lw_all := lw_g (lw_at lw_m8 177 rfl) rfl
theorem q1985 : (Jvm.Cond.methodLink "HeirsAtLawLaw" (184 : Nat) ({ cls := "HeirsAtLaw", name := "restore", desc := "(I)Z" } : Jvm.MethodName)) ∈ lw_all := lw_g (lw_at lw_m8 181 rfl) rfl
theorem q1989 : (Jvm.Cond.methodLink "HeirsAtLawLaw" (188 : Nat) ({ cls := "HeirsAtLaw", name := "count", desc := "(I)I" } : Jvm.MethodName)) ∈ lw_all := lw_g (lw_at lw_m8 185 rfl) rfl
theorem q1993 : (Jvm.Cond.methodLink "HeirsAtLawLaw" (42 : Nat) ({ cls := "HeirsAtLawLaw", name := "person", desc := "(LHeirsAtLaw;II[J)I" } : Jvm.MethodName)) ∈ lw_all := lw_g (lw_at lw_m8 189 rfl) rfl
theorem q1994 : (Jvm.Cond.static ({ cls := "HeirsAtLawLaw", name := "person", desc := "(LHeirsAtLaw;II[J)I" } : Jvm.MethodName)) ∈ lw_all := lw_g (lw_at lw_m8 190 rfl) rfl
theorem q1995 : (Jvm.Cond.codeWith ({ cls := "HeirsAtLawLaw", name := "person", desc := "(LHeirsAtLaw;II[J)I" } : Jvm.MethodName) method_3_code (5 : Nat) (Option.some Jvm.ClassFile.FieldType.int) [((0 : Nat), (10 : Nat), (13 : Nat), (13 : Nat))]) ∈ lw_all := lw_g (lw_at lw_m8 191 rfl) rfl
theorem q1996 : (Jvm.Cond.classLink "HeirsAtLawLaw" (13 : Nat) "java/util/NoSuchElementException") ∈ lw_all := lw_g (lw_at lw_m8 192 rfl) rfl
theorem q1997 : (Jvm.Cond.methodLink "HeirsAtLawLaw" (7 : Nat) ({ cls := "HeirsAtLaw", name := "person", desc := "(II)I" } : Jvm.MethodName)) ∈ lw_all := lw_g (lw_at lw_m8 193 rfl) rfl
theorem q2008 : (Jvm.Cond.methodLink "HeirsAtLawLaw" (144 : Nat) ({ cls := "HeirsAtLawLaw", name := "mean", desc := "(LHeirsAtLaw;I[J)I" } : Jvm.MethodName)) ∈ lw_all := lw_g (lw_at lw_m8 204 rfl) rfl
theorem q2009 : (Jvm.Cond.static ({ cls := "HeirsAtLawLaw", name := "mean", desc := "(LHeirsAtLaw;I[J)I" } : Jvm.MethodName)) ∈ lw_all := lw_g (lw_at lw_m8 205 rfl) rfl
theorem q2010 : (Jvm.Cond.codeWith ({ cls := "HeirsAtLawLaw", name := "mean", desc := "(LHeirsAtLaw;I[J)I" } : Jvm.MethodName) method_4_code (4 : Nat) (Option.some Jvm.ClassFile.FieldType.int) [((0 : Nat), (9 : Nat), (12 : Nat), (13 : Nat))]) ∈ lw_all := lw_g (lw_at lw_m8 206 rfl) rfl
theorem q2011 : (Jvm.Cond.methodLink "HeirsAtLawLaw" (15 : Nat) ({ cls := "HeirsAtLaw", name := "mean", desc := "(I)I" } : Jvm.MethodName)) ∈ lw_all := lw_g (lw_at lw_m8 207 rfl) rfl
theorem q2018 : (Jvm.Cond.methodLink "HeirsAtLawLaw" (48 : Nat) ({ cls := "HeirsAtLawModel", name := "thrown", desc := "()I" } : Jvm.MethodName)) ∈ lw_all := lw_g (lw_at lw_m8 214 rfl) rfl
theorem q2022 : (Jvm.Cond.methodLink "HeirsAtLawLaw" (27 : Nat) ({ cls := "HeirsAtLawModel", name := "feed", desc := "(IIIII)I" } : Jvm.MethodName)) ∈ lw_all := lw_g (lw_at lw_m8 218 rfl) rfl
theorem q2031 : (Jvm.Cond.methodLink "HeirsAtLawLaw" (32 : Nat) ({ cls := "HeirsAtLawModel", name := "end", desc := "(I)Z" } : Jvm.MethodName)) ∈ lw_all := lw_g (lw_at lw_m8 227 rfl) rfl
theorem q2035 : (Jvm.Cond.classLink "HeirsAtLawLaw" (20 : Nat) "HeirsAtLawModel") ∈ lw_all := lw_g (lw_at lw_m8 231 rfl) rfl
theorem q2036 : (Jvm.Cond.methodLink "HeirsAtLawLaw" (22 : Nat) ({ cls := "HeirsAtLawModel", name := "<init>", desc := "()V" } : Jvm.MethodName)) ∈ lw_all := lw_g (lw_at lw_m8 232 rfl) rfl
theorem q2226 : (Jvm.Cond.methodLink "HeirsAtLawLaw" (37 : Nat) ({ cls := "HeirsAtLawModel", name := "family", desc := "()I" } : Jvm.MethodName)) ∈ lw_all := lw_g (lw_at lw_m9 182 rfl) rfl
theorem q2325 : (Jvm.Cond.methodLink "HeirsAtLawLaw" (41 : Nat) ({ cls := "HeirsAtLawModel", name := "fault", desc := "()I" } : Jvm.MethodName)) ∈ lw_all := lw_g (lw_at lw_m10 41 rfl) rfl
theorem q2329 : (Jvm.Cond.methodLink "HeirsAtLawLaw" (47 : Nat) ({ cls := "HeirsAtLawModel", name := "person", desc := "(II)I" } : Jvm.MethodName)) ∈ lw_all := lw_g (lw_at lw_m10 45 rfl) rfl
theorem q2365 : (Jvm.Cond.methodLink "HeirsAtLawLaw" (54 : Nat) ({ cls := "HeirsAtLawModel", name := "legacy", desc := "(II)I" } : Jvm.MethodName)) ∈ lw_all := lw_g (lw_at lw_m10 81 rfl) rfl
theorem q2369 : (Jvm.Cond.methodLink "HeirsAtLawLaw" (58 : Nat) ({ cls := "HeirsAtLawModel", name := "degree", desc := "(II)I" } : Jvm.MethodName)) ∈ lw_all := lw_g (lw_at lw_m10 85 rfl) rfl
theorem q2381 : (Jvm.Cond.methodLink "HeirsAtLawLaw" (62 : Nat) ({ cls := "HeirsAtLawModel", name := "now", desc := "(I)I" } : Jvm.MethodName)) ∈ lw_all := lw_g (lw_at lw_m10 97 rfl) rfl
theorem q2389 : (Jvm.Cond.methodLink "HeirsAtLawLaw" (66 : Nat) ({ cls := "HeirsAtLawModel", name := "die", desc := "(I)I" } : Jvm.MethodName)) ∈ lw_all := lw_g (lw_at lw_m10 105 rfl) rfl
theorem q2432 : (Jvm.Cond.methodLink "HeirsAtLawLaw" (70 : Nat) ({ cls := "HeirsAtLawModel", name := "wed", desc := "(II)I" } : Jvm.MethodName)) ∈ lw_all := lw_g (lw_at lw_m10 148 rfl) rfl
theorem q2448 : (Jvm.Cond.methodLink "HeirsAtLawLaw" (74 : Nat) ({ cls := "HeirsAtLawModel", name := "part", desc := "(I)I" } : Jvm.MethodName)) ∈ lw_all := lw_g (lw_at lw_m10 164 rfl) rfl
theorem q2452 : (Jvm.Cond.methodLink "HeirsAtLawLaw" (79 : Nat) ({ cls := "HeirsAtLawModel", name := "give", desc := "(III)I" } : Jvm.MethodName)) ∈ lw_all := lw_g (lw_at lw_m10 168 rfl) rfl
theorem q2464 : (Jvm.Cond.methodLink "HeirsAtLawLaw" (83 : Nat) ({ cls := "HeirsAtLawModel", name := "leave", desc := "(III)I" } : Jvm.MethodName)) ∈ lw_all := lw_g (lw_at lw_m10 180 rfl) rfl
theorem q2476 : (Jvm.Cond.methodLink "HeirsAtLawLaw" (87 : Nat) ({ cls := "HeirsAtLawModel", name := "revoke", desc := "(I)I" } : Jvm.MethodName)) ∈ lw_all := lw_g (lw_at lw_m10 192 rfl) rfl
theorem q2480 : (Jvm.Cond.methodLink "HeirsAtLawLaw" (91 : Nat) ({ cls := "HeirsAtLawModel", name := "years", desc := "(I)I" } : Jvm.MethodName)) ∈ lw_all := lw_g (lw_at lw_m10 196 rfl) rfl
theorem q2492 : (Jvm.Cond.methodLink "HeirsAtLawLaw" (95 : Nat) ({ cls := "HeirsAtLawModel", name := "undo", desc := "()I" } : Jvm.MethodName)) ∈ lw_all := lw_g (lw_at lw_m10 208 rfl) rfl
theorem q2496 : (Jvm.Cond.methodLink "HeirsAtLawLaw" (99 : Nat) ({ cls := "HeirsAtLawModel", name := "gets", desc := "(II)I" } : Jvm.MethodName)) ∈ lw_all := lw_g (lw_at lw_m10 212 rfl) rfl
theorem q2512 : (Jvm.Cond.methodLink "HeirsAtLawLaw" (103 : Nat) ({ cls := "HeirsAtLawModel", name := "after", desc := "()I" } : Jvm.MethodName)) ∈ lw_all := lw_g (lw_at lw_m10 228 rfl) rfl
theorem q2524 : (Jvm.Cond.methodLink "HeirsAtLawLaw" (107 : Nat) ({ cls := "HeirsAtLawModel", name := "afterOf", desc := "(I)I" } : Jvm.MethodName)) ∈ lw_all := lw_g (lw_at lw_m11 0 rfl) rfl
theorem q2528 : (Jvm.Cond.methodLink "HeirsAtLawLaw" (111 : Nat) ({ cls := "HeirsAtLawModel", name := "best", desc := "(I)I" } : Jvm.MethodName)) ∈ lw_all := lw_g (lw_at lw_m11 4 rfl) rfl
theorem q2541 : (Jvm.Cond.methodLink "HeirsAtLawLaw" (115 : Nat) ({ cls := "HeirsAtLawModel", name := "bestAt", desc := "(I)I" } : Jvm.MethodName)) ∈ lw_all := lw_g (lw_at lw_m11 17 rfl) rfl
theorem q2545 : (Jvm.Cond.methodLink "HeirsAtLawLaw" (119 : Nat) ({ cls := "HeirsAtLawModel", name := "clear", desc := "(II)I" } : Jvm.MethodName)) ∈ lw_all := lw_g (lw_at lw_m11 21 rfl) rfl
theorem q2553 : (Jvm.Cond.methodLink "HeirsAtLawLaw" (123 : Nat) ({ cls := "HeirsAtLawModel", name := "cleared", desc := "()I" } : Jvm.MethodName)) ∈ lw_all := lw_g (lw_at lw_m11 29 rfl) rfl
theorem q2557 : (Jvm.Cond.methodLink "HeirsAtLawLaw" (127 : Nat) ({ cls := "HeirsAtLawModel", name := "fits", desc := "()I" } : Jvm.MethodName)) ∈ lw_all := lw_g (lw_at lw_m11 33 rfl) rfl
theorem q2572 : (Jvm.Cond.methodLink "HeirsAtLawLaw" (131 : Nat) ({ cls := "HeirsAtLawModel", name := "ask", desc := "()I" } : Jvm.MethodName)) ∈ lw_all := lw_g (lw_at lw_m11 48 rfl) rfl
theorem q2576 : (Jvm.Cond.methodLink "HeirsAtLawLaw" (135 : Nat) ({ cls := "HeirsAtLawModel", name := "crown", desc := "(I)I" } : Jvm.MethodName)) ∈ lw_all := lw_g (lw_at lw_m11 52 rfl) rfl
theorem q2580 : (Jvm.Cond.methodLink "HeirsAtLawLaw" (139 : Nat) ({ cls := "HeirsAtLawModel", name := "richest", desc := "()I" } : Jvm.MethodName)) ∈ lw_all := lw_g (lw_at lw_m11 56 rfl) rfl
theorem q2588 : (Jvm.Cond.methodLink "HeirsAtLawLaw" (143 : Nat) ({ cls := "HeirsAtLawModel", name := "eldest", desc := "()I" } : Jvm.MethodName)) ∈ lw_all := lw_g (lw_at lw_m11 64 rfl) rfl
theorem q2592 : (Jvm.Cond.methodLink "HeirsAtLawLaw" (147 : Nat) ({ cls := "HeirsAtLawModel", name := "mean", desc := "(I)I" } : Jvm.MethodName)) ∈ lw_all := lw_g (lw_at lw_m11 68 rfl) rfl
theorem q2596 : (Jvm.Cond.methodLink "HeirsAtLawLaw" (151 : Nat) ({ cls := "HeirsAtLawModel", name := "tag", desc := "(I)I" } : Jvm.MethodName)) ∈ lw_all := lw_g (lw_at lw_m11 72 rfl) rfl
theorem q2619 : (Jvm.Cond.methodLink "HeirsAtLawLaw" (155 : Nat) ({ cls := "HeirsAtLawModel", name := "byteAt", desc := "(I)I" } : Jvm.MethodName)) ∈ lw_all := lw_g (lw_at lw_m11 95 rfl) rfl
theorem q2623 : (Jvm.Cond.methodLink "HeirsAtLawLaw" (159 : Nat) ({ cls := "HeirsAtLawModel", name := "drawn", desc := "(II)I" } : Jvm.MethodName)) ∈ lw_all := lw_g (lw_at lw_m11 99 rfl) rfl
theorem q2640 : (Jvm.Cond.methodLink "HeirsAtLawLaw" (163 : Nat) ({ cls := "HeirsAtLawModel", name := "odds", desc := "(III)I" } : Jvm.MethodName)) ∈ lw_all := lw_g (lw_at lw_m11 116 rfl) rfl
theorem q2644 : (Jvm.Cond.methodLink "HeirsAtLawLaw" (167 : Nat) ({ cls := "HeirsAtLawModel", name := "book", desc := "(I)I" } : Jvm.MethodName)) ∈ lw_all := lw_g (lw_at lw_m11 120 rfl) rfl
theorem q2656 : (Jvm.Cond.methodLink "HeirsAtLawLaw" (171 : Nat) ({ cls := "HeirsAtLawModel", name := "told", desc := "(I)I" } : Jvm.MethodName)) ∈ lw_all := lw_g (lw_at lw_m11 132 rfl) rfl
theorem q2660 : (Jvm.Cond.methodLink "HeirsAtLawLaw" (175 : Nat) ({ cls := "HeirsAtLawModel", name := "sentence", desc := "()I" } : Jvm.MethodName)) ∈ lw_all := lw_g (lw_at lw_m11 136 rfl) rfl
theorem q2688 : (Jvm.Cond.methodLink "HeirsAtLawLaw" (179 : Nat) ({ cls := "HeirsAtLawModel", name := "said", desc := "(I)I" } : Jvm.MethodName)) ∈ lw_all := lw_g (lw_at lw_m11 164 rfl) rfl
theorem q2700 : (Jvm.Cond.methodLink "HeirsAtLawLaw" (183 : Nat) ({ cls := "HeirsAtLawModel", name := "image", desc := "(I)Z" } : Jvm.MethodName)) ∈ lw_all := lw_g (lw_at lw_m11 176 rfl) rfl
theorem q2704 : (Jvm.Cond.methodLink "HeirsAtLawLaw" (187 : Nat) ({ cls := "HeirsAtLawModel", name := "restore", desc := "(I)Z" } : Jvm.MethodName)) ∈ lw_all := lw_g (lw_at lw_m11 180 rfl) rfl
theorem q2708 : (Jvm.Cond.methodLink "HeirsAtLawLaw" (191 : Nat) ({ cls := "HeirsAtLawModel", name := "count", desc := "(I)I" } : Jvm.MethodName)) ∈ lw_all := lw_g (lw_at lw_m11 184 rfl) rfl
/-! HeirsAtLaw$Legacy -/
set_option maxRecDepth 100000
def RX10 : String := "HeirsAtLaw$Legacy"
def TX10 : u_T := fun k => match k with
  | 0 => ("HeirsAtLaw$Legacy", "from", "I", true)
  | 1 => ("HeirsAtLaw$Legacy", "to", "I", true)
  | _ => ("HeirsAtLaw$Legacy", "coins", "I", true)
def tyX10 : Nat → FieldType := fun k => match k with
  | 0 => .int
  | 1 => .int
  | _ => .int
abbrev wsX100 : List Cond := u_ws RX10 TX10 3
theorem nmX10 : ∀ a, a < 3 → ∀ b, b < 3 → a ≠ b → (TX10 a).2.1 ≠ (TX10 b).2.1 := by decide +kernel
theorem tyX10_ok : ∀ k, k < 3 → parseFieldDescriptor (TX10 k).2.2.1 = some (tyX10 k) := by decide +kernel
abbrev cX10_init : ByteArray := prog_14_method_1_code
def yX10_init : MethodName := ⟨RX10, "<init>", "(III)V"⟩
def dkwX10_init_0 : List UInt8 := [42, 183, 0, 1, 42, 27, 181, 0, 7, 42, 28, 181, 0, 13, 42, 29, 181, 0, 16, 177]
abbrev dktX10_init_0 : List UInt8 := dkwX10_init_0 ++ []
theorem dksX10_init_0 : cX10_init.data.toList.drop 0 = dktX10_init_0 := by decide +kernel
theorem dX10_init_0 : decode cX10_init 0 = .ok (.aload_n 0, 1) := dk_42 (dk_at dksX10_init_0 0 rfl rfl)
theorem dX10_init_1 : decode cX10_init 1 = .ok (.invokespecial 1, 3) := dk_183 0 1 (dk_at dksX10_init_0 1 rfl rfl)
theorem dX10_init_4 : decode cX10_init 4 = .ok (.aload_n 0, 1) := dk_42 (dk_at dksX10_init_0 4 rfl rfl)
theorem dX10_init_5 : decode cX10_init 5 = .ok (.iload_n 1, 1) := dk_27 (dk_at dksX10_init_0 5 rfl rfl)
theorem dX10_init_6 : decode cX10_init 6 = .ok (.putfield 7, 3) := dk_181 0 7 (dk_at dksX10_init_0 6 rfl rfl)
theorem dX10_init_9 : decode cX10_init 9 = .ok (.aload_n 0, 1) := dk_42 (dk_at dksX10_init_0 9 rfl rfl)
theorem dX10_init_10 : decode cX10_init 10 = .ok (.iload_n 2, 1) := dk_28 (dk_at dksX10_init_0 10 rfl rfl)
theorem dX10_init_11 : decode cX10_init 11 = .ok (.putfield 13, 3) := dk_181 0 13 (dk_at dksX10_init_0 11 rfl rfl)
theorem dX10_init_14 : decode cX10_init 14 = .ok (.aload_n 0, 1) := dk_42 (dk_at dksX10_init_0 14 rfl rfl)
theorem dX10_init_15 : decode cX10_init 15 = .ok (.iload_n 3, 1) := dk_29 (dk_at dksX10_init_0 15 rfl rfl)
theorem dX10_init_16 : decode cX10_init 16 = .ok (.putfield 16, 3) := dk_181 0 16 (dk_at dksX10_init_0 16 rfl rfl)
theorem dX10_init_19 : decode cX10_init 19 = .ok (.return_, 1) := dk_177 (dk_at dksX10_init_0 19 rfl rfl)
theorem q155 : (Jvm.Cond.initialized "HeirsAtLaw$Legacy") ∈ lw_all := lw_g (lw_at lw_m1 31 rfl) rfl
theorem q1064 : (Jvm.Cond.selects "HeirsAtLaw$Legacy" ({ cls := "java/lang/Object", name := "getClass", desc := "()Ljava/lang/Class;" } : Jvm.MethodName) ({ cls := "java/lang/Object", name := "getClass", desc := "()Ljava/lang/Class;" } : Jvm.MethodName)) ∈ lw_all := lw_g (lw_at lw_m4 220 rfl) rfl
theorem q1144 : (Jvm.Cond.instantiable "HeirsAtLaw$Legacy" (3 : Nat)) ∈ lw_all := lw_g (lw_at lw_m5 60 rfl) rfl
theorem q1146 : (Jvm.Cond.instanceMethod ({ cls := "HeirsAtLaw$Legacy", name := "<init>", desc := "(III)V" } : Jvm.MethodName)) ∈ lw_all := lw_g (lw_at lw_m5 62 rfl) rfl
theorem q1147 : (Jvm.Cond.code ({ cls := "HeirsAtLaw$Legacy", name := "<init>", desc := "(III)V" } : Jvm.MethodName) prog_14_method_1_code (4 : Nat) (Option.none : Option Jvm.ClassFile.FieldType)) ∈ lw_all := lw_g (lw_at lw_m5 63 rfl) rfl
theorem q1148 : (Jvm.Cond.methodLink "HeirsAtLaw$Legacy" (1 : Nat) ({ cls := "java/lang/Object", name := "<init>", desc := "()V" } : Jvm.MethodName)) ∈ lw_all := lw_g (lw_at lw_m5 64 rfl) rfl
theorem q1149 : (Jvm.Cond.fieldLink "HeirsAtLaw$Legacy" (7 : Nat) "HeirsAtLaw$Legacy" "from" "I") ∈ lw_all := lw_g (lw_at lw_m5 65 rfl) rfl
theorem q1151 : (Jvm.Cond.fieldLink "HeirsAtLaw$Legacy" (13 : Nat) "HeirsAtLaw$Legacy" "to" "I") ∈ lw_all := lw_g (lw_at lw_m5 67 rfl) rfl
theorem q1153 : (Jvm.Cond.fieldLink "HeirsAtLaw$Legacy" (16 : Nat) "HeirsAtLaw$Legacy" "coins" "I") ∈ lw_all := lw_g (lw_at lw_m5 69 rfl) rfl
theorem q1155 : (Jvm.Cond.laysFinal "HeirsAtLaw$Legacy" "HeirsAtLaw$Legacy" "from" "I") ∈ lw_all := lw_g (lw_at lw_m5 71 rfl) rfl
theorem q1156 : (Jvm.Cond.soleField "HeirsAtLaw$Legacy" "from") ∈ lw_all := lw_g (lw_at lw_m5 72 rfl) rfl
theorem q1157 : (Jvm.Cond.laysFinal "HeirsAtLaw$Legacy" "HeirsAtLaw$Legacy" "to" "I") ∈ lw_all := lw_g (lw_at lw_m5 73 rfl) rfl
theorem q1158 : (Jvm.Cond.soleField "HeirsAtLaw$Legacy" "to") ∈ lw_all := lw_g (lw_at lw_m5 74 rfl) rfl
theorem q1159 : (Jvm.Cond.laysFinal "HeirsAtLaw$Legacy" "HeirsAtLaw$Legacy" "coins" "I") ∈ lw_all := lw_g (lw_at lw_m5 75 rfl) rfl
theorem q1160 : (Jvm.Cond.soleField "HeirsAtLaw$Legacy" "coins") ∈ lw_all := lw_g (lw_at lw_m5 76 rfl) rfl
theorem q1161 : (Jvm.Cond.superclass "HeirsAtLaw$Legacy" "java/lang/Object") ∈ lw_all := lw_g (lw_at lw_m5 77 rfl) rfl
theorem q2765 : (Jvm.Cond.castable "HeirsAtLaw$Legacy" "java/lang/Object") ∈ lw_tbl := lw_at lw_m12 1 rfl
theorem in_X10 : ∀ w ∈ wsX100, w ∈ lw_all := lw_in wsX100 [1155, 1157, 1159] (by decide +kernel) (by decide +kernel)
/-! HeirsAtLaw$Act -/
set_option maxRecDepth 100000
def RX11 : String := "HeirsAtLaw$Act"
abbrev cX11_init : ByteArray := prog_2_method_1_code
def yX11_init : MethodName := ⟨RX11, "<init>", "()V"⟩
theorem dX11_init_0 : decode cX11_init 0 = .ok (.aload_n 0, 1) := by decide +kernel
theorem dX11_init_1 : decode cX11_init 1 = .ok (.invokespecial 1, 3) := by decide +kernel
theorem dX11_init_4 : decode cX11_init 4 = .ok (.return_, 1) := by decide +kernel
abbrev cX11_told : ByteArray := prog_2_method_3_code
def yX11_told : MethodName := ⟨RX11, "told", "(II)I"⟩
def dkwX11_told_0 : List UInt8 := [26, 154, 0, 7, 3, 167, 0, 6, 27, 26, 96, 172]
abbrev dktX11_told_0 : List UInt8 := dkwX11_told_0 ++ []
theorem dksX11_told_0 : cX11_told.data.toList.drop 0 = dktX11_told_0 := by decide +kernel
theorem dX11_told_0 : decode cX11_told 0 = .ok (.iload_n 0, 1) := dk_26 (dk_at dksX11_told_0 0 rfl rfl)
theorem dX11_told_1 : decode cX11_told 1 = .ok (.ifCond .ne 7, 3) := dk_154 0 7 (dk_at dksX11_told_0 1 rfl rfl)
theorem dX11_told_4 : decode cX11_told 4 = .ok (.iconst 0, 1) := dk_3 (dk_at dksX11_told_0 4 rfl rfl)
theorem dX11_told_5 : decode cX11_told 5 = .ok (.goto 6, 3) := dk_167 0 6 (dk_at dksX11_told_0 5 rfl rfl)
theorem dX11_told_8 : decode cX11_told 8 = .ok (.iload_n 1, 1) := dk_27 (dk_at dksX11_told_0 8 rfl rfl)
theorem dX11_told_9 : decode cX11_told 9 = .ok (.iload_n 0, 1) := dk_26 (dk_at dksX11_told_0 9 rfl rfl)
theorem dX11_told_10 : decode cX11_told 10 = .ok (.iadd, 1) := dk_96 (dk_at dksX11_told_0 10 rfl rfl)
theorem dX11_told_11 : decode cX11_told 11 = .ok (.ireturn, 1) := dk_172 (dk_at dksX11_told_0 11 rfl rfl)
theorem q156 : (Jvm.Cond.initialized "HeirsAtLaw$Act") ∈ lw_all := lw_g (lw_at lw_m1 32 rfl) rfl
theorem q1246 : (Jvm.Cond.instanceMethod ({ cls := "HeirsAtLaw$Act", name := "<init>", desc := "()V" } : Jvm.MethodName)) ∈ lw_all := lw_g (lw_at lw_m5 162 rfl) rfl
theorem q1247 : (Jvm.Cond.code ({ cls := "HeirsAtLaw$Act", name := "<init>", desc := "()V" } : Jvm.MethodName) prog_2_method_1_code (1 : Nat) (Option.none : Option Jvm.ClassFile.FieldType)) ∈ lw_all := lw_g (lw_at lw_m5 163 rfl) rfl
theorem q1248 : (Jvm.Cond.methodLink "HeirsAtLaw$Act" (1 : Nat) ({ cls := "java/lang/Object", name := "<init>", desc := "()V" } : Jvm.MethodName)) ∈ lw_all := lw_g (lw_at lw_m5 164 rfl) rfl
theorem q1278 : (Jvm.Cond.declares ({ cls := "HeirsAtLaw$Act", name := "does", desc := "(LHeirsAtLaw$Estate;)I" } : Jvm.MethodName)) ∈ lw_tbl := lw_at lw_m5 194 rfl
theorem q1279 : (Jvm.Cond.sameMethod "HeirsAtLaw$Act" "HeirsAtLaw$Act" "does" "(LHeirsAtLaw$Estate;)I") ∈ lw_all := lw_g (lw_at lw_m5 195 rfl) rfl
theorem q1350 : (Jvm.Cond.static ({ cls := "HeirsAtLaw$Act", name := "told", desc := "(II)I" } : Jvm.MethodName)) ∈ lw_all := lw_g (lw_at lw_m6 26 rfl) rfl
theorem q1351 : (Jvm.Cond.code ({ cls := "HeirsAtLaw$Act", name := "told", desc := "(II)I" } : Jvm.MethodName) prog_2_method_3_code (2 : Nat) (Option.some Jvm.ClassFile.FieldType.int)) ∈ lw_all := lw_g (lw_at lw_m6 27 rfl) rfl
/-! HeirsAtLaw$OfOne -/
set_option maxRecDepth 100000
def RX12 : String := "HeirsAtLaw$OfOne"
abbrev cX12_init : ByteArray := prog_17_method_1_code
def yX12_init : MethodName := ⟨RX12, "<init>", "(I)V"⟩
def dkwX12_init_0 : List UInt8 := [42, 183, 0, 1, 42, 27, 181, 0, 7, 177]
abbrev dktX12_init_0 : List UInt8 := dkwX12_init_0 ++ []
theorem dksX12_init_0 : cX12_init.data.toList.drop 0 = dktX12_init_0 := by decide +kernel
theorem dX12_init_0 : decode cX12_init 0 = .ok (.aload_n 0, 1) := dk_42 (dk_at dksX12_init_0 0 rfl rfl)
theorem dX12_init_1 : decode cX12_init 1 = .ok (.invokespecial 1, 3) := dk_183 0 1 (dk_at dksX12_init_0 1 rfl rfl)
theorem dX12_init_4 : decode cX12_init 4 = .ok (.aload_n 0, 1) := dk_42 (dk_at dksX12_init_0 4 rfl rfl)
theorem dX12_init_5 : decode cX12_init 5 = .ok (.iload_n 1, 1) := dk_27 (dk_at dksX12_init_0 5 rfl rfl)
theorem dX12_init_6 : decode cX12_init 6 = .ok (.putfield 7, 3) := dk_181 0 7 (dk_at dksX12_init_0 6 rfl rfl)
theorem dX12_init_9 : decode cX12_init 9 = .ok (.return_, 1) := dk_177 (dk_at dksX12_init_0 9 rfl rfl)
theorem q157 : (Jvm.Cond.initialized "HeirsAtLaw$OfOne") ∈ lw_all := lw_g (lw_at lw_m1 33 rfl) rfl
theorem q1243 : (Jvm.Cond.instanceMethod ({ cls := "HeirsAtLaw$OfOne", name := "<init>", desc := "(I)V" } : Jvm.MethodName)) ∈ lw_all := lw_g (lw_at lw_m5 159 rfl) rfl
theorem q1244 : (Jvm.Cond.code ({ cls := "HeirsAtLaw$OfOne", name := "<init>", desc := "(I)V" } : Jvm.MethodName) prog_17_method_1_code (2 : Nat) (Option.none : Option Jvm.ClassFile.FieldType)) ∈ lw_all := lw_g (lw_at lw_m5 160 rfl) rfl
theorem q1245 : (Jvm.Cond.methodLinkNest "HeirsAtLaw$OfOne" (1 : Nat) ({ cls := "HeirsAtLaw$Act", name := "<init>", desc := "()V" } : Jvm.MethodName) "HeirsAtLaw") ∈ lw_tbl := lw_at lw_m5 161 rfl
theorem q1249 : (Jvm.Cond.fieldLink "HeirsAtLaw$OfOne" (7 : Nat) "HeirsAtLaw$OfOne" "one" "I") ∈ lw_all := lw_g (lw_at lw_m5 165 rfl) rfl
theorem q1263 : (Jvm.Cond.soleField "HeirsAtLaw$OfOne" "one") ∈ lw_all := lw_g (lw_at lw_m5 179 rfl) rfl
/-! HeirsAtLaw$Dies -/
set_option maxRecDepth 100000
def RX13 : String := "HeirsAtLaw$Dies"
def TX13 : u_T := fun k => match k with
  | _ => ("HeirsAtLaw$OfOne", "one", "I", true)
def tyX13 : Nat → FieldType := fun k => match k with
  | _ => .int
abbrev wsX130 : List Cond := u_ws RX13 TX13 1
theorem nmX13 : ∀ a, a < 1 → ∀ b, b < 1 → a ≠ b → (TX13 a).2.1 ≠ (TX13 b).2.1 := by decide +kernel
theorem tyX13_ok : ∀ k, k < 1 → parseFieldDescriptor (TX13 k).2.2.1 = some (tyX13 k) := by decide +kernel
abbrev cX13_init : ByteArray := prog_5_method_1_code
def yX13_init : MethodName := ⟨RX13, "<init>", "(I)V"⟩
def dkwX13_init_0 : List UInt8 := [42, 27, 183, 0, 1, 177]
abbrev dktX13_init_0 : List UInt8 := dkwX13_init_0 ++ []
theorem dksX13_init_0 : cX13_init.data.toList.drop 0 = dktX13_init_0 := by decide +kernel
theorem dX13_init_0 : decode cX13_init 0 = .ok (.aload_n 0, 1) := dk_42 (dk_at dksX13_init_0 0 rfl rfl)
theorem dX13_init_1 : decode cX13_init 1 = .ok (.iload_n 1, 1) := dk_27 (dk_at dksX13_init_0 1 rfl rfl)
theorem dX13_init_2 : decode cX13_init 2 = .ok (.invokespecial 1, 3) := dk_183 0 1 (dk_at dksX13_init_0 2 rfl rfl)
theorem dX13_init_5 : decode cX13_init 5 = .ok (.return_, 1) := dk_177 (dk_at dksX13_init_0 5 rfl rfl)
abbrev cX13_does : ByteArray := prog_5_method_2_code
def yX13_does : MethodName := ⟨RX13, "does", "(LHeirsAtLaw$Estate;)I"⟩
def dkwX13_does_0 : List UInt8 := [43, 42, 180, 0, 7, 182, 0, 13, 154, 0, 5, 4, 172, 43, 42, 180, 0, 7, 182, 0, 19, 3, 172]
abbrev dktX13_does_0 : List UInt8 := dkwX13_does_0 ++ []
theorem dksX13_does_0 : cX13_does.data.toList.drop 0 = dktX13_does_0 := by decide +kernel
theorem dX13_does_0 : decode cX13_does 0 = .ok (.aload_n 1, 1) := dk_43 (dk_at dksX13_does_0 0 rfl rfl)
theorem dX13_does_1 : decode cX13_does 1 = .ok (.aload_n 0, 1) := dk_42 (dk_at dksX13_does_0 1 rfl rfl)
theorem dX13_does_2 : decode cX13_does 2 = .ok (.getfield 7, 3) := dk_180 0 7 (dk_at dksX13_does_0 2 rfl rfl)
theorem dX13_does_5 : decode cX13_does 5 = .ok (.invokevirtual 13, 3) := dk_182 0 13 (dk_at dksX13_does_0 5 rfl rfl)
theorem dX13_does_8 : decode cX13_does 8 = .ok (.ifCond .ne 5, 3) := dk_154 0 5 (dk_at dksX13_does_0 8 rfl rfl)
theorem dX13_does_11 : decode cX13_does 11 = .ok (.iconst 1, 1) := dk_4 (dk_at dksX13_does_0 11 rfl rfl)
theorem dX13_does_12 : decode cX13_does 12 = .ok (.ireturn, 1) := dk_172 (dk_at dksX13_does_0 12 rfl rfl)
theorem dX13_does_13 : decode cX13_does 13 = .ok (.aload_n 1, 1) := dk_43 (dk_at dksX13_does_0 13 rfl rfl)
theorem dX13_does_14 : decode cX13_does 14 = .ok (.aload_n 0, 1) := dk_42 (dk_at dksX13_does_0 14 rfl rfl)
theorem dX13_does_15 : decode cX13_does 15 = .ok (.getfield 7, 3) := dk_180 0 7 (dk_at dksX13_does_0 15 rfl rfl)
theorem dX13_does_18 : decode cX13_does 18 = .ok (.invokevirtual 19, 3) := dk_182 0 19 (dk_at dksX13_does_0 18 rfl rfl)
theorem dX13_does_21 : decode cX13_does 21 = .ok (.iconst 0, 1) := dk_3 (dk_at dksX13_does_0 21 rfl rfl)
theorem dX13_does_22 : decode cX13_does 22 = .ok (.ireturn, 1) := dk_172 (dk_at dksX13_does_0 22 rfl rfl)
theorem q158 : (Jvm.Cond.initialized "HeirsAtLaw$Dies") ∈ lw_all := lw_g (lw_at lw_m1 34 rfl) rfl
theorem q1055 : (Jvm.Cond.selects "HeirsAtLaw$Dies" ({ cls := "java/lang/Object", name := "getClass", desc := "()Ljava/lang/Class;" } : Jvm.MethodName) ({ cls := "java/lang/Object", name := "getClass", desc := "()Ljava/lang/Class;" } : Jvm.MethodName)) ∈ lw_all := lw_g (lw_at lw_m4 211 rfl) rfl
theorem q1238 : (Jvm.Cond.instantiable "HeirsAtLaw$Dies" (1 : Nat)) ∈ lw_all := lw_g (lw_at lw_m5 154 rfl) rfl
theorem q1240 : (Jvm.Cond.instanceMethod ({ cls := "HeirsAtLaw$Dies", name := "<init>", desc := "(I)V" } : Jvm.MethodName)) ∈ lw_all := lw_g (lw_at lw_m5 156 rfl) rfl
theorem q1241 : (Jvm.Cond.code ({ cls := "HeirsAtLaw$Dies", name := "<init>", desc := "(I)V" } : Jvm.MethodName) prog_5_method_1_code (2 : Nat) (Option.none : Option Jvm.ClassFile.FieldType)) ∈ lw_all := lw_g (lw_at lw_m5 157 rfl) rfl
theorem q1242 : (Jvm.Cond.methodLink "HeirsAtLaw$Dies" (1 : Nat) ({ cls := "HeirsAtLaw$OfOne", name := "<init>", desc := "(I)V" } : Jvm.MethodName)) ∈ lw_all := lw_g (lw_at lw_m5 158 rfl) rfl
theorem q1250 : (Jvm.Cond.fieldLink "HeirsAtLaw$Dies" (7 : Nat) "HeirsAtLaw$Dies" "one" "I") ∈ lw_all := lw_g (lw_at lw_m5 166 rfl) rfl
theorem q1251 : (Jvm.Cond.sameField "HeirsAtLaw$Dies" "HeirsAtLaw$OfOne" "one" "I") ∈ lw_all := lw_g (lw_at lw_m5 167 rfl) rfl
theorem q1262 : (Jvm.Cond.laysFinal "HeirsAtLaw$Dies" "HeirsAtLaw$OfOne" "one" "I") ∈ lw_all := lw_g (lw_at lw_m5 178 rfl) rfl
theorem q1264 : (Jvm.Cond.superclass "HeirsAtLaw$Dies" "HeirsAtLaw$OfOne") ∈ lw_all := lw_g (lw_at lw_m5 180 rfl) rfl
theorem q1280 : (Jvm.Cond.selects "HeirsAtLaw$Dies" ({ cls := "HeirsAtLaw$Act", name := "does", desc := "(LHeirsAtLaw$Estate;)I" } : Jvm.MethodName) ({ cls := "HeirsAtLaw$Dies", name := "does", desc := "(LHeirsAtLaw$Estate;)I" } : Jvm.MethodName)) ∈ lw_all := lw_g (lw_at lw_m5 196 rfl) rfl
theorem q1281 : (Jvm.Cond.instanceMethod ({ cls := "HeirsAtLaw$Dies", name := "does", desc := "(LHeirsAtLaw$Estate;)I" } : Jvm.MethodName)) ∈ lw_all := lw_g (lw_at lw_m5 197 rfl) rfl
theorem q1282 : (Jvm.Cond.code ({ cls := "HeirsAtLaw$Dies", name := "does", desc := "(LHeirsAtLaw$Estate;)I" } : Jvm.MethodName) prog_5_method_2_code (2 : Nat) (Option.some Jvm.ClassFile.FieldType.int)) ∈ lw_all := lw_g (lw_at lw_m5 198 rfl) rfl
theorem q1283 : (Jvm.Cond.methodLink "HeirsAtLaw$Dies" (13 : Nat) ({ cls := "HeirsAtLaw$Estate", name := "lives", desc := "(I)Z" } : Jvm.MethodName)) ∈ lw_all := lw_g (lw_at lw_m5 199 rfl) rfl
theorem q1288 : (Jvm.Cond.methodLink "HeirsAtLaw$Dies" (19 : Nat) ({ cls := "HeirsAtLaw$Estate", name := "die", desc := "(I)V" } : Jvm.MethodName)) ∈ lw_all := lw_g (lw_at lw_m5 204 rfl) rfl
theorem q2745 : (Jvm.Cond.castable "HeirsAtLaw$Dies" "HeirsAtLaw$Act") ∈ lw_tbl := lw_at lw_m11 221 rfl
theorem q2766 : (Jvm.Cond.castable "HeirsAtLaw$Dies" "java/lang/Object") ∈ lw_tbl := lw_at lw_m12 2 rfl
theorem in_X13 : ∀ w ∈ wsX130, w ∈ lw_all := lw_in wsX130 [1262] (by decide +kernel) (by decide +kernel)
/-! HeirsAtLaw$OfTwo -/
set_option maxRecDepth 100000
def RX14 : String := "HeirsAtLaw$OfTwo"
abbrev cX14_init : ByteArray := prog_18_method_1_code
def yX14_init : MethodName := ⟨RX14, "<init>", "(II)V"⟩
def dkwX14_init_0 : List UInt8 := [42, 27, 183, 0, 1, 42, 28, 181, 0, 7, 177]
abbrev dktX14_init_0 : List UInt8 := dkwX14_init_0 ++ []
theorem dksX14_init_0 : cX14_init.data.toList.drop 0 = dktX14_init_0 := by decide +kernel
theorem dX14_init_0 : decode cX14_init 0 = .ok (.aload_n 0, 1) := dk_42 (dk_at dksX14_init_0 0 rfl rfl)
theorem dX14_init_1 : decode cX14_init 1 = .ok (.iload_n 1, 1) := dk_27 (dk_at dksX14_init_0 1 rfl rfl)
theorem dX14_init_2 : decode cX14_init 2 = .ok (.invokespecial 1, 3) := dk_183 0 1 (dk_at dksX14_init_0 2 rfl rfl)
theorem dX14_init_5 : decode cX14_init 5 = .ok (.aload_n 0, 1) := dk_42 (dk_at dksX14_init_0 5 rfl rfl)
theorem dX14_init_6 : decode cX14_init 6 = .ok (.iload_n 2, 1) := dk_28 (dk_at dksX14_init_0 6 rfl rfl)
theorem dX14_init_7 : decode cX14_init 7 = .ok (.putfield 7, 3) := dk_181 0 7 (dk_at dksX14_init_0 7 rfl rfl)
theorem dX14_init_10 : decode cX14_init 10 = .ok (.return_, 1) := dk_177 (dk_at dksX14_init_0 10 rfl rfl)
theorem q159 : (Jvm.Cond.initialized "HeirsAtLaw$OfTwo") ∈ lw_all := lw_g (lw_at lw_m1 35 rfl) rfl
theorem q1428 : (Jvm.Cond.instanceMethod ({ cls := "HeirsAtLaw$OfTwo", name := "<init>", desc := "(II)V" } : Jvm.MethodName)) ∈ lw_all := lw_g (lw_at lw_m6 104 rfl) rfl
theorem q1429 : (Jvm.Cond.code ({ cls := "HeirsAtLaw$OfTwo", name := "<init>", desc := "(II)V" } : Jvm.MethodName) prog_18_method_1_code (3 : Nat) (Option.none : Option Jvm.ClassFile.FieldType)) ∈ lw_all := lw_g (lw_at lw_m6 105 rfl) rfl
theorem q1430 : (Jvm.Cond.methodLink "HeirsAtLaw$OfTwo" (1 : Nat) ({ cls := "HeirsAtLaw$OfOne", name := "<init>", desc := "(I)V" } : Jvm.MethodName)) ∈ lw_all := lw_g (lw_at lw_m6 106 rfl) rfl
theorem q1431 : (Jvm.Cond.fieldLink "HeirsAtLaw$OfTwo" (7 : Nat) "HeirsAtLaw$OfTwo" "other" "I") ∈ lw_all := lw_g (lw_at lw_m6 107 rfl) rfl
theorem q1439 : (Jvm.Cond.soleField "HeirsAtLaw$OfTwo" "other") ∈ lw_all := lw_g (lw_at lw_m6 115 rfl) rfl
/-! HeirsAtLaw$Gives -/
set_option maxRecDepth 100000
def RX15 : String := "HeirsAtLaw$Gives"
def TX15 : u_T := fun k => match k with
  | 0 => ("HeirsAtLaw$OfTwo", "other", "I", true)
  | 1 => ("HeirsAtLaw$OfOne", "one", "I", true)
  | _ => ("HeirsAtLaw$Gives", "coins", "I", true)
def tyX15 : Nat → FieldType := fun k => match k with
  | 0 => .int
  | 1 => .int
  | _ => .int
abbrev wsX150 : List Cond := u_ws RX15 TX15 3
theorem nmX15 : ∀ a, a < 3 → ∀ b, b < 3 → a ≠ b → (TX15 a).2.1 ≠ (TX15 b).2.1 := by decide +kernel
theorem tyX15_ok : ∀ k, k < 3 → parseFieldDescriptor (TX15 k).2.2.1 = some (tyX15 k) := by decide +kernel
abbrev cX15_does : ByteArray := prog_10_method_2_code
def yX15_does : MethodName := ⟨RX15, "does", "(LHeirsAtLaw$Estate;)I"⟩
def dkwX15_does_1 : List UInt8 := [180, 0, 13, 42, 180, 0, 16, 42, 180, 0, 7, 182, 0, 25, 28, 16, 30, 184, 0, 29, 172]
abbrev dktX15_does_1 : List UInt8 := dkwX15_does_1 ++ []
def dkwX15_does_0 : List UInt8 := [43, 42, 180, 0, 13, 42, 180, 0, 16, 42, 180, 0, 7, 182, 0, 19, 61, 28, 154, 0, 19, 43, 42]
abbrev dktX15_does_0 : List UInt8 := dkwX15_does_0 ++ dktX15_does_1
theorem dksX15_does_0 : cX15_does.data.toList.drop 0 = dktX15_does_0 := by decide +kernel
theorem dksX15_does_1 : cX15_does.data.toList.drop 23 = dktX15_does_1 := dk_seg dksX15_does_0 23 rfl rfl
theorem dX15_does_0 : decode cX15_does 0 = .ok (.aload_n 1, 1) := dk_43 (dk_at dksX15_does_0 0 rfl rfl)
theorem dX15_does_1 : decode cX15_does 1 = .ok (.aload_n 0, 1) := dk_42 (dk_at dksX15_does_0 1 rfl rfl)
theorem dX15_does_2 : decode cX15_does 2 = .ok (.getfield 13, 3) := dk_180 0 13 (dk_at dksX15_does_0 2 rfl rfl)
theorem dX15_does_5 : decode cX15_does 5 = .ok (.aload_n 0, 1) := dk_42 (dk_at dksX15_does_0 5 rfl rfl)
theorem dX15_does_6 : decode cX15_does 6 = .ok (.getfield 16, 3) := dk_180 0 16 (dk_at dksX15_does_0 6 rfl rfl)
theorem dX15_does_9 : decode cX15_does 9 = .ok (.aload_n 0, 1) := dk_42 (dk_at dksX15_does_0 9 rfl rfl)
theorem dX15_does_10 : decode cX15_does 10 = .ok (.getfield 7, 3) := dk_180 0 7 (dk_at dksX15_does_0 10 rfl rfl)
theorem dX15_does_13 : decode cX15_does 13 = .ok (.invokevirtual 19, 3) := dk_182 0 19 (dk_at dksX15_does_0 13 rfl rfl)
theorem dX15_does_16 : decode cX15_does 16 = .ok (.istore_n 2, 1) := dk_61 (dk_at dksX15_does_0 16 rfl rfl)
theorem dX15_does_17 : decode cX15_does 17 = .ok (.iload_n 2, 1) := dk_28 (dk_at dksX15_does_0 17 rfl rfl)
theorem dX15_does_18 : decode cX15_does 18 = .ok (.ifCond .ne 19, 3) := dk_154 0 19 (dk_at dksX15_does_0 18 rfl rfl)
theorem dX15_does_21 : decode cX15_does 21 = .ok (.aload_n 1, 1) := dk_43 (dk_at dksX15_does_0 21 rfl rfl)
theorem dX15_does_22 : decode cX15_does 22 = .ok (.aload_n 0, 1) := dk_42 (dk_at dksX15_does_0 22 rfl rfl)
theorem dX15_does_23 : decode cX15_does 23 = .ok (.getfield 13, 3) := dk_180 0 13 (dk_at dksX15_does_1 0 rfl rfl)
theorem dX15_does_26 : decode cX15_does 26 = .ok (.aload_n 0, 1) := dk_42 (dk_at dksX15_does_1 3 rfl rfl)
theorem dX15_does_27 : decode cX15_does 27 = .ok (.getfield 16, 3) := dk_180 0 16 (dk_at dksX15_does_1 4 rfl rfl)
theorem dX15_does_30 : decode cX15_does 30 = .ok (.aload_n 0, 1) := dk_42 (dk_at dksX15_does_1 7 rfl rfl)
theorem dX15_does_31 : decode cX15_does 31 = .ok (.getfield 7, 3) := dk_180 0 7 (dk_at dksX15_does_1 8 rfl rfl)
theorem dX15_does_34 : decode cX15_does 34 = .ok (.invokevirtual 25, 3) := dk_182 0 25 (dk_at dksX15_does_1 11 rfl rfl)
theorem dX15_does_37 : decode cX15_does 37 = .ok (.iload_n 2, 1) := dk_28 (dk_at dksX15_does_1 14 rfl rfl)
theorem dX15_does_38 : decode cX15_does 38 = .ok (.bipush 30, 2) := dk_16 30 (dk_at dksX15_does_1 15 rfl rfl)
theorem dX15_does_40 : decode cX15_does 40 = .ok (.invokestatic 29, 3) := dk_184 0 29 (dk_at dksX15_does_1 17 rfl rfl)
theorem dX15_does_43 : decode cX15_does 43 = .ok (.ireturn, 1) := dk_172 (dk_at dksX15_does_1 20 rfl rfl)
abbrev cX15_init : ByteArray := prog_10_method_1_code
def yX15_init : MethodName := ⟨RX15, "<init>", "(III)V"⟩
def dkwX15_init_0 : List UInt8 := [42, 27, 28, 183, 0, 1, 42, 29, 181, 0, 7, 177]
abbrev dktX15_init_0 : List UInt8 := dkwX15_init_0 ++ []
theorem dksX15_init_0 : cX15_init.data.toList.drop 0 = dktX15_init_0 := by decide +kernel
theorem dX15_init_0 : decode cX15_init 0 = .ok (.aload_n 0, 1) := dk_42 (dk_at dksX15_init_0 0 rfl rfl)
theorem dX15_init_1 : decode cX15_init 1 = .ok (.iload_n 1, 1) := dk_27 (dk_at dksX15_init_0 1 rfl rfl)
theorem dX15_init_2 : decode cX15_init 2 = .ok (.iload_n 2, 1) := dk_28 (dk_at dksX15_init_0 2 rfl rfl)
theorem dX15_init_3 : decode cX15_init 3 = .ok (.invokespecial 1, 3) := dk_183 0 1 (dk_at dksX15_init_0 3 rfl rfl)
theorem dX15_init_6 : decode cX15_init 6 = .ok (.aload_n 0, 1) := dk_42 (dk_at dksX15_init_0 6 rfl rfl)
theorem dX15_init_7 : decode cX15_init 7 = .ok (.iload_n 3, 1) := dk_29 (dk_at dksX15_init_0 7 rfl rfl)
theorem dX15_init_8 : decode cX15_init 8 = .ok (.putfield 7, 3) := dk_181 0 7 (dk_at dksX15_init_0 8 rfl rfl)
theorem dX15_init_11 : decode cX15_init 11 = .ok (.return_, 1) := dk_177 (dk_at dksX15_init_0 11 rfl rfl)
theorem q160 : (Jvm.Cond.initialized "HeirsAtLaw$Gives") ∈ lw_all := lw_g (lw_at lw_m1 36 rfl) rfl
theorem q1060 : (Jvm.Cond.selects "HeirsAtLaw$Gives" ({ cls := "java/lang/Object", name := "getClass", desc := "()Ljava/lang/Class;" } : Jvm.MethodName) ({ cls := "java/lang/Object", name := "getClass", desc := "()Ljava/lang/Class;" } : Jvm.MethodName)) ∈ lw_all := lw_g (lw_at lw_m4 216 rfl) rfl
theorem q1252 : (Jvm.Cond.fieldLink "HeirsAtLaw$Gives" (13 : Nat) "HeirsAtLaw$Gives" "one" "I") ∈ lw_all := lw_g (lw_at lw_m5 168 rfl) rfl
theorem q1253 : (Jvm.Cond.sameField "HeirsAtLaw$Gives" "HeirsAtLaw$OfOne" "one" "I") ∈ lw_all := lw_g (lw_at lw_m5 169 rfl) rfl
theorem q1337 : (Jvm.Cond.selects "HeirsAtLaw$Gives" ({ cls := "HeirsAtLaw$Act", name := "does", desc := "(LHeirsAtLaw$Estate;)I" } : Jvm.MethodName) ({ cls := "HeirsAtLaw$Gives", name := "does", desc := "(LHeirsAtLaw$Estate;)I" } : Jvm.MethodName)) ∈ lw_all := lw_g (lw_at lw_m6 13 rfl) rfl
theorem q1338 : (Jvm.Cond.instanceMethod ({ cls := "HeirsAtLaw$Gives", name := "does", desc := "(LHeirsAtLaw$Estate;)I" } : Jvm.MethodName)) ∈ lw_all := lw_g (lw_at lw_m6 14 rfl) rfl
theorem q1339 : (Jvm.Cond.code ({ cls := "HeirsAtLaw$Gives", name := "does", desc := "(LHeirsAtLaw$Estate;)I" } : Jvm.MethodName) prog_10_method_2_code (3 : Nat) (Option.some Jvm.ClassFile.FieldType.int)) ∈ lw_all := lw_g (lw_at lw_m6 15 rfl) rfl
theorem q1340 : (Jvm.Cond.methodLink "HeirsAtLaw$Gives" (19 : Nat) ({ cls := "HeirsAtLaw$Estate", name := "whyGive", desc := "(III)I" } : Jvm.MethodName)) ∈ lw_all := lw_g (lw_at lw_m6 16 rfl) rfl
theorem q1344 : (Jvm.Cond.methodLink "HeirsAtLaw$Gives" (25 : Nat) ({ cls := "HeirsAtLaw$Estate", name := "give", desc := "(III)V" } : Jvm.MethodName)) ∈ lw_all := lw_g (lw_at lw_m6 20 rfl) rfl
theorem q1348 : (Jvm.Cond.methodLink "HeirsAtLaw$Gives" (29 : Nat) ({ cls := "HeirsAtLaw$Gives", name := "told", desc := "(II)I" } : Jvm.MethodName)) ∈ lw_all := lw_g (lw_at lw_m6 24 rfl) rfl
theorem q1349 : (Jvm.Cond.sameMethod "HeirsAtLaw$Gives" "HeirsAtLaw$Act" "told" "(II)I") ∈ lw_all := lw_g (lw_at lw_m6 25 rfl) rfl
theorem q1432 : (Jvm.Cond.fieldLink "HeirsAtLaw$Gives" (16 : Nat) "HeirsAtLaw$Gives" "other" "I") ∈ lw_all := lw_g (lw_at lw_m6 108 rfl) rfl
theorem q1433 : (Jvm.Cond.sameField "HeirsAtLaw$Gives" "HeirsAtLaw$OfTwo" "other" "I") ∈ lw_all := lw_g (lw_at lw_m6 109 rfl) rfl
theorem q1459 : (Jvm.Cond.instantiable "HeirsAtLaw$Gives" (3 : Nat)) ∈ lw_all := lw_g (lw_at lw_m6 135 rfl) rfl
theorem q1461 : (Jvm.Cond.instanceMethod ({ cls := "HeirsAtLaw$Gives", name := "<init>", desc := "(III)V" } : Jvm.MethodName)) ∈ lw_all := lw_g (lw_at lw_m6 137 rfl) rfl
theorem q1462 : (Jvm.Cond.code ({ cls := "HeirsAtLaw$Gives", name := "<init>", desc := "(III)V" } : Jvm.MethodName) prog_10_method_1_code (4 : Nat) (Option.none : Option Jvm.ClassFile.FieldType)) ∈ lw_all := lw_g (lw_at lw_m6 138 rfl) rfl
theorem q1463 : (Jvm.Cond.methodLink "HeirsAtLaw$Gives" (1 : Nat) ({ cls := "HeirsAtLaw$OfTwo", name := "<init>", desc := "(II)V" } : Jvm.MethodName)) ∈ lw_all := lw_g (lw_at lw_m6 139 rfl) rfl
theorem q1464 : (Jvm.Cond.fieldLink "HeirsAtLaw$Gives" (7 : Nat) "HeirsAtLaw$Gives" "coins" "I") ∈ lw_all := lw_g (lw_at lw_m6 140 rfl) rfl
theorem q1465 : (Jvm.Cond.laysFinal "HeirsAtLaw$Gives" "HeirsAtLaw$Gives" "coins" "I") ∈ lw_all := lw_g (lw_at lw_m6 141 rfl) rfl
theorem q1466 : (Jvm.Cond.soleField "HeirsAtLaw$Gives" "coins") ∈ lw_all := lw_g (lw_at lw_m6 142 rfl) rfl
theorem q1467 : (Jvm.Cond.laysFinal "HeirsAtLaw$Gives" "HeirsAtLaw$OfTwo" "other" "I") ∈ lw_all := lw_g (lw_at lw_m6 143 rfl) rfl
theorem q1468 : (Jvm.Cond.laysFinal "HeirsAtLaw$Gives" "HeirsAtLaw$OfOne" "one" "I") ∈ lw_all := lw_g (lw_at lw_m6 144 rfl) rfl
theorem q1469 : (Jvm.Cond.superclass "HeirsAtLaw$Gives" "HeirsAtLaw$OfTwo") ∈ lw_all := lw_g (lw_at lw_m6 145 rfl) rfl
theorem q2746 : (Jvm.Cond.castable "HeirsAtLaw$Gives" "HeirsAtLaw$Act") ∈ lw_tbl := lw_at lw_m11 222 rfl
theorem q2769 : (Jvm.Cond.castable "HeirsAtLaw$Gives" "java/lang/Object") ∈ lw_tbl := lw_at lw_m12 5 rfl
theorem in_X15 : ∀ w ∈ wsX150, w ∈ lw_all := lw_in wsX150 [1467, 1468, 1465] (by decide +kernel) (by decide +kernel)
/-! HeirsAtLaw$Leaves -/
set_option maxRecDepth 100000
def RX16 : String := "HeirsAtLaw$Leaves"
def TX16 : u_T := fun k => match k with
  | 0 => ("HeirsAtLaw$OfTwo", "other", "I", true)
  | 1 => ("HeirsAtLaw$OfOne", "one", "I", true)
  | _ => ("HeirsAtLaw$Leaves", "coins", "I", true)
def tyX16 : Nat → FieldType := fun k => match k with
  | 0 => .int
  | 1 => .int
  | _ => .int
abbrev wsX160 : List Cond := u_ws RX16 TX16 3
theorem nmX16 : ∀ a, a < 3 → ∀ b, b < 3 → a ≠ b → (TX16 a).2.1 ≠ (TX16 b).2.1 := by decide +kernel
theorem tyX16_ok : ∀ k, k < 3 → parseFieldDescriptor (TX16 k).2.2.1 = some (tyX16 k) := by decide +kernel
abbrev cX16_does : ByteArray := prog_13_method_2_code
def yX16_does : MethodName := ⟨RX16, "does", "(LHeirsAtLaw$Estate;)I"⟩
def dkwX16_does_1 : List UInt8 := [180, 0, 16, 42, 180, 0, 7, 182, 0, 25, 28, 16, 40, 184, 0, 29, 172]
abbrev dktX16_does_1 : List UInt8 := dkwX16_does_1 ++ []
def dkwX16_does_0 : List UInt8 := [43, 42, 180, 0, 13, 42, 180, 0, 16, 182, 0, 19, 61, 28, 154, 0, 19, 43, 42, 180, 0, 13, 42]
abbrev dktX16_does_0 : List UInt8 := dkwX16_does_0 ++ dktX16_does_1
theorem dksX16_does_0 : cX16_does.data.toList.drop 0 = dktX16_does_0 := by decide +kernel
theorem dksX16_does_1 : cX16_does.data.toList.drop 23 = dktX16_does_1 := dk_seg dksX16_does_0 23 rfl rfl
theorem dX16_does_0 : decode cX16_does 0 = .ok (.aload_n 1, 1) := dk_43 (dk_at dksX16_does_0 0 rfl rfl)
theorem dX16_does_1 : decode cX16_does 1 = .ok (.aload_n 0, 1) := dk_42 (dk_at dksX16_does_0 1 rfl rfl)
theorem dX16_does_2 : decode cX16_does 2 = .ok (.getfield 13, 3) := dk_180 0 13 (dk_at dksX16_does_0 2 rfl rfl)
theorem dX16_does_5 : decode cX16_does 5 = .ok (.aload_n 0, 1) := dk_42 (dk_at dksX16_does_0 5 rfl rfl)
theorem dX16_does_6 : decode cX16_does 6 = .ok (.getfield 16, 3) := dk_180 0 16 (dk_at dksX16_does_0 6 rfl rfl)
theorem dX16_does_9 : decode cX16_does 9 = .ok (.invokevirtual 19, 3) := dk_182 0 19 (dk_at dksX16_does_0 9 rfl rfl)
theorem dX16_does_12 : decode cX16_does 12 = .ok (.istore_n 2, 1) := dk_61 (dk_at dksX16_does_0 12 rfl rfl)
theorem dX16_does_13 : decode cX16_does 13 = .ok (.iload_n 2, 1) := dk_28 (dk_at dksX16_does_0 13 rfl rfl)
theorem dX16_does_14 : decode cX16_does 14 = .ok (.ifCond .ne 19, 3) := dk_154 0 19 (dk_at dksX16_does_0 14 rfl rfl)
theorem dX16_does_17 : decode cX16_does 17 = .ok (.aload_n 1, 1) := dk_43 (dk_at dksX16_does_0 17 rfl rfl)
theorem dX16_does_18 : decode cX16_does 18 = .ok (.aload_n 0, 1) := dk_42 (dk_at dksX16_does_0 18 rfl rfl)
theorem dX16_does_19 : decode cX16_does 19 = .ok (.getfield 13, 3) := dk_180 0 13 (dk_at dksX16_does_0 19 rfl rfl)
theorem dX16_does_22 : decode cX16_does 22 = .ok (.aload_n 0, 1) := dk_42 (dk_at dksX16_does_0 22 rfl rfl)
theorem dX16_does_23 : decode cX16_does 23 = .ok (.getfield 16, 3) := dk_180 0 16 (dk_at dksX16_does_1 0 rfl rfl)
theorem dX16_does_26 : decode cX16_does 26 = .ok (.aload_n 0, 1) := dk_42 (dk_at dksX16_does_1 3 rfl rfl)
theorem dX16_does_27 : decode cX16_does 27 = .ok (.getfield 7, 3) := dk_180 0 7 (dk_at dksX16_does_1 4 rfl rfl)
theorem dX16_does_30 : decode cX16_does 30 = .ok (.invokevirtual 25, 3) := dk_182 0 25 (dk_at dksX16_does_1 7 rfl rfl)
theorem dX16_does_33 : decode cX16_does 33 = .ok (.iload_n 2, 1) := dk_28 (dk_at dksX16_does_1 10 rfl rfl)
theorem dX16_does_34 : decode cX16_does 34 = .ok (.bipush 40, 2) := dk_16 40 (dk_at dksX16_does_1 11 rfl rfl)
theorem dX16_does_36 : decode cX16_does 36 = .ok (.invokestatic 29, 3) := dk_184 0 29 (dk_at dksX16_does_1 13 rfl rfl)
theorem dX16_does_39 : decode cX16_does 39 = .ok (.ireturn, 1) := dk_172 (dk_at dksX16_does_1 16 rfl rfl)
abbrev cX16_init : ByteArray := prog_13_method_1_code
def yX16_init : MethodName := ⟨RX16, "<init>", "(III)V"⟩
def dkwX16_init_0 : List UInt8 := [42, 27, 28, 183, 0, 1, 42, 29, 181, 0, 7, 177]
abbrev dktX16_init_0 : List UInt8 := dkwX16_init_0 ++ []
theorem dksX16_init_0 : cX16_init.data.toList.drop 0 = dktX16_init_0 := by decide +kernel
theorem dX16_init_0 : decode cX16_init 0 = .ok (.aload_n 0, 1) := dk_42 (dk_at dksX16_init_0 0 rfl rfl)
theorem dX16_init_1 : decode cX16_init 1 = .ok (.iload_n 1, 1) := dk_27 (dk_at dksX16_init_0 1 rfl rfl)
theorem dX16_init_2 : decode cX16_init 2 = .ok (.iload_n 2, 1) := dk_28 (dk_at dksX16_init_0 2 rfl rfl)
theorem dX16_init_3 : decode cX16_init 3 = .ok (.invokespecial 1, 3) := dk_183 0 1 (dk_at dksX16_init_0 3 rfl rfl)
theorem dX16_init_6 : decode cX16_init 6 = .ok (.aload_n 0, 1) := dk_42 (dk_at dksX16_init_0 6 rfl rfl)
theorem dX16_init_7 : decode cX16_init 7 = .ok (.iload_n 3, 1) := dk_29 (dk_at dksX16_init_0 7 rfl rfl)
theorem dX16_init_8 : decode cX16_init 8 = .ok (.putfield 7, 3) := dk_181 0 7 (dk_at dksX16_init_0 8 rfl rfl)
theorem dX16_init_11 : decode cX16_init 11 = .ok (.return_, 1) := dk_177 (dk_at dksX16_init_0 11 rfl rfl)
theorem q161 : (Jvm.Cond.initialized "HeirsAtLaw$Leaves") ∈ lw_all := lw_g (lw_at lw_m1 37 rfl) rfl
theorem q1063 : (Jvm.Cond.selects "HeirsAtLaw$Leaves" ({ cls := "java/lang/Object", name := "getClass", desc := "()Ljava/lang/Class;" } : Jvm.MethodName) ({ cls := "java/lang/Object", name := "getClass", desc := "()Ljava/lang/Class;" } : Jvm.MethodName)) ∈ lw_all := lw_g (lw_at lw_m4 219 rfl) rfl
theorem q1254 : (Jvm.Cond.fieldLink "HeirsAtLaw$Leaves" (13 : Nat) "HeirsAtLaw$Leaves" "one" "I") ∈ lw_all := lw_g (lw_at lw_m5 170 rfl) rfl
theorem q1255 : (Jvm.Cond.sameField "HeirsAtLaw$Leaves" "HeirsAtLaw$OfOne" "one" "I") ∈ lw_all := lw_g (lw_at lw_m5 171 rfl) rfl
theorem q1352 : (Jvm.Cond.selects "HeirsAtLaw$Leaves" ({ cls := "HeirsAtLaw$Act", name := "does", desc := "(LHeirsAtLaw$Estate;)I" } : Jvm.MethodName) ({ cls := "HeirsAtLaw$Leaves", name := "does", desc := "(LHeirsAtLaw$Estate;)I" } : Jvm.MethodName)) ∈ lw_all := lw_g (lw_at lw_m6 28 rfl) rfl
theorem q1353 : (Jvm.Cond.instanceMethod ({ cls := "HeirsAtLaw$Leaves", name := "does", desc := "(LHeirsAtLaw$Estate;)I" } : Jvm.MethodName)) ∈ lw_all := lw_g (lw_at lw_m6 29 rfl) rfl
theorem q1354 : (Jvm.Cond.code ({ cls := "HeirsAtLaw$Leaves", name := "does", desc := "(LHeirsAtLaw$Estate;)I" } : Jvm.MethodName) prog_13_method_2_code (3 : Nat) (Option.some Jvm.ClassFile.FieldType.int)) ∈ lw_all := lw_g (lw_at lw_m6 30 rfl) rfl
theorem q1355 : (Jvm.Cond.methodLink "HeirsAtLaw$Leaves" (19 : Nat) ({ cls := "HeirsAtLaw$Estate", name := "whyLeave", desc := "(II)I" } : Jvm.MethodName)) ∈ lw_all := lw_g (lw_at lw_m6 31 rfl) rfl
theorem q1359 : (Jvm.Cond.methodLink "HeirsAtLaw$Leaves" (25 : Nat) ({ cls := "HeirsAtLaw$Estate", name := "leave", desc := "(III)V" } : Jvm.MethodName)) ∈ lw_all := lw_g (lw_at lw_m6 35 rfl) rfl
theorem q1360 : (Jvm.Cond.methodLink "HeirsAtLaw$Leaves" (29 : Nat) ({ cls := "HeirsAtLaw$Leaves", name := "told", desc := "(II)I" } : Jvm.MethodName)) ∈ lw_all := lw_g (lw_at lw_m6 36 rfl) rfl
theorem q1361 : (Jvm.Cond.sameMethod "HeirsAtLaw$Leaves" "HeirsAtLaw$Act" "told" "(II)I") ∈ lw_all := lw_g (lw_at lw_m6 37 rfl) rfl
theorem q1434 : (Jvm.Cond.fieldLink "HeirsAtLaw$Leaves" (16 : Nat) "HeirsAtLaw$Leaves" "other" "I") ∈ lw_all := lw_g (lw_at lw_m6 110 rfl) rfl
theorem q1435 : (Jvm.Cond.sameField "HeirsAtLaw$Leaves" "HeirsAtLaw$OfTwo" "other" "I") ∈ lw_all := lw_g (lw_at lw_m6 111 rfl) rfl
theorem q1475 : (Jvm.Cond.instantiable "HeirsAtLaw$Leaves" (3 : Nat)) ∈ lw_all := lw_g (lw_at lw_m6 151 rfl) rfl
theorem q1477 : (Jvm.Cond.instanceMethod ({ cls := "HeirsAtLaw$Leaves", name := "<init>", desc := "(III)V" } : Jvm.MethodName)) ∈ lw_all := lw_g (lw_at lw_m6 153 rfl) rfl
theorem q1478 : (Jvm.Cond.code ({ cls := "HeirsAtLaw$Leaves", name := "<init>", desc := "(III)V" } : Jvm.MethodName) prog_13_method_1_code (4 : Nat) (Option.none : Option Jvm.ClassFile.FieldType)) ∈ lw_all := lw_g (lw_at lw_m6 154 rfl) rfl
theorem q1479 : (Jvm.Cond.methodLink "HeirsAtLaw$Leaves" (1 : Nat) ({ cls := "HeirsAtLaw$OfTwo", name := "<init>", desc := "(II)V" } : Jvm.MethodName)) ∈ lw_all := lw_g (lw_at lw_m6 155 rfl) rfl
theorem q1480 : (Jvm.Cond.fieldLink "HeirsAtLaw$Leaves" (7 : Nat) "HeirsAtLaw$Leaves" "coins" "I") ∈ lw_all := lw_g (lw_at lw_m6 156 rfl) rfl
theorem q1481 : (Jvm.Cond.laysFinal "HeirsAtLaw$Leaves" "HeirsAtLaw$Leaves" "coins" "I") ∈ lw_all := lw_g (lw_at lw_m6 157 rfl) rfl
theorem q1482 : (Jvm.Cond.soleField "HeirsAtLaw$Leaves" "coins") ∈ lw_all := lw_g (lw_at lw_m6 158 rfl) rfl
theorem q1483 : (Jvm.Cond.laysFinal "HeirsAtLaw$Leaves" "HeirsAtLaw$OfTwo" "other" "I") ∈ lw_all := lw_g (lw_at lw_m6 159 rfl) rfl
theorem q1484 : (Jvm.Cond.laysFinal "HeirsAtLaw$Leaves" "HeirsAtLaw$OfOne" "one" "I") ∈ lw_all := lw_g (lw_at lw_m6 160 rfl) rfl
theorem q1485 : (Jvm.Cond.superclass "HeirsAtLaw$Leaves" "HeirsAtLaw$OfTwo") ∈ lw_all := lw_g (lw_at lw_m6 161 rfl) rfl
theorem q2747 : (Jvm.Cond.castable "HeirsAtLaw$Leaves" "HeirsAtLaw$Act") ∈ lw_tbl := lw_at lw_m11 223 rfl
theorem q2770 : (Jvm.Cond.castable "HeirsAtLaw$Leaves" "java/lang/Object") ∈ lw_tbl := lw_at lw_m12 6 rfl
theorem in_X16 : ∀ w ∈ wsX160, w ∈ lw_all := lw_in wsX160 [1483, 1484, 1481] (by decide +kernel) (by decide +kernel)
/-! HeirsAtLaw$Parts -/
set_option maxRecDepth 100000
def RX17 : String := "HeirsAtLaw$Parts"
def TX17 : u_T := fun k => match k with
  | _ => ("HeirsAtLaw$OfOne", "one", "I", true)
def tyX17 : Nat → FieldType := fun k => match k with
  | _ => .int
abbrev wsX170 : List Cond := u_ws RX17 TX17 1
theorem nmX17 : ∀ a, a < 1 → ∀ b, b < 1 → a ≠ b → (TX17 a).2.1 ≠ (TX17 b).2.1 := by decide +kernel
theorem tyX17_ok : ∀ k, k < 1 → parseFieldDescriptor (TX17 k).2.2.1 = some (tyX17 k) := by decide +kernel
abbrev cX17_does : ByteArray := prog_19_method_2_code
def yX17_does : MethodName := ⟨RX17, "does", "(LHeirsAtLaw$Estate;)I"⟩
def dkwX17_does_1 : List UInt8 := [182, 0, 23, 3, 172]
abbrev dktX17_does_1 : List UInt8 := dkwX17_does_1 ++ []
def dkwX17_does_0 : List UInt8 := [43, 42, 180, 0, 7, 182, 0, 13, 154, 0, 10, 4, 16, 20, 184, 0, 19, 172, 43, 42, 180, 0, 7]
abbrev dktX17_does_0 : List UInt8 := dkwX17_does_0 ++ dktX17_does_1
theorem dksX17_does_0 : cX17_does.data.toList.drop 0 = dktX17_does_0 := by decide +kernel
theorem dksX17_does_1 : cX17_does.data.toList.drop 23 = dktX17_does_1 := dk_seg dksX17_does_0 23 rfl rfl
theorem dX17_does_0 : decode cX17_does 0 = .ok (.aload_n 1, 1) := dk_43 (dk_at dksX17_does_0 0 rfl rfl)
theorem dX17_does_1 : decode cX17_does 1 = .ok (.aload_n 0, 1) := dk_42 (dk_at dksX17_does_0 1 rfl rfl)
theorem dX17_does_2 : decode cX17_does 2 = .ok (.getfield 7, 3) := dk_180 0 7 (dk_at dksX17_does_0 2 rfl rfl)
theorem dX17_does_5 : decode cX17_does 5 = .ok (.invokevirtual 13, 3) := dk_182 0 13 (dk_at dksX17_does_0 5 rfl rfl)
theorem dX17_does_8 : decode cX17_does 8 = .ok (.ifCond .ne 10, 3) := dk_154 0 10 (dk_at dksX17_does_0 8 rfl rfl)
theorem dX17_does_11 : decode cX17_does 11 = .ok (.iconst 1, 1) := dk_4 (dk_at dksX17_does_0 11 rfl rfl)
theorem dX17_does_12 : decode cX17_does 12 = .ok (.bipush 20, 2) := dk_16 20 (dk_at dksX17_does_0 12 rfl rfl)
theorem dX17_does_14 : decode cX17_does 14 = .ok (.invokestatic 19, 3) := dk_184 0 19 (dk_at dksX17_does_0 14 rfl rfl)
theorem dX17_does_17 : decode cX17_does 17 = .ok (.ireturn, 1) := dk_172 (dk_at dksX17_does_0 17 rfl rfl)
theorem dX17_does_18 : decode cX17_does 18 = .ok (.aload_n 1, 1) := dk_43 (dk_at dksX17_does_0 18 rfl rfl)
theorem dX17_does_19 : decode cX17_does 19 = .ok (.aload_n 0, 1) := dk_42 (dk_at dksX17_does_0 19 rfl rfl)
theorem dX17_does_20 : decode cX17_does 20 = .ok (.getfield 7, 3) := dk_180 0 7 (dk_at dksX17_does_0 20 rfl rfl)
theorem dX17_does_23 : decode cX17_does 23 = .ok (.invokevirtual 23, 3) := dk_182 0 23 (dk_at dksX17_does_1 0 rfl rfl)
theorem dX17_does_26 : decode cX17_does 26 = .ok (.iconst 0, 1) := dk_3 (dk_at dksX17_does_1 3 rfl rfl)
theorem dX17_does_27 : decode cX17_does 27 = .ok (.ireturn, 1) := dk_172 (dk_at dksX17_does_1 4 rfl rfl)
abbrev cX17_init : ByteArray := prog_19_method_1_code
def yX17_init : MethodName := ⟨RX17, "<init>", "(I)V"⟩
def dkwX17_init_0 : List UInt8 := [42, 27, 183, 0, 1, 177]
abbrev dktX17_init_0 : List UInt8 := dkwX17_init_0 ++ []
theorem dksX17_init_0 : cX17_init.data.toList.drop 0 = dktX17_init_0 := by decide +kernel
theorem dX17_init_0 : decode cX17_init 0 = .ok (.aload_n 0, 1) := dk_42 (dk_at dksX17_init_0 0 rfl rfl)
theorem dX17_init_1 : decode cX17_init 1 = .ok (.iload_n 1, 1) := dk_27 (dk_at dksX17_init_0 1 rfl rfl)
theorem dX17_init_2 : decode cX17_init 2 = .ok (.invokespecial 1, 3) := dk_183 0 1 (dk_at dksX17_init_0 2 rfl rfl)
theorem dX17_init_5 : decode cX17_init 5 = .ok (.return_, 1) := dk_177 (dk_at dksX17_init_0 5 rfl rfl)
theorem q162 : (Jvm.Cond.initialized "HeirsAtLaw$Parts") ∈ lw_all := lw_g (lw_at lw_m1 38 rfl) rfl
theorem q1067 : (Jvm.Cond.selects "HeirsAtLaw$Parts" ({ cls := "java/lang/Object", name := "getClass", desc := "()Ljava/lang/Class;" } : Jvm.MethodName) ({ cls := "java/lang/Object", name := "getClass", desc := "()Ljava/lang/Class;" } : Jvm.MethodName)) ∈ lw_all := lw_g (lw_at lw_m4 223 rfl) rfl
theorem q1256 : (Jvm.Cond.fieldLink "HeirsAtLaw$Parts" (7 : Nat) "HeirsAtLaw$Parts" "one" "I") ∈ lw_all := lw_g (lw_at lw_m5 172 rfl) rfl
theorem q1257 : (Jvm.Cond.sameField "HeirsAtLaw$Parts" "HeirsAtLaw$OfOne" "one" "I") ∈ lw_all := lw_g (lw_at lw_m5 173 rfl) rfl
theorem q1362 : (Jvm.Cond.selects "HeirsAtLaw$Parts" ({ cls := "HeirsAtLaw$Act", name := "does", desc := "(LHeirsAtLaw$Estate;)I" } : Jvm.MethodName) ({ cls := "HeirsAtLaw$Parts", name := "does", desc := "(LHeirsAtLaw$Estate;)I" } : Jvm.MethodName)) ∈ lw_all := lw_g (lw_at lw_m6 38 rfl) rfl
theorem q1363 : (Jvm.Cond.instanceMethod ({ cls := "HeirsAtLaw$Parts", name := "does", desc := "(LHeirsAtLaw$Estate;)I" } : Jvm.MethodName)) ∈ lw_all := lw_g (lw_at lw_m6 39 rfl) rfl
theorem q1364 : (Jvm.Cond.code ({ cls := "HeirsAtLaw$Parts", name := "does", desc := "(LHeirsAtLaw$Estate;)I" } : Jvm.MethodName) prog_19_method_2_code (2 : Nat) (Option.some Jvm.ClassFile.FieldType.int)) ∈ lw_all := lw_g (lw_at lw_m6 40 rfl) rfl
theorem q1365 : (Jvm.Cond.methodLink "HeirsAtLaw$Parts" (13 : Nat) ({ cls := "HeirsAtLaw$Estate", name := "isWed", desc := "(I)Z" } : Jvm.MethodName)) ∈ lw_all := lw_g (lw_at lw_m6 41 rfl) rfl
theorem q1366 : (Jvm.Cond.methodLink "HeirsAtLaw$Parts" (19 : Nat) ({ cls := "HeirsAtLaw$Parts", name := "told", desc := "(II)I" } : Jvm.MethodName)) ∈ lw_all := lw_g (lw_at lw_m6 42 rfl) rfl
theorem q1367 : (Jvm.Cond.sameMethod "HeirsAtLaw$Parts" "HeirsAtLaw$Act" "told" "(II)I") ∈ lw_all := lw_g (lw_at lw_m6 43 rfl) rfl
theorem q1368 : (Jvm.Cond.methodLink "HeirsAtLaw$Parts" (23 : Nat) ({ cls := "HeirsAtLaw$Estate", name := "part", desc := "(I)V" } : Jvm.MethodName)) ∈ lw_all := lw_g (lw_at lw_m6 44 rfl) rfl
theorem q1447 : (Jvm.Cond.instantiable "HeirsAtLaw$Parts" (1 : Nat)) ∈ lw_all := lw_g (lw_at lw_m6 123 rfl) rfl
theorem q1449 : (Jvm.Cond.instanceMethod ({ cls := "HeirsAtLaw$Parts", name := "<init>", desc := "(I)V" } : Jvm.MethodName)) ∈ lw_all := lw_g (lw_at lw_m6 125 rfl) rfl
theorem q1450 : (Jvm.Cond.code ({ cls := "HeirsAtLaw$Parts", name := "<init>", desc := "(I)V" } : Jvm.MethodName) prog_19_method_1_code (2 : Nat) (Option.none : Option Jvm.ClassFile.FieldType)) ∈ lw_all := lw_g (lw_at lw_m6 126 rfl) rfl
theorem q1451 : (Jvm.Cond.methodLink "HeirsAtLaw$Parts" (1 : Nat) ({ cls := "HeirsAtLaw$OfOne", name := "<init>", desc := "(I)V" } : Jvm.MethodName)) ∈ lw_all := lw_g (lw_at lw_m6 127 rfl) rfl
theorem q1452 : (Jvm.Cond.laysFinal "HeirsAtLaw$Parts" "HeirsAtLaw$OfOne" "one" "I") ∈ lw_all := lw_g (lw_at lw_m6 128 rfl) rfl
theorem q1453 : (Jvm.Cond.superclass "HeirsAtLaw$Parts" "HeirsAtLaw$OfOne") ∈ lw_all := lw_g (lw_at lw_m6 129 rfl) rfl
theorem q2748 : (Jvm.Cond.castable "HeirsAtLaw$Parts" "HeirsAtLaw$Act") ∈ lw_tbl := lw_at lw_m11 224 rfl
theorem q2768 : (Jvm.Cond.castable "HeirsAtLaw$Parts" "java/lang/Object") ∈ lw_tbl := lw_at lw_m12 4 rfl
theorem in_X17 : ∀ w ∈ wsX170, w ∈ lw_all := lw_in wsX170 [1452] (by decide +kernel) (by decide +kernel)
/-! HeirsAtLaw$Revokes -/
set_option maxRecDepth 100000
def RX18 : String := "HeirsAtLaw$Revokes"
def TX18 : u_T := fun k => match k with
  | _ => ("HeirsAtLaw$OfOne", "one", "I", true)
def tyX18 : Nat → FieldType := fun k => match k with
  | _ => .int
abbrev wsX180 : List Cond := u_ws RX18 TX18 1
theorem nmX18 : ∀ a, a < 1 → ∀ b, b < 1 → a ≠ b → (TX18 a).2.1 ≠ (TX18 b).2.1 := by decide +kernel
theorem tyX18_ok : ∀ k, k < 1 → parseFieldDescriptor (TX18 k).2.2.1 = some (tyX18 k) := by decide +kernel
abbrev cX18_does : ByteArray := prog_23_method_2_code
def yX18_does : MethodName := ⟨RX18, "does", "(LHeirsAtLaw$Estate;)I"⟩
def dkwX18_does_1 : List UInt8 := [182, 0, 23, 3, 172]
abbrev dktX18_does_1 : List UInt8 := dkwX18_does_1 ++ []
def dkwX18_does_0 : List UInt8 := [43, 42, 180, 0, 7, 182, 0, 13, 154, 0, 10, 4, 16, 50, 184, 0, 19, 172, 43, 42, 180, 0, 7]
abbrev dktX18_does_0 : List UInt8 := dkwX18_does_0 ++ dktX18_does_1
theorem dksX18_does_0 : cX18_does.data.toList.drop 0 = dktX18_does_0 := by decide +kernel
theorem dksX18_does_1 : cX18_does.data.toList.drop 23 = dktX18_does_1 := dk_seg dksX18_does_0 23 rfl rfl
theorem dX18_does_0 : decode cX18_does 0 = .ok (.aload_n 1, 1) := dk_43 (dk_at dksX18_does_0 0 rfl rfl)
theorem dX18_does_1 : decode cX18_does 1 = .ok (.aload_n 0, 1) := dk_42 (dk_at dksX18_does_0 1 rfl rfl)
theorem dX18_does_2 : decode cX18_does 2 = .ok (.getfield 7, 3) := dk_180 0 7 (dk_at dksX18_does_0 2 rfl rfl)
theorem dX18_does_5 : decode cX18_does 5 = .ok (.invokevirtual 13, 3) := dk_182 0 13 (dk_at dksX18_does_0 5 rfl rfl)
theorem dX18_does_8 : decode cX18_does 8 = .ok (.ifCond .ne 10, 3) := dk_154 0 10 (dk_at dksX18_does_0 8 rfl rfl)
theorem dX18_does_11 : decode cX18_does 11 = .ok (.iconst 1, 1) := dk_4 (dk_at dksX18_does_0 11 rfl rfl)
theorem dX18_does_12 : decode cX18_does 12 = .ok (.bipush 50, 2) := dk_16 50 (dk_at dksX18_does_0 12 rfl rfl)
theorem dX18_does_14 : decode cX18_does 14 = .ok (.invokestatic 19, 3) := dk_184 0 19 (dk_at dksX18_does_0 14 rfl rfl)
theorem dX18_does_17 : decode cX18_does 17 = .ok (.ireturn, 1) := dk_172 (dk_at dksX18_does_0 17 rfl rfl)
theorem dX18_does_18 : decode cX18_does 18 = .ok (.aload_n 1, 1) := dk_43 (dk_at dksX18_does_0 18 rfl rfl)
theorem dX18_does_19 : decode cX18_does 19 = .ok (.aload_n 0, 1) := dk_42 (dk_at dksX18_does_0 19 rfl rfl)
theorem dX18_does_20 : decode cX18_does 20 = .ok (.getfield 7, 3) := dk_180 0 7 (dk_at dksX18_does_0 20 rfl rfl)
theorem dX18_does_23 : decode cX18_does 23 = .ok (.invokevirtual 23, 3) := dk_182 0 23 (dk_at dksX18_does_1 0 rfl rfl)
theorem dX18_does_26 : decode cX18_does 26 = .ok (.iconst 0, 1) := dk_3 (dk_at dksX18_does_1 3 rfl rfl)
theorem dX18_does_27 : decode cX18_does 27 = .ok (.ireturn, 1) := dk_172 (dk_at dksX18_does_1 4 rfl rfl)
abbrev cX18_init : ByteArray := prog_23_method_1_code
def yX18_init : MethodName := ⟨RX18, "<init>", "(I)V"⟩
def dkwX18_init_0 : List UInt8 := [42, 27, 183, 0, 1, 177]
abbrev dktX18_init_0 : List UInt8 := dkwX18_init_0 ++ []
theorem dksX18_init_0 : cX18_init.data.toList.drop 0 = dktX18_init_0 := by decide +kernel
theorem dX18_init_0 : decode cX18_init 0 = .ok (.aload_n 0, 1) := dk_42 (dk_at dksX18_init_0 0 rfl rfl)
theorem dX18_init_1 : decode cX18_init 1 = .ok (.iload_n 1, 1) := dk_27 (dk_at dksX18_init_0 1 rfl rfl)
theorem dX18_init_2 : decode cX18_init 2 = .ok (.invokespecial 1, 3) := dk_183 0 1 (dk_at dksX18_init_0 2 rfl rfl)
theorem dX18_init_5 : decode cX18_init 5 = .ok (.return_, 1) := dk_177 (dk_at dksX18_init_0 5 rfl rfl)
theorem q163 : (Jvm.Cond.initialized "HeirsAtLaw$Revokes") ∈ lw_all := lw_g (lw_at lw_m1 39 rfl) rfl
theorem q1070 : (Jvm.Cond.selects "HeirsAtLaw$Revokes" ({ cls := "java/lang/Object", name := "getClass", desc := "()Ljava/lang/Class;" } : Jvm.MethodName) ({ cls := "java/lang/Object", name := "getClass", desc := "()Ljava/lang/Class;" } : Jvm.MethodName)) ∈ lw_all := lw_g (lw_at lw_m4 226 rfl) rfl
theorem q1258 : (Jvm.Cond.fieldLink "HeirsAtLaw$Revokes" (7 : Nat) "HeirsAtLaw$Revokes" "one" "I") ∈ lw_all := lw_g (lw_at lw_m5 174 rfl) rfl
theorem q1259 : (Jvm.Cond.sameField "HeirsAtLaw$Revokes" "HeirsAtLaw$OfOne" "one" "I") ∈ lw_all := lw_g (lw_at lw_m5 175 rfl) rfl
theorem q1385 : (Jvm.Cond.selects "HeirsAtLaw$Revokes" ({ cls := "HeirsAtLaw$Act", name := "does", desc := "(LHeirsAtLaw$Estate;)I" } : Jvm.MethodName) ({ cls := "HeirsAtLaw$Revokes", name := "does", desc := "(LHeirsAtLaw$Estate;)I" } : Jvm.MethodName)) ∈ lw_all := lw_g (lw_at lw_m6 61 rfl) rfl
theorem q1386 : (Jvm.Cond.instanceMethod ({ cls := "HeirsAtLaw$Revokes", name := "does", desc := "(LHeirsAtLaw$Estate;)I" } : Jvm.MethodName)) ∈ lw_all := lw_g (lw_at lw_m6 62 rfl) rfl
theorem q1387 : (Jvm.Cond.code ({ cls := "HeirsAtLaw$Revokes", name := "does", desc := "(LHeirsAtLaw$Estate;)I" } : Jvm.MethodName) prog_23_method_2_code (2 : Nat) (Option.some Jvm.ClassFile.FieldType.int)) ∈ lw_all := lw_g (lw_at lw_m6 63 rfl) rfl
theorem q1388 : (Jvm.Cond.methodLink "HeirsAtLaw$Revokes" (13 : Nat) ({ cls := "HeirsAtLaw$Estate", name := "willsOf", desc := "(I)I" } : Jvm.MethodName)) ∈ lw_all := lw_g (lw_at lw_m6 64 rfl) rfl
theorem q1392 : (Jvm.Cond.methodLink "HeirsAtLaw$Revokes" (19 : Nat) ({ cls := "HeirsAtLaw$Revokes", name := "told", desc := "(II)I" } : Jvm.MethodName)) ∈ lw_all := lw_g (lw_at lw_m6 68 rfl) rfl
theorem q1393 : (Jvm.Cond.sameMethod "HeirsAtLaw$Revokes" "HeirsAtLaw$Act" "told" "(II)I") ∈ lw_all := lw_g (lw_at lw_m6 69 rfl) rfl
theorem q1394 : (Jvm.Cond.methodLink "HeirsAtLaw$Revokes" (23 : Nat) ({ cls := "HeirsAtLaw$Estate", name := "revoke", desc := "(I)V" } : Jvm.MethodName)) ∈ lw_all := lw_g (lw_at lw_m6 70 rfl) rfl
theorem q1491 : (Jvm.Cond.instantiable "HeirsAtLaw$Revokes" (1 : Nat)) ∈ lw_all := lw_g (lw_at lw_m6 167 rfl) rfl
theorem q1493 : (Jvm.Cond.instanceMethod ({ cls := "HeirsAtLaw$Revokes", name := "<init>", desc := "(I)V" } : Jvm.MethodName)) ∈ lw_all := lw_g (lw_at lw_m6 169 rfl) rfl
theorem q1494 : (Jvm.Cond.code ({ cls := "HeirsAtLaw$Revokes", name := "<init>", desc := "(I)V" } : Jvm.MethodName) prog_23_method_1_code (2 : Nat) (Option.none : Option Jvm.ClassFile.FieldType)) ∈ lw_all := lw_g (lw_at lw_m6 170 rfl) rfl
theorem q1495 : (Jvm.Cond.methodLink "HeirsAtLaw$Revokes" (1 : Nat) ({ cls := "HeirsAtLaw$OfOne", name := "<init>", desc := "(I)V" } : Jvm.MethodName)) ∈ lw_all := lw_g (lw_at lw_m6 171 rfl) rfl
theorem q1496 : (Jvm.Cond.laysFinal "HeirsAtLaw$Revokes" "HeirsAtLaw$OfOne" "one" "I") ∈ lw_all := lw_g (lw_at lw_m6 172 rfl) rfl
theorem q1497 : (Jvm.Cond.superclass "HeirsAtLaw$Revokes" "HeirsAtLaw$OfOne") ∈ lw_all := lw_g (lw_at lw_m6 173 rfl) rfl
theorem q2750 : (Jvm.Cond.castable "HeirsAtLaw$Revokes" "HeirsAtLaw$Act") ∈ lw_tbl := lw_at lw_m11 226 rfl
theorem q2771 : (Jvm.Cond.castable "HeirsAtLaw$Revokes" "java/lang/Object") ∈ lw_tbl := lw_at lw_m12 7 rfl
theorem in_X18 : ∀ w ∈ wsX180, w ∈ lw_all := lw_in wsX180 [1496] (by decide +kernel) (by decide +kernel)
/-! HeirsAtLaw$Weds -/
set_option maxRecDepth 100000
def RX19 : String := "HeirsAtLaw$Weds"
def TX19 : u_T := fun k => match k with
  | 0 => ("HeirsAtLaw$OfTwo", "other", "I", true)
  | _ => ("HeirsAtLaw$OfOne", "one", "I", true)
def tyX19 : Nat → FieldType := fun k => match k with
  | 0 => .int
  | _ => .int
abbrev wsX190 : List Cond := u_ws RX19 TX19 2
theorem nmX19 : ∀ a, a < 2 → ∀ b, b < 2 → a ≠ b → (TX19 a).2.1 ≠ (TX19 b).2.1 := by decide +kernel
theorem tyX19_ok : ∀ k, k < 2 → parseFieldDescriptor (TX19 k).2.2.1 = some (tyX19 k) := by decide +kernel
abbrev cX19_does : ByteArray := prog_27_method_2_code
def yX19_does : MethodName := ⟨RX19, "does", "(LHeirsAtLaw$Estate;)I"⟩
def dkwX19_does_1 : List UInt8 := [180, 0, 13, 182, 0, 22, 28, 16, 10, 184, 0, 25, 172]
abbrev dktX19_does_1 : List UInt8 := dkwX19_does_1 ++ []
def dkwX19_does_0 : List UInt8 := [43, 42, 180, 0, 7, 42, 180, 0, 13, 182, 0, 16, 61, 28, 154, 0, 15, 43, 42, 180, 0, 7, 42]
abbrev dktX19_does_0 : List UInt8 := dkwX19_does_0 ++ dktX19_does_1
theorem dksX19_does_0 : cX19_does.data.toList.drop 0 = dktX19_does_0 := by decide +kernel
theorem dksX19_does_1 : cX19_does.data.toList.drop 23 = dktX19_does_1 := dk_seg dksX19_does_0 23 rfl rfl
theorem dX19_does_0 : decode cX19_does 0 = .ok (.aload_n 1, 1) := dk_43 (dk_at dksX19_does_0 0 rfl rfl)
theorem dX19_does_1 : decode cX19_does 1 = .ok (.aload_n 0, 1) := dk_42 (dk_at dksX19_does_0 1 rfl rfl)
theorem dX19_does_2 : decode cX19_does 2 = .ok (.getfield 7, 3) := dk_180 0 7 (dk_at dksX19_does_0 2 rfl rfl)
theorem dX19_does_5 : decode cX19_does 5 = .ok (.aload_n 0, 1) := dk_42 (dk_at dksX19_does_0 5 rfl rfl)
theorem dX19_does_6 : decode cX19_does 6 = .ok (.getfield 13, 3) := dk_180 0 13 (dk_at dksX19_does_0 6 rfl rfl)
theorem dX19_does_9 : decode cX19_does 9 = .ok (.invokevirtual 16, 3) := dk_182 0 16 (dk_at dksX19_does_0 9 rfl rfl)
theorem dX19_does_12 : decode cX19_does 12 = .ok (.istore_n 2, 1) := dk_61 (dk_at dksX19_does_0 12 rfl rfl)
theorem dX19_does_13 : decode cX19_does 13 = .ok (.iload_n 2, 1) := dk_28 (dk_at dksX19_does_0 13 rfl rfl)
theorem dX19_does_14 : decode cX19_does 14 = .ok (.ifCond .ne 15, 3) := dk_154 0 15 (dk_at dksX19_does_0 14 rfl rfl)
theorem dX19_does_17 : decode cX19_does 17 = .ok (.aload_n 1, 1) := dk_43 (dk_at dksX19_does_0 17 rfl rfl)
theorem dX19_does_18 : decode cX19_does 18 = .ok (.aload_n 0, 1) := dk_42 (dk_at dksX19_does_0 18 rfl rfl)
theorem dX19_does_19 : decode cX19_does 19 = .ok (.getfield 7, 3) := dk_180 0 7 (dk_at dksX19_does_0 19 rfl rfl)
theorem dX19_does_22 : decode cX19_does 22 = .ok (.aload_n 0, 1) := dk_42 (dk_at dksX19_does_0 22 rfl rfl)
theorem dX19_does_23 : decode cX19_does 23 = .ok (.getfield 13, 3) := dk_180 0 13 (dk_at dksX19_does_1 0 rfl rfl)
theorem dX19_does_26 : decode cX19_does 26 = .ok (.invokevirtual 22, 3) := dk_182 0 22 (dk_at dksX19_does_1 3 rfl rfl)
theorem dX19_does_29 : decode cX19_does 29 = .ok (.iload_n 2, 1) := dk_28 (dk_at dksX19_does_1 6 rfl rfl)
theorem dX19_does_30 : decode cX19_does 30 = .ok (.bipush 10, 2) := dk_16 10 (dk_at dksX19_does_1 7 rfl rfl)
theorem dX19_does_32 : decode cX19_does 32 = .ok (.invokestatic 25, 3) := dk_184 0 25 (dk_at dksX19_does_1 9 rfl rfl)
theorem dX19_does_35 : decode cX19_does 35 = .ok (.ireturn, 1) := dk_172 (dk_at dksX19_does_1 12 rfl rfl)
abbrev cX19_init : ByteArray := prog_27_method_1_code
def yX19_init : MethodName := ⟨RX19, "<init>", "(II)V"⟩
def dkwX19_init_0 : List UInt8 := [42, 27, 28, 183, 0, 1, 177]
abbrev dktX19_init_0 : List UInt8 := dkwX19_init_0 ++ []
theorem dksX19_init_0 : cX19_init.data.toList.drop 0 = dktX19_init_0 := by decide +kernel
theorem dX19_init_0 : decode cX19_init 0 = .ok (.aload_n 0, 1) := dk_42 (dk_at dksX19_init_0 0 rfl rfl)
theorem dX19_init_1 : decode cX19_init 1 = .ok (.iload_n 1, 1) := dk_27 (dk_at dksX19_init_0 1 rfl rfl)
theorem dX19_init_2 : decode cX19_init 2 = .ok (.iload_n 2, 1) := dk_28 (dk_at dksX19_init_0 2 rfl rfl)
theorem dX19_init_3 : decode cX19_init 3 = .ok (.invokespecial 1, 3) := dk_183 0 1 (dk_at dksX19_init_0 3 rfl rfl)
theorem dX19_init_6 : decode cX19_init 6 = .ok (.return_, 1) := dk_177 (dk_at dksX19_init_0 6 rfl rfl)
theorem q164 : (Jvm.Cond.initialized "HeirsAtLaw$Weds") ∈ lw_all := lw_g (lw_at lw_m1 40 rfl) rfl
theorem q1074 : (Jvm.Cond.selects "HeirsAtLaw$Weds" ({ cls := "java/lang/Object", name := "getClass", desc := "()Ljava/lang/Class;" } : Jvm.MethodName) ({ cls := "java/lang/Object", name := "getClass", desc := "()Ljava/lang/Class;" } : Jvm.MethodName)) ∈ lw_all := lw_g (lw_at lw_m4 230 rfl) rfl
theorem q1260 : (Jvm.Cond.fieldLink "HeirsAtLaw$Weds" (7 : Nat) "HeirsAtLaw$Weds" "one" "I") ∈ lw_all := lw_g (lw_at lw_m5 176 rfl) rfl
theorem q1261 : (Jvm.Cond.sameField "HeirsAtLaw$Weds" "HeirsAtLaw$OfOne" "one" "I") ∈ lw_all := lw_g (lw_at lw_m5 177 rfl) rfl
theorem q1395 : (Jvm.Cond.selects "HeirsAtLaw$Weds" ({ cls := "HeirsAtLaw$Act", name := "does", desc := "(LHeirsAtLaw$Estate;)I" } : Jvm.MethodName) ({ cls := "HeirsAtLaw$Weds", name := "does", desc := "(LHeirsAtLaw$Estate;)I" } : Jvm.MethodName)) ∈ lw_all := lw_g (lw_at lw_m6 71 rfl) rfl
theorem q1396 : (Jvm.Cond.instanceMethod ({ cls := "HeirsAtLaw$Weds", name := "does", desc := "(LHeirsAtLaw$Estate;)I" } : Jvm.MethodName)) ∈ lw_all := lw_g (lw_at lw_m6 72 rfl) rfl
theorem q1397 : (Jvm.Cond.code ({ cls := "HeirsAtLaw$Weds", name := "does", desc := "(LHeirsAtLaw$Estate;)I" } : Jvm.MethodName) prog_27_method_2_code (3 : Nat) (Option.some Jvm.ClassFile.FieldType.int)) ∈ lw_all := lw_g (lw_at lw_m6 73 rfl) rfl
theorem q1398 : (Jvm.Cond.methodLink "HeirsAtLaw$Weds" (16 : Nat) ({ cls := "HeirsAtLaw$Estate", name := "whyWed", desc := "(II)I" } : Jvm.MethodName)) ∈ lw_all := lw_g (lw_at lw_m6 74 rfl) rfl
theorem q1404 : (Jvm.Cond.methodLink "HeirsAtLaw$Weds" (22 : Nat) ({ cls := "HeirsAtLaw$Estate", name := "wed", desc := "(II)V" } : Jvm.MethodName)) ∈ lw_all := lw_g (lw_at lw_m6 80 rfl) rfl
theorem q1408 : (Jvm.Cond.methodLink "HeirsAtLaw$Weds" (25 : Nat) ({ cls := "HeirsAtLaw$Weds", name := "told", desc := "(II)I" } : Jvm.MethodName)) ∈ lw_all := lw_g (lw_at lw_m6 84 rfl) rfl
theorem q1409 : (Jvm.Cond.sameMethod "HeirsAtLaw$Weds" "HeirsAtLaw$Act" "told" "(II)I") ∈ lw_all := lw_g (lw_at lw_m6 85 rfl) rfl
theorem q1423 : (Jvm.Cond.instantiable "HeirsAtLaw$Weds" (2 : Nat)) ∈ lw_all := lw_g (lw_at lw_m6 99 rfl) rfl
theorem q1425 : (Jvm.Cond.instanceMethod ({ cls := "HeirsAtLaw$Weds", name := "<init>", desc := "(II)V" } : Jvm.MethodName)) ∈ lw_all := lw_g (lw_at lw_m6 101 rfl) rfl
theorem q1426 : (Jvm.Cond.code ({ cls := "HeirsAtLaw$Weds", name := "<init>", desc := "(II)V" } : Jvm.MethodName) prog_27_method_1_code (3 : Nat) (Option.none : Option Jvm.ClassFile.FieldType)) ∈ lw_all := lw_g (lw_at lw_m6 102 rfl) rfl
theorem q1427 : (Jvm.Cond.methodLink "HeirsAtLaw$Weds" (1 : Nat) ({ cls := "HeirsAtLaw$OfTwo", name := "<init>", desc := "(II)V" } : Jvm.MethodName)) ∈ lw_all := lw_g (lw_at lw_m6 103 rfl) rfl
theorem q1436 : (Jvm.Cond.fieldLink "HeirsAtLaw$Weds" (13 : Nat) "HeirsAtLaw$Weds" "other" "I") ∈ lw_all := lw_g (lw_at lw_m6 112 rfl) rfl
theorem q1437 : (Jvm.Cond.sameField "HeirsAtLaw$Weds" "HeirsAtLaw$OfTwo" "other" "I") ∈ lw_all := lw_g (lw_at lw_m6 113 rfl) rfl
theorem q1438 : (Jvm.Cond.laysFinal "HeirsAtLaw$Weds" "HeirsAtLaw$OfTwo" "other" "I") ∈ lw_all := lw_g (lw_at lw_m6 114 rfl) rfl
theorem q1440 : (Jvm.Cond.laysFinal "HeirsAtLaw$Weds" "HeirsAtLaw$OfOne" "one" "I") ∈ lw_all := lw_g (lw_at lw_m6 116 rfl) rfl
theorem q1441 : (Jvm.Cond.superclass "HeirsAtLaw$Weds" "HeirsAtLaw$OfTwo") ∈ lw_all := lw_g (lw_at lw_m6 117 rfl) rfl
theorem q2751 : (Jvm.Cond.castable "HeirsAtLaw$Weds" "HeirsAtLaw$Act") ∈ lw_tbl := lw_at lw_m11 227 rfl
theorem q2767 : (Jvm.Cond.castable "HeirsAtLaw$Weds" "java/lang/Object") ∈ lw_tbl := lw_at lw_m12 3 rfl
theorem in_X19 : ∀ w ∈ wsX190, w ∈ lw_all := lw_in wsX190 [1438, 1440] (by decide +kernel) (by decide +kernel)
/-! HeirsAtLaw$Family -/
set_option maxRecDepth 100000
def RX2 : String := "HeirsAtLaw$Family"
def TX2 : u_T := fun k => match k with
  | 0 => ("HeirsAtLaw$Family", "lines", "I", false)
  | 1 => ("HeirsAtLaw$Family", "links", "I", false)
  | 2 => ("HeirsAtLaw$Family", "widow", "I", false)
  | 3 => ("HeirsAtLaw$Family", "persons", "Ljava/util/ArrayList;", true)
  | _ => ("HeirsAtLaw$Family", "wills", "Ljava/util/ArrayList;", true)
def tyX2 : Nat → FieldType := fun k => match k with
  | 0 => .int
  | 1 => .int
  | 2 => .int
  | 3 => .object "java/util/ArrayList"
  | _ => .object "java/util/ArrayList"
abbrev wsX20 : List Cond := u_ws RX2 TX2 5
theorem nmX2 : ∀ a, a < 5 → ∀ b, b < 5 → a ≠ b → (TX2 a).2.1 ≠ (TX2 b).2.1 := by decide +kernel
theorem tyX2_ok : ∀ k, k < 5 → parseFieldDescriptor (TX2 k).2.2.1 = some (tyX2 k) := by decide +kernel
abbrev cX2_init : ByteArray := prog_7_method_1_code
def yX2_init : MethodName := ⟨RX2, "<init>", "()V"⟩
def dkwX2_init_1 : List UInt8 := [187, 0, 15, 89, 183, 0, 17, 181, 0, 22, 177]
abbrev dktX2_init_1 : List UInt8 := dkwX2_init_1 ++ []
def dkwX2_init_0 : List UInt8 := [42, 183, 0, 3, 42, 16, 50, 181, 0, 9, 42, 187, 0, 15, 89, 183, 0, 17, 181, 0, 18, 42]
abbrev dktX2_init_0 : List UInt8 := dkwX2_init_0 ++ dktX2_init_1
theorem dksX2_init_0 : cX2_init.data.toList.drop 0 = dktX2_init_0 := by decide +kernel
theorem dksX2_init_1 : cX2_init.data.toList.drop 22 = dktX2_init_1 := dk_seg dksX2_init_0 22 rfl rfl
theorem dX2_init_0 : decode cX2_init 0 = .ok (.aload_n 0, 1) := dk_42 (dk_at dksX2_init_0 0 rfl rfl)
theorem dX2_init_1 : decode cX2_init 1 = .ok (.invokespecial 3, 3) := dk_183 0 3 (dk_at dksX2_init_0 1 rfl rfl)
theorem dX2_init_4 : decode cX2_init 4 = .ok (.aload_n 0, 1) := dk_42 (dk_at dksX2_init_0 4 rfl rfl)
theorem dX2_init_5 : decode cX2_init 5 = .ok (.bipush 50, 2) := dk_16 50 (dk_at dksX2_init_0 5 rfl rfl)
theorem dX2_init_7 : decode cX2_init 7 = .ok (.putfield 9, 3) := dk_181 0 9 (dk_at dksX2_init_0 7 rfl rfl)
theorem dX2_init_10 : decode cX2_init 10 = .ok (.aload_n 0, 1) := dk_42 (dk_at dksX2_init_0 10 rfl rfl)
theorem dX2_init_11 : decode cX2_init 11 = .ok (.new 15, 3) := dk_187 0 15 (dk_at dksX2_init_0 11 rfl rfl)
theorem dX2_init_14 : decode cX2_init 14 = .ok (.dup, 1) := dk_89 (dk_at dksX2_init_0 14 rfl rfl)
theorem dX2_init_15 : decode cX2_init 15 = .ok (.invokespecial 17, 3) := dk_183 0 17 (dk_at dksX2_init_0 15 rfl rfl)
theorem dX2_init_18 : decode cX2_init 18 = .ok (.putfield 18, 3) := dk_181 0 18 (dk_at dksX2_init_0 18 rfl rfl)
theorem dX2_init_21 : decode cX2_init 21 = .ok (.aload_n 0, 1) := dk_42 (dk_at dksX2_init_0 21 rfl rfl)
theorem dX2_init_22 : decode cX2_init 22 = .ok (.new 15, 3) := dk_187 0 15 (dk_at dksX2_init_1 0 rfl rfl)
theorem dX2_init_25 : decode cX2_init 25 = .ok (.dup, 1) := dk_89 (dk_at dksX2_init_1 3 rfl rfl)
theorem dX2_init_26 : decode cX2_init 26 = .ok (.invokespecial 17, 3) := dk_183 0 17 (dk_at dksX2_init_1 4 rfl rfl)
theorem dX2_init_29 : decode cX2_init 29 = .ok (.putfield 22, 3) := dk_181 0 22 (dk_at dksX2_init_1 7 rfl rfl)
theorem dX2_init_32 : decode cX2_init 32 = .ok (.return_, 1) := dk_177 (dk_at dksX2_init_1 10 rfl rfl)
abbrev cX2_person : ByteArray := prog_7_method_3_code
def yX2_person : MethodName := ⟨RX2, "person", "(I)LHeirsAtLaw$Person;"⟩
def dkwX2_person_0 : List UInt8 := [42, 180, 0, 18, 27, 182, 0, 33, 192, 0, 37, 176]
abbrev dktX2_person_0 : List UInt8 := dkwX2_person_0 ++ []
theorem dksX2_person_0 : cX2_person.data.toList.drop 0 = dktX2_person_0 := by decide +kernel
theorem dX2_person_0 : decode cX2_person 0 = .ok (.aload_n 0, 1) := dk_42 (dk_at dksX2_person_0 0 rfl rfl)
theorem dX2_person_1 : decode cX2_person 1 = .ok (.getfield 18, 3) := dk_180 0 18 (dk_at dksX2_person_0 1 rfl rfl)
theorem dX2_person_4 : decode cX2_person 4 = .ok (.iload_n 1, 1) := dk_27 (dk_at dksX2_person_0 4 rfl rfl)
theorem dX2_person_5 : decode cX2_person 5 = .ok (.invokevirtual 33, 3) := dk_182 0 33 (dk_at dksX2_person_0 5 rfl rfl)
theorem dX2_person_8 : decode cX2_person 8 = .ok (.checkcast 37, 3) := dk_192 0 37 (dk_at dksX2_person_0 8 rfl rfl)
theorem dX2_person_11 : decode cX2_person 11 = .ok (.areturn, 1) := dk_176 (dk_at dksX2_person_0 11 rfl rfl)
abbrev cX2_isPerson : ByteArray := prog_7_method_2_code
def yX2_isPerson : MethodName := ⟨RX2, "isPerson", "(I)Z"⟩
def dkwX2_isPerson_0 : List UInt8 := [27, 3, 42, 180, 0, 18, 182, 0, 25, 4, 100, 184, 0, 29, 172]
abbrev dktX2_isPerson_0 : List UInt8 := dkwX2_isPerson_0 ++ []
theorem dksX2_isPerson_0 : cX2_isPerson.data.toList.drop 0 = dktX2_isPerson_0 := by decide +kernel
theorem dX2_isPerson_0 : decode cX2_isPerson 0 = .ok (.iload_n 1, 1) := dk_27 (dk_at dksX2_isPerson_0 0 rfl rfl)
theorem dX2_isPerson_1 : decode cX2_isPerson 1 = .ok (.iconst 0, 1) := dk_3 (dk_at dksX2_isPerson_0 1 rfl rfl)
theorem dX2_isPerson_2 : decode cX2_isPerson 2 = .ok (.aload_n 0, 1) := dk_42 (dk_at dksX2_isPerson_0 2 rfl rfl)
theorem dX2_isPerson_3 : decode cX2_isPerson 3 = .ok (.getfield 18, 3) := dk_180 0 18 (dk_at dksX2_isPerson_0 3 rfl rfl)
theorem dX2_isPerson_6 : decode cX2_isPerson 6 = .ok (.invokevirtual 25, 3) := dk_182 0 25 (dk_at dksX2_isPerson_0 6 rfl rfl)
theorem dX2_isPerson_9 : decode cX2_isPerson 9 = .ok (.iconst 1, 1) := dk_4 (dk_at dksX2_isPerson_0 9 rfl rfl)
theorem dX2_isPerson_10 : decode cX2_isPerson 10 = .ok (.isub, 1) := dk_100 (dk_at dksX2_isPerson_0 10 rfl rfl)
theorem dX2_isPerson_11 : decode cX2_isPerson 11 = .ok (.invokestatic 29, 3) := dk_184 0 29 (dk_at dksX2_isPerson_0 11 rfl rfl)
theorem dX2_isPerson_14 : decode cX2_isPerson 14 = .ok (.ireturn, 1) := dk_172 (dk_at dksX2_isPerson_0 14 rfl rfl)
abbrev cX2_degree : ByteArray := prog_7_method_6_code
def yX2_degree : MethodName := ⟨RX2, "degree", "(II)I"⟩
def dkwX2_degree_4 : List UInt8 := [17, 3, 232, 160, 0, 7, 2, 167, 0, 4, 29, 172]
abbrev dktX2_degree_4 : List UInt8 := dkwX2_degree_4 ++ []
def dkwX2_degree_3 : List UInt8 := [132, 7, 1, 167, 255, 214, 42, 21, 4, 4, 182, 0, 53, 54, 4, 132, 5, 1, 167, 255, 179, 29]
abbrev dktX2_degree_3 : List UInt8 := dkwX2_degree_3 ++ dktX2_degree_4
def dkwX2_degree_2 : List UInt8 := [126, 153, 0, 13, 29, 21, 5, 21, 7, 96, 184, 0, 57, 62, 42, 21, 6, 4, 182, 0, 53, 54, 6]
abbrev dktX2_degree_2 : List UInt8 := dkwX2_degree_2 ++ dktX2_degree_3
def dkwX2_degree_1 : List UInt8 := [4, 28, 120, 54, 6, 3, 54, 7, 21, 7, 42, 180, 0, 18, 182, 0, 25, 163, 0, 36, 21, 4, 21, 6]
abbrev dktX2_degree_1 : List UInt8 := dkwX2_degree_1 ++ dktX2_degree_2
def dkwX2_degree_0 : List UInt8 := [17, 3, 232, 62, 4, 27, 120, 54, 4, 3, 54, 5, 21, 5, 42, 180, 0, 18, 182, 0, 25, 163, 0, 71]
abbrev dktX2_degree_0 : List UInt8 := dkwX2_degree_0 ++ dktX2_degree_1
theorem dksX2_degree_0 : cX2_degree.data.toList.drop 0 = dktX2_degree_0 := by decide +kernel
theorem dksX2_degree_1 : cX2_degree.data.toList.drop 24 = dktX2_degree_1 := dk_seg dksX2_degree_0 24 rfl rfl
theorem dksX2_degree_2 : cX2_degree.data.toList.drop 48 = dktX2_degree_2 := dk_seg dksX2_degree_1 24 rfl rfl
theorem dksX2_degree_3 : cX2_degree.data.toList.drop 71 = dktX2_degree_3 := dk_seg dksX2_degree_2 23 rfl rfl
theorem dksX2_degree_4 : cX2_degree.data.toList.drop 93 = dktX2_degree_4 := dk_seg dksX2_degree_3 22 rfl rfl
theorem dX2_degree_0 : decode cX2_degree 0 = .ok (.sipush 1000, 3) := dk_17 3 232 (dk_at dksX2_degree_0 0 rfl rfl)
theorem dX2_degree_3 : decode cX2_degree 3 = .ok (.istore_n 3, 1) := dk_62 (dk_at dksX2_degree_0 3 rfl rfl)
theorem dX2_degree_4 : decode cX2_degree 4 = .ok (.iconst 1, 1) := dk_4 (dk_at dksX2_degree_0 4 rfl rfl)
theorem dX2_degree_5 : decode cX2_degree 5 = .ok (.iload_n 1, 1) := dk_27 (dk_at dksX2_degree_0 5 rfl rfl)
theorem dX2_degree_6 : decode cX2_degree 6 = .ok (.ishl, 1) := dk_120 (dk_at dksX2_degree_0 6 rfl rfl)
theorem dX2_degree_7 : decode cX2_degree 7 = .ok (.istore 4, 2) := dk_54 4 (dk_at dksX2_degree_0 7 rfl rfl)
theorem dX2_degree_9 : decode cX2_degree 9 = .ok (.iconst 0, 1) := dk_3 (dk_at dksX2_degree_0 9 rfl rfl)
theorem dX2_degree_10 : decode cX2_degree 10 = .ok (.istore 5, 2) := dk_54 5 (dk_at dksX2_degree_0 10 rfl rfl)
theorem dX2_degree_12 : decode cX2_degree 12 = .ok (.iload 5, 2) := dk_21 5 (dk_at dksX2_degree_0 12 rfl rfl)
theorem dX2_degree_14 : decode cX2_degree 14 = .ok (.aload_n 0, 1) := dk_42 (dk_at dksX2_degree_0 14 rfl rfl)
theorem dX2_degree_15 : decode cX2_degree 15 = .ok (.getfield 18, 3) := dk_180 0 18 (dk_at dksX2_degree_0 15 rfl rfl)
theorem dX2_degree_18 : decode cX2_degree 18 = .ok (.invokevirtual 25, 3) := dk_182 0 25 (dk_at dksX2_degree_0 18 rfl rfl)
theorem dX2_degree_21 : decode cX2_degree 21 = .ok (.if_icmp .gt 71, 3) := dk_163 0 71 (dk_at dksX2_degree_0 21 rfl rfl)
theorem dX2_degree_24 : decode cX2_degree 24 = .ok (.iconst 1, 1) := dk_4 (dk_at dksX2_degree_1 0 rfl rfl)
theorem dX2_degree_25 : decode cX2_degree 25 = .ok (.iload_n 2, 1) := dk_28 (dk_at dksX2_degree_1 1 rfl rfl)
theorem dX2_degree_26 : decode cX2_degree 26 = .ok (.ishl, 1) := dk_120 (dk_at dksX2_degree_1 2 rfl rfl)
theorem dX2_degree_27 : decode cX2_degree 27 = .ok (.istore 6, 2) := dk_54 6 (dk_at dksX2_degree_1 3 rfl rfl)
theorem dX2_degree_29 : decode cX2_degree 29 = .ok (.iconst 0, 1) := dk_3 (dk_at dksX2_degree_1 5 rfl rfl)
theorem dX2_degree_30 : decode cX2_degree 30 = .ok (.istore 7, 2) := dk_54 7 (dk_at dksX2_degree_1 6 rfl rfl)
theorem dX2_degree_32 : decode cX2_degree 32 = .ok (.iload 7, 2) := dk_21 7 (dk_at dksX2_degree_1 8 rfl rfl)
theorem dX2_degree_34 : decode cX2_degree 34 = .ok (.aload_n 0, 1) := dk_42 (dk_at dksX2_degree_1 10 rfl rfl)
theorem dX2_degree_35 : decode cX2_degree 35 = .ok (.getfield 18, 3) := dk_180 0 18 (dk_at dksX2_degree_1 11 rfl rfl)
theorem dX2_degree_38 : decode cX2_degree 38 = .ok (.invokevirtual 25, 3) := dk_182 0 25 (dk_at dksX2_degree_1 14 rfl rfl)
theorem dX2_degree_41 : decode cX2_degree 41 = .ok (.if_icmp .gt 36, 3) := dk_163 0 36 (dk_at dksX2_degree_1 17 rfl rfl)
theorem dX2_degree_44 : decode cX2_degree 44 = .ok (.iload 4, 2) := dk_21 4 (dk_at dksX2_degree_1 20 rfl rfl)
theorem dX2_degree_46 : decode cX2_degree 46 = .ok (.iload 6, 2) := dk_21 6 (dk_at dksX2_degree_1 22 rfl rfl)
theorem dX2_degree_48 : decode cX2_degree 48 = .ok (.iand, 1) := dk_126 (dk_at dksX2_degree_2 0 rfl rfl)
theorem dX2_degree_49 : decode cX2_degree 49 = .ok (.ifCond .eq 13, 3) := dk_153 0 13 (dk_at dksX2_degree_2 1 rfl rfl)
theorem dX2_degree_52 : decode cX2_degree 52 = .ok (.iload_n 3, 1) := dk_29 (dk_at dksX2_degree_2 4 rfl rfl)
theorem dX2_degree_53 : decode cX2_degree 53 = .ok (.iload 5, 2) := dk_21 5 (dk_at dksX2_degree_2 5 rfl rfl)
theorem dX2_degree_55 : decode cX2_degree 55 = .ok (.iload 7, 2) := dk_21 7 (dk_at dksX2_degree_2 7 rfl rfl)
theorem dX2_degree_57 : decode cX2_degree 57 = .ok (.iadd, 1) := dk_96 (dk_at dksX2_degree_2 9 rfl rfl)
theorem dX2_degree_58 : decode cX2_degree 58 = .ok (.invokestatic 57, 3) := dk_184 0 57 (dk_at dksX2_degree_2 10 rfl rfl)
theorem dX2_degree_61 : decode cX2_degree 61 = .ok (.istore_n 3, 1) := dk_62 (dk_at dksX2_degree_2 13 rfl rfl)
theorem dX2_degree_62 : decode cX2_degree 62 = .ok (.aload_n 0, 1) := dk_42 (dk_at dksX2_degree_2 14 rfl rfl)
theorem dX2_degree_63 : decode cX2_degree 63 = .ok (.iload 6, 2) := dk_21 6 (dk_at dksX2_degree_2 15 rfl rfl)
theorem dX2_degree_65 : decode cX2_degree 65 = .ok (.iconst 1, 1) := dk_4 (dk_at dksX2_degree_2 17 rfl rfl)
theorem dX2_degree_66 : decode cX2_degree 66 = .ok (.invokevirtual 53, 3) := dk_182 0 53 (dk_at dksX2_degree_2 18 rfl rfl)
theorem dX2_degree_69 : decode cX2_degree 69 = .ok (.istore 6, 2) := dk_54 6 (dk_at dksX2_degree_2 21 rfl rfl)
theorem dX2_degree_71 : decode cX2_degree 71 = .ok (.iinc 7 1, 3) := dk_132 7 1 (dk_at dksX2_degree_3 0 rfl rfl)
theorem dX2_degree_74 : decode cX2_degree 74 = .ok (.goto (-42), 3) := dk_167 255 214 (dk_at dksX2_degree_3 3 rfl rfl)
theorem dX2_degree_77 : decode cX2_degree 77 = .ok (.aload_n 0, 1) := dk_42 (dk_at dksX2_degree_3 6 rfl rfl)
theorem dX2_degree_78 : decode cX2_degree 78 = .ok (.iload 4, 2) := dk_21 4 (dk_at dksX2_degree_3 7 rfl rfl)
theorem dX2_degree_80 : decode cX2_degree 80 = .ok (.iconst 1, 1) := dk_4 (dk_at dksX2_degree_3 9 rfl rfl)
theorem dX2_degree_81 : decode cX2_degree 81 = .ok (.invokevirtual 53, 3) := dk_182 0 53 (dk_at dksX2_degree_3 10 rfl rfl)
theorem dX2_degree_84 : decode cX2_degree 84 = .ok (.istore 4, 2) := dk_54 4 (dk_at dksX2_degree_3 13 rfl rfl)
theorem dX2_degree_86 : decode cX2_degree 86 = .ok (.iinc 5 1, 3) := dk_132 5 1 (dk_at dksX2_degree_3 15 rfl rfl)
theorem dX2_degree_89 : decode cX2_degree 89 = .ok (.goto (-77), 3) := dk_167 255 179 (dk_at dksX2_degree_3 18 rfl rfl)
theorem dX2_degree_92 : decode cX2_degree 92 = .ok (.iload_n 3, 1) := dk_29 (dk_at dksX2_degree_3 21 rfl rfl)
theorem dX2_degree_93 : decode cX2_degree 93 = .ok (.sipush 1000, 3) := dk_17 3 232 (dk_at dksX2_degree_4 0 rfl rfl)
theorem dX2_degree_96 : decode cX2_degree 96 = .ok (.if_icmp .ne 7, 3) := dk_160 0 7 (dk_at dksX2_degree_4 3 rfl rfl)
theorem dX2_degree_99 : decode cX2_degree 99 = .ok (.iconst (-1), 1) := dk_2 (dk_at dksX2_degree_4 6 rfl rfl)
theorem dX2_degree_100 : decode cX2_degree 100 = .ok (.goto 4, 3) := dk_167 0 4 (dk_at dksX2_degree_4 7 rfl rfl)
theorem dX2_degree_103 : decode cX2_degree 103 = .ok (.iload_n 3, 1) := dk_29 (dk_at dksX2_degree_4 10 rfl rfl)
theorem dX2_degree_104 : decode cX2_degree 104 = .ok (.ireturn, 1) := dk_172 (dk_at dksX2_degree_4 11 rfl rfl)
abbrev cX2_next : ByteArray := prog_7_method_4_code
def yX2_next : MethodName := ⟨RX2, "next", "(IZ)I"⟩
def dkwX2_next_2 : List UInt8 := [182, 0, 43, 180, 0, 50, 128, 62, 132, 4, 1, 167, 255, 204, 29, 172]
abbrev dktX2_next_2 : List UInt8 := dkwX2_next_2 ++ []
def dkwX2_next_1 : List UInt8 := [153, 0, 31, 29, 28, 153, 0, 15, 42, 21, 4, 182, 0, 43, 180, 0, 47, 167, 0, 12, 42, 21, 4]
abbrev dktX2_next_1 : List UInt8 := dkwX2_next_1 ++ dktX2_next_2
def dkwX2_next_0 : List UInt8 := [3, 62, 3, 54, 4, 21, 4, 42, 180, 0, 18, 182, 0, 25, 162, 0, 46, 27, 21, 4, 184, 0, 39]
abbrev dktX2_next_0 : List UInt8 := dkwX2_next_0 ++ dktX2_next_1
theorem dksX2_next_0 : cX2_next.data.toList.drop 0 = dktX2_next_0 := by decide +kernel
theorem dksX2_next_1 : cX2_next.data.toList.drop 23 = dktX2_next_1 := dk_seg dksX2_next_0 23 rfl rfl
theorem dksX2_next_2 : cX2_next.data.toList.drop 46 = dktX2_next_2 := dk_seg dksX2_next_1 23 rfl rfl
theorem dX2_next_0 : decode cX2_next 0 = .ok (.iconst 0, 1) := dk_3 (dk_at dksX2_next_0 0 rfl rfl)
theorem dX2_next_1 : decode cX2_next 1 = .ok (.istore_n 3, 1) := dk_62 (dk_at dksX2_next_0 1 rfl rfl)
theorem dX2_next_2 : decode cX2_next 2 = .ok (.iconst 0, 1) := dk_3 (dk_at dksX2_next_0 2 rfl rfl)
theorem dX2_next_3 : decode cX2_next 3 = .ok (.istore 4, 2) := dk_54 4 (dk_at dksX2_next_0 3 rfl rfl)
theorem dX2_next_5 : decode cX2_next 5 = .ok (.iload 4, 2) := dk_21 4 (dk_at dksX2_next_0 5 rfl rfl)
theorem dX2_next_7 : decode cX2_next 7 = .ok (.aload_n 0, 1) := dk_42 (dk_at dksX2_next_0 7 rfl rfl)
theorem dX2_next_8 : decode cX2_next 8 = .ok (.getfield 18, 3) := dk_180 0 18 (dk_at dksX2_next_0 8 rfl rfl)
theorem dX2_next_11 : decode cX2_next 11 = .ok (.invokevirtual 25, 3) := dk_182 0 25 (dk_at dksX2_next_0 11 rfl rfl)
theorem dX2_next_14 : decode cX2_next 14 = .ok (.if_icmp .ge 46, 3) := dk_162 0 46 (dk_at dksX2_next_0 14 rfl rfl)
theorem dX2_next_17 : decode cX2_next 17 = .ok (.iload_n 1, 1) := dk_27 (dk_at dksX2_next_0 17 rfl rfl)
theorem dX2_next_18 : decode cX2_next 18 = .ok (.iload 4, 2) := dk_21 4 (dk_at dksX2_next_0 18 rfl rfl)
theorem dX2_next_20 : decode cX2_next 20 = .ok (.invokestatic 39, 3) := dk_184 0 39 (dk_at dksX2_next_0 20 rfl rfl)
theorem dX2_next_23 : decode cX2_next 23 = .ok (.ifCond .eq 31, 3) := dk_153 0 31 (dk_at dksX2_next_1 0 rfl rfl)
theorem dX2_next_26 : decode cX2_next 26 = .ok (.iload_n 3, 1) := dk_29 (dk_at dksX2_next_1 3 rfl rfl)
theorem dX2_next_27 : decode cX2_next 27 = .ok (.iload_n 2, 1) := dk_28 (dk_at dksX2_next_1 4 rfl rfl)
theorem dX2_next_28 : decode cX2_next 28 = .ok (.ifCond .eq 15, 3) := dk_153 0 15 (dk_at dksX2_next_1 5 rfl rfl)
theorem dX2_next_31 : decode cX2_next 31 = .ok (.aload_n 0, 1) := dk_42 (dk_at dksX2_next_1 8 rfl rfl)
theorem dX2_next_32 : decode cX2_next 32 = .ok (.iload 4, 2) := dk_21 4 (dk_at dksX2_next_1 9 rfl rfl)
theorem dX2_next_34 : decode cX2_next 34 = .ok (.invokevirtual 43, 3) := dk_182 0 43 (dk_at dksX2_next_1 11 rfl rfl)
theorem dX2_next_37 : decode cX2_next 37 = .ok (.getfield 47, 3) := dk_180 0 47 (dk_at dksX2_next_1 14 rfl rfl)
theorem dX2_next_40 : decode cX2_next 40 = .ok (.goto 12, 3) := dk_167 0 12 (dk_at dksX2_next_1 17 rfl rfl)
theorem dX2_next_43 : decode cX2_next 43 = .ok (.aload_n 0, 1) := dk_42 (dk_at dksX2_next_1 20 rfl rfl)
theorem dX2_next_44 : decode cX2_next 44 = .ok (.iload 4, 2) := dk_21 4 (dk_at dksX2_next_1 21 rfl rfl)
theorem dX2_next_46 : decode cX2_next 46 = .ok (.invokevirtual 43, 3) := dk_182 0 43 (dk_at dksX2_next_2 0 rfl rfl)
theorem dX2_next_49 : decode cX2_next 49 = .ok (.getfield 50, 3) := dk_180 0 50 (dk_at dksX2_next_2 3 rfl rfl)
theorem dX2_next_52 : decode cX2_next 52 = .ok (.ior, 1) := dk_128 (dk_at dksX2_next_2 6 rfl rfl)
theorem dX2_next_53 : decode cX2_next 53 = .ok (.istore_n 3, 1) := dk_62 (dk_at dksX2_next_2 7 rfl rfl)
theorem dX2_next_54 : decode cX2_next 54 = .ok (.iinc 4 1, 3) := dk_132 4 1 (dk_at dksX2_next_2 8 rfl rfl)
theorem dX2_next_57 : decode cX2_next 57 = .ok (.goto (-52), 3) := dk_167 255 204 (dk_at dksX2_next_2 11 rfl rfl)
theorem dX2_next_60 : decode cX2_next 60 = .ok (.iload_n 3, 1) := dk_29 (dk_at dksX2_next_2 14 rfl rfl)
theorem dX2_next_61 : decode cX2_next 61 = .ok (.ireturn, 1) := dk_172 (dk_at dksX2_next_2 15 rfl rfl)
abbrev cX2_issue : ByteArray := prog_7_method_5_code
def yX2_issue : MethodName := ⟨RX2, "issue", "(I)I"⟩
def dkwX2_issue_1 : List UInt8 := [3, 182, 0, 53, 128, 61, 167, 255, 235, 28, 172]
abbrev dktX2_issue_1 : List UInt8 := dkwX2_issue_1 ++ []
def dkwX2_issue_0 : List UInt8 := [42, 27, 182, 0, 43, 180, 0, 50, 61, 28, 42, 28, 3, 182, 0, 53, 128, 28, 159, 0, 15, 28, 42, 28]
abbrev dktX2_issue_0 : List UInt8 := dkwX2_issue_0 ++ dktX2_issue_1
theorem dksX2_issue_0 : cX2_issue.data.toList.drop 0 = dktX2_issue_0 := by decide +kernel
theorem dksX2_issue_1 : cX2_issue.data.toList.drop 24 = dktX2_issue_1 := dk_seg dksX2_issue_0 24 rfl rfl
theorem dX2_issue_0 : decode cX2_issue 0 = .ok (.aload_n 0, 1) := dk_42 (dk_at dksX2_issue_0 0 rfl rfl)
theorem dX2_issue_1 : decode cX2_issue 1 = .ok (.iload_n 1, 1) := dk_27 (dk_at dksX2_issue_0 1 rfl rfl)
theorem dX2_issue_2 : decode cX2_issue 2 = .ok (.invokevirtual 43, 3) := dk_182 0 43 (dk_at dksX2_issue_0 2 rfl rfl)
theorem dX2_issue_5 : decode cX2_issue 5 = .ok (.getfield 50, 3) := dk_180 0 50 (dk_at dksX2_issue_0 5 rfl rfl)
theorem dX2_issue_8 : decode cX2_issue 8 = .ok (.istore_n 2, 1) := dk_61 (dk_at dksX2_issue_0 8 rfl rfl)
theorem dX2_issue_9 : decode cX2_issue 9 = .ok (.iload_n 2, 1) := dk_28 (dk_at dksX2_issue_0 9 rfl rfl)
theorem dX2_issue_10 : decode cX2_issue 10 = .ok (.aload_n 0, 1) := dk_42 (dk_at dksX2_issue_0 10 rfl rfl)
theorem dX2_issue_11 : decode cX2_issue 11 = .ok (.iload_n 2, 1) := dk_28 (dk_at dksX2_issue_0 11 rfl rfl)
theorem dX2_issue_12 : decode cX2_issue 12 = .ok (.iconst 0, 1) := dk_3 (dk_at dksX2_issue_0 12 rfl rfl)
theorem dX2_issue_13 : decode cX2_issue 13 = .ok (.invokevirtual 53, 3) := dk_182 0 53 (dk_at dksX2_issue_0 13 rfl rfl)
theorem dX2_issue_16 : decode cX2_issue 16 = .ok (.ior, 1) := dk_128 (dk_at dksX2_issue_0 16 rfl rfl)
theorem dX2_issue_17 : decode cX2_issue 17 = .ok (.iload_n 2, 1) := dk_28 (dk_at dksX2_issue_0 17 rfl rfl)
theorem dX2_issue_18 : decode cX2_issue 18 = .ok (.if_icmp .eq 15, 3) := dk_159 0 15 (dk_at dksX2_issue_0 18 rfl rfl)
theorem dX2_issue_21 : decode cX2_issue 21 = .ok (.iload_n 2, 1) := dk_28 (dk_at dksX2_issue_0 21 rfl rfl)
theorem dX2_issue_22 : decode cX2_issue 22 = .ok (.aload_n 0, 1) := dk_42 (dk_at dksX2_issue_0 22 rfl rfl)
theorem dX2_issue_23 : decode cX2_issue 23 = .ok (.iload_n 2, 1) := dk_28 (dk_at dksX2_issue_0 23 rfl rfl)
theorem dX2_issue_24 : decode cX2_issue 24 = .ok (.iconst 0, 1) := dk_3 (dk_at dksX2_issue_1 0 rfl rfl)
theorem dX2_issue_25 : decode cX2_issue 25 = .ok (.invokevirtual 53, 3) := dk_182 0 53 (dk_at dksX2_issue_1 1 rfl rfl)
theorem dX2_issue_28 : decode cX2_issue 28 = .ok (.ior, 1) := dk_128 (dk_at dksX2_issue_1 4 rfl rfl)
theorem dX2_issue_29 : decode cX2_issue 29 = .ok (.istore_n 2, 1) := dk_61 (dk_at dksX2_issue_1 5 rfl rfl)
theorem dX2_issue_30 : decode cX2_issue 30 = .ok (.goto (-21), 3) := dk_167 255 235 (dk_at dksX2_issue_1 6 rfl rfl)
theorem dX2_issue_33 : decode cX2_issue 33 = .ok (.iload_n 2, 1) := dk_28 (dk_at dksX2_issue_1 9 rfl rfl)
theorem dX2_issue_34 : decode cX2_issue 34 = .ok (.ireturn, 1) := dk_172 (dk_at dksX2_issue_1 10 rfl rfl)
theorem q126 : (Jvm.Cond.initialized "HeirsAtLaw$Family") ∈ lw_all := lw_g (lw_at lw_m1 2 rfl) rfl
theorem q183 : (Jvm.Cond.instantiable "HeirsAtLaw$Family" (5 : Nat)) ∈ lw_all := lw_g (lw_at lw_m1 59 rfl) rfl
theorem q185 : (Jvm.Cond.instanceMethod ({ cls := "HeirsAtLaw$Family", name := "<init>", desc := "()V" } : Jvm.MethodName)) ∈ lw_all := lw_g (lw_at lw_m1 61 rfl) rfl
theorem q186 : (Jvm.Cond.code ({ cls := "HeirsAtLaw$Family", name := "<init>", desc := "()V" } : Jvm.MethodName) prog_7_method_1_code (1 : Nat) (Option.none : Option Jvm.ClassFile.FieldType)) ∈ lw_all := lw_g (lw_at lw_m1 62 rfl) rfl
theorem q187 : (Jvm.Cond.methodLink "HeirsAtLaw$Family" (3 : Nat) ({ cls := "java/lang/Object", name := "<init>", desc := "()V" } : Jvm.MethodName)) ∈ lw_all := lw_g (lw_at lw_m1 63 rfl) rfl
theorem q188 : (Jvm.Cond.classLink "HeirsAtLaw$Family" (15 : Nat) "java/util/ArrayList") ∈ lw_all := lw_g (lw_at lw_m1 64 rfl) rfl
theorem q190 : (Jvm.Cond.methodLink "HeirsAtLaw$Family" (17 : Nat) ({ cls := "java/util/ArrayList", name := "<init>", desc := "()V" } : Jvm.MethodName)) ∈ lw_all := lw_g (lw_at lw_m1 66 rfl) rfl
theorem q222 : (Jvm.Cond.fieldLink "HeirsAtLaw$Family" (9 : Nat) "HeirsAtLaw$Family" "widow" "I") ∈ lw_all := lw_g (lw_at lw_m1 98 rfl) rfl
theorem q226 : (Jvm.Cond.fieldLink "HeirsAtLaw$Family" (18 : Nat) "HeirsAtLaw$Family" "persons" "Ljava/util/ArrayList;") ∈ lw_all := lw_g (lw_at lw_m1 102 rfl) rfl
theorem q231 : (Jvm.Cond.fieldLink "HeirsAtLaw$Family" (22 : Nat) "HeirsAtLaw$Family" "wills" "Ljava/util/ArrayList;") ∈ lw_all := lw_g (lw_at lw_m1 107 rfl) rfl
theorem q234 : (Jvm.Cond.lays "HeirsAtLaw$Family" "HeirsAtLaw$Family" "lines" "I") ∈ lw_all := lw_g (lw_at lw_m1 110 rfl) rfl
theorem q235 : (Jvm.Cond.soleField "HeirsAtLaw$Family" "lines") ∈ lw_all := lw_g (lw_at lw_m1 111 rfl) rfl
theorem q236 : (Jvm.Cond.lays "HeirsAtLaw$Family" "HeirsAtLaw$Family" "links" "I") ∈ lw_all := lw_g (lw_at lw_m1 112 rfl) rfl
theorem q237 : (Jvm.Cond.soleField "HeirsAtLaw$Family" "links") ∈ lw_all := lw_g (lw_at lw_m1 113 rfl) rfl
theorem q238 : (Jvm.Cond.lays "HeirsAtLaw$Family" "HeirsAtLaw$Family" "widow" "I") ∈ lw_all := lw_g (lw_at lw_m1 114 rfl) rfl
theorem q239 : (Jvm.Cond.soleField "HeirsAtLaw$Family" "widow") ∈ lw_all := lw_g (lw_at lw_m1 115 rfl) rfl
theorem q240 : (Jvm.Cond.laysFinal "HeirsAtLaw$Family" "HeirsAtLaw$Family" "persons" "Ljava/util/ArrayList;") ∈ lw_all := lw_g (lw_at lw_m1 116 rfl) rfl
theorem q241 : (Jvm.Cond.soleField "HeirsAtLaw$Family" "persons") ∈ lw_all := lw_g (lw_at lw_m1 117 rfl) rfl
theorem q242 : (Jvm.Cond.laysFinal "HeirsAtLaw$Family" "HeirsAtLaw$Family" "wills" "Ljava/util/ArrayList;") ∈ lw_all := lw_g (lw_at lw_m1 118 rfl) rfl
theorem q243 : (Jvm.Cond.soleField "HeirsAtLaw$Family" "wills") ∈ lw_all := lw_g (lw_at lw_m1 119 rfl) rfl
theorem q244 : (Jvm.Cond.superclass "HeirsAtLaw$Family" "java/lang/Object") ∈ lw_all := lw_g (lw_at lw_m1 120 rfl) rfl
theorem q324 : (Jvm.Cond.instanceMethod ({ cls := "HeirsAtLaw$Family", name := "person", desc := "(I)LHeirsAtLaw$Person;" } : Jvm.MethodName)) ∈ lw_all := lw_g (lw_at lw_m1 200 rfl) rfl
theorem q325 : (Jvm.Cond.selects "HeirsAtLaw$Family" ({ cls := "HeirsAtLaw$Family", name := "person", desc := "(I)LHeirsAtLaw$Person;" } : Jvm.MethodName) ({ cls := "HeirsAtLaw$Family", name := "person", desc := "(I)LHeirsAtLaw$Person;" } : Jvm.MethodName)) ∈ lw_all := lw_g (lw_at lw_m1 201 rfl) rfl
theorem q326 : (Jvm.Cond.code ({ cls := "HeirsAtLaw$Family", name := "person", desc := "(I)LHeirsAtLaw$Person;" } : Jvm.MethodName) prog_7_method_3_code (2 : Nat) (Option.some (Jvm.ClassFile.FieldType.object "HeirsAtLaw$Person"))) ∈ lw_all := lw_g (lw_at lw_m1 202 rfl) rfl
theorem q327 : (Jvm.Cond.methodLink "HeirsAtLaw$Family" (33 : Nat) ({ cls := "java/util/ArrayList", name := "get", desc := "(I)Ljava/lang/Object;" } : Jvm.MethodName)) ∈ lw_all := lw_g (lw_at lw_m1 203 rfl) rfl
theorem q341 : (Jvm.Cond.classLink "HeirsAtLaw$Family" (37 : Nat) "HeirsAtLaw$Person") ∈ lw_all := lw_g (lw_at lw_m1 217 rfl) rfl
theorem q1000 : (Jvm.Cond.fieldLinkNest "HeirsAtLaw$Family" (47 : Nat) "HeirsAtLaw$Person" "parents" "I" "HeirsAtLaw") ∈ lw_tbl := lw_at lw_m4 156 rfl
theorem q1004 : (Jvm.Cond.fieldLinkNest "HeirsAtLaw$Family" (50 : Nat) "HeirsAtLaw$Person" "children" "I" "HeirsAtLaw") ∈ lw_tbl := lw_at lw_m4 160 rfl
theorem q1057 : (Jvm.Cond.selects "HeirsAtLaw$Family" ({ cls := "java/lang/Object", name := "getClass", desc := "()Ljava/lang/Class;" } : Jvm.MethodName) ({ cls := "java/lang/Object", name := "getClass", desc := "()Ljava/lang/Class;" } : Jvm.MethodName)) ∈ lw_all := lw_g (lw_at lw_m4 213 rfl) rfl
theorem q1196 : (Jvm.Cond.instanceMethod ({ cls := "HeirsAtLaw$Family", name := "isPerson", desc := "(I)Z" } : Jvm.MethodName)) ∈ lw_all := lw_g (lw_at lw_m5 112 rfl) rfl
theorem q1197 : (Jvm.Cond.selects "HeirsAtLaw$Family" ({ cls := "HeirsAtLaw$Family", name := "isPerson", desc := "(I)Z" } : Jvm.MethodName) ({ cls := "HeirsAtLaw$Family", name := "isPerson", desc := "(I)Z" } : Jvm.MethodName)) ∈ lw_all := lw_g (lw_at lw_m5 113 rfl) rfl
theorem q1198 : (Jvm.Cond.code ({ cls := "HeirsAtLaw$Family", name := "isPerson", desc := "(I)Z" } : Jvm.MethodName) prog_7_method_2_code (2 : Nat) (Option.some Jvm.ClassFile.FieldType.boolean)) ∈ lw_all := lw_g (lw_at lw_m5 114 rfl) rfl
theorem q1199 : (Jvm.Cond.methodLink "HeirsAtLaw$Family" (25 : Nat) ({ cls := "java/util/ArrayList", name := "size", desc := "()I" } : Jvm.MethodName)) ∈ lw_all := lw_g (lw_at lw_m5 115 rfl) rfl
theorem q1200 : (Jvm.Cond.methodLinkNest "HeirsAtLaw$Family" (29 : Nat) ({ cls := "HeirsAtLaw", name := "isIn", desc := "(III)Z" } : Jvm.MethodName) "HeirsAtLaw") ∈ lw_tbl := lw_at lw_m5 116 rfl
theorem q1202 : (Jvm.Cond.instanceMethod ({ cls := "HeirsAtLaw$Family", name := "degree", desc := "(II)I" } : Jvm.MethodName)) ∈ lw_all := lw_g (lw_at lw_m5 118 rfl) rfl
theorem q1203 : (Jvm.Cond.selects "HeirsAtLaw$Family" ({ cls := "HeirsAtLaw$Family", name := "degree", desc := "(II)I" } : Jvm.MethodName) ({ cls := "HeirsAtLaw$Family", name := "degree", desc := "(II)I" } : Jvm.MethodName)) ∈ lw_all := lw_g (lw_at lw_m5 119 rfl) rfl
theorem q1204 : (Jvm.Cond.code ({ cls := "HeirsAtLaw$Family", name := "degree", desc := "(II)I" } : Jvm.MethodName) prog_7_method_6_code (8 : Nat) (Option.some Jvm.ClassFile.FieldType.int)) ∈ lw_all := lw_g (lw_at lw_m5 120 rfl) rfl
theorem q1205 : (Jvm.Cond.methodLink "HeirsAtLaw$Family" (57 : Nat) ({ cls := "java/lang/Math", name := "min", desc := "(II)I" } : Jvm.MethodName)) ∈ lw_all := lw_g (lw_at lw_m5 121 rfl) rfl
theorem q1206 : (Jvm.Cond.methodLink "HeirsAtLaw$Family" (53 : Nat) ({ cls := "HeirsAtLaw$Family", name := "next", desc := "(IZ)I" } : Jvm.MethodName)) ∈ lw_all := lw_g (lw_at lw_m5 122 rfl) rfl
theorem q1207 : (Jvm.Cond.instanceMethod ({ cls := "HeirsAtLaw$Family", name := "next", desc := "(IZ)I" } : Jvm.MethodName)) ∈ lw_all := lw_g (lw_at lw_m5 123 rfl) rfl
theorem q1208 : (Jvm.Cond.selects "HeirsAtLaw$Family" ({ cls := "HeirsAtLaw$Family", name := "next", desc := "(IZ)I" } : Jvm.MethodName) ({ cls := "HeirsAtLaw$Family", name := "next", desc := "(IZ)I" } : Jvm.MethodName)) ∈ lw_all := lw_g (lw_at lw_m5 124 rfl) rfl
theorem q1209 : (Jvm.Cond.code ({ cls := "HeirsAtLaw$Family", name := "next", desc := "(IZ)I" } : Jvm.MethodName) prog_7_method_4_code (5 : Nat) (Option.some Jvm.ClassFile.FieldType.int)) ∈ lw_all := lw_g (lw_at lw_m5 125 rfl) rfl
theorem q1210 : (Jvm.Cond.methodLinkNest "HeirsAtLaw$Family" (39 : Nat) ({ cls := "HeirsAtLaw", name := "isOf", desc := "(II)Z" } : Jvm.MethodName) "HeirsAtLaw") ∈ lw_tbl := lw_at lw_m5 126 rfl
theorem q1211 : (Jvm.Cond.methodLink "HeirsAtLaw$Family" (43 : Nat) ({ cls := "HeirsAtLaw$Family", name := "person", desc := "(I)LHeirsAtLaw$Person;" } : Jvm.MethodName)) ∈ lw_all := lw_g (lw_at lw_m5 127 rfl) rfl
theorem q1325 : (Jvm.Cond.instanceMethod ({ cls := "HeirsAtLaw$Family", name := "issue", desc := "(I)I" } : Jvm.MethodName)) ∈ lw_all := lw_g (lw_at lw_m6 1 rfl) rfl
theorem q1326 : (Jvm.Cond.selects "HeirsAtLaw$Family" ({ cls := "HeirsAtLaw$Family", name := "issue", desc := "(I)I" } : Jvm.MethodName) ({ cls := "HeirsAtLaw$Family", name := "issue", desc := "(I)I" } : Jvm.MethodName)) ∈ lw_all := lw_g (lw_at lw_m6 2 rfl) rfl
theorem q1327 : (Jvm.Cond.code ({ cls := "HeirsAtLaw$Family", name := "issue", desc := "(I)I" } : Jvm.MethodName) prog_7_method_5_code (3 : Nat) (Option.some Jvm.ClassFile.FieldType.int)) ∈ lw_all := lw_g (lw_at lw_m6 3 rfl) rfl
theorem q2755 : (Jvm.Cond.castable "HeirsAtLaw$Family" "java/lang/Object") ∈ lw_tbl := lw_at lw_m11 231 rfl
theorem in_X2 : ∀ w ∈ wsX20, w ∈ lw_all := lw_in wsX20 [234, 236, 238, 240, 242] (by decide +kernel) (by decide +kernel)
/-! HeirsAtLaw$BookReader -/
set_option maxRecDepth 100000
def RX20 : String := "HeirsAtLaw$BookReader"
def TX20 : u_T := fun k => match k with
  | 0 => ("HeirsAtLaw$Reader", "tape", "[B", true)
  | 1 => ("HeirsAtLaw$Reader", "size", "I", true)
  | 2 => ("HeirsAtLaw$Reader", "limit", "I", true)
  | 3 => ("HeirsAtLaw$Reader", "to", "I", false)
  | 4 => ("HeirsAtLaw$Reader", "f", "LHeirsAtLaw$Family;", true)
  | 5 => ("HeirsAtLaw$Reader", "kind", "I", false)
  | 6 => ("HeirsAtLaw$Reader", "from", "I", false)
  | 7 => ("HeirsAtLaw$Reader", "number", "I", false)
  | 8 => ("HeirsAtLaw$Reader", "sign", "I", false)
  | 9 => ("HeirsAtLaw$Reader", "word", "Ljava/lang/String;", false)
  | _ => ("HeirsAtLaw$BookReader", "acts", "Ljava/util/ArrayList;", true)
def tyX20 : Nat → FieldType := fun k => match k with
  | 0 => .array .byte
  | 1 => .int
  | 2 => .int
  | 3 => .int
  | 4 => .object "HeirsAtLaw$Family"
  | 5 => .int
  | 6 => .int
  | 7 => .int
  | 8 => .int
  | 9 => .object "java/lang/String"
  | _ => .object "java/util/ArrayList"
abbrev wsX200 : List Cond := u_ws RX20 TX20 11
theorem nmX20 : ∀ a, a < 11 → ∀ b, b < 11 → a ≠ b → (TX20 a).2.1 ≠ (TX20 b).2.1 := by decide +kernel
theorem tyX20_ok : ∀ k, k < 11 → parseFieldDescriptor (TX20 k).2.2.1 = some (tyX20 k) := by decide +kernel
abbrev cX20_init : ByteArray := prog_3_method_1_code
def yX20_init : MethodName := ⟨RX20, "<init>", "([BILHeirsAtLaw$Family;)V"⟩
def dkwX20_init_0 : List UInt8 := [42, 43, 28, 17, 1, 144, 45, 183, 0, 3, 42, 187, 0, 9, 89, 183, 0, 11, 181, 0, 14, 177]
abbrev dktX20_init_0 : List UInt8 := dkwX20_init_0 ++ []
theorem dksX20_init_0 : cX20_init.data.toList.drop 0 = dktX20_init_0 := by decide +kernel
theorem dX20_init_0 : decode cX20_init 0 = .ok (.aload_n 0, 1) := dk_42 (dk_at dksX20_init_0 0 rfl rfl)
theorem dX20_init_1 : decode cX20_init 1 = .ok (.aload_n 1, 1) := dk_43 (dk_at dksX20_init_0 1 rfl rfl)
theorem dX20_init_2 : decode cX20_init 2 = .ok (.iload_n 2, 1) := dk_28 (dk_at dksX20_init_0 2 rfl rfl)
theorem dX20_init_3 : decode cX20_init 3 = .ok (.sipush 400, 3) := dk_17 1 144 (dk_at dksX20_init_0 3 rfl rfl)
theorem dX20_init_6 : decode cX20_init 6 = .ok (.aload_n 3, 1) := dk_45 (dk_at dksX20_init_0 6 rfl rfl)
theorem dX20_init_7 : decode cX20_init 7 = .ok (.invokespecial 3, 3) := dk_183 0 3 (dk_at dksX20_init_0 7 rfl rfl)
theorem dX20_init_10 : decode cX20_init 10 = .ok (.aload_n 0, 1) := dk_42 (dk_at dksX20_init_0 10 rfl rfl)
theorem dX20_init_11 : decode cX20_init 11 = .ok (.new 9, 3) := dk_187 0 9 (dk_at dksX20_init_0 11 rfl rfl)
theorem dX20_init_14 : decode cX20_init 14 = .ok (.dup, 1) := dk_89 (dk_at dksX20_init_0 14 rfl rfl)
theorem dX20_init_15 : decode cX20_init 15 = .ok (.invokespecial 11, 3) := dk_183 0 11 (dk_at dksX20_init_0 15 rfl rfl)
theorem dX20_init_18 : decode cX20_init 18 = .ok (.putfield 14, 3) := dk_181 0 14 (dk_at dksX20_init_0 18 rfl rfl)
theorem dX20_init_21 : decode cX20_init 21 = .ok (.return_, 1) := dk_177 (dk_at dksX20_init_0 21 rfl rfl)
abbrev cX20_read : ByteArray := prog_3_method_2_code
def yX20_read : MethodName := ⟨RX20, "read", "()Ljava/util/ArrayList;"⟩
def dkwX20_read_1 : List UInt8 := [182, 0, 35, 167, 255, 233, 42, 180, 0, 14, 176]
abbrev dktX20_read_1 : List UInt8 := dkwX20_read_1 ++ []
def dkwX20_read_0 : List UInt8 := [42, 182, 0, 20, 42, 180, 0, 23, 153, 0, 22, 42, 180, 0, 14, 42, 182, 0, 27, 182, 0, 31, 87, 42]
abbrev dktX20_read_0 : List UInt8 := dkwX20_read_0 ++ dktX20_read_1
theorem dksX20_read_0 : cX20_read.data.toList.drop 0 = dktX20_read_0 := by decide +kernel
theorem dksX20_read_1 : cX20_read.data.toList.drop 24 = dktX20_read_1 := dk_seg dksX20_read_0 24 rfl rfl
theorem dX20_read_0 : decode cX20_read 0 = .ok (.aload_n 0, 1) := dk_42 (dk_at dksX20_read_0 0 rfl rfl)
theorem dX20_read_1 : decode cX20_read 1 = .ok (.invokevirtual 20, 3) := dk_182 0 20 (dk_at dksX20_read_0 1 rfl rfl)
theorem dX20_read_4 : decode cX20_read 4 = .ok (.aload_n 0, 1) := dk_42 (dk_at dksX20_read_0 4 rfl rfl)
theorem dX20_read_5 : decode cX20_read 5 = .ok (.getfield 23, 3) := dk_180 0 23 (dk_at dksX20_read_0 5 rfl rfl)
theorem dX20_read_8 : decode cX20_read 8 = .ok (.ifCond .eq 22, 3) := dk_153 0 22 (dk_at dksX20_read_0 8 rfl rfl)
theorem dX20_read_11 : decode cX20_read 11 = .ok (.aload_n 0, 1) := dk_42 (dk_at dksX20_read_0 11 rfl rfl)
theorem dX20_read_12 : decode cX20_read 12 = .ok (.getfield 14, 3) := dk_180 0 14 (dk_at dksX20_read_0 12 rfl rfl)
theorem dX20_read_15 : decode cX20_read 15 = .ok (.aload_n 0, 1) := dk_42 (dk_at dksX20_read_0 15 rfl rfl)
theorem dX20_read_16 : decode cX20_read 16 = .ok (.invokevirtual 27, 3) := dk_182 0 27 (dk_at dksX20_read_0 16 rfl rfl)
theorem dX20_read_19 : decode cX20_read 19 = .ok (.invokevirtual 31, 3) := dk_182 0 31 (dk_at dksX20_read_0 19 rfl rfl)
theorem dX20_read_22 : decode cX20_read 22 = .ok (.pop, 1) := dk_87 (dk_at dksX20_read_0 22 rfl rfl)
theorem dX20_read_23 : decode cX20_read 23 = .ok (.aload_n 0, 1) := dk_42 (dk_at dksX20_read_0 23 rfl rfl)
theorem dX20_read_24 : decode cX20_read 24 = .ok (.invokevirtual 35, 3) := dk_182 0 35 (dk_at dksX20_read_1 0 rfl rfl)
theorem dX20_read_27 : decode cX20_read 27 = .ok (.goto (-23), 3) := dk_167 255 233 (dk_at dksX20_read_1 3 rfl rfl)
theorem dX20_read_30 : decode cX20_read 30 = .ok (.aload_n 0, 1) := dk_42 (dk_at dksX20_read_1 6 rfl rfl)
theorem dX20_read_31 : decode cX20_read 31 = .ok (.getfield 14, 3) := dk_180 0 14 (dk_at dksX20_read_1 7 rfl rfl)
theorem dX20_read_34 : decode cX20_read 34 = .ok (.areturn, 1) := dk_176 (dk_at dksX20_read_1 10 rfl rfl)
abbrev cX20_act : ByteArray := prog_3_method_3_code
def yX20_act : MethodName := ⟨RX20, "act", "()LHeirsAtLaw$Act;"⟩
def dkwX20_act_11 : List UInt8 := [183, 0, 96, 167, 0, 16, 187, 0, 99, 89, 21, 7, 21, 8, 21, 9, 183, 0, 101, 176]
abbrev dktX20_act_11 : List UInt8 := dkwX20_act_11 ++ []
def dkwX20_act_10 : List UInt8 := [17, 3, 231, 182, 0, 66, 54, 9, 21, 4, 153, 0, 19, 187, 0, 94, 89, 21, 7, 21, 8, 21, 9]
abbrev dktX20_act_10 : List UInt8 := dkwX20_act_10 ++ dktX20_act_11
def dkwX20_act_9 : List UInt8 := [182, 0, 85, 54, 8, 28, 153, 0, 15, 187, 0, 89, 89, 21, 7, 21, 8, 183, 0, 91, 176, 42, 4]
abbrev dktX20_act_9 : List UInt8 := dkwX20_act_9 ++ dktX20_act_10
def dkwX20_act_8 : List UInt8 := [183, 0, 81, 176, 21, 6, 153, 0, 13, 187, 0, 82, 89, 21, 7, 183, 0, 84, 176, 42, 21, 7]
abbrev dktX20_act_8 : List UInt8 := dkwX20_act_8 ++ dktX20_act_9
def dkwX20_act_7 : List UInt8 := [27, 153, 0, 13, 187, 0, 76, 89, 21, 7, 183, 0, 78, 176, 29, 153, 0, 13, 187, 0, 79, 89, 21, 7]
abbrev dktX20_act_7 : List UInt8 := dkwX20_act_7 ++ dktX20_act_8
def dkwX20_act_6 : List UInt8 := [154, 0, 18, 187, 0, 64, 89, 42, 4, 16, 60, 182, 0, 66, 183, 0, 70, 176, 42, 182, 0, 73, 54, 7]
abbrev dktX20_act_6 : List UInt8 := dkwX20_act_6 ++ dktX20_act_7
def dkwX20_act_5 : List UInt8 := [27, 154, 0, 41, 28, 154, 0, 37, 29, 154, 0, 33, 21, 4, 154, 0, 28, 21, 5, 154, 0, 23, 21, 6]
abbrev dktX20_act_5 : List UInt8 := dkwX20_act_5 ++ dktX20_act_6
def dkwX20_act_4 : List UInt8 := [180, 0, 14, 182, 0, 60, 16, 40, 162, 0, 7, 4, 167, 0, 4, 3, 7, 182, 0, 56, 42, 182, 0, 20]
abbrev dktX20_act_4 : List UInt8 := dkwX20_act_4 ++ dktX20_act_5
def dkwX20_act_3 : List UInt8 := [154, 0, 12, 42, 18, 54, 182, 0, 40, 153, 0, 7, 4, 167, 0, 4, 3, 4, 182, 0, 56, 42, 42]
abbrev dktX20_act_3 : List UInt8 := dkwX20_act_3 ++ dktX20_act_4
def dkwX20_act_2 : List UInt8 := [154, 0, 35, 28, 154, 0, 31, 29, 154, 0, 27, 21, 4, 154, 0, 22, 21, 5, 154, 0, 17, 21, 6]
abbrev dktX20_act_2 : List UInt8 := dkwX20_act_2 ++ dktX20_act_3
def dkwX20_act_1 : List UInt8 := [182, 0, 40, 54, 4, 42, 18, 50, 182, 0, 40, 54, 5, 42, 18, 52, 182, 0, 40, 54, 6, 42, 27]
abbrev dktX20_act_1 : List UInt8 := dkwX20_act_1 ++ dktX20_act_2
def dkwX20_act_0 : List UInt8 := [42, 18, 38, 182, 0, 40, 60, 42, 18, 44, 182, 0, 40, 61, 42, 18, 46, 182, 0, 40, 62, 42, 18, 48]
abbrev dktX20_act_0 : List UInt8 := dkwX20_act_0 ++ dktX20_act_1
theorem dksX20_act_0 : cX20_act.data.toList.drop 0 = dktX20_act_0 := by decide +kernel
theorem dksX20_act_1 : cX20_act.data.toList.drop 24 = dktX20_act_1 := dk_seg dksX20_act_0 24 rfl rfl
theorem dksX20_act_2 : cX20_act.data.toList.drop 47 = dktX20_act_2 := dk_seg dksX20_act_1 23 rfl rfl
theorem dksX20_act_3 : cX20_act.data.toList.drop 70 = dktX20_act_3 := dk_seg dksX20_act_2 23 rfl rfl
theorem dksX20_act_4 : cX20_act.data.toList.drop 93 = dktX20_act_4 := dk_seg dksX20_act_3 23 rfl rfl
theorem dksX20_act_5 : cX20_act.data.toList.drop 117 = dktX20_act_5 := dk_seg dksX20_act_4 24 rfl rfl
theorem dksX20_act_6 : cX20_act.data.toList.drop 141 = dktX20_act_6 := dk_seg dksX20_act_5 24 rfl rfl
theorem dksX20_act_7 : cX20_act.data.toList.drop 165 = dktX20_act_7 := dk_seg dksX20_act_6 24 rfl rfl
theorem dksX20_act_8 : cX20_act.data.toList.drop 189 = dktX20_act_8 := dk_seg dksX20_act_7 24 rfl rfl
theorem dksX20_act_9 : cX20_act.data.toList.drop 211 = dktX20_act_9 := dk_seg dksX20_act_8 22 rfl rfl
theorem dksX20_act_10 : cX20_act.data.toList.drop 234 = dktX20_act_10 := dk_seg dksX20_act_9 23 rfl rfl
theorem dksX20_act_11 : cX20_act.data.toList.drop 257 = dktX20_act_11 := dk_seg dksX20_act_10 23 rfl rfl
theorem dX20_act_0 : decode cX20_act 0 = .ok (.aload_n 0, 1) := dk_42 (dk_at dksX20_act_0 0 rfl rfl)
theorem dX20_act_1 : decode cX20_act 1 = .ok (.ldc 38, 2) := dk_18 38 (dk_at dksX20_act_0 1 rfl rfl)
theorem dX20_act_3 : decode cX20_act 3 = .ok (.invokevirtual 40, 3) := dk_182 0 40 (dk_at dksX20_act_0 3 rfl rfl)
theorem dX20_act_6 : decode cX20_act 6 = .ok (.istore_n 1, 1) := dk_60 (dk_at dksX20_act_0 6 rfl rfl)
theorem dX20_act_7 : decode cX20_act 7 = .ok (.aload_n 0, 1) := dk_42 (dk_at dksX20_act_0 7 rfl rfl)
theorem dX20_act_8 : decode cX20_act 8 = .ok (.ldc 44, 2) := dk_18 44 (dk_at dksX20_act_0 8 rfl rfl)
theorem dX20_act_10 : decode cX20_act 10 = .ok (.invokevirtual 40, 3) := dk_182 0 40 (dk_at dksX20_act_0 10 rfl rfl)
theorem dX20_act_13 : decode cX20_act 13 = .ok (.istore_n 2, 1) := dk_61 (dk_at dksX20_act_0 13 rfl rfl)
theorem dX20_act_14 : decode cX20_act 14 = .ok (.aload_n 0, 1) := dk_42 (dk_at dksX20_act_0 14 rfl rfl)
theorem dX20_act_15 : decode cX20_act 15 = .ok (.ldc 46, 2) := dk_18 46 (dk_at dksX20_act_0 15 rfl rfl)
theorem dX20_act_17 : decode cX20_act 17 = .ok (.invokevirtual 40, 3) := dk_182 0 40 (dk_at dksX20_act_0 17 rfl rfl)
theorem dX20_act_20 : decode cX20_act 20 = .ok (.istore_n 3, 1) := dk_62 (dk_at dksX20_act_0 20 rfl rfl)
theorem dX20_act_21 : decode cX20_act 21 = .ok (.aload_n 0, 1) := dk_42 (dk_at dksX20_act_0 21 rfl rfl)
theorem dX20_act_22 : decode cX20_act 22 = .ok (.ldc 48, 2) := dk_18 48 (dk_at dksX20_act_0 22 rfl rfl)
theorem dX20_act_24 : decode cX20_act 24 = .ok (.invokevirtual 40, 3) := dk_182 0 40 (dk_at dksX20_act_1 0 rfl rfl)
theorem dX20_act_27 : decode cX20_act 27 = .ok (.istore 4, 2) := dk_54 4 (dk_at dksX20_act_1 3 rfl rfl)
theorem dX20_act_29 : decode cX20_act 29 = .ok (.aload_n 0, 1) := dk_42 (dk_at dksX20_act_1 5 rfl rfl)
theorem dX20_act_30 : decode cX20_act 30 = .ok (.ldc 50, 2) := dk_18 50 (dk_at dksX20_act_1 6 rfl rfl)
theorem dX20_act_32 : decode cX20_act 32 = .ok (.invokevirtual 40, 3) := dk_182 0 40 (dk_at dksX20_act_1 8 rfl rfl)
theorem dX20_act_35 : decode cX20_act 35 = .ok (.istore 5, 2) := dk_54 5 (dk_at dksX20_act_1 11 rfl rfl)
theorem dX20_act_37 : decode cX20_act 37 = .ok (.aload_n 0, 1) := dk_42 (dk_at dksX20_act_1 13 rfl rfl)
theorem dX20_act_38 : decode cX20_act 38 = .ok (.ldc 52, 2) := dk_18 52 (dk_at dksX20_act_1 14 rfl rfl)
theorem dX20_act_40 : decode cX20_act 40 = .ok (.invokevirtual 40, 3) := dk_182 0 40 (dk_at dksX20_act_1 16 rfl rfl)
theorem dX20_act_43 : decode cX20_act 43 = .ok (.istore 6, 2) := dk_54 6 (dk_at dksX20_act_1 19 rfl rfl)
theorem dX20_act_45 : decode cX20_act 45 = .ok (.aload_n 0, 1) := dk_42 (dk_at dksX20_act_1 21 rfl rfl)
theorem dX20_act_46 : decode cX20_act 46 = .ok (.iload_n 1, 1) := dk_27 (dk_at dksX20_act_1 22 rfl rfl)
theorem dX20_act_47 : decode cX20_act 47 = .ok (.ifCond .ne 35, 3) := dk_154 0 35 (dk_at dksX20_act_2 0 rfl rfl)
theorem dX20_act_50 : decode cX20_act 50 = .ok (.iload_n 2, 1) := dk_28 (dk_at dksX20_act_2 3 rfl rfl)
theorem dX20_act_51 : decode cX20_act 51 = .ok (.ifCond .ne 31, 3) := dk_154 0 31 (dk_at dksX20_act_2 4 rfl rfl)
theorem dX20_act_54 : decode cX20_act 54 = .ok (.iload_n 3, 1) := dk_29 (dk_at dksX20_act_2 7 rfl rfl)
theorem dX20_act_55 : decode cX20_act 55 = .ok (.ifCond .ne 27, 3) := dk_154 0 27 (dk_at dksX20_act_2 8 rfl rfl)
theorem dX20_act_58 : decode cX20_act 58 = .ok (.iload 4, 2) := dk_21 4 (dk_at dksX20_act_2 11 rfl rfl)
theorem dX20_act_60 : decode cX20_act 60 = .ok (.ifCond .ne 22, 3) := dk_154 0 22 (dk_at dksX20_act_2 13 rfl rfl)
theorem dX20_act_63 : decode cX20_act 63 = .ok (.iload 5, 2) := dk_21 5 (dk_at dksX20_act_2 16 rfl rfl)
theorem dX20_act_65 : decode cX20_act 65 = .ok (.ifCond .ne 17, 3) := dk_154 0 17 (dk_at dksX20_act_2 18 rfl rfl)
theorem dX20_act_68 : decode cX20_act 68 = .ok (.iload 6, 2) := dk_21 6 (dk_at dksX20_act_2 21 rfl rfl)
theorem dX20_act_70 : decode cX20_act 70 = .ok (.ifCond .ne 12, 3) := dk_154 0 12 (dk_at dksX20_act_3 0 rfl rfl)
theorem dX20_act_73 : decode cX20_act 73 = .ok (.aload_n 0, 1) := dk_42 (dk_at dksX20_act_3 3 rfl rfl)
theorem dX20_act_74 : decode cX20_act 74 = .ok (.ldc 54, 2) := dk_18 54 (dk_at dksX20_act_3 4 rfl rfl)
theorem dX20_act_76 : decode cX20_act 76 = .ok (.invokevirtual 40, 3) := dk_182 0 40 (dk_at dksX20_act_3 6 rfl rfl)
theorem dX20_act_79 : decode cX20_act 79 = .ok (.ifCond .eq 7, 3) := dk_153 0 7 (dk_at dksX20_act_3 9 rfl rfl)
theorem dX20_act_82 : decode cX20_act 82 = .ok (.iconst 1, 1) := dk_4 (dk_at dksX20_act_3 12 rfl rfl)
theorem dX20_act_83 : decode cX20_act 83 = .ok (.goto 4, 3) := dk_167 0 4 (dk_at dksX20_act_3 13 rfl rfl)
theorem dX20_act_86 : decode cX20_act 86 = .ok (.iconst 0, 1) := dk_3 (dk_at dksX20_act_3 16 rfl rfl)
theorem dX20_act_87 : decode cX20_act 87 = .ok (.iconst 1, 1) := dk_4 (dk_at dksX20_act_3 17 rfl rfl)
theorem dX20_act_88 : decode cX20_act 88 = .ok (.invokevirtual 56, 3) := dk_182 0 56 (dk_at dksX20_act_3 18 rfl rfl)
theorem dX20_act_91 : decode cX20_act 91 = .ok (.aload_n 0, 1) := dk_42 (dk_at dksX20_act_3 21 rfl rfl)
theorem dX20_act_92 : decode cX20_act 92 = .ok (.aload_n 0, 1) := dk_42 (dk_at dksX20_act_3 22 rfl rfl)
theorem dX20_act_93 : decode cX20_act 93 = .ok (.getfield 14, 3) := dk_180 0 14 (dk_at dksX20_act_4 0 rfl rfl)
theorem dX20_act_96 : decode cX20_act 96 = .ok (.invokevirtual 60, 3) := dk_182 0 60 (dk_at dksX20_act_4 3 rfl rfl)
theorem dX20_act_99 : decode cX20_act 99 = .ok (.bipush 40, 2) := dk_16 40 (dk_at dksX20_act_4 6 rfl rfl)
theorem dX20_act_101 : decode cX20_act 101 = .ok (.if_icmp .ge 7, 3) := dk_162 0 7 (dk_at dksX20_act_4 8 rfl rfl)
theorem dX20_act_104 : decode cX20_act 104 = .ok (.iconst 1, 1) := dk_4 (dk_at dksX20_act_4 11 rfl rfl)
theorem dX20_act_105 : decode cX20_act 105 = .ok (.goto 4, 3) := dk_167 0 4 (dk_at dksX20_act_4 12 rfl rfl)
theorem dX20_act_108 : decode cX20_act 108 = .ok (.iconst 0, 1) := dk_3 (dk_at dksX20_act_4 15 rfl rfl)
theorem dX20_act_109 : decode cX20_act 109 = .ok (.iconst 4, 1) := dk_7 (dk_at dksX20_act_4 16 rfl rfl)
theorem dX20_act_110 : decode cX20_act 110 = .ok (.invokevirtual 56, 3) := dk_182 0 56 (dk_at dksX20_act_4 17 rfl rfl)
theorem dX20_act_113 : decode cX20_act 113 = .ok (.aload_n 0, 1) := dk_42 (dk_at dksX20_act_4 20 rfl rfl)
theorem dX20_act_114 : decode cX20_act 114 = .ok (.invokevirtual 20, 3) := dk_182 0 20 (dk_at dksX20_act_4 21 rfl rfl)
theorem dX20_act_117 : decode cX20_act 117 = .ok (.iload_n 1, 1) := dk_27 (dk_at dksX20_act_5 0 rfl rfl)
theorem dX20_act_118 : decode cX20_act 118 = .ok (.ifCond .ne 41, 3) := dk_154 0 41 (dk_at dksX20_act_5 1 rfl rfl)
theorem dX20_act_121 : decode cX20_act 121 = .ok (.iload_n 2, 1) := dk_28 (dk_at dksX20_act_5 4 rfl rfl)
theorem dX20_act_122 : decode cX20_act 122 = .ok (.ifCond .ne 37, 3) := dk_154 0 37 (dk_at dksX20_act_5 5 rfl rfl)
theorem dX20_act_125 : decode cX20_act 125 = .ok (.iload_n 3, 1) := dk_29 (dk_at dksX20_act_5 8 rfl rfl)
theorem dX20_act_126 : decode cX20_act 126 = .ok (.ifCond .ne 33, 3) := dk_154 0 33 (dk_at dksX20_act_5 9 rfl rfl)
theorem dX20_act_129 : decode cX20_act 129 = .ok (.iload 4, 2) := dk_21 4 (dk_at dksX20_act_5 12 rfl rfl)
theorem dX20_act_131 : decode cX20_act 131 = .ok (.ifCond .ne 28, 3) := dk_154 0 28 (dk_at dksX20_act_5 14 rfl rfl)
theorem dX20_act_134 : decode cX20_act 134 = .ok (.iload 5, 2) := dk_21 5 (dk_at dksX20_act_5 17 rfl rfl)
theorem dX20_act_136 : decode cX20_act 136 = .ok (.ifCond .ne 23, 3) := dk_154 0 23 (dk_at dksX20_act_5 19 rfl rfl)
theorem dX20_act_139 : decode cX20_act 139 = .ok (.iload 6, 2) := dk_21 6 (dk_at dksX20_act_5 22 rfl rfl)
theorem dX20_act_141 : decode cX20_act 141 = .ok (.ifCond .ne 18, 3) := dk_154 0 18 (dk_at dksX20_act_6 0 rfl rfl)
theorem dX20_act_144 : decode cX20_act 144 = .ok (.new 64, 3) := dk_187 0 64 (dk_at dksX20_act_6 3 rfl rfl)
theorem dX20_act_147 : decode cX20_act 147 = .ok (.dup, 1) := dk_89 (dk_at dksX20_act_6 6 rfl rfl)
theorem dX20_act_148 : decode cX20_act 148 = .ok (.aload_n 0, 1) := dk_42 (dk_at dksX20_act_6 7 rfl rfl)
theorem dX20_act_149 : decode cX20_act 149 = .ok (.iconst 1, 1) := dk_4 (dk_at dksX20_act_6 8 rfl rfl)
theorem dX20_act_150 : decode cX20_act 150 = .ok (.bipush 60, 2) := dk_16 60 (dk_at dksX20_act_6 9 rfl rfl)
theorem dX20_act_152 : decode cX20_act 152 = .ok (.invokevirtual 66, 3) := dk_182 0 66 (dk_at dksX20_act_6 11 rfl rfl)
theorem dX20_act_155 : decode cX20_act 155 = .ok (.invokespecial 70, 3) := dk_183 0 70 (dk_at dksX20_act_6 14 rfl rfl)
theorem dX20_act_158 : decode cX20_act 158 = .ok (.areturn, 1) := dk_176 (dk_at dksX20_act_6 17 rfl rfl)
theorem dX20_act_159 : decode cX20_act 159 = .ok (.aload_n 0, 1) := dk_42 (dk_at dksX20_act_6 18 rfl rfl)
theorem dX20_act_160 : decode cX20_act 160 = .ok (.invokevirtual 73, 3) := dk_182 0 73 (dk_at dksX20_act_6 19 rfl rfl)
theorem dX20_act_163 : decode cX20_act 163 = .ok (.istore 7, 2) := dk_54 7 (dk_at dksX20_act_6 22 rfl rfl)
theorem dX20_act_165 : decode cX20_act 165 = .ok (.iload_n 1, 1) := dk_27 (dk_at dksX20_act_7 0 rfl rfl)
theorem dX20_act_166 : decode cX20_act 166 = .ok (.ifCond .eq 13, 3) := dk_153 0 13 (dk_at dksX20_act_7 1 rfl rfl)
theorem dX20_act_169 : decode cX20_act 169 = .ok (.new 76, 3) := dk_187 0 76 (dk_at dksX20_act_7 4 rfl rfl)
theorem dX20_act_172 : decode cX20_act 172 = .ok (.dup, 1) := dk_89 (dk_at dksX20_act_7 7 rfl rfl)
theorem dX20_act_173 : decode cX20_act 173 = .ok (.iload 7, 2) := dk_21 7 (dk_at dksX20_act_7 8 rfl rfl)
theorem dX20_act_175 : decode cX20_act 175 = .ok (.invokespecial 78, 3) := dk_183 0 78 (dk_at dksX20_act_7 10 rfl rfl)
theorem dX20_act_178 : decode cX20_act 178 = .ok (.areturn, 1) := dk_176 (dk_at dksX20_act_7 13 rfl rfl)
theorem dX20_act_179 : decode cX20_act 179 = .ok (.iload_n 3, 1) := dk_29 (dk_at dksX20_act_7 14 rfl rfl)
theorem dX20_act_180 : decode cX20_act 180 = .ok (.ifCond .eq 13, 3) := dk_153 0 13 (dk_at dksX20_act_7 15 rfl rfl)
theorem dX20_act_183 : decode cX20_act 183 = .ok (.new 79, 3) := dk_187 0 79 (dk_at dksX20_act_7 18 rfl rfl)
theorem dX20_act_186 : decode cX20_act 186 = .ok (.dup, 1) := dk_89 (dk_at dksX20_act_7 21 rfl rfl)
theorem dX20_act_187 : decode cX20_act 187 = .ok (.iload 7, 2) := dk_21 7 (dk_at dksX20_act_7 22 rfl rfl)
theorem dX20_act_189 : decode cX20_act 189 = .ok (.invokespecial 81, 3) := dk_183 0 81 (dk_at dksX20_act_8 0 rfl rfl)
theorem dX20_act_192 : decode cX20_act 192 = .ok (.areturn, 1) := dk_176 (dk_at dksX20_act_8 3 rfl rfl)
theorem dX20_act_193 : decode cX20_act 193 = .ok (.iload 6, 2) := dk_21 6 (dk_at dksX20_act_8 4 rfl rfl)
theorem dX20_act_195 : decode cX20_act 195 = .ok (.ifCond .eq 13, 3) := dk_153 0 13 (dk_at dksX20_act_8 6 rfl rfl)
theorem dX20_act_198 : decode cX20_act 198 = .ok (.new 82, 3) := dk_187 0 82 (dk_at dksX20_act_8 9 rfl rfl)
theorem dX20_act_201 : decode cX20_act 201 = .ok (.dup, 1) := dk_89 (dk_at dksX20_act_8 12 rfl rfl)
theorem dX20_act_202 : decode cX20_act 202 = .ok (.iload 7, 2) := dk_21 7 (dk_at dksX20_act_8 13 rfl rfl)
theorem dX20_act_204 : decode cX20_act 204 = .ok (.invokespecial 84, 3) := dk_183 0 84 (dk_at dksX20_act_8 15 rfl rfl)
theorem dX20_act_207 : decode cX20_act 207 = .ok (.areturn, 1) := dk_176 (dk_at dksX20_act_8 18 rfl rfl)
theorem dX20_act_208 : decode cX20_act 208 = .ok (.aload_n 0, 1) := dk_42 (dk_at dksX20_act_8 19 rfl rfl)
theorem dX20_act_209 : decode cX20_act 209 = .ok (.iload 7, 2) := dk_21 7 (dk_at dksX20_act_8 20 rfl rfl)
theorem dX20_act_211 : decode cX20_act 211 = .ok (.invokevirtual 85, 3) := dk_182 0 85 (dk_at dksX20_act_9 0 rfl rfl)
theorem dX20_act_214 : decode cX20_act 214 = .ok (.istore 8, 2) := dk_54 8 (dk_at dksX20_act_9 3 rfl rfl)
theorem dX20_act_216 : decode cX20_act 216 = .ok (.iload_n 2, 1) := dk_28 (dk_at dksX20_act_9 5 rfl rfl)
theorem dX20_act_217 : decode cX20_act 217 = .ok (.ifCond .eq 15, 3) := dk_153 0 15 (dk_at dksX20_act_9 6 rfl rfl)
theorem dX20_act_220 : decode cX20_act 220 = .ok (.new 89, 3) := dk_187 0 89 (dk_at dksX20_act_9 9 rfl rfl)
theorem dX20_act_223 : decode cX20_act 223 = .ok (.dup, 1) := dk_89 (dk_at dksX20_act_9 12 rfl rfl)
theorem dX20_act_224 : decode cX20_act 224 = .ok (.iload 7, 2) := dk_21 7 (dk_at dksX20_act_9 13 rfl rfl)
theorem dX20_act_226 : decode cX20_act 226 = .ok (.iload 8, 2) := dk_21 8 (dk_at dksX20_act_9 15 rfl rfl)
theorem dX20_act_228 : decode cX20_act 228 = .ok (.invokespecial 91, 3) := dk_183 0 91 (dk_at dksX20_act_9 17 rfl rfl)
theorem dX20_act_231 : decode cX20_act 231 = .ok (.areturn, 1) := dk_176 (dk_at dksX20_act_9 20 rfl rfl)
theorem dX20_act_232 : decode cX20_act 232 = .ok (.aload_n 0, 1) := dk_42 (dk_at dksX20_act_9 21 rfl rfl)
theorem dX20_act_233 : decode cX20_act 233 = .ok (.iconst 1, 1) := dk_4 (dk_at dksX20_act_9 22 rfl rfl)
theorem dX20_act_234 : decode cX20_act 234 = .ok (.sipush 999, 3) := dk_17 3 231 (dk_at dksX20_act_10 0 rfl rfl)
theorem dX20_act_237 : decode cX20_act 237 = .ok (.invokevirtual 66, 3) := dk_182 0 66 (dk_at dksX20_act_10 3 rfl rfl)
theorem dX20_act_240 : decode cX20_act 240 = .ok (.istore 9, 2) := dk_54 9 (dk_at dksX20_act_10 6 rfl rfl)
theorem dX20_act_242 : decode cX20_act 242 = .ok (.iload 4, 2) := dk_21 4 (dk_at dksX20_act_10 8 rfl rfl)
theorem dX20_act_244 : decode cX20_act 244 = .ok (.ifCond .eq 19, 3) := dk_153 0 19 (dk_at dksX20_act_10 10 rfl rfl)
theorem dX20_act_247 : decode cX20_act 247 = .ok (.new 94, 3) := dk_187 0 94 (dk_at dksX20_act_10 13 rfl rfl)
theorem dX20_act_250 : decode cX20_act 250 = .ok (.dup, 1) := dk_89 (dk_at dksX20_act_10 16 rfl rfl)
theorem dX20_act_251 : decode cX20_act 251 = .ok (.iload 7, 2) := dk_21 7 (dk_at dksX20_act_10 17 rfl rfl)
theorem dX20_act_253 : decode cX20_act 253 = .ok (.iload 8, 2) := dk_21 8 (dk_at dksX20_act_10 19 rfl rfl)
theorem dX20_act_255 : decode cX20_act 255 = .ok (.iload 9, 2) := dk_21 9 (dk_at dksX20_act_10 21 rfl rfl)
theorem dX20_act_257 : decode cX20_act 257 = .ok (.invokespecial 96, 3) := dk_183 0 96 (dk_at dksX20_act_11 0 rfl rfl)
theorem dX20_act_260 : decode cX20_act 260 = .ok (.goto 16, 3) := dk_167 0 16 (dk_at dksX20_act_11 3 rfl rfl)
theorem dX20_act_263 : decode cX20_act 263 = .ok (.new 99, 3) := dk_187 0 99 (dk_at dksX20_act_11 6 rfl rfl)
theorem dX20_act_266 : decode cX20_act 266 = .ok (.dup, 1) := dk_89 (dk_at dksX20_act_11 9 rfl rfl)
theorem dX20_act_267 : decode cX20_act 267 = .ok (.iload 7, 2) := dk_21 7 (dk_at dksX20_act_11 10 rfl rfl)
theorem dX20_act_269 : decode cX20_act 269 = .ok (.iload 8, 2) := dk_21 8 (dk_at dksX20_act_11 12 rfl rfl)
theorem dX20_act_271 : decode cX20_act 271 = .ok (.iload 9, 2) := dk_21 9 (dk_at dksX20_act_11 14 rfl rfl)
theorem dX20_act_273 : decode cX20_act 273 = .ok (.invokespecial 101, 3) := dk_183 0 101 (dk_at dksX20_act_11 16 rfl rfl)
theorem dX20_act_276 : decode cX20_act 276 = .ok (.areturn, 1) := dk_176 (dk_at dksX20_act_11 19 rfl rfl)
theorem q165 : (Jvm.Cond.initialized "HeirsAtLaw$BookReader") ∈ lw_all := lw_g (lw_at lw_m1 41 rfl) rfl
theorem q585 : (Jvm.Cond.fieldLink "HeirsAtLaw$BookReader" (23 : Nat) "HeirsAtLaw$BookReader" "kind" "I") ∈ lw_all := lw_g (lw_at lw_m2 221 rfl) rfl
theorem q586 : (Jvm.Cond.sameField "HeirsAtLaw$BookReader" "HeirsAtLaw$Reader" "kind" "I") ∈ lw_all := lw_g (lw_at lw_m2 222 rfl) rfl
theorem q1054 : (Jvm.Cond.selects "HeirsAtLaw$BookReader" ({ cls := "java/lang/Object", name := "getClass", desc := "()Ljava/lang/Class;" } : Jvm.MethodName) ({ cls := "java/lang/Object", name := "getClass", desc := "()Ljava/lang/Class;" } : Jvm.MethodName)) ∈ lw_all := lw_g (lw_at lw_m4 210 rfl) rfl
theorem q1702 : (Jvm.Cond.instantiable "HeirsAtLaw$BookReader" (11 : Nat)) ∈ lw_all := lw_g (lw_at lw_m7 138 rfl) rfl
theorem q1704 : (Jvm.Cond.instanceMethod ({ cls := "HeirsAtLaw$BookReader", name := "<init>", desc := "([BILHeirsAtLaw$Family;)V" } : Jvm.MethodName)) ∈ lw_all := lw_g (lw_at lw_m7 140 rfl) rfl
theorem q1705 : (Jvm.Cond.code ({ cls := "HeirsAtLaw$BookReader", name := "<init>", desc := "([BILHeirsAtLaw$Family;)V" } : Jvm.MethodName) prog_3_method_1_code (4 : Nat) (Option.none : Option Jvm.ClassFile.FieldType)) ∈ lw_all := lw_g (lw_at lw_m7 141 rfl) rfl
theorem q1706 : (Jvm.Cond.methodLink "HeirsAtLaw$BookReader" (3 : Nat) ({ cls := "HeirsAtLaw$Reader", name := "<init>", desc := "([BIILHeirsAtLaw$Family;)V" } : Jvm.MethodName)) ∈ lw_all := lw_g (lw_at lw_m7 142 rfl) rfl
theorem q1707 : (Jvm.Cond.classLink "HeirsAtLaw$BookReader" (9 : Nat) "java/util/ArrayList") ∈ lw_all := lw_g (lw_at lw_m7 143 rfl) rfl
theorem q1708 : (Jvm.Cond.methodLink "HeirsAtLaw$BookReader" (11 : Nat) ({ cls := "java/util/ArrayList", name := "<init>", desc := "()V" } : Jvm.MethodName)) ∈ lw_all := lw_g (lw_at lw_m7 144 rfl) rfl
theorem q1709 : (Jvm.Cond.fieldLink "HeirsAtLaw$BookReader" (14 : Nat) "HeirsAtLaw$BookReader" "acts" "Ljava/util/ArrayList;") ∈ lw_all := lw_g (lw_at lw_m7 145 rfl) rfl
theorem q1710 : (Jvm.Cond.laysFinal "HeirsAtLaw$BookReader" "HeirsAtLaw$BookReader" "acts" "Ljava/util/ArrayList;") ∈ lw_all := lw_g (lw_at lw_m7 146 rfl) rfl
theorem q1711 : (Jvm.Cond.soleField "HeirsAtLaw$BookReader" "acts") ∈ lw_all := lw_g (lw_at lw_m7 147 rfl) rfl
theorem q1712 : (Jvm.Cond.laysFinal "HeirsAtLaw$BookReader" "HeirsAtLaw$Reader" "tape" "[B") ∈ lw_all := lw_g (lw_at lw_m7 148 rfl) rfl
theorem q1713 : (Jvm.Cond.laysFinal "HeirsAtLaw$BookReader" "HeirsAtLaw$Reader" "size" "I") ∈ lw_all := lw_g (lw_at lw_m7 149 rfl) rfl
theorem q1714 : (Jvm.Cond.laysFinal "HeirsAtLaw$BookReader" "HeirsAtLaw$Reader" "limit" "I") ∈ lw_all := lw_g (lw_at lw_m7 150 rfl) rfl
theorem q1715 : (Jvm.Cond.lays "HeirsAtLaw$BookReader" "HeirsAtLaw$Reader" "to" "I") ∈ lw_all := lw_g (lw_at lw_m7 151 rfl) rfl
theorem q1716 : (Jvm.Cond.laysFinal "HeirsAtLaw$BookReader" "HeirsAtLaw$Reader" "f" "LHeirsAtLaw$Family;") ∈ lw_all := lw_g (lw_at lw_m7 152 rfl) rfl
theorem q1717 : (Jvm.Cond.lays "HeirsAtLaw$BookReader" "HeirsAtLaw$Reader" "kind" "I") ∈ lw_all := lw_g (lw_at lw_m7 153 rfl) rfl
theorem q1718 : (Jvm.Cond.lays "HeirsAtLaw$BookReader" "HeirsAtLaw$Reader" "from" "I") ∈ lw_all := lw_g (lw_at lw_m7 154 rfl) rfl
theorem q1719 : (Jvm.Cond.lays "HeirsAtLaw$BookReader" "HeirsAtLaw$Reader" "number" "I") ∈ lw_all := lw_g (lw_at lw_m7 155 rfl) rfl
theorem q1720 : (Jvm.Cond.lays "HeirsAtLaw$BookReader" "HeirsAtLaw$Reader" "sign" "I") ∈ lw_all := lw_g (lw_at lw_m7 156 rfl) rfl
theorem q1721 : (Jvm.Cond.lays "HeirsAtLaw$BookReader" "HeirsAtLaw$Reader" "word" "Ljava/lang/String;") ∈ lw_all := lw_g (lw_at lw_m7 157 rfl) rfl
theorem q1722 : (Jvm.Cond.superclass "HeirsAtLaw$BookReader" "HeirsAtLaw$Reader") ∈ lw_all := lw_g (lw_at lw_m7 158 rfl) rfl
theorem q1724 : (Jvm.Cond.instanceMethod ({ cls := "HeirsAtLaw$BookReader", name := "read", desc := "()Ljava/util/ArrayList;" } : Jvm.MethodName)) ∈ lw_all := lw_g (lw_at lw_m7 160 rfl) rfl
theorem q1725 : (Jvm.Cond.selects "HeirsAtLaw$BookReader" ({ cls := "HeirsAtLaw$BookReader", name := "read", desc := "()Ljava/util/ArrayList;" } : Jvm.MethodName) ({ cls := "HeirsAtLaw$BookReader", name := "read", desc := "()Ljava/util/ArrayList;" } : Jvm.MethodName)) ∈ lw_all := lw_g (lw_at lw_m7 161 rfl) rfl
theorem q1726 : (Jvm.Cond.code ({ cls := "HeirsAtLaw$BookReader", name := "read", desc := "()Ljava/util/ArrayList;" } : Jvm.MethodName) prog_3_method_2_code (1 : Nat) (Option.some (Jvm.ClassFile.FieldType.object "java/util/ArrayList"))) ∈ lw_all := lw_g (lw_at lw_m7 162 rfl) rfl
theorem q1727 : (Jvm.Cond.methodLink "HeirsAtLaw$BookReader" (20 : Nat) ({ cls := "HeirsAtLaw$BookReader", name := "go", desc := "()V" } : Jvm.MethodName)) ∈ lw_all := lw_g (lw_at lw_m7 163 rfl) rfl
theorem q1728 : (Jvm.Cond.sameMethod "HeirsAtLaw$BookReader" "HeirsAtLaw$Reader" "go" "()V") ∈ lw_all := lw_g (lw_at lw_m7 164 rfl) rfl
theorem q1729 : (Jvm.Cond.selects "HeirsAtLaw$BookReader" ({ cls := "HeirsAtLaw$BookReader", name := "go", desc := "()V" } : Jvm.MethodName) ({ cls := "HeirsAtLaw$Reader", name := "go", desc := "()V" } : Jvm.MethodName)) ∈ lw_all := lw_g (lw_at lw_m7 165 rfl) rfl
theorem q1730 : (Jvm.Cond.methodLink "HeirsAtLaw$BookReader" (27 : Nat) ({ cls := "HeirsAtLaw$BookReader", name := "act", desc := "()LHeirsAtLaw$Act;" } : Jvm.MethodName)) ∈ lw_all := lw_g (lw_at lw_m7 166 rfl) rfl
theorem q1731 : (Jvm.Cond.privateMethod ({ cls := "HeirsAtLaw$BookReader", name := "act", desc := "()LHeirsAtLaw$Act;" } : Jvm.MethodName)) ∈ lw_tbl := lw_at lw_m7 167 rfl
theorem q1732 : (Jvm.Cond.instanceMethod ({ cls := "HeirsAtLaw$BookReader", name := "act", desc := "()LHeirsAtLaw$Act;" } : Jvm.MethodName)) ∈ lw_all := lw_g (lw_at lw_m7 168 rfl) rfl
theorem q1733 : (Jvm.Cond.code ({ cls := "HeirsAtLaw$BookReader", name := "act", desc := "()LHeirsAtLaw$Act;" } : Jvm.MethodName) prog_3_method_3_code (10 : Nat) (Option.some (Jvm.ClassFile.FieldType.object "HeirsAtLaw$Act"))) ∈ lw_all := lw_g (lw_at lw_m7 169 rfl) rfl
theorem q1734 : (Jvm.Cond.stringRef "HeirsAtLaw$BookReader" (38 : Nat) "die") ∈ lw_tbl := lw_at lw_m7 170 rfl
theorem q1735 : (Jvm.Cond.methodLink "HeirsAtLaw$BookReader" (40 : Nat) ({ cls := "HeirsAtLaw$BookReader", name := "is", desc := "(Ljava/lang/String;)Z" } : Jvm.MethodName)) ∈ lw_all := lw_g (lw_at lw_m7 171 rfl) rfl
theorem q1736 : (Jvm.Cond.sameMethod "HeirsAtLaw$BookReader" "HeirsAtLaw$Reader" "is" "(Ljava/lang/String;)Z") ∈ lw_all := lw_g (lw_at lw_m7 172 rfl) rfl
theorem q1737 : (Jvm.Cond.selects "HeirsAtLaw$BookReader" ({ cls := "HeirsAtLaw$BookReader", name := "is", desc := "(Ljava/lang/String;)Z" } : Jvm.MethodName) ({ cls := "HeirsAtLaw$Reader", name := "is", desc := "(Ljava/lang/String;)Z" } : Jvm.MethodName)) ∈ lw_all := lw_g (lw_at lw_m7 173 rfl) rfl
theorem q1738 : (Jvm.Cond.stringRef "HeirsAtLaw$BookReader" (44 : Nat) "wed") ∈ lw_tbl := lw_at lw_m7 174 rfl
theorem q1739 : (Jvm.Cond.stringRef "HeirsAtLaw$BookReader" (46 : Nat) "part") ∈ lw_tbl := lw_at lw_m7 175 rfl
theorem q1740 : (Jvm.Cond.stringRef "HeirsAtLaw$BookReader" (48 : Nat) "give") ∈ lw_tbl := lw_at lw_m7 176 rfl
theorem q1741 : (Jvm.Cond.stringRef "HeirsAtLaw$BookReader" (50 : Nat) "leave") ∈ lw_tbl := lw_at lw_m7 177 rfl
theorem q1742 : (Jvm.Cond.stringRef "HeirsAtLaw$BookReader" (52 : Nat) "revoke") ∈ lw_tbl := lw_at lw_m7 178 rfl
theorem q1743 : (Jvm.Cond.stringRef "HeirsAtLaw$BookReader" (54 : Nat) "year") ∈ lw_tbl := lw_at lw_m7 179 rfl
theorem q1744 : (Jvm.Cond.methodLink "HeirsAtLaw$BookReader" (56 : Nat) ({ cls := "HeirsAtLaw$BookReader", name := "need", desc := "(ZI)V" } : Jvm.MethodName)) ∈ lw_all := lw_g (lw_at lw_m7 180 rfl) rfl
theorem q1745 : (Jvm.Cond.sameMethod "HeirsAtLaw$BookReader" "HeirsAtLaw$Reader" "need" "(ZI)V") ∈ lw_all := lw_g (lw_at lw_m7 181 rfl) rfl
theorem q1746 : (Jvm.Cond.selects "HeirsAtLaw$BookReader" ({ cls := "HeirsAtLaw$BookReader", name := "need", desc := "(ZI)V" } : Jvm.MethodName) ({ cls := "HeirsAtLaw$Reader", name := "need", desc := "(ZI)V" } : Jvm.MethodName)) ∈ lw_all := lw_g (lw_at lw_m7 182 rfl) rfl
theorem q1747 : (Jvm.Cond.methodLink "HeirsAtLaw$BookReader" (60 : Nat) ({ cls := "java/util/ArrayList", name := "size", desc := "()I" } : Jvm.MethodName)) ∈ lw_all := lw_g (lw_at lw_m7 183 rfl) rfl
theorem q1748 : (Jvm.Cond.classLink "HeirsAtLaw$BookReader" (64 : Nat) "HeirsAtLaw$Passes") ∈ lw_all := lw_g (lw_at lw_m7 184 rfl) rfl
theorem q1750 : (Jvm.Cond.methodLink "HeirsAtLaw$BookReader" (66 : Nat) ({ cls := "HeirsAtLaw$BookReader", name := "number", desc := "(II)I" } : Jvm.MethodName)) ∈ lw_all := lw_g (lw_at lw_m7 186 rfl) rfl
theorem q1751 : (Jvm.Cond.sameMethod "HeirsAtLaw$BookReader" "HeirsAtLaw$Reader" "number" "(II)I") ∈ lw_all := lw_g (lw_at lw_m7 187 rfl) rfl
theorem q1752 : (Jvm.Cond.selects "HeirsAtLaw$BookReader" ({ cls := "HeirsAtLaw$BookReader", name := "number", desc := "(II)I" } : Jvm.MethodName) ({ cls := "HeirsAtLaw$Reader", name := "number", desc := "(II)I" } : Jvm.MethodName)) ∈ lw_all := lw_g (lw_at lw_m7 188 rfl) rfl
theorem q1753 : (Jvm.Cond.methodLink "HeirsAtLaw$BookReader" (70 : Nat) ({ cls := "HeirsAtLaw$Passes", name := "<init>", desc := "(I)V" } : Jvm.MethodName)) ∈ lw_all := lw_g (lw_at lw_m7 189 rfl) rfl
theorem q1761 : (Jvm.Cond.methodLink "HeirsAtLaw$BookReader" (73 : Nat) ({ cls := "HeirsAtLaw$BookReader", name := "one", desc := "()I" } : Jvm.MethodName)) ∈ lw_all := lw_g (lw_at lw_m7 197 rfl) rfl
theorem q1762 : (Jvm.Cond.sameMethod "HeirsAtLaw$BookReader" "HeirsAtLaw$Reader" "one" "()I") ∈ lw_all := lw_g (lw_at lw_m7 198 rfl) rfl
theorem q1763 : (Jvm.Cond.selects "HeirsAtLaw$BookReader" ({ cls := "HeirsAtLaw$BookReader", name := "one", desc := "()I" } : Jvm.MethodName) ({ cls := "HeirsAtLaw$Reader", name := "one", desc := "()I" } : Jvm.MethodName)) ∈ lw_all := lw_g (lw_at lw_m7 199 rfl) rfl
theorem q1764 : (Jvm.Cond.classLink "HeirsAtLaw$BookReader" (76 : Nat) "HeirsAtLaw$Dies") ∈ lw_all := lw_g (lw_at lw_m7 200 rfl) rfl
theorem q1765 : (Jvm.Cond.methodLink "HeirsAtLaw$BookReader" (78 : Nat) ({ cls := "HeirsAtLaw$Dies", name := "<init>", desc := "(I)V" } : Jvm.MethodName)) ∈ lw_all := lw_g (lw_at lw_m7 201 rfl) rfl
theorem q1766 : (Jvm.Cond.classLink "HeirsAtLaw$BookReader" (79 : Nat) "HeirsAtLaw$Parts") ∈ lw_all := lw_g (lw_at lw_m7 202 rfl) rfl
theorem q1767 : (Jvm.Cond.methodLink "HeirsAtLaw$BookReader" (81 : Nat) ({ cls := "HeirsAtLaw$Parts", name := "<init>", desc := "(I)V" } : Jvm.MethodName)) ∈ lw_all := lw_g (lw_at lw_m7 203 rfl) rfl
theorem q1768 : (Jvm.Cond.classLink "HeirsAtLaw$BookReader" (82 : Nat) "HeirsAtLaw$Revokes") ∈ lw_all := lw_g (lw_at lw_m7 204 rfl) rfl
theorem q1769 : (Jvm.Cond.methodLink "HeirsAtLaw$BookReader" (84 : Nat) ({ cls := "HeirsAtLaw$Revokes", name := "<init>", desc := "(I)V" } : Jvm.MethodName)) ∈ lw_all := lw_g (lw_at lw_m7 205 rfl) rfl
theorem q1770 : (Jvm.Cond.methodLink "HeirsAtLaw$BookReader" (85 : Nat) ({ cls := "HeirsAtLaw$BookReader", name := "other", desc := "(I)I" } : Jvm.MethodName)) ∈ lw_all := lw_g (lw_at lw_m7 206 rfl) rfl
theorem q1771 : (Jvm.Cond.sameMethod "HeirsAtLaw$BookReader" "HeirsAtLaw$Reader" "other" "(I)I") ∈ lw_all := lw_g (lw_at lw_m7 207 rfl) rfl
theorem q1772 : (Jvm.Cond.selects "HeirsAtLaw$BookReader" ({ cls := "HeirsAtLaw$BookReader", name := "other", desc := "(I)I" } : Jvm.MethodName) ({ cls := "HeirsAtLaw$Reader", name := "other", desc := "(I)I" } : Jvm.MethodName)) ∈ lw_all := lw_g (lw_at lw_m7 208 rfl) rfl
theorem q1773 : (Jvm.Cond.classLink "HeirsAtLaw$BookReader" (89 : Nat) "HeirsAtLaw$Weds") ∈ lw_all := lw_g (lw_at lw_m7 209 rfl) rfl
theorem q1774 : (Jvm.Cond.methodLink "HeirsAtLaw$BookReader" (91 : Nat) ({ cls := "HeirsAtLaw$Weds", name := "<init>", desc := "(II)V" } : Jvm.MethodName)) ∈ lw_all := lw_g (lw_at lw_m7 210 rfl) rfl
theorem q1775 : (Jvm.Cond.classLink "HeirsAtLaw$BookReader" (94 : Nat) "HeirsAtLaw$Gives") ∈ lw_all := lw_g (lw_at lw_m7 211 rfl) rfl
theorem q1776 : (Jvm.Cond.methodLink "HeirsAtLaw$BookReader" (96 : Nat) ({ cls := "HeirsAtLaw$Gives", name := "<init>", desc := "(III)V" } : Jvm.MethodName)) ∈ lw_all := lw_g (lw_at lw_m7 212 rfl) rfl
theorem q1777 : (Jvm.Cond.classLink "HeirsAtLaw$BookReader" (99 : Nat) "HeirsAtLaw$Leaves") ∈ lw_all := lw_g (lw_at lw_m7 213 rfl) rfl
theorem q1778 : (Jvm.Cond.methodLink "HeirsAtLaw$BookReader" (101 : Nat) ({ cls := "HeirsAtLaw$Leaves", name := "<init>", desc := "(III)V" } : Jvm.MethodName)) ∈ lw_all := lw_g (lw_at lw_m7 214 rfl) rfl
theorem q1779 : (Jvm.Cond.methodLink "HeirsAtLaw$BookReader" (31 : Nat) ({ cls := "java/util/ArrayList", name := "add", desc := "(Ljava/lang/Object;)Z" } : Jvm.MethodName)) ∈ lw_all := lw_g (lw_at lw_m7 215 rfl) rfl
theorem q1780 : (Jvm.Cond.methodLink "HeirsAtLaw$BookReader" (35 : Nat) ({ cls := "HeirsAtLaw$BookReader", name := "end", desc := "()V" } : Jvm.MethodName)) ∈ lw_all := lw_g (lw_at lw_m7 216 rfl) rfl
theorem q1781 : (Jvm.Cond.sameMethod "HeirsAtLaw$BookReader" "HeirsAtLaw$Reader" "end" "()V") ∈ lw_all := lw_g (lw_at lw_m7 217 rfl) rfl
theorem q1782 : (Jvm.Cond.selects "HeirsAtLaw$BookReader" ({ cls := "HeirsAtLaw$BookReader", name := "end", desc := "()V" } : Jvm.MethodName) ({ cls := "HeirsAtLaw$Reader", name := "end", desc := "()V" } : Jvm.MethodName)) ∈ lw_all := lw_g (lw_at lw_m7 218 rfl) rfl
theorem q2723 : (Jvm.Cond.selects "HeirsAtLaw$BookReader" ({ cls := "HeirsAtLaw$Reader", name := "need", desc := "(ZI)V" } : Jvm.MethodName) ({ cls := "HeirsAtLaw$Reader", name := "need", desc := "(ZI)V" } : Jvm.MethodName)) ∈ lw_all := lw_g (lw_at lw_m11 199 rfl) rfl
theorem q2727 : (Jvm.Cond.selects "HeirsAtLaw$BookReader" ({ cls := "HeirsAtLaw$Reader", name := "go", desc := "()V" } : Jvm.MethodName) ({ cls := "HeirsAtLaw$Reader", name := "go", desc := "()V" } : Jvm.MethodName)) ∈ lw_all := lw_g (lw_at lw_m11 203 rfl) rfl
theorem q2731 : (Jvm.Cond.selects "HeirsAtLaw$BookReader" ({ cls := "HeirsAtLaw$Reader", name := "isName", desc := "()Z" } : Jvm.MethodName) ({ cls := "HeirsAtLaw$Reader", name := "isName", desc := "()Z" } : Jvm.MethodName)) ∈ lw_all := lw_g (lw_at lw_m11 207 rfl) rfl
theorem q2735 : (Jvm.Cond.selects "HeirsAtLaw$BookReader" ({ cls := "HeirsAtLaw$Reader", name := "find", desc := "()I" } : Jvm.MethodName) ({ cls := "HeirsAtLaw$Reader", name := "find", desc := "()I" } : Jvm.MethodName)) ∈ lw_all := lw_g (lw_at lw_m11 211 rfl) rfl
theorem q2739 : (Jvm.Cond.selects "HeirsAtLaw$BookReader" ({ cls := "HeirsAtLaw$Reader", name := "hold", desc := "()I" } : Jvm.MethodName) ({ cls := "HeirsAtLaw$Reader", name := "hold", desc := "()I" } : Jvm.MethodName)) ∈ lw_all := lw_g (lw_at lw_m11 215 rfl) rfl
theorem q2772 : (Jvm.Cond.castable "HeirsAtLaw$BookReader" "java/lang/Object") ∈ lw_tbl := lw_at lw_m12 8 rfl
theorem in_X20 : ∀ w ∈ wsX200, w ∈ lw_all := lw_in wsX200 [1712, 1713, 1714, 1715, 1716, 1717, 1718, 1719, 1720, 1721, 1710] (by decide +kernel) (by decide +kernel)
/-! HeirsAtLaw$Passes -/
set_option maxRecDepth 100000
def RX21 : String := "HeirsAtLaw$Passes"
def TX21 : u_T := fun k => match k with
  | _ => ("HeirsAtLaw$Passes", "many", "I", true)
def tyX21 : Nat → FieldType := fun k => match k with
  | _ => .int
abbrev wsX210 : List Cond := u_ws RX21 TX21 1
theorem nmX21 : ∀ a, a < 1 → ∀ b, b < 1 → a ≠ b → (TX21 a).2.1 ≠ (TX21 b).2.1 := by decide +kernel
theorem tyX21_ok : ∀ k, k < 1 → parseFieldDescriptor (TX21 k).2.2.1 = some (tyX21 k) := by decide +kernel
abbrev cX21_does : ByteArray := prog_20_method_2_code
def yX21_does : MethodName := ⟨RX21, "does", "(LHeirsAtLaw$Estate;)I"⟩
def dkwX21_does_1 : List UInt8 := [182, 0, 20, 87, 3, 172]
abbrev dktX21_does_1 : List UInt8 := dkwX21_does_1 ++ []
def dkwX21_does_0 : List UInt8 := [43, 180, 0, 15, 42, 180, 0, 9, 96, 17, 0, 199, 164, 0, 6, 16, 61, 172, 43, 42, 180, 0, 9]
abbrev dktX21_does_0 : List UInt8 := dkwX21_does_0 ++ dktX21_does_1
theorem dksX21_does_0 : cX21_does.data.toList.drop 0 = dktX21_does_0 := by decide +kernel
theorem dksX21_does_1 : cX21_does.data.toList.drop 23 = dktX21_does_1 := dk_seg dksX21_does_0 23 rfl rfl
theorem dX21_does_0 : decode cX21_does 0 = .ok (.aload_n 1, 1) := dk_43 (dk_at dksX21_does_0 0 rfl rfl)
theorem dX21_does_1 : decode cX21_does 1 = .ok (.getfield 15, 3) := dk_180 0 15 (dk_at dksX21_does_0 1 rfl rfl)
theorem dX21_does_4 : decode cX21_does 4 = .ok (.aload_n 0, 1) := dk_42 (dk_at dksX21_does_0 4 rfl rfl)
theorem dX21_does_5 : decode cX21_does 5 = .ok (.getfield 9, 3) := dk_180 0 9 (dk_at dksX21_does_0 5 rfl rfl)
theorem dX21_does_8 : decode cX21_does 8 = .ok (.iadd, 1) := dk_96 (dk_at dksX21_does_0 8 rfl rfl)
theorem dX21_does_9 : decode cX21_does 9 = .ok (.sipush 199, 3) := dk_17 0 199 (dk_at dksX21_does_0 9 rfl rfl)
theorem dX21_does_12 : decode cX21_does 12 = .ok (.if_icmp .le 6, 3) := dk_164 0 6 (dk_at dksX21_does_0 12 rfl rfl)
theorem dX21_does_15 : decode cX21_does 15 = .ok (.bipush 61, 2) := dk_16 61 (dk_at dksX21_does_0 15 rfl rfl)
theorem dX21_does_17 : decode cX21_does 17 = .ok (.ireturn, 1) := dk_172 (dk_at dksX21_does_0 17 rfl rfl)
theorem dX21_does_18 : decode cX21_does 18 = .ok (.aload_n 1, 1) := dk_43 (dk_at dksX21_does_0 18 rfl rfl)
theorem dX21_does_19 : decode cX21_does 19 = .ok (.aload_n 0, 1) := dk_42 (dk_at dksX21_does_0 19 rfl rfl)
theorem dX21_does_20 : decode cX21_does 20 = .ok (.getfield 9, 3) := dk_180 0 9 (dk_at dksX21_does_0 20 rfl rfl)
theorem dX21_does_23 : decode cX21_does 23 = .ok (.invokevirtual 20, 3) := dk_182 0 20 (dk_at dksX21_does_1 0 rfl rfl)
theorem dX21_does_26 : decode cX21_does 26 = .ok (.pop, 1) := dk_87 (dk_at dksX21_does_1 3 rfl rfl)
theorem dX21_does_27 : decode cX21_does 27 = .ok (.iconst 0, 1) := dk_3 (dk_at dksX21_does_1 4 rfl rfl)
theorem dX21_does_28 : decode cX21_does 28 = .ok (.ireturn, 1) := dk_172 (dk_at dksX21_does_1 5 rfl rfl)
abbrev cX21_init : ByteArray := prog_20_method_1_code
def yX21_init : MethodName := ⟨RX21, "<init>", "(I)V"⟩
def dkwX21_init_0 : List UInt8 := [42, 183, 0, 3, 42, 27, 181, 0, 9, 177]
abbrev dktX21_init_0 : List UInt8 := dkwX21_init_0 ++ []
theorem dksX21_init_0 : cX21_init.data.toList.drop 0 = dktX21_init_0 := by decide +kernel
theorem dX21_init_0 : decode cX21_init 0 = .ok (.aload_n 0, 1) := dk_42 (dk_at dksX21_init_0 0 rfl rfl)
theorem dX21_init_1 : decode cX21_init 1 = .ok (.invokespecial 3, 3) := dk_183 0 3 (dk_at dksX21_init_0 1 rfl rfl)
theorem dX21_init_4 : decode cX21_init 4 = .ok (.aload_n 0, 1) := dk_42 (dk_at dksX21_init_0 4 rfl rfl)
theorem dX21_init_5 : decode cX21_init 5 = .ok (.iload_n 1, 1) := dk_27 (dk_at dksX21_init_0 5 rfl rfl)
theorem dX21_init_6 : decode cX21_init 6 = .ok (.putfield 9, 3) := dk_181 0 9 (dk_at dksX21_init_0 6 rfl rfl)
theorem dX21_init_9 : decode cX21_init 9 = .ok (.return_, 1) := dk_177 (dk_at dksX21_init_0 9 rfl rfl)
theorem q166 : (Jvm.Cond.initialized "HeirsAtLaw$Passes") ∈ lw_all := lw_g (lw_at lw_m1 42 rfl) rfl
theorem q253 : (Jvm.Cond.fieldLinkNest "HeirsAtLaw$Passes" (15 : Nat) "HeirsAtLaw$Estate" "year" "I" "HeirsAtLaw") ∈ lw_tbl := lw_at lw_m1 129 rfl
theorem q1068 : (Jvm.Cond.selects "HeirsAtLaw$Passes" ({ cls := "java/lang/Object", name := "getClass", desc := "()Ljava/lang/Class;" } : Jvm.MethodName) ({ cls := "java/lang/Object", name := "getClass", desc := "()Ljava/lang/Class;" } : Jvm.MethodName)) ∈ lw_all := lw_g (lw_at lw_m4 224 rfl) rfl
theorem q1369 : (Jvm.Cond.selects "HeirsAtLaw$Passes" ({ cls := "HeirsAtLaw$Act", name := "does", desc := "(LHeirsAtLaw$Estate;)I" } : Jvm.MethodName) ({ cls := "HeirsAtLaw$Passes", name := "does", desc := "(LHeirsAtLaw$Estate;)I" } : Jvm.MethodName)) ∈ lw_all := lw_g (lw_at lw_m6 45 rfl) rfl
theorem q1370 : (Jvm.Cond.instanceMethod ({ cls := "HeirsAtLaw$Passes", name := "does", desc := "(LHeirsAtLaw$Estate;)I" } : Jvm.MethodName)) ∈ lw_all := lw_g (lw_at lw_m6 46 rfl) rfl
theorem q1371 : (Jvm.Cond.code ({ cls := "HeirsAtLaw$Passes", name := "does", desc := "(LHeirsAtLaw$Estate;)I" } : Jvm.MethodName) prog_20_method_2_code (2 : Nat) (Option.some Jvm.ClassFile.FieldType.int)) ∈ lw_all := lw_g (lw_at lw_m6 47 rfl) rfl
theorem q1372 : (Jvm.Cond.methodLink "HeirsAtLaw$Passes" (20 : Nat) ({ cls := "HeirsAtLaw$Estate", name := "passAll", desc := "(I)I" } : Jvm.MethodName)) ∈ lw_all := lw_g (lw_at lw_m6 48 rfl) rfl
theorem q1749 : (Jvm.Cond.instantiable "HeirsAtLaw$Passes" (1 : Nat)) ∈ lw_all := lw_g (lw_at lw_m7 185 rfl) rfl
theorem q1754 : (Jvm.Cond.instanceMethod ({ cls := "HeirsAtLaw$Passes", name := "<init>", desc := "(I)V" } : Jvm.MethodName)) ∈ lw_all := lw_g (lw_at lw_m7 190 rfl) rfl
theorem q1755 : (Jvm.Cond.code ({ cls := "HeirsAtLaw$Passes", name := "<init>", desc := "(I)V" } : Jvm.MethodName) prog_20_method_1_code (2 : Nat) (Option.none : Option Jvm.ClassFile.FieldType)) ∈ lw_all := lw_g (lw_at lw_m7 191 rfl) rfl
theorem q1756 : (Jvm.Cond.methodLinkNest "HeirsAtLaw$Passes" (3 : Nat) ({ cls := "HeirsAtLaw$Act", name := "<init>", desc := "()V" } : Jvm.MethodName) "HeirsAtLaw") ∈ lw_tbl := lw_at lw_m7 192 rfl
theorem q1757 : (Jvm.Cond.fieldLink "HeirsAtLaw$Passes" (9 : Nat) "HeirsAtLaw$Passes" "many" "I") ∈ lw_all := lw_g (lw_at lw_m7 193 rfl) rfl
theorem q1758 : (Jvm.Cond.laysFinal "HeirsAtLaw$Passes" "HeirsAtLaw$Passes" "many" "I") ∈ lw_all := lw_g (lw_at lw_m7 194 rfl) rfl
theorem q1759 : (Jvm.Cond.soleField "HeirsAtLaw$Passes" "many") ∈ lw_all := lw_g (lw_at lw_m7 195 rfl) rfl
theorem q1760 : (Jvm.Cond.superclass "HeirsAtLaw$Passes" "HeirsAtLaw$Act") ∈ lw_all := lw_g (lw_at lw_m7 196 rfl) rfl
theorem q2749 : (Jvm.Cond.castable "HeirsAtLaw$Passes" "HeirsAtLaw$Act") ∈ lw_tbl := lw_at lw_m11 225 rfl
theorem q2773 : (Jvm.Cond.castable "HeirsAtLaw$Passes" "java/lang/Object") ∈ lw_tbl := lw_at lw_m12 9 rfl
theorem in_X21 : ∀ w ∈ wsX210, w ∈ lw_all := lw_in wsX210 [1758] (by decide +kernel) (by decide +kernel)
/-! HeirsAtLaw$SentenceReader -/
set_option maxRecDepth 100000
def RX22 : String := "HeirsAtLaw$SentenceReader"
def TX22 : u_T := fun k => match k with
  | 0 => ("HeirsAtLaw$Reader", "tape", "[B", true)
  | 1 => ("HeirsAtLaw$Reader", "size", "I", true)
  | 2 => ("HeirsAtLaw$Reader", "limit", "I", true)
  | 3 => ("HeirsAtLaw$Reader", "to", "I", false)
  | 4 => ("HeirsAtLaw$Reader", "f", "LHeirsAtLaw$Family;", true)
  | 5 => ("HeirsAtLaw$Reader", "kind", "I", false)
  | 6 => ("HeirsAtLaw$Reader", "from", "I", false)
  | 7 => ("HeirsAtLaw$Reader", "number", "I", false)
  | 8 => ("HeirsAtLaw$Reader", "sign", "I", false)
  | 9 => ("HeirsAtLaw$Reader", "word", "Ljava/lang/String;", false)
  | 10 => ("HeirsAtLaw$SentenceReader", "ones", "I", false)
  | _ => ("HeirsAtLaw$SentenceReader", "within", "I", false)
def tyX22 : Nat → FieldType := fun k => match k with
  | 0 => .array .byte
  | 1 => .int
  | 2 => .int
  | 3 => .int
  | 4 => .object "HeirsAtLaw$Family"
  | 5 => .int
  | 6 => .int
  | 7 => .int
  | 8 => .int
  | 9 => .object "java/lang/String"
  | 10 => .int
  | _ => .int
abbrev wsX220 : List Cond := u_ws RX22 TX22 12
theorem nmX22 : ∀ a, a < 12 → ∀ b, b < 12 → a ≠ b → (TX22 a).2.1 ≠ (TX22 b).2.1 := by decide +kernel
theorem tyX22_ok : ∀ k, k < 12 → parseFieldDescriptor (TX22 k).2.2.1 = some (tyX22 k) := by decide +kernel
abbrev cX22_init : ByteArray := prog_24_method_1_code
def yX22_init : MethodName := ⟨RX22, "<init>", "([BILHeirsAtLaw$Family;)V"⟩
def dkwX22_init_0 : List UInt8 := [42, 43, 28, 17, 0, 200, 45, 183, 0, 3, 177]
abbrev dktX22_init_0 : List UInt8 := dkwX22_init_0 ++ []
theorem dksX22_init_0 : cX22_init.data.toList.drop 0 = dktX22_init_0 := by decide +kernel
theorem dX22_init_0 : decode cX22_init 0 = .ok (.aload_n 0, 1) := dk_42 (dk_at dksX22_init_0 0 rfl rfl)
theorem dX22_init_1 : decode cX22_init 1 = .ok (.aload_n 1, 1) := dk_43 (dk_at dksX22_init_0 1 rfl rfl)
theorem dX22_init_2 : decode cX22_init 2 = .ok (.iload_n 2, 1) := dk_28 (dk_at dksX22_init_0 2 rfl rfl)
theorem dX22_init_3 : decode cX22_init 3 = .ok (.sipush 200, 3) := dk_17 0 200 (dk_at dksX22_init_0 3 rfl rfl)
theorem dX22_init_6 : decode cX22_init 6 = .ok (.aload_n 3, 1) := dk_45 (dk_at dksX22_init_0 6 rfl rfl)
theorem dX22_init_7 : decode cX22_init 7 = .ok (.invokespecial 3, 3) := dk_183 0 3 (dk_at dksX22_init_0 7 rfl rfl)
theorem dX22_init_10 : decode cX22_init 10 = .ok (.return_, 1) := dk_177 (dk_at dksX22_init_0 10 rfl rfl)
abbrev cX22_read : ByteArray := prog_24_method_2_code
def yX22_read : MethodName := ⟨RX22, "read", "()LHeirsAtLaw$Cond;"⟩
def dkwX22_read_1 : List UInt8 := [182, 0, 23, 43, 176]
abbrev dktX22_read_1 : List UInt8 := dkwX22_read_1 ++ []
def dkwX22_read_0 : List UInt8 := [42, 182, 0, 9, 42, 182, 0, 15, 76, 42, 42, 180, 0, 19, 154, 0, 7, 4, 167, 0, 4, 3, 4]
abbrev dktX22_read_0 : List UInt8 := dkwX22_read_0 ++ dktX22_read_1
theorem dksX22_read_0 : cX22_read.data.toList.drop 0 = dktX22_read_0 := by decide +kernel
theorem dksX22_read_1 : cX22_read.data.toList.drop 23 = dktX22_read_1 := dk_seg dksX22_read_0 23 rfl rfl
theorem dX22_read_0 : decode cX22_read 0 = .ok (.aload_n 0, 1) := dk_42 (dk_at dksX22_read_0 0 rfl rfl)
theorem dX22_read_1 : decode cX22_read 1 = .ok (.invokevirtual 9, 3) := dk_182 0 9 (dk_at dksX22_read_0 1 rfl rfl)
theorem dX22_read_4 : decode cX22_read 4 = .ok (.aload_n 0, 1) := dk_42 (dk_at dksX22_read_0 4 rfl rfl)
theorem dX22_read_5 : decode cX22_read 5 = .ok (.invokevirtual 15, 3) := dk_182 0 15 (dk_at dksX22_read_0 5 rfl rfl)
theorem dX22_read_8 : decode cX22_read 8 = .ok (.astore_n 1, 1) := dk_76 (dk_at dksX22_read_0 8 rfl rfl)
theorem dX22_read_9 : decode cX22_read 9 = .ok (.aload_n 0, 1) := dk_42 (dk_at dksX22_read_0 9 rfl rfl)
theorem dX22_read_10 : decode cX22_read 10 = .ok (.aload_n 0, 1) := dk_42 (dk_at dksX22_read_0 10 rfl rfl)
theorem dX22_read_11 : decode cX22_read 11 = .ok (.getfield 19, 3) := dk_180 0 19 (dk_at dksX22_read_0 11 rfl rfl)
theorem dX22_read_14 : decode cX22_read 14 = .ok (.ifCond .ne 7, 3) := dk_154 0 7 (dk_at dksX22_read_0 14 rfl rfl)
theorem dX22_read_17 : decode cX22_read 17 = .ok (.iconst 1, 1) := dk_4 (dk_at dksX22_read_0 17 rfl rfl)
theorem dX22_read_18 : decode cX22_read 18 = .ok (.goto 4, 3) := dk_167 0 4 (dk_at dksX22_read_0 18 rfl rfl)
theorem dX22_read_21 : decode cX22_read 21 = .ok (.iconst 0, 1) := dk_3 (dk_at dksX22_read_0 21 rfl rfl)
theorem dX22_read_22 : decode cX22_read 22 = .ok (.iconst 1, 1) := dk_4 (dk_at dksX22_read_0 22 rfl rfl)
theorem dX22_read_23 : decode cX22_read 23 = .ok (.invokevirtual 23, 3) := dk_182 0 23 (dk_at dksX22_read_1 0 rfl rfl)
theorem dX22_read_26 : decode cX22_read 26 = .ok (.aload_n 1, 1) := dk_43 (dk_at dksX22_read_1 3 rfl rfl)
theorem dX22_read_27 : decode cX22_read 27 = .ok (.areturn, 1) := dk_176 (dk_at dksX22_read_1 4 rfl rfl)
abbrev cX22_or : ByteArray := prog_24_method_3_code
def yX22_or : MethodName := ⟨RX22, "or", "()LHeirsAtLaw$Cond;"⟩
def dkwX22_or_1 : List UInt8 := [182, 0, 27, 3, 183, 0, 37, 76, 167, 255, 229, 43, 176]
abbrev dktX22_or_1 : List UInt8 := dkwX22_or_1 ++ []
def dkwX22_or_0 : List UInt8 := [42, 182, 0, 27, 76, 42, 18, 30, 182, 0, 31, 153, 0, 24, 42, 182, 0, 9, 187, 0, 35, 89, 43, 42]
abbrev dktX22_or_0 : List UInt8 := dkwX22_or_0 ++ dktX22_or_1
theorem dksX22_or_0 : cX22_or.data.toList.drop 0 = dktX22_or_0 := by decide +kernel
theorem dksX22_or_1 : cX22_or.data.toList.drop 24 = dktX22_or_1 := dk_seg dksX22_or_0 24 rfl rfl
theorem dX22_or_0 : decode cX22_or 0 = .ok (.aload_n 0, 1) := dk_42 (dk_at dksX22_or_0 0 rfl rfl)
theorem dX22_or_1 : decode cX22_or 1 = .ok (.invokevirtual 27, 3) := dk_182 0 27 (dk_at dksX22_or_0 1 rfl rfl)
theorem dX22_or_4 : decode cX22_or 4 = .ok (.astore_n 1, 1) := dk_76 (dk_at dksX22_or_0 4 rfl rfl)
theorem dX22_or_5 : decode cX22_or 5 = .ok (.aload_n 0, 1) := dk_42 (dk_at dksX22_or_0 5 rfl rfl)
theorem dX22_or_6 : decode cX22_or 6 = .ok (.ldc 30, 2) := dk_18 30 (dk_at dksX22_or_0 6 rfl rfl)
theorem dX22_or_8 : decode cX22_or 8 = .ok (.invokevirtual 31, 3) := dk_182 0 31 (dk_at dksX22_or_0 8 rfl rfl)
theorem dX22_or_11 : decode cX22_or 11 = .ok (.ifCond .eq 24, 3) := dk_153 0 24 (dk_at dksX22_or_0 11 rfl rfl)
theorem dX22_or_14 : decode cX22_or 14 = .ok (.aload_n 0, 1) := dk_42 (dk_at dksX22_or_0 14 rfl rfl)
theorem dX22_or_15 : decode cX22_or 15 = .ok (.invokevirtual 9, 3) := dk_182 0 9 (dk_at dksX22_or_0 15 rfl rfl)
theorem dX22_or_18 : decode cX22_or 18 = .ok (.new 35, 3) := dk_187 0 35 (dk_at dksX22_or_0 18 rfl rfl)
theorem dX22_or_21 : decode cX22_or 21 = .ok (.dup, 1) := dk_89 (dk_at dksX22_or_0 21 rfl rfl)
theorem dX22_or_22 : decode cX22_or 22 = .ok (.aload_n 1, 1) := dk_43 (dk_at dksX22_or_0 22 rfl rfl)
theorem dX22_or_23 : decode cX22_or 23 = .ok (.aload_n 0, 1) := dk_42 (dk_at dksX22_or_0 23 rfl rfl)
theorem dX22_or_24 : decode cX22_or 24 = .ok (.invokevirtual 27, 3) := dk_182 0 27 (dk_at dksX22_or_1 0 rfl rfl)
theorem dX22_or_27 : decode cX22_or 27 = .ok (.iconst 0, 1) := dk_3 (dk_at dksX22_or_1 3 rfl rfl)
theorem dX22_or_28 : decode cX22_or 28 = .ok (.invokespecial 37, 3) := dk_183 0 37 (dk_at dksX22_or_1 4 rfl rfl)
theorem dX22_or_31 : decode cX22_or 31 = .ok (.astore_n 1, 1) := dk_76 (dk_at dksX22_or_1 7 rfl rfl)
theorem dX22_or_32 : decode cX22_or 32 = .ok (.goto (-27), 3) := dk_167 255 229 (dk_at dksX22_or_1 8 rfl rfl)
theorem dX22_or_35 : decode cX22_or 35 = .ok (.aload_n 1, 1) := dk_43 (dk_at dksX22_or_1 11 rfl rfl)
theorem dX22_or_36 : decode cX22_or 36 = .ok (.areturn, 1) := dk_176 (dk_at dksX22_or_1 12 rfl rfl)
abbrev cX22_and : ByteArray := prog_24_method_4_code
def yX22_and : MethodName := ⟨RX22, "and", "()LHeirsAtLaw$Cond;"⟩
def dkwX22_and_1 : List UInt8 := [182, 0, 40, 4, 183, 0, 37, 76, 167, 255, 229, 43, 176]
abbrev dktX22_and_1 : List UInt8 := dkwX22_and_1 ++ []
def dkwX22_and_0 : List UInt8 := [42, 182, 0, 40, 76, 42, 18, 43, 182, 0, 31, 153, 0, 24, 42, 182, 0, 9, 187, 0, 35, 89, 43, 42]
abbrev dktX22_and_0 : List UInt8 := dkwX22_and_0 ++ dktX22_and_1
theorem dksX22_and_0 : cX22_and.data.toList.drop 0 = dktX22_and_0 := by decide +kernel
theorem dksX22_and_1 : cX22_and.data.toList.drop 24 = dktX22_and_1 := dk_seg dksX22_and_0 24 rfl rfl
theorem dX22_and_0 : decode cX22_and 0 = .ok (.aload_n 0, 1) := dk_42 (dk_at dksX22_and_0 0 rfl rfl)
theorem dX22_and_1 : decode cX22_and 1 = .ok (.invokevirtual 40, 3) := dk_182 0 40 (dk_at dksX22_and_0 1 rfl rfl)
theorem dX22_and_4 : decode cX22_and 4 = .ok (.astore_n 1, 1) := dk_76 (dk_at dksX22_and_0 4 rfl rfl)
theorem dX22_and_5 : decode cX22_and 5 = .ok (.aload_n 0, 1) := dk_42 (dk_at dksX22_and_0 5 rfl rfl)
theorem dX22_and_6 : decode cX22_and 6 = .ok (.ldc 43, 2) := dk_18 43 (dk_at dksX22_and_0 6 rfl rfl)
theorem dX22_and_8 : decode cX22_and 8 = .ok (.invokevirtual 31, 3) := dk_182 0 31 (dk_at dksX22_and_0 8 rfl rfl)
theorem dX22_and_11 : decode cX22_and 11 = .ok (.ifCond .eq 24, 3) := dk_153 0 24 (dk_at dksX22_and_0 11 rfl rfl)
theorem dX22_and_14 : decode cX22_and 14 = .ok (.aload_n 0, 1) := dk_42 (dk_at dksX22_and_0 14 rfl rfl)
theorem dX22_and_15 : decode cX22_and 15 = .ok (.invokevirtual 9, 3) := dk_182 0 9 (dk_at dksX22_and_0 15 rfl rfl)
theorem dX22_and_18 : decode cX22_and 18 = .ok (.new 35, 3) := dk_187 0 35 (dk_at dksX22_and_0 18 rfl rfl)
theorem dX22_and_21 : decode cX22_and 21 = .ok (.dup, 1) := dk_89 (dk_at dksX22_and_0 21 rfl rfl)
theorem dX22_and_22 : decode cX22_and 22 = .ok (.aload_n 1, 1) := dk_43 (dk_at dksX22_and_0 22 rfl rfl)
theorem dX22_and_23 : decode cX22_and 23 = .ok (.aload_n 0, 1) := dk_42 (dk_at dksX22_and_0 23 rfl rfl)
theorem dX22_and_24 : decode cX22_and 24 = .ok (.invokevirtual 40, 3) := dk_182 0 40 (dk_at dksX22_and_1 0 rfl rfl)
theorem dX22_and_27 : decode cX22_and 27 = .ok (.iconst 1, 1) := dk_4 (dk_at dksX22_and_1 3 rfl rfl)
theorem dX22_and_28 : decode cX22_and 28 = .ok (.invokespecial 37, 3) := dk_183 0 37 (dk_at dksX22_and_1 4 rfl rfl)
theorem dX22_and_31 : decode cX22_and 31 = .ok (.astore_n 1, 1) := dk_76 (dk_at dksX22_and_1 7 rfl rfl)
theorem dX22_and_32 : decode cX22_and 32 = .ok (.goto (-27), 3) := dk_167 255 229 (dk_at dksX22_and_1 8 rfl rfl)
theorem dX22_and_35 : decode cX22_and 35 = .ok (.aload_n 1, 1) := dk_43 (dk_at dksX22_and_1 11 rfl rfl)
theorem dX22_and_36 : decode cX22_and 36 = .ok (.areturn, 1) := dk_176 (dk_at dksX22_and_1 12 rfl rfl)
abbrev cX22_says : ByteArray := prog_24_method_7_code
def yX22_says : MethodName := ⟨RX22, "says", "()LHeirsAtLaw$Cond;"⟩
def dkwX22_says_10 : List UInt8 := [180, 0, 77, 4, 100, 181, 0, 77, 25, 7, 176]
abbrev dktX22_says_10 : List UInt8 := dkwX22_says_10 ++ []
def dkwX22_says_9 : List UInt8 := [187, 0, 95, 89, 21, 5, 183, 0, 97, 167, 0, 9, 42, 21, 6, 182, 0, 100, 58, 7, 42, 89]
abbrev dktX22_says_9 : List UInt8 := dkwX22_says_9 ++ dktX22_says_10
def dkwX22_says_8 : List UInt8 := [153, 0, 18, 187, 0, 88, 89, 29, 42, 182, 0, 90, 183, 0, 93, 167, 0, 27, 21, 5, 2, 159, 0, 15]
abbrev dktX22_says_8 : List UInt8 := dkwX22_says_8 ++ dktX22_says_9
def dkwX22_says_7 : List UInt8 := [167, 0, 65, 28, 153, 0, 17, 187, 0, 83, 89, 42, 182, 0, 40, 183, 0, 85, 167, 0, 47, 21, 4]
abbrev dktX22_says_7 : List UInt8 := dkwX22_says_7 ++ dktX22_says_8
def dkwX22_says_6 : List UInt8 := [42, 89, 180, 0, 77, 4, 96, 181, 0, 77, 42, 182, 0, 9, 27, 153, 0, 10, 42, 182, 0, 80]
abbrev dktX22_says_6 : List UInt8 := dkwX22_says_6 ++ dktX22_says_7
def dkwX22_says_5 : List UInt8 := [16, 8, 162, 0, 7, 4, 167, 0, 4, 3, 7, 182, 0, 23, 42, 89, 180, 0, 74, 4, 96, 181, 0, 74]
abbrev dktX22_says_5 : List UInt8 := dkwX22_says_5 ++ dktX22_says_6
def dkwX22_says_4 : List UInt8 := [4, 167, 0, 4, 3, 4, 182, 0, 23, 42, 42, 180, 0, 74, 16, 20, 162, 0, 16, 42, 180, 0, 77]
abbrev dktX22_says_4 : List UInt8 := dkwX22_says_4 ++ dktX22_says_5
def dkwX22_says_3 : List UInt8 := [154, 0, 24, 28, 154, 0, 20, 21, 4, 154, 0, 15, 21, 5, 2, 160, 0, 9, 21, 6, 2, 159, 0, 7]
abbrev dktX22_says_3 : List UInt8 := dkwX22_says_3 ++ dktX22_says_4
def dkwX22_says_2 : List UInt8 := [153, 0, 7, 4, 167, 0, 4, 3, 54, 4, 42, 182, 0, 67, 54, 5, 42, 182, 0, 71, 54, 6, 42, 27]
abbrev dktX22_says_2 : List UInt8 := dkwX22_says_2 ++ dktX22_says_3
def dkwX22_says_1 : List UInt8 := [42, 18, 61, 182, 0, 31, 61, 42, 18, 63, 182, 0, 31, 62, 29, 154, 0, 12, 42, 18, 65, 182, 0, 31]
abbrev dktX22_says_1 : List UInt8 := dkwX22_says_1 ++ dktX22_says_2
def dkwX22_says_0 : List UInt8 := [42, 180, 0, 19, 16, 6, 160, 0, 16, 42, 180, 0, 58, 16, 40, 160, 0, 7, 4, 167, 0, 4, 3, 60]
abbrev dktX22_says_0 : List UInt8 := dkwX22_says_0 ++ dktX22_says_1
theorem dksX22_says_0 : cX22_says.data.toList.drop 0 = dktX22_says_0 := by decide +kernel
theorem dksX22_says_1 : cX22_says.data.toList.drop 24 = dktX22_says_1 := dk_seg dksX22_says_0 24 rfl rfl
theorem dksX22_says_2 : cX22_says.data.toList.drop 48 = dktX22_says_2 := dk_seg dksX22_says_1 24 rfl rfl
theorem dksX22_says_3 : cX22_says.data.toList.drop 72 = dktX22_says_3 := dk_seg dksX22_says_2 24 rfl rfl
theorem dksX22_says_4 : cX22_says.data.toList.drop 96 = dktX22_says_4 := dk_seg dksX22_says_3 24 rfl rfl
theorem dksX22_says_5 : cX22_says.data.toList.drop 119 = dktX22_says_5 := dk_seg dksX22_says_4 23 rfl rfl
theorem dksX22_says_6 : cX22_says.data.toList.drop 143 = dktX22_says_6 := dk_seg dksX22_says_5 24 rfl rfl
theorem dksX22_says_7 : cX22_says.data.toList.drop 165 = dktX22_says_7 := dk_seg dksX22_says_6 22 rfl rfl
theorem dksX22_says_8 : cX22_says.data.toList.drop 188 = dktX22_says_8 := dk_seg dksX22_says_7 23 rfl rfl
theorem dksX22_says_9 : cX22_says.data.toList.drop 212 = dktX22_says_9 := dk_seg dksX22_says_8 24 rfl rfl
theorem dksX22_says_10 : cX22_says.data.toList.drop 234 = dktX22_says_10 := dk_seg dksX22_says_9 22 rfl rfl
theorem dX22_says_0 : decode cX22_says 0 = .ok (.aload_n 0, 1) := dk_42 (dk_at dksX22_says_0 0 rfl rfl)
theorem dX22_says_1 : decode cX22_says 1 = .ok (.getfield 19, 3) := dk_180 0 19 (dk_at dksX22_says_0 1 rfl rfl)
theorem dX22_says_4 : decode cX22_says 4 = .ok (.bipush 6, 2) := dk_16 6 (dk_at dksX22_says_0 4 rfl rfl)
theorem dX22_says_6 : decode cX22_says 6 = .ok (.if_icmp .ne 16, 3) := dk_160 0 16 (dk_at dksX22_says_0 6 rfl rfl)
theorem dX22_says_9 : decode cX22_says 9 = .ok (.aload_n 0, 1) := dk_42 (dk_at dksX22_says_0 9 rfl rfl)
theorem dX22_says_10 : decode cX22_says 10 = .ok (.getfield 58, 3) := dk_180 0 58 (dk_at dksX22_says_0 10 rfl rfl)
theorem dX22_says_13 : decode cX22_says 13 = .ok (.bipush 40, 2) := dk_16 40 (dk_at dksX22_says_0 13 rfl rfl)
theorem dX22_says_15 : decode cX22_says 15 = .ok (.if_icmp .ne 7, 3) := dk_160 0 7 (dk_at dksX22_says_0 15 rfl rfl)
theorem dX22_says_18 : decode cX22_says 18 = .ok (.iconst 1, 1) := dk_4 (dk_at dksX22_says_0 18 rfl rfl)
theorem dX22_says_19 : decode cX22_says 19 = .ok (.goto 4, 3) := dk_167 0 4 (dk_at dksX22_says_0 19 rfl rfl)
theorem dX22_says_22 : decode cX22_says 22 = .ok (.iconst 0, 1) := dk_3 (dk_at dksX22_says_0 22 rfl rfl)
theorem dX22_says_23 : decode cX22_says 23 = .ok (.istore_n 1, 1) := dk_60 (dk_at dksX22_says_0 23 rfl rfl)
theorem dX22_says_24 : decode cX22_says 24 = .ok (.aload_n 0, 1) := dk_42 (dk_at dksX22_says_1 0 rfl rfl)
theorem dX22_says_25 : decode cX22_says 25 = .ok (.ldc 61, 2) := dk_18 61 (dk_at dksX22_says_1 1 rfl rfl)
theorem dX22_says_27 : decode cX22_says 27 = .ok (.invokevirtual 31, 3) := dk_182 0 31 (dk_at dksX22_says_1 3 rfl rfl)
theorem dX22_says_30 : decode cX22_says 30 = .ok (.istore_n 2, 1) := dk_61 (dk_at dksX22_says_1 6 rfl rfl)
theorem dX22_says_31 : decode cX22_says 31 = .ok (.aload_n 0, 1) := dk_42 (dk_at dksX22_says_1 7 rfl rfl)
theorem dX22_says_32 : decode cX22_says 32 = .ok (.ldc 63, 2) := dk_18 63 (dk_at dksX22_says_1 8 rfl rfl)
theorem dX22_says_34 : decode cX22_says 34 = .ok (.invokevirtual 31, 3) := dk_182 0 31 (dk_at dksX22_says_1 10 rfl rfl)
theorem dX22_says_37 : decode cX22_says 37 = .ok (.istore_n 3, 1) := dk_62 (dk_at dksX22_says_1 13 rfl rfl)
theorem dX22_says_38 : decode cX22_says 38 = .ok (.iload_n 3, 1) := dk_29 (dk_at dksX22_says_1 14 rfl rfl)
theorem dX22_says_39 : decode cX22_says 39 = .ok (.ifCond .ne 12, 3) := dk_154 0 12 (dk_at dksX22_says_1 15 rfl rfl)
theorem dX22_says_42 : decode cX22_says 42 = .ok (.aload_n 0, 1) := dk_42 (dk_at dksX22_says_1 18 rfl rfl)
theorem dX22_says_43 : decode cX22_says 43 = .ok (.ldc 65, 2) := dk_18 65 (dk_at dksX22_says_1 19 rfl rfl)
theorem dX22_says_45 : decode cX22_says 45 = .ok (.invokevirtual 31, 3) := dk_182 0 31 (dk_at dksX22_says_1 21 rfl rfl)
theorem dX22_says_48 : decode cX22_says 48 = .ok (.ifCond .eq 7, 3) := dk_153 0 7 (dk_at dksX22_says_2 0 rfl rfl)
theorem dX22_says_51 : decode cX22_says 51 = .ok (.iconst 1, 1) := dk_4 (dk_at dksX22_says_2 3 rfl rfl)
theorem dX22_says_52 : decode cX22_says 52 = .ok (.goto 4, 3) := dk_167 0 4 (dk_at dksX22_says_2 4 rfl rfl)
theorem dX22_says_55 : decode cX22_says 55 = .ok (.iconst 0, 1) := dk_3 (dk_at dksX22_says_2 7 rfl rfl)
theorem dX22_says_56 : decode cX22_says 56 = .ok (.istore 4, 2) := dk_54 4 (dk_at dksX22_says_2 8 rfl rfl)
theorem dX22_says_58 : decode cX22_says 58 = .ok (.aload_n 0, 1) := dk_42 (dk_at dksX22_says_2 10 rfl rfl)
theorem dX22_says_59 : decode cX22_says 59 = .ok (.invokevirtual 67, 3) := dk_182 0 67 (dk_at dksX22_says_2 11 rfl rfl)
theorem dX22_says_62 : decode cX22_says 62 = .ok (.istore 5, 2) := dk_54 5 (dk_at dksX22_says_2 14 rfl rfl)
theorem dX22_says_64 : decode cX22_says 64 = .ok (.aload_n 0, 1) := dk_42 (dk_at dksX22_says_2 16 rfl rfl)
theorem dX22_says_65 : decode cX22_says 65 = .ok (.invokevirtual 71, 3) := dk_182 0 71 (dk_at dksX22_says_2 17 rfl rfl)
theorem dX22_says_68 : decode cX22_says 68 = .ok (.istore 6, 2) := dk_54 6 (dk_at dksX22_says_2 20 rfl rfl)
theorem dX22_says_70 : decode cX22_says 70 = .ok (.aload_n 0, 1) := dk_42 (dk_at dksX22_says_2 22 rfl rfl)
theorem dX22_says_71 : decode cX22_says 71 = .ok (.iload_n 1, 1) := dk_27 (dk_at dksX22_says_2 23 rfl rfl)
theorem dX22_says_72 : decode cX22_says 72 = .ok (.ifCond .ne 24, 3) := dk_154 0 24 (dk_at dksX22_says_3 0 rfl rfl)
theorem dX22_says_75 : decode cX22_says 75 = .ok (.iload_n 2, 1) := dk_28 (dk_at dksX22_says_3 3 rfl rfl)
theorem dX22_says_76 : decode cX22_says 76 = .ok (.ifCond .ne 20, 3) := dk_154 0 20 (dk_at dksX22_says_3 4 rfl rfl)
theorem dX22_says_79 : decode cX22_says 79 = .ok (.iload 4, 2) := dk_21 4 (dk_at dksX22_says_3 7 rfl rfl)
theorem dX22_says_81 : decode cX22_says 81 = .ok (.ifCond .ne 15, 3) := dk_154 0 15 (dk_at dksX22_says_3 9 rfl rfl)
theorem dX22_says_84 : decode cX22_says 84 = .ok (.iload 5, 2) := dk_21 5 (dk_at dksX22_says_3 12 rfl rfl)
theorem dX22_says_86 : decode cX22_says 86 = .ok (.iconst (-1), 1) := dk_2 (dk_at dksX22_says_3 14 rfl rfl)
theorem dX22_says_87 : decode cX22_says 87 = .ok (.if_icmp .ne 9, 3) := dk_160 0 9 (dk_at dksX22_says_3 15 rfl rfl)
theorem dX22_says_90 : decode cX22_says 90 = .ok (.iload 6, 2) := dk_21 6 (dk_at dksX22_says_3 18 rfl rfl)
theorem dX22_says_92 : decode cX22_says 92 = .ok (.iconst (-1), 1) := dk_2 (dk_at dksX22_says_3 20 rfl rfl)
theorem dX22_says_93 : decode cX22_says 93 = .ok (.if_icmp .eq 7, 3) := dk_159 0 7 (dk_at dksX22_says_3 21 rfl rfl)
theorem dX22_says_96 : decode cX22_says 96 = .ok (.iconst 1, 1) := dk_4 (dk_at dksX22_says_4 0 rfl rfl)
theorem dX22_says_97 : decode cX22_says 97 = .ok (.goto 4, 3) := dk_167 0 4 (dk_at dksX22_says_4 1 rfl rfl)
theorem dX22_says_100 : decode cX22_says 100 = .ok (.iconst 0, 1) := dk_3 (dk_at dksX22_says_4 4 rfl rfl)
theorem dX22_says_101 : decode cX22_says 101 = .ok (.iconst 1, 1) := dk_4 (dk_at dksX22_says_4 5 rfl rfl)
theorem dX22_says_102 : decode cX22_says 102 = .ok (.invokevirtual 23, 3) := dk_182 0 23 (dk_at dksX22_says_4 6 rfl rfl)
theorem dX22_says_105 : decode cX22_says 105 = .ok (.aload_n 0, 1) := dk_42 (dk_at dksX22_says_4 9 rfl rfl)
theorem dX22_says_106 : decode cX22_says 106 = .ok (.aload_n 0, 1) := dk_42 (dk_at dksX22_says_4 10 rfl rfl)
theorem dX22_says_107 : decode cX22_says 107 = .ok (.getfield 74, 3) := dk_180 0 74 (dk_at dksX22_says_4 11 rfl rfl)
theorem dX22_says_110 : decode cX22_says 110 = .ok (.bipush 20, 2) := dk_16 20 (dk_at dksX22_says_4 14 rfl rfl)
theorem dX22_says_112 : decode cX22_says 112 = .ok (.if_icmp .ge 16, 3) := dk_162 0 16 (dk_at dksX22_says_4 16 rfl rfl)
theorem dX22_says_115 : decode cX22_says 115 = .ok (.aload_n 0, 1) := dk_42 (dk_at dksX22_says_4 19 rfl rfl)
theorem dX22_says_116 : decode cX22_says 116 = .ok (.getfield 77, 3) := dk_180 0 77 (dk_at dksX22_says_4 20 rfl rfl)
theorem dX22_says_119 : decode cX22_says 119 = .ok (.bipush 8, 2) := dk_16 8 (dk_at dksX22_says_5 0 rfl rfl)
theorem dX22_says_121 : decode cX22_says 121 = .ok (.if_icmp .ge 7, 3) := dk_162 0 7 (dk_at dksX22_says_5 2 rfl rfl)
theorem dX22_says_124 : decode cX22_says 124 = .ok (.iconst 1, 1) := dk_4 (dk_at dksX22_says_5 5 rfl rfl)
theorem dX22_says_125 : decode cX22_says 125 = .ok (.goto 4, 3) := dk_167 0 4 (dk_at dksX22_says_5 6 rfl rfl)
theorem dX22_says_128 : decode cX22_says 128 = .ok (.iconst 0, 1) := dk_3 (dk_at dksX22_says_5 9 rfl rfl)
theorem dX22_says_129 : decode cX22_says 129 = .ok (.iconst 4, 1) := dk_7 (dk_at dksX22_says_5 10 rfl rfl)
theorem dX22_says_130 : decode cX22_says 130 = .ok (.invokevirtual 23, 3) := dk_182 0 23 (dk_at dksX22_says_5 11 rfl rfl)
theorem dX22_says_133 : decode cX22_says 133 = .ok (.aload_n 0, 1) := dk_42 (dk_at dksX22_says_5 14 rfl rfl)
theorem dX22_says_134 : decode cX22_says 134 = .ok (.dup, 1) := dk_89 (dk_at dksX22_says_5 15 rfl rfl)
theorem dX22_says_135 : decode cX22_says 135 = .ok (.getfield 74, 3) := dk_180 0 74 (dk_at dksX22_says_5 16 rfl rfl)
theorem dX22_says_138 : decode cX22_says 138 = .ok (.iconst 1, 1) := dk_4 (dk_at dksX22_says_5 19 rfl rfl)
theorem dX22_says_139 : decode cX22_says 139 = .ok (.iadd, 1) := dk_96 (dk_at dksX22_says_5 20 rfl rfl)
theorem dX22_says_140 : decode cX22_says 140 = .ok (.putfield 74, 3) := dk_181 0 74 (dk_at dksX22_says_5 21 rfl rfl)
theorem dX22_says_143 : decode cX22_says 143 = .ok (.aload_n 0, 1) := dk_42 (dk_at dksX22_says_6 0 rfl rfl)
theorem dX22_says_144 : decode cX22_says 144 = .ok (.dup, 1) := dk_89 (dk_at dksX22_says_6 1 rfl rfl)
theorem dX22_says_145 : decode cX22_says 145 = .ok (.getfield 77, 3) := dk_180 0 77 (dk_at dksX22_says_6 2 rfl rfl)
theorem dX22_says_148 : decode cX22_says 148 = .ok (.iconst 1, 1) := dk_4 (dk_at dksX22_says_6 5 rfl rfl)
theorem dX22_says_149 : decode cX22_says 149 = .ok (.iadd, 1) := dk_96 (dk_at dksX22_says_6 6 rfl rfl)
theorem dX22_says_150 : decode cX22_says 150 = .ok (.putfield 77, 3) := dk_181 0 77 (dk_at dksX22_says_6 7 rfl rfl)
theorem dX22_says_153 : decode cX22_says 153 = .ok (.aload_n 0, 1) := dk_42 (dk_at dksX22_says_6 10 rfl rfl)
theorem dX22_says_154 : decode cX22_says 154 = .ok (.invokevirtual 9, 3) := dk_182 0 9 (dk_at dksX22_says_6 11 rfl rfl)
theorem dX22_says_157 : decode cX22_says 157 = .ok (.iload_n 1, 1) := dk_27 (dk_at dksX22_says_6 14 rfl rfl)
theorem dX22_says_158 : decode cX22_says 158 = .ok (.ifCond .eq 10, 3) := dk_153 0 10 (dk_at dksX22_says_6 15 rfl rfl)
theorem dX22_says_161 : decode cX22_says 161 = .ok (.aload_n 0, 1) := dk_42 (dk_at dksX22_says_6 18 rfl rfl)
theorem dX22_says_162 : decode cX22_says 162 = .ok (.invokevirtual 80, 3) := dk_182 0 80 (dk_at dksX22_says_6 19 rfl rfl)
theorem dX22_says_165 : decode cX22_says 165 = .ok (.goto 65, 3) := dk_167 0 65 (dk_at dksX22_says_7 0 rfl rfl)
theorem dX22_says_168 : decode cX22_says 168 = .ok (.iload_n 2, 1) := dk_28 (dk_at dksX22_says_7 3 rfl rfl)
theorem dX22_says_169 : decode cX22_says 169 = .ok (.ifCond .eq 17, 3) := dk_153 0 17 (dk_at dksX22_says_7 4 rfl rfl)
theorem dX22_says_172 : decode cX22_says 172 = .ok (.new 83, 3) := dk_187 0 83 (dk_at dksX22_says_7 7 rfl rfl)
theorem dX22_says_175 : decode cX22_says 175 = .ok (.dup, 1) := dk_89 (dk_at dksX22_says_7 10 rfl rfl)
theorem dX22_says_176 : decode cX22_says 176 = .ok (.aload_n 0, 1) := dk_42 (dk_at dksX22_says_7 11 rfl rfl)
theorem dX22_says_177 : decode cX22_says 177 = .ok (.invokevirtual 40, 3) := dk_182 0 40 (dk_at dksX22_says_7 12 rfl rfl)
theorem dX22_says_180 : decode cX22_says 180 = .ok (.invokespecial 85, 3) := dk_183 0 85 (dk_at dksX22_says_7 15 rfl rfl)
theorem dX22_says_183 : decode cX22_says 183 = .ok (.goto 47, 3) := dk_167 0 47 (dk_at dksX22_says_7 18 rfl rfl)
theorem dX22_says_186 : decode cX22_says 186 = .ok (.iload 4, 2) := dk_21 4 (dk_at dksX22_says_7 21 rfl rfl)
theorem dX22_says_188 : decode cX22_says 188 = .ok (.ifCond .eq 18, 3) := dk_153 0 18 (dk_at dksX22_says_8 0 rfl rfl)
theorem dX22_says_191 : decode cX22_says 191 = .ok (.new 88, 3) := dk_187 0 88 (dk_at dksX22_says_8 3 rfl rfl)
theorem dX22_says_194 : decode cX22_says 194 = .ok (.dup, 1) := dk_89 (dk_at dksX22_says_8 6 rfl rfl)
theorem dX22_says_195 : decode cX22_says 195 = .ok (.iload_n 3, 1) := dk_29 (dk_at dksX22_says_8 7 rfl rfl)
theorem dX22_says_196 : decode cX22_says 196 = .ok (.aload_n 0, 1) := dk_42 (dk_at dksX22_says_8 8 rfl rfl)
theorem dX22_says_197 : decode cX22_says 197 = .ok (.invokevirtual 90, 3) := dk_182 0 90 (dk_at dksX22_says_8 9 rfl rfl)
theorem dX22_says_200 : decode cX22_says 200 = .ok (.invokespecial 93, 3) := dk_183 0 93 (dk_at dksX22_says_8 12 rfl rfl)
theorem dX22_says_203 : decode cX22_says 203 = .ok (.goto 27, 3) := dk_167 0 27 (dk_at dksX22_says_8 15 rfl rfl)
theorem dX22_says_206 : decode cX22_says 206 = .ok (.iload 5, 2) := dk_21 5 (dk_at dksX22_says_8 18 rfl rfl)
theorem dX22_says_208 : decode cX22_says 208 = .ok (.iconst (-1), 1) := dk_2 (dk_at dksX22_says_8 20 rfl rfl)
theorem dX22_says_209 : decode cX22_says 209 = .ok (.if_icmp .eq 15, 3) := dk_159 0 15 (dk_at dksX22_says_8 21 rfl rfl)
theorem dX22_says_212 : decode cX22_says 212 = .ok (.new 95, 3) := dk_187 0 95 (dk_at dksX22_says_9 0 rfl rfl)
theorem dX22_says_215 : decode cX22_says 215 = .ok (.dup, 1) := dk_89 (dk_at dksX22_says_9 3 rfl rfl)
theorem dX22_says_216 : decode cX22_says 216 = .ok (.iload 5, 2) := dk_21 5 (dk_at dksX22_says_9 4 rfl rfl)
theorem dX22_says_218 : decode cX22_says 218 = .ok (.invokespecial 97, 3) := dk_183 0 97 (dk_at dksX22_says_9 6 rfl rfl)
theorem dX22_says_221 : decode cX22_says 221 = .ok (.goto 9, 3) := dk_167 0 9 (dk_at dksX22_says_9 9 rfl rfl)
theorem dX22_says_224 : decode cX22_says 224 = .ok (.aload_n 0, 1) := dk_42 (dk_at dksX22_says_9 12 rfl rfl)
theorem dX22_says_225 : decode cX22_says 225 = .ok (.iload 6, 2) := dk_21 6 (dk_at dksX22_says_9 13 rfl rfl)
theorem dX22_says_227 : decode cX22_says 227 = .ok (.invokevirtual 100, 3) := dk_182 0 100 (dk_at dksX22_says_9 15 rfl rfl)
theorem dX22_says_230 : decode cX22_says 230 = .ok (.astore 7, 2) := dk_58 7 (dk_at dksX22_says_9 18 rfl rfl)
theorem dX22_says_232 : decode cX22_says 232 = .ok (.aload_n 0, 1) := dk_42 (dk_at dksX22_says_9 20 rfl rfl)
theorem dX22_says_233 : decode cX22_says 233 = .ok (.dup, 1) := dk_89 (dk_at dksX22_says_9 21 rfl rfl)
theorem dX22_says_234 : decode cX22_says 234 = .ok (.getfield 77, 3) := dk_180 0 77 (dk_at dksX22_says_10 0 rfl rfl)
theorem dX22_says_237 : decode cX22_says 237 = .ok (.iconst 1, 1) := dk_4 (dk_at dksX22_says_10 3 rfl rfl)
theorem dX22_says_238 : decode cX22_says 238 = .ok (.isub, 1) := dk_100 (dk_at dksX22_says_10 4 rfl rfl)
theorem dX22_says_239 : decode cX22_says 239 = .ok (.putfield 77, 3) := dk_181 0 77 (dk_at dksX22_says_10 5 rfl rfl)
theorem dX22_says_242 : decode cX22_says 242 = .ok (.aload 7, 2) := dk_25 7 (dk_at dksX22_says_10 8 rfl rfl)
theorem dX22_says_244 : decode cX22_says 244 = .ok (.areturn, 1) := dk_176 (dk_at dksX22_says_10 10 rfl rfl)
abbrev cX22_plain : ByteArray := prog_24_method_5_code
def yX22_plain : MethodName := ⟨RX22, "plain", "()I"⟩
def dkwX22_plain_1 : List UInt8 := [167, 0, 17, 42, 18, 48, 182, 0, 31, 153, 0, 7, 5, 167, 0, 4, 2, 172]
abbrev dktX22_plain_1 : List UInt8 := dkwX22_plain_1 ++ []
def dkwX22_plain_0 : List UInt8 := [42, 18, 44, 182, 0, 31, 153, 0, 7, 3, 167, 0, 30, 42, 18, 46, 182, 0, 31, 153, 0, 7, 4]
abbrev dktX22_plain_0 : List UInt8 := dkwX22_plain_0 ++ dktX22_plain_1
theorem dksX22_plain_0 : cX22_plain.data.toList.drop 0 = dktX22_plain_0 := by decide +kernel
theorem dksX22_plain_1 : cX22_plain.data.toList.drop 23 = dktX22_plain_1 := dk_seg dksX22_plain_0 23 rfl rfl
theorem dX22_plain_0 : decode cX22_plain 0 = .ok (.aload_n 0, 1) := dk_42 (dk_at dksX22_plain_0 0 rfl rfl)
theorem dX22_plain_1 : decode cX22_plain 1 = .ok (.ldc 44, 2) := dk_18 44 (dk_at dksX22_plain_0 1 rfl rfl)
theorem dX22_plain_3 : decode cX22_plain 3 = .ok (.invokevirtual 31, 3) := dk_182 0 31 (dk_at dksX22_plain_0 3 rfl rfl)
theorem dX22_plain_6 : decode cX22_plain 6 = .ok (.ifCond .eq 7, 3) := dk_153 0 7 (dk_at dksX22_plain_0 6 rfl rfl)
theorem dX22_plain_9 : decode cX22_plain 9 = .ok (.iconst 0, 1) := dk_3 (dk_at dksX22_plain_0 9 rfl rfl)
theorem dX22_plain_10 : decode cX22_plain 10 = .ok (.goto 30, 3) := dk_167 0 30 (dk_at dksX22_plain_0 10 rfl rfl)
theorem dX22_plain_13 : decode cX22_plain 13 = .ok (.aload_n 0, 1) := dk_42 (dk_at dksX22_plain_0 13 rfl rfl)
theorem dX22_plain_14 : decode cX22_plain 14 = .ok (.ldc 46, 2) := dk_18 46 (dk_at dksX22_plain_0 14 rfl rfl)
theorem dX22_plain_16 : decode cX22_plain 16 = .ok (.invokevirtual 31, 3) := dk_182 0 31 (dk_at dksX22_plain_0 16 rfl rfl)
theorem dX22_plain_19 : decode cX22_plain 19 = .ok (.ifCond .eq 7, 3) := dk_153 0 7 (dk_at dksX22_plain_0 19 rfl rfl)
theorem dX22_plain_22 : decode cX22_plain 22 = .ok (.iconst 1, 1) := dk_4 (dk_at dksX22_plain_0 22 rfl rfl)
theorem dX22_plain_23 : decode cX22_plain 23 = .ok (.goto 17, 3) := dk_167 0 17 (dk_at dksX22_plain_1 0 rfl rfl)
theorem dX22_plain_26 : decode cX22_plain 26 = .ok (.aload_n 0, 1) := dk_42 (dk_at dksX22_plain_1 3 rfl rfl)
theorem dX22_plain_27 : decode cX22_plain 27 = .ok (.ldc 48, 2) := dk_18 48 (dk_at dksX22_plain_1 4 rfl rfl)
theorem dX22_plain_29 : decode cX22_plain 29 = .ok (.invokevirtual 31, 3) := dk_182 0 31 (dk_at dksX22_plain_1 6 rfl rfl)
theorem dX22_plain_32 : decode cX22_plain 32 = .ok (.ifCond .eq 7, 3) := dk_153 0 7 (dk_at dksX22_plain_1 9 rfl rfl)
theorem dX22_plain_35 : decode cX22_plain 35 = .ok (.iconst 2, 1) := dk_5 (dk_at dksX22_plain_1 12 rfl rfl)
theorem dX22_plain_36 : decode cX22_plain 36 = .ok (.goto 4, 3) := dk_167 0 4 (dk_at dksX22_plain_1 13 rfl rfl)
theorem dX22_plain_39 : decode cX22_plain 39 = .ok (.iconst (-1), 1) := dk_2 (dk_at dksX22_plain_1 16 rfl rfl)
theorem dX22_plain_40 : decode cX22_plain 40 = .ok (.ireturn, 1) := dk_172 (dk_at dksX22_plain_1 17 rfl rfl)
abbrev cX22_numbered : ByteArray := prog_24_method_6_code
def yX22_numbered : MethodName := ⟨RX22, "numbered", "()I"⟩
def dkwX22_numbered_2 : List UInt8 := [153, 0, 7, 6, 167, 0, 4, 2, 172]
abbrev dktX22_numbered_2 : List UInt8 := dkwX22_numbered_2 ++ []
def dkwX22_numbered_1 : List UInt8 := [167, 0, 30, 42, 18, 54, 182, 0, 31, 153, 0, 7, 5, 167, 0, 17, 42, 18, 56, 182, 0, 31]
abbrev dktX22_numbered_1 : List UInt8 := dkwX22_numbered_1 ++ dktX22_numbered_2
def dkwX22_numbered_0 : List UInt8 := [42, 18, 50, 182, 0, 31, 153, 0, 7, 3, 167, 0, 43, 42, 18, 52, 182, 0, 31, 153, 0, 7, 4]
abbrev dktX22_numbered_0 : List UInt8 := dkwX22_numbered_0 ++ dktX22_numbered_1
theorem dksX22_numbered_0 : cX22_numbered.data.toList.drop 0 = dktX22_numbered_0 := by decide +kernel
theorem dksX22_numbered_1 : cX22_numbered.data.toList.drop 23 = dktX22_numbered_1 := dk_seg dksX22_numbered_0 23 rfl rfl
theorem dksX22_numbered_2 : cX22_numbered.data.toList.drop 45 = dktX22_numbered_2 := dk_seg dksX22_numbered_1 22 rfl rfl
theorem dX22_numbered_0 : decode cX22_numbered 0 = .ok (.aload_n 0, 1) := dk_42 (dk_at dksX22_numbered_0 0 rfl rfl)
theorem dX22_numbered_1 : decode cX22_numbered 1 = .ok (.ldc 50, 2) := dk_18 50 (dk_at dksX22_numbered_0 1 rfl rfl)
theorem dX22_numbered_3 : decode cX22_numbered 3 = .ok (.invokevirtual 31, 3) := dk_182 0 31 (dk_at dksX22_numbered_0 3 rfl rfl)
theorem dX22_numbered_6 : decode cX22_numbered 6 = .ok (.ifCond .eq 7, 3) := dk_153 0 7 (dk_at dksX22_numbered_0 6 rfl rfl)
theorem dX22_numbered_9 : decode cX22_numbered 9 = .ok (.iconst 0, 1) := dk_3 (dk_at dksX22_numbered_0 9 rfl rfl)
theorem dX22_numbered_10 : decode cX22_numbered 10 = .ok (.goto 43, 3) := dk_167 0 43 (dk_at dksX22_numbered_0 10 rfl rfl)
theorem dX22_numbered_13 : decode cX22_numbered 13 = .ok (.aload_n 0, 1) := dk_42 (dk_at dksX22_numbered_0 13 rfl rfl)
theorem dX22_numbered_14 : decode cX22_numbered 14 = .ok (.ldc 52, 2) := dk_18 52 (dk_at dksX22_numbered_0 14 rfl rfl)
theorem dX22_numbered_16 : decode cX22_numbered 16 = .ok (.invokevirtual 31, 3) := dk_182 0 31 (dk_at dksX22_numbered_0 16 rfl rfl)
theorem dX22_numbered_19 : decode cX22_numbered 19 = .ok (.ifCond .eq 7, 3) := dk_153 0 7 (dk_at dksX22_numbered_0 19 rfl rfl)
theorem dX22_numbered_22 : decode cX22_numbered 22 = .ok (.iconst 1, 1) := dk_4 (dk_at dksX22_numbered_0 22 rfl rfl)
theorem dX22_numbered_23 : decode cX22_numbered 23 = .ok (.goto 30, 3) := dk_167 0 30 (dk_at dksX22_numbered_1 0 rfl rfl)
theorem dX22_numbered_26 : decode cX22_numbered 26 = .ok (.aload_n 0, 1) := dk_42 (dk_at dksX22_numbered_1 3 rfl rfl)
theorem dX22_numbered_27 : decode cX22_numbered 27 = .ok (.ldc 54, 2) := dk_18 54 (dk_at dksX22_numbered_1 4 rfl rfl)
theorem dX22_numbered_29 : decode cX22_numbered 29 = .ok (.invokevirtual 31, 3) := dk_182 0 31 (dk_at dksX22_numbered_1 6 rfl rfl)
theorem dX22_numbered_32 : decode cX22_numbered 32 = .ok (.ifCond .eq 7, 3) := dk_153 0 7 (dk_at dksX22_numbered_1 9 rfl rfl)
theorem dX22_numbered_35 : decode cX22_numbered 35 = .ok (.iconst 2, 1) := dk_5 (dk_at dksX22_numbered_1 12 rfl rfl)
theorem dX22_numbered_36 : decode cX22_numbered 36 = .ok (.goto 17, 3) := dk_167 0 17 (dk_at dksX22_numbered_1 13 rfl rfl)
theorem dX22_numbered_39 : decode cX22_numbered 39 = .ok (.aload_n 0, 1) := dk_42 (dk_at dksX22_numbered_1 16 rfl rfl)
theorem dX22_numbered_40 : decode cX22_numbered 40 = .ok (.ldc 56, 2) := dk_18 56 (dk_at dksX22_numbered_1 17 rfl rfl)
theorem dX22_numbered_42 : decode cX22_numbered 42 = .ok (.invokevirtual 31, 3) := dk_182 0 31 (dk_at dksX22_numbered_1 19 rfl rfl)
theorem dX22_numbered_45 : decode cX22_numbered 45 = .ok (.ifCond .eq 7, 3) := dk_153 0 7 (dk_at dksX22_numbered_2 0 rfl rfl)
theorem dX22_numbered_48 : decode cX22_numbered 48 = .ok (.iconst 3, 1) := dk_6 (dk_at dksX22_numbered_2 3 rfl rfl)
theorem dX22_numbered_49 : decode cX22_numbered 49 = .ok (.goto 4, 3) := dk_167 0 4 (dk_at dksX22_numbered_2 4 rfl rfl)
theorem dX22_numbered_52 : decode cX22_numbered 52 = .ok (.iconst (-1), 1) := dk_2 (dk_at dksX22_numbered_2 7 rfl rfl)
theorem dX22_numbered_53 : decode cX22_numbered 53 = .ok (.ireturn, 1) := dk_172 (dk_at dksX22_numbered_2 8 rfl rfl)
abbrev cX22_bracket : ByteArray := prog_24_method_8_code
def yX22_bracket : MethodName := ⟨RX22, "bracket", "()LHeirsAtLaw$Cond;"⟩
def dkwX22_bracket_1 : List UInt8 := [4, 167, 0, 4, 3, 4, 182, 0, 23, 42, 182, 0, 9, 43, 176]
abbrev dktX22_bracket_1 : List UInt8 := dkwX22_bracket_1 ++ []
def dkwX22_bracket_0 : List UInt8 := [42, 182, 0, 15, 76, 42, 42, 180, 0, 19, 16, 6, 160, 0, 16, 42, 180, 0, 58, 16, 41, 160, 0, 7]
abbrev dktX22_bracket_0 : List UInt8 := dkwX22_bracket_0 ++ dktX22_bracket_1
theorem dksX22_bracket_0 : cX22_bracket.data.toList.drop 0 = dktX22_bracket_0 := by decide +kernel
theorem dksX22_bracket_1 : cX22_bracket.data.toList.drop 24 = dktX22_bracket_1 := dk_seg dksX22_bracket_0 24 rfl rfl
theorem dX22_bracket_0 : decode cX22_bracket 0 = .ok (.aload_n 0, 1) := dk_42 (dk_at dksX22_bracket_0 0 rfl rfl)
theorem dX22_bracket_1 : decode cX22_bracket 1 = .ok (.invokevirtual 15, 3) := dk_182 0 15 (dk_at dksX22_bracket_0 1 rfl rfl)
theorem dX22_bracket_4 : decode cX22_bracket 4 = .ok (.astore_n 1, 1) := dk_76 (dk_at dksX22_bracket_0 4 rfl rfl)
theorem dX22_bracket_5 : decode cX22_bracket 5 = .ok (.aload_n 0, 1) := dk_42 (dk_at dksX22_bracket_0 5 rfl rfl)
theorem dX22_bracket_6 : decode cX22_bracket 6 = .ok (.aload_n 0, 1) := dk_42 (dk_at dksX22_bracket_0 6 rfl rfl)
theorem dX22_bracket_7 : decode cX22_bracket 7 = .ok (.getfield 19, 3) := dk_180 0 19 (dk_at dksX22_bracket_0 7 rfl rfl)
theorem dX22_bracket_10 : decode cX22_bracket 10 = .ok (.bipush 6, 2) := dk_16 6 (dk_at dksX22_bracket_0 10 rfl rfl)
theorem dX22_bracket_12 : decode cX22_bracket 12 = .ok (.if_icmp .ne 16, 3) := dk_160 0 16 (dk_at dksX22_bracket_0 12 rfl rfl)
theorem dX22_bracket_15 : decode cX22_bracket 15 = .ok (.aload_n 0, 1) := dk_42 (dk_at dksX22_bracket_0 15 rfl rfl)
theorem dX22_bracket_16 : decode cX22_bracket 16 = .ok (.getfield 58, 3) := dk_180 0 58 (dk_at dksX22_bracket_0 16 rfl rfl)
theorem dX22_bracket_19 : decode cX22_bracket 19 = .ok (.bipush 41, 2) := dk_16 41 (dk_at dksX22_bracket_0 19 rfl rfl)
theorem dX22_bracket_21 : decode cX22_bracket 21 = .ok (.if_icmp .ne 7, 3) := dk_160 0 7 (dk_at dksX22_bracket_0 21 rfl rfl)
theorem dX22_bracket_24 : decode cX22_bracket 24 = .ok (.iconst 1, 1) := dk_4 (dk_at dksX22_bracket_1 0 rfl rfl)
theorem dX22_bracket_25 : decode cX22_bracket 25 = .ok (.goto 4, 3) := dk_167 0 4 (dk_at dksX22_bracket_1 1 rfl rfl)
theorem dX22_bracket_28 : decode cX22_bracket 28 = .ok (.iconst 0, 1) := dk_3 (dk_at dksX22_bracket_1 4 rfl rfl)
theorem dX22_bracket_29 : decode cX22_bracket 29 = .ok (.iconst 1, 1) := dk_4 (dk_at dksX22_bracket_1 5 rfl rfl)
theorem dX22_bracket_30 : decode cX22_bracket 30 = .ok (.invokevirtual 23, 3) := dk_182 0 23 (dk_at dksX22_bracket_1 6 rfl rfl)
theorem dX22_bracket_33 : decode cX22_bracket 33 = .ok (.aload_n 0, 1) := dk_42 (dk_at dksX22_bracket_1 9 rfl rfl)
theorem dX22_bracket_34 : decode cX22_bracket 34 = .ok (.invokevirtual 9, 3) := dk_182 0 9 (dk_at dksX22_bracket_1 10 rfl rfl)
theorem dX22_bracket_37 : decode cX22_bracket 37 = .ok (.aload_n 1, 1) := dk_43 (dk_at dksX22_bracket_1 13 rfl rfl)
theorem dX22_bracket_38 : decode cX22_bracket 38 = .ok (.areturn, 1) := dk_176 (dk_at dksX22_bracket_1 14 rfl rfl)
abbrev cX22_than : ByteArray := prog_24_method_9_code
def yX22_than : MethodName := ⟨RX22, "than", "(I)LHeirsAtLaw$Cond;"⟩
def dkwX22_than_2 : List UInt8 := [187, 0, 104, 89, 27, 28, 42, 3, 17, 3, 231, 182, 0, 106, 183, 0, 109, 176]
abbrev dktX22_than_2 : List UInt8 := dkwX22_than_2 ++ []
def dkwX22_than_1 : List UInt8 := [16, 41, 159, 0, 7, 4, 167, 0, 4, 3, 4, 182, 0, 23, 42, 180, 0, 58, 61, 42, 182, 0, 9]
abbrev dktX22_than_1 : List UInt8 := dkwX22_than_1 ++ dktX22_than_2
def dkwX22_than_0 : List UInt8 := [42, 42, 180, 0, 19, 16, 6, 160, 0, 25, 42, 180, 0, 58, 16, 40, 159, 0, 16, 42, 180, 0, 58]
abbrev dktX22_than_0 : List UInt8 := dkwX22_than_0 ++ dktX22_than_1
theorem dksX22_than_0 : cX22_than.data.toList.drop 0 = dktX22_than_0 := by decide +kernel
theorem dksX22_than_1 : cX22_than.data.toList.drop 23 = dktX22_than_1 := dk_seg dksX22_than_0 23 rfl rfl
theorem dksX22_than_2 : cX22_than.data.toList.drop 46 = dktX22_than_2 := dk_seg dksX22_than_1 23 rfl rfl
theorem dX22_than_0 : decode cX22_than 0 = .ok (.aload_n 0, 1) := dk_42 (dk_at dksX22_than_0 0 rfl rfl)
theorem dX22_than_1 : decode cX22_than 1 = .ok (.aload_n 0, 1) := dk_42 (dk_at dksX22_than_0 1 rfl rfl)
theorem dX22_than_2 : decode cX22_than 2 = .ok (.getfield 19, 3) := dk_180 0 19 (dk_at dksX22_than_0 2 rfl rfl)
theorem dX22_than_5 : decode cX22_than 5 = .ok (.bipush 6, 2) := dk_16 6 (dk_at dksX22_than_0 5 rfl rfl)
theorem dX22_than_7 : decode cX22_than 7 = .ok (.if_icmp .ne 25, 3) := dk_160 0 25 (dk_at dksX22_than_0 7 rfl rfl)
theorem dX22_than_10 : decode cX22_than 10 = .ok (.aload_n 0, 1) := dk_42 (dk_at dksX22_than_0 10 rfl rfl)
theorem dX22_than_11 : decode cX22_than 11 = .ok (.getfield 58, 3) := dk_180 0 58 (dk_at dksX22_than_0 11 rfl rfl)
theorem dX22_than_14 : decode cX22_than 14 = .ok (.bipush 40, 2) := dk_16 40 (dk_at dksX22_than_0 14 rfl rfl)
theorem dX22_than_16 : decode cX22_than 16 = .ok (.if_icmp .eq 16, 3) := dk_159 0 16 (dk_at dksX22_than_0 16 rfl rfl)
theorem dX22_than_19 : decode cX22_than 19 = .ok (.aload_n 0, 1) := dk_42 (dk_at dksX22_than_0 19 rfl rfl)
theorem dX22_than_20 : decode cX22_than 20 = .ok (.getfield 58, 3) := dk_180 0 58 (dk_at dksX22_than_0 20 rfl rfl)
theorem dX22_than_23 : decode cX22_than 23 = .ok (.bipush 41, 2) := dk_16 41 (dk_at dksX22_than_1 0 rfl rfl)
theorem dX22_than_25 : decode cX22_than 25 = .ok (.if_icmp .eq 7, 3) := dk_159 0 7 (dk_at dksX22_than_1 2 rfl rfl)
theorem dX22_than_28 : decode cX22_than 28 = .ok (.iconst 1, 1) := dk_4 (dk_at dksX22_than_1 5 rfl rfl)
theorem dX22_than_29 : decode cX22_than 29 = .ok (.goto 4, 3) := dk_167 0 4 (dk_at dksX22_than_1 6 rfl rfl)
theorem dX22_than_32 : decode cX22_than 32 = .ok (.iconst 0, 1) := dk_3 (dk_at dksX22_than_1 9 rfl rfl)
theorem dX22_than_33 : decode cX22_than 33 = .ok (.iconst 1, 1) := dk_4 (dk_at dksX22_than_1 10 rfl rfl)
theorem dX22_than_34 : decode cX22_than 34 = .ok (.invokevirtual 23, 3) := dk_182 0 23 (dk_at dksX22_than_1 11 rfl rfl)
theorem dX22_than_37 : decode cX22_than 37 = .ok (.aload_n 0, 1) := dk_42 (dk_at dksX22_than_1 14 rfl rfl)
theorem dX22_than_38 : decode cX22_than 38 = .ok (.getfield 58, 3) := dk_180 0 58 (dk_at dksX22_than_1 15 rfl rfl)
theorem dX22_than_41 : decode cX22_than 41 = .ok (.istore_n 2, 1) := dk_61 (dk_at dksX22_than_1 18 rfl rfl)
theorem dX22_than_42 : decode cX22_than 42 = .ok (.aload_n 0, 1) := dk_42 (dk_at dksX22_than_1 19 rfl rfl)
theorem dX22_than_43 : decode cX22_than 43 = .ok (.invokevirtual 9, 3) := dk_182 0 9 (dk_at dksX22_than_1 20 rfl rfl)
theorem dX22_than_46 : decode cX22_than 46 = .ok (.new 104, 3) := dk_187 0 104 (dk_at dksX22_than_2 0 rfl rfl)
theorem dX22_than_49 : decode cX22_than 49 = .ok (.dup, 1) := dk_89 (dk_at dksX22_than_2 3 rfl rfl)
theorem dX22_than_50 : decode cX22_than 50 = .ok (.iload_n 1, 1) := dk_27 (dk_at dksX22_than_2 4 rfl rfl)
theorem dX22_than_51 : decode cX22_than 51 = .ok (.iload_n 2, 1) := dk_28 (dk_at dksX22_than_2 5 rfl rfl)
theorem dX22_than_52 : decode cX22_than 52 = .ok (.aload_n 0, 1) := dk_42 (dk_at dksX22_than_2 6 rfl rfl)
theorem dX22_than_53 : decode cX22_than 53 = .ok (.iconst 0, 1) := dk_3 (dk_at dksX22_than_2 7 rfl rfl)
theorem dX22_than_54 : decode cX22_than 54 = .ok (.sipush 999, 3) := dk_17 3 231 (dk_at dksX22_than_2 8 rfl rfl)
theorem dX22_than_57 : decode cX22_than 57 = .ok (.invokevirtual 106, 3) := dk_182 0 106 (dk_at dksX22_than_2 11 rfl rfl)
theorem dX22_than_60 : decode cX22_than 60 = .ok (.invokespecial 109, 3) := dk_183 0 109 (dk_at dksX22_than_2 14 rfl rfl)
theorem dX22_than_63 : decode cX22_than 63 = .ok (.areturn, 1) := dk_176 (dk_at dksX22_than_2 17 rfl rfl)
theorem q167 : (Jvm.Cond.initialized "HeirsAtLaw$SentenceReader") ∈ lw_all := lw_g (lw_at lw_m1 43 rfl) rfl
theorem q587 : (Jvm.Cond.fieldLink "HeirsAtLaw$SentenceReader" (19 : Nat) "HeirsAtLaw$SentenceReader" "kind" "I") ∈ lw_all := lw_g (lw_at lw_m2 223 rfl) rfl
theorem q588 : (Jvm.Cond.sameField "HeirsAtLaw$SentenceReader" "HeirsAtLaw$Reader" "kind" "I") ∈ lw_all := lw_g (lw_at lw_m2 224 rfl) rfl
theorem q593 : (Jvm.Cond.fieldLink "HeirsAtLaw$SentenceReader" (58 : Nat) "HeirsAtLaw$SentenceReader" "sign" "I") ∈ lw_all := lw_g (lw_at lw_m2 229 rfl) rfl
theorem q594 : (Jvm.Cond.sameField "HeirsAtLaw$SentenceReader" "HeirsAtLaw$Reader" "sign" "I") ∈ lw_all := lw_g (lw_at lw_m2 230 rfl) rfl
theorem q1071 : (Jvm.Cond.selects "HeirsAtLaw$SentenceReader" ({ cls := "java/lang/Object", name := "getClass", desc := "()Ljava/lang/Class;" } : Jvm.MethodName) ({ cls := "java/lang/Object", name := "getClass", desc := "()Ljava/lang/Class;" } : Jvm.MethodName)) ∈ lw_all := lw_g (lw_at lw_m4 227 rfl) rfl
theorem q1798 : (Jvm.Cond.instantiable "HeirsAtLaw$SentenceReader" (12 : Nat)) ∈ lw_all := lw_g (lw_at lw_m7 234 rfl) rfl
theorem q1800 : (Jvm.Cond.instanceMethod ({ cls := "HeirsAtLaw$SentenceReader", name := "<init>", desc := "([BILHeirsAtLaw$Family;)V" } : Jvm.MethodName)) ∈ lw_all := lw_g (lw_at lw_m7 236 rfl) rfl
theorem q1801 : (Jvm.Cond.code ({ cls := "HeirsAtLaw$SentenceReader", name := "<init>", desc := "([BILHeirsAtLaw$Family;)V" } : Jvm.MethodName) prog_24_method_1_code (4 : Nat) (Option.none : Option Jvm.ClassFile.FieldType)) ∈ lw_all := lw_g (lw_at lw_m7 237 rfl) rfl
theorem q1802 : (Jvm.Cond.methodLink "HeirsAtLaw$SentenceReader" (3 : Nat) ({ cls := "HeirsAtLaw$Reader", name := "<init>", desc := "([BIILHeirsAtLaw$Family;)V" } : Jvm.MethodName)) ∈ lw_all := lw_g (lw_at lw_m7 238 rfl) rfl
theorem q1803 : (Jvm.Cond.fieldLink "HeirsAtLaw$SentenceReader" (74 : Nat) "HeirsAtLaw$SentenceReader" "ones" "I") ∈ lw_all := lw_g (lw_at lw_m7 239 rfl) rfl
theorem q1805 : (Jvm.Cond.fieldLink "HeirsAtLaw$SentenceReader" (77 : Nat) "HeirsAtLaw$SentenceReader" "within" "I") ∈ lw_all := lw_g (lw_at lw_m8 1 rfl) rfl
theorem q1806 : (Jvm.Cond.lays "HeirsAtLaw$SentenceReader" "HeirsAtLaw$SentenceReader" "ones" "I") ∈ lw_all := lw_g (lw_at lw_m8 2 rfl) rfl
theorem q1807 : (Jvm.Cond.soleField "HeirsAtLaw$SentenceReader" "ones") ∈ lw_all := lw_g (lw_at lw_m8 3 rfl) rfl
theorem q1808 : (Jvm.Cond.lays "HeirsAtLaw$SentenceReader" "HeirsAtLaw$SentenceReader" "within" "I") ∈ lw_all := lw_g (lw_at lw_m8 4 rfl) rfl
theorem q1809 : (Jvm.Cond.soleField "HeirsAtLaw$SentenceReader" "within") ∈ lw_all := lw_g (lw_at lw_m8 5 rfl) rfl
theorem q1810 : (Jvm.Cond.laysFinal "HeirsAtLaw$SentenceReader" "HeirsAtLaw$Reader" "tape" "[B") ∈ lw_all := lw_g (lw_at lw_m8 6 rfl) rfl
theorem q1811 : (Jvm.Cond.laysFinal "HeirsAtLaw$SentenceReader" "HeirsAtLaw$Reader" "size" "I") ∈ lw_all := lw_g (lw_at lw_m8 7 rfl) rfl
theorem q1812 : (Jvm.Cond.laysFinal "HeirsAtLaw$SentenceReader" "HeirsAtLaw$Reader" "limit" "I") ∈ lw_all := lw_g (lw_at lw_m8 8 rfl) rfl
theorem q1813 : (Jvm.Cond.lays "HeirsAtLaw$SentenceReader" "HeirsAtLaw$Reader" "to" "I") ∈ lw_all := lw_g (lw_at lw_m8 9 rfl) rfl
theorem q1814 : (Jvm.Cond.laysFinal "HeirsAtLaw$SentenceReader" "HeirsAtLaw$Reader" "f" "LHeirsAtLaw$Family;") ∈ lw_all := lw_g (lw_at lw_m8 10 rfl) rfl
theorem q1815 : (Jvm.Cond.lays "HeirsAtLaw$SentenceReader" "HeirsAtLaw$Reader" "kind" "I") ∈ lw_all := lw_g (lw_at lw_m8 11 rfl) rfl
theorem q1816 : (Jvm.Cond.lays "HeirsAtLaw$SentenceReader" "HeirsAtLaw$Reader" "from" "I") ∈ lw_all := lw_g (lw_at lw_m8 12 rfl) rfl
theorem q1817 : (Jvm.Cond.lays "HeirsAtLaw$SentenceReader" "HeirsAtLaw$Reader" "number" "I") ∈ lw_all := lw_g (lw_at lw_m8 13 rfl) rfl
theorem q1818 : (Jvm.Cond.lays "HeirsAtLaw$SentenceReader" "HeirsAtLaw$Reader" "sign" "I") ∈ lw_all := lw_g (lw_at lw_m8 14 rfl) rfl
theorem q1819 : (Jvm.Cond.lays "HeirsAtLaw$SentenceReader" "HeirsAtLaw$Reader" "word" "Ljava/lang/String;") ∈ lw_all := lw_g (lw_at lw_m8 15 rfl) rfl
theorem q1820 : (Jvm.Cond.superclass "HeirsAtLaw$SentenceReader" "HeirsAtLaw$Reader") ∈ lw_all := lw_g (lw_at lw_m8 16 rfl) rfl
theorem q1822 : (Jvm.Cond.instanceMethod ({ cls := "HeirsAtLaw$SentenceReader", name := "read", desc := "()LHeirsAtLaw$Cond;" } : Jvm.MethodName)) ∈ lw_all := lw_g (lw_at lw_m8 18 rfl) rfl
theorem q1823 : (Jvm.Cond.selects "HeirsAtLaw$SentenceReader" ({ cls := "HeirsAtLaw$SentenceReader", name := "read", desc := "()LHeirsAtLaw$Cond;" } : Jvm.MethodName) ({ cls := "HeirsAtLaw$SentenceReader", name := "read", desc := "()LHeirsAtLaw$Cond;" } : Jvm.MethodName)) ∈ lw_all := lw_g (lw_at lw_m8 19 rfl) rfl
theorem q1824 : (Jvm.Cond.code ({ cls := "HeirsAtLaw$SentenceReader", name := "read", desc := "()LHeirsAtLaw$Cond;" } : Jvm.MethodName) prog_24_method_2_code (2 : Nat) (Option.some (Jvm.ClassFile.FieldType.object "HeirsAtLaw$Cond"))) ∈ lw_all := lw_g (lw_at lw_m8 20 rfl) rfl
theorem q1825 : (Jvm.Cond.methodLink "HeirsAtLaw$SentenceReader" (9 : Nat) ({ cls := "HeirsAtLaw$SentenceReader", name := "go", desc := "()V" } : Jvm.MethodName)) ∈ lw_all := lw_g (lw_at lw_m8 21 rfl) rfl
theorem q1826 : (Jvm.Cond.sameMethod "HeirsAtLaw$SentenceReader" "HeirsAtLaw$Reader" "go" "()V") ∈ lw_all := lw_g (lw_at lw_m8 22 rfl) rfl
theorem q1827 : (Jvm.Cond.selects "HeirsAtLaw$SentenceReader" ({ cls := "HeirsAtLaw$SentenceReader", name := "go", desc := "()V" } : Jvm.MethodName) ({ cls := "HeirsAtLaw$Reader", name := "go", desc := "()V" } : Jvm.MethodName)) ∈ lw_all := lw_g (lw_at lw_m8 23 rfl) rfl
theorem q1828 : (Jvm.Cond.methodLink "HeirsAtLaw$SentenceReader" (15 : Nat) ({ cls := "HeirsAtLaw$SentenceReader", name := "or", desc := "()LHeirsAtLaw$Cond;" } : Jvm.MethodName)) ∈ lw_all := lw_g (lw_at lw_m8 24 rfl) rfl
theorem q1829 : (Jvm.Cond.privateMethod ({ cls := "HeirsAtLaw$SentenceReader", name := "or", desc := "()LHeirsAtLaw$Cond;" } : Jvm.MethodName)) ∈ lw_tbl := lw_at lw_m8 25 rfl
theorem q1830 : (Jvm.Cond.instanceMethod ({ cls := "HeirsAtLaw$SentenceReader", name := "or", desc := "()LHeirsAtLaw$Cond;" } : Jvm.MethodName)) ∈ lw_all := lw_g (lw_at lw_m8 26 rfl) rfl
theorem q1831 : (Jvm.Cond.code ({ cls := "HeirsAtLaw$SentenceReader", name := "or", desc := "()LHeirsAtLaw$Cond;" } : Jvm.MethodName) prog_24_method_3_code (2 : Nat) (Option.some (Jvm.ClassFile.FieldType.object "HeirsAtLaw$Cond"))) ∈ lw_all := lw_g (lw_at lw_m8 27 rfl) rfl
theorem q1832 : (Jvm.Cond.methodLink "HeirsAtLaw$SentenceReader" (27 : Nat) ({ cls := "HeirsAtLaw$SentenceReader", name := "and", desc := "()LHeirsAtLaw$Cond;" } : Jvm.MethodName)) ∈ lw_all := lw_g (lw_at lw_m8 28 rfl) rfl
theorem q1833 : (Jvm.Cond.privateMethod ({ cls := "HeirsAtLaw$SentenceReader", name := "and", desc := "()LHeirsAtLaw$Cond;" } : Jvm.MethodName)) ∈ lw_tbl := lw_at lw_m8 29 rfl
theorem q1834 : (Jvm.Cond.instanceMethod ({ cls := "HeirsAtLaw$SentenceReader", name := "and", desc := "()LHeirsAtLaw$Cond;" } : Jvm.MethodName)) ∈ lw_all := lw_g (lw_at lw_m8 30 rfl) rfl
theorem q1835 : (Jvm.Cond.code ({ cls := "HeirsAtLaw$SentenceReader", name := "and", desc := "()LHeirsAtLaw$Cond;" } : Jvm.MethodName) prog_24_method_4_code (2 : Nat) (Option.some (Jvm.ClassFile.FieldType.object "HeirsAtLaw$Cond"))) ∈ lw_all := lw_g (lw_at lw_m8 31 rfl) rfl
theorem q1836 : (Jvm.Cond.methodLink "HeirsAtLaw$SentenceReader" (40 : Nat) ({ cls := "HeirsAtLaw$SentenceReader", name := "says", desc := "()LHeirsAtLaw$Cond;" } : Jvm.MethodName)) ∈ lw_all := lw_g (lw_at lw_m8 32 rfl) rfl
theorem q1837 : (Jvm.Cond.privateMethod ({ cls := "HeirsAtLaw$SentenceReader", name := "says", desc := "()LHeirsAtLaw$Cond;" } : Jvm.MethodName)) ∈ lw_tbl := lw_at lw_m8 33 rfl
theorem q1838 : (Jvm.Cond.instanceMethod ({ cls := "HeirsAtLaw$SentenceReader", name := "says", desc := "()LHeirsAtLaw$Cond;" } : Jvm.MethodName)) ∈ lw_all := lw_g (lw_at lw_m8 34 rfl) rfl
theorem q1839 : (Jvm.Cond.code ({ cls := "HeirsAtLaw$SentenceReader", name := "says", desc := "()LHeirsAtLaw$Cond;" } : Jvm.MethodName) prog_24_method_7_code (8 : Nat) (Option.some (Jvm.ClassFile.FieldType.object "HeirsAtLaw$Cond"))) ∈ lw_all := lw_g (lw_at lw_m8 35 rfl) rfl
theorem q1840 : (Jvm.Cond.stringRef "HeirsAtLaw$SentenceReader" (61 : Nat) "not") ∈ lw_tbl := lw_at lw_m8 36 rfl
theorem q1841 : (Jvm.Cond.methodLink "HeirsAtLaw$SentenceReader" (31 : Nat) ({ cls := "HeirsAtLaw$SentenceReader", name := "is", desc := "(Ljava/lang/String;)Z" } : Jvm.MethodName)) ∈ lw_all := lw_g (lw_at lw_m8 37 rfl) rfl
theorem q1842 : (Jvm.Cond.sameMethod "HeirsAtLaw$SentenceReader" "HeirsAtLaw$Reader" "is" "(Ljava/lang/String;)Z") ∈ lw_all := lw_g (lw_at lw_m8 38 rfl) rfl
theorem q1843 : (Jvm.Cond.selects "HeirsAtLaw$SentenceReader" ({ cls := "HeirsAtLaw$SentenceReader", name := "is", desc := "(Ljava/lang/String;)Z" } : Jvm.MethodName) ({ cls := "HeirsAtLaw$Reader", name := "is", desc := "(Ljava/lang/String;)Z" } : Jvm.MethodName)) ∈ lw_all := lw_g (lw_at lw_m8 39 rfl) rfl
theorem q1844 : (Jvm.Cond.stringRef "HeirsAtLaw$SentenceReader" (63 : Nat) "kin") ∈ lw_tbl := lw_at lw_m8 40 rfl
theorem q1845 : (Jvm.Cond.stringRef "HeirsAtLaw$SentenceReader" (65 : Nat) "of") ∈ lw_tbl := lw_at lw_m8 41 rfl
theorem q1846 : (Jvm.Cond.methodLink "HeirsAtLaw$SentenceReader" (67 : Nat) ({ cls := "HeirsAtLaw$SentenceReader", name := "plain", desc := "()I" } : Jvm.MethodName)) ∈ lw_all := lw_g (lw_at lw_m8 42 rfl) rfl
theorem q1847 : (Jvm.Cond.privateMethod ({ cls := "HeirsAtLaw$SentenceReader", name := "plain", desc := "()I" } : Jvm.MethodName)) ∈ lw_tbl := lw_at lw_m8 43 rfl
theorem q1848 : (Jvm.Cond.instanceMethod ({ cls := "HeirsAtLaw$SentenceReader", name := "plain", desc := "()I" } : Jvm.MethodName)) ∈ lw_all := lw_g (lw_at lw_m8 44 rfl) rfl
theorem q1849 : (Jvm.Cond.code ({ cls := "HeirsAtLaw$SentenceReader", name := "plain", desc := "()I" } : Jvm.MethodName) prog_24_method_5_code (1 : Nat) (Option.some Jvm.ClassFile.FieldType.int)) ∈ lw_all := lw_g (lw_at lw_m8 45 rfl) rfl
theorem q1850 : (Jvm.Cond.stringRef "HeirsAtLaw$SentenceReader" (44 : Nat) "dead") ∈ lw_tbl := lw_at lw_m8 46 rfl
theorem q1851 : (Jvm.Cond.stringRef "HeirsAtLaw$SentenceReader" (46 : Nat) "wed") ∈ lw_tbl := lw_at lw_m8 47 rfl
theorem q1852 : (Jvm.Cond.stringRef "HeirsAtLaw$SentenceReader" (48 : Nat) "orphan") ∈ lw_tbl := lw_at lw_m8 48 rfl
theorem q1853 : (Jvm.Cond.methodLink "HeirsAtLaw$SentenceReader" (71 : Nat) ({ cls := "HeirsAtLaw$SentenceReader", name := "numbered", desc := "()I" } : Jvm.MethodName)) ∈ lw_all := lw_g (lw_at lw_m8 49 rfl) rfl
theorem q1854 : (Jvm.Cond.privateMethod ({ cls := "HeirsAtLaw$SentenceReader", name := "numbered", desc := "()I" } : Jvm.MethodName)) ∈ lw_tbl := lw_at lw_m8 50 rfl
theorem q1855 : (Jvm.Cond.instanceMethod ({ cls := "HeirsAtLaw$SentenceReader", name := "numbered", desc := "()I" } : Jvm.MethodName)) ∈ lw_all := lw_g (lw_at lw_m8 51 rfl) rfl
theorem q1856 : (Jvm.Cond.code ({ cls := "HeirsAtLaw$SentenceReader", name := "numbered", desc := "()I" } : Jvm.MethodName) prog_24_method_6_code (1 : Nat) (Option.some Jvm.ClassFile.FieldType.int)) ∈ lw_all := lw_g (lw_at lw_m8 52 rfl) rfl
theorem q1857 : (Jvm.Cond.stringRef "HeirsAtLaw$SentenceReader" (50 : Nat) "coins") ∈ lw_tbl := lw_at lw_m8 53 rfl
theorem q1858 : (Jvm.Cond.stringRef "HeirsAtLaw$SentenceReader" (52 : Nat) "age") ∈ lw_tbl := lw_at lw_m8 54 rfl
theorem q1859 : (Jvm.Cond.stringRef "HeirsAtLaw$SentenceReader" (54 : Nat) "issue") ∈ lw_tbl := lw_at lw_m8 55 rfl
theorem q1860 : (Jvm.Cond.stringRef "HeirsAtLaw$SentenceReader" (56 : Nat) "number") ∈ lw_tbl := lw_at lw_m8 56 rfl
theorem q1861 : (Jvm.Cond.methodLink "HeirsAtLaw$SentenceReader" (23 : Nat) ({ cls := "HeirsAtLaw$SentenceReader", name := "need", desc := "(ZI)V" } : Jvm.MethodName)) ∈ lw_all := lw_g (lw_at lw_m8 57 rfl) rfl
theorem q1862 : (Jvm.Cond.sameMethod "HeirsAtLaw$SentenceReader" "HeirsAtLaw$Reader" "need" "(ZI)V") ∈ lw_all := lw_g (lw_at lw_m8 58 rfl) rfl
theorem q1863 : (Jvm.Cond.selects "HeirsAtLaw$SentenceReader" ({ cls := "HeirsAtLaw$SentenceReader", name := "need", desc := "(ZI)V" } : Jvm.MethodName) ({ cls := "HeirsAtLaw$Reader", name := "need", desc := "(ZI)V" } : Jvm.MethodName)) ∈ lw_all := lw_g (lw_at lw_m8 59 rfl) rfl
theorem q1864 : (Jvm.Cond.methodLink "HeirsAtLaw$SentenceReader" (80 : Nat) ({ cls := "HeirsAtLaw$SentenceReader", name := "bracket", desc := "()LHeirsAtLaw$Cond;" } : Jvm.MethodName)) ∈ lw_all := lw_g (lw_at lw_m8 60 rfl) rfl
theorem q1865 : (Jvm.Cond.privateMethod ({ cls := "HeirsAtLaw$SentenceReader", name := "bracket", desc := "()LHeirsAtLaw$Cond;" } : Jvm.MethodName)) ∈ lw_tbl := lw_at lw_m8 61 rfl
theorem q1866 : (Jvm.Cond.instanceMethod ({ cls := "HeirsAtLaw$SentenceReader", name := "bracket", desc := "()LHeirsAtLaw$Cond;" } : Jvm.MethodName)) ∈ lw_all := lw_g (lw_at lw_m8 62 rfl) rfl
theorem q1867 : (Jvm.Cond.code ({ cls := "HeirsAtLaw$SentenceReader", name := "bracket", desc := "()LHeirsAtLaw$Cond;" } : Jvm.MethodName) prog_24_method_8_code (2 : Nat) (Option.some (Jvm.ClassFile.FieldType.object "HeirsAtLaw$Cond"))) ∈ lw_all := lw_g (lw_at lw_m8 63 rfl) rfl
theorem q1868 : (Jvm.Cond.classLink "HeirsAtLaw$SentenceReader" (83 : Nat) "HeirsAtLaw$Not") ∈ lw_all := lw_g (lw_at lw_m8 64 rfl) rfl
theorem q1870 : (Jvm.Cond.methodLink "HeirsAtLaw$SentenceReader" (85 : Nat) ({ cls := "HeirsAtLaw$Not", name := "<init>", desc := "(LHeirsAtLaw$Cond;)V" } : Jvm.MethodName)) ∈ lw_all := lw_g (lw_at lw_m8 66 rfl) rfl
theorem q1881 : (Jvm.Cond.classLink "HeirsAtLaw$SentenceReader" (88 : Nat) "HeirsAtLaw$Of") ∈ lw_all := lw_g (lw_at lw_m8 77 rfl) rfl
theorem q1883 : (Jvm.Cond.methodLink "HeirsAtLaw$SentenceReader" (90 : Nat) ({ cls := "HeirsAtLaw$SentenceReader", name := "one", desc := "()I" } : Jvm.MethodName)) ∈ lw_all := lw_g (lw_at lw_m8 79 rfl) rfl
theorem q1884 : (Jvm.Cond.sameMethod "HeirsAtLaw$SentenceReader" "HeirsAtLaw$Reader" "one" "()I") ∈ lw_all := lw_g (lw_at lw_m8 80 rfl) rfl
theorem q1885 : (Jvm.Cond.selects "HeirsAtLaw$SentenceReader" ({ cls := "HeirsAtLaw$SentenceReader", name := "one", desc := "()I" } : Jvm.MethodName) ({ cls := "HeirsAtLaw$Reader", name := "one", desc := "()I" } : Jvm.MethodName)) ∈ lw_all := lw_g (lw_at lw_m8 81 rfl) rfl
theorem q1886 : (Jvm.Cond.methodLink "HeirsAtLaw$SentenceReader" (93 : Nat) ({ cls := "HeirsAtLaw$Of", name := "<init>", desc := "(ZI)V" } : Jvm.MethodName)) ∈ lw_all := lw_g (lw_at lw_m8 82 rfl) rfl
theorem q1897 : (Jvm.Cond.classLink "HeirsAtLaw$SentenceReader" (95 : Nat) "HeirsAtLaw$IsSo") ∈ lw_all := lw_g (lw_at lw_m8 93 rfl) rfl
theorem q1899 : (Jvm.Cond.methodLink "HeirsAtLaw$SentenceReader" (97 : Nat) ({ cls := "HeirsAtLaw$IsSo", name := "<init>", desc := "(I)V" } : Jvm.MethodName)) ∈ lw_all := lw_g (lw_at lw_m8 95 rfl) rfl
theorem q1907 : (Jvm.Cond.methodLink "HeirsAtLaw$SentenceReader" (100 : Nat) ({ cls := "HeirsAtLaw$SentenceReader", name := "than", desc := "(I)LHeirsAtLaw$Cond;" } : Jvm.MethodName)) ∈ lw_all := lw_g (lw_at lw_m8 103 rfl) rfl
theorem q1908 : (Jvm.Cond.privateMethod ({ cls := "HeirsAtLaw$SentenceReader", name := "than", desc := "(I)LHeirsAtLaw$Cond;" } : Jvm.MethodName)) ∈ lw_tbl := lw_at lw_m8 104 rfl
theorem q1909 : (Jvm.Cond.instanceMethod ({ cls := "HeirsAtLaw$SentenceReader", name := "than", desc := "(I)LHeirsAtLaw$Cond;" } : Jvm.MethodName)) ∈ lw_all := lw_g (lw_at lw_m8 105 rfl) rfl
theorem q1910 : (Jvm.Cond.code ({ cls := "HeirsAtLaw$SentenceReader", name := "than", desc := "(I)LHeirsAtLaw$Cond;" } : Jvm.MethodName) prog_24_method_9_code (3 : Nat) (Option.some (Jvm.ClassFile.FieldType.object "HeirsAtLaw$Cond"))) ∈ lw_all := lw_g (lw_at lw_m8 106 rfl) rfl
theorem q1911 : (Jvm.Cond.classLink "HeirsAtLaw$SentenceReader" (104 : Nat) "HeirsAtLaw$Than") ∈ lw_all := lw_g (lw_at lw_m8 107 rfl) rfl
theorem q1913 : (Jvm.Cond.methodLink "HeirsAtLaw$SentenceReader" (106 : Nat) ({ cls := "HeirsAtLaw$SentenceReader", name := "number", desc := "(II)I" } : Jvm.MethodName)) ∈ lw_all := lw_g (lw_at lw_m8 109 rfl) rfl
theorem q1914 : (Jvm.Cond.sameMethod "HeirsAtLaw$SentenceReader" "HeirsAtLaw$Reader" "number" "(II)I") ∈ lw_all := lw_g (lw_at lw_m8 110 rfl) rfl
theorem q1915 : (Jvm.Cond.selects "HeirsAtLaw$SentenceReader" ({ cls := "HeirsAtLaw$SentenceReader", name := "number", desc := "(II)I" } : Jvm.MethodName) ({ cls := "HeirsAtLaw$Reader", name := "number", desc := "(II)I" } : Jvm.MethodName)) ∈ lw_all := lw_g (lw_at lw_m8 111 rfl) rfl
theorem q1916 : (Jvm.Cond.methodLink "HeirsAtLaw$SentenceReader" (109 : Nat) ({ cls := "HeirsAtLaw$Than", name := "<init>", desc := "(III)V" } : Jvm.MethodName)) ∈ lw_all := lw_g (lw_at lw_m8 112 rfl) rfl
theorem q1930 : (Jvm.Cond.stringRef "HeirsAtLaw$SentenceReader" (43 : Nat) "and") ∈ lw_tbl := lw_at lw_m8 126 rfl
theorem q1931 : (Jvm.Cond.classLink "HeirsAtLaw$SentenceReader" (35 : Nat) "HeirsAtLaw$Two") ∈ lw_all := lw_g (lw_at lw_m8 127 rfl) rfl
theorem q1933 : (Jvm.Cond.methodLink "HeirsAtLaw$SentenceReader" (37 : Nat) ({ cls := "HeirsAtLaw$Two", name := "<init>", desc := "(LHeirsAtLaw$Cond;LHeirsAtLaw$Cond;Z)V" } : Jvm.MethodName)) ∈ lw_all := lw_g (lw_at lw_m8 129 rfl) rfl
theorem q1947 : (Jvm.Cond.stringRef "HeirsAtLaw$SentenceReader" (30 : Nat) "or") ∈ lw_tbl := lw_at lw_m8 143 rfl
theorem q2725 : (Jvm.Cond.selects "HeirsAtLaw$SentenceReader" ({ cls := "HeirsAtLaw$Reader", name := "need", desc := "(ZI)V" } : Jvm.MethodName) ({ cls := "HeirsAtLaw$Reader", name := "need", desc := "(ZI)V" } : Jvm.MethodName)) ∈ lw_all := lw_g (lw_at lw_m11 201 rfl) rfl
theorem q2729 : (Jvm.Cond.selects "HeirsAtLaw$SentenceReader" ({ cls := "HeirsAtLaw$Reader", name := "go", desc := "()V" } : Jvm.MethodName) ({ cls := "HeirsAtLaw$Reader", name := "go", desc := "()V" } : Jvm.MethodName)) ∈ lw_all := lw_g (lw_at lw_m11 205 rfl) rfl
theorem q2733 : (Jvm.Cond.selects "HeirsAtLaw$SentenceReader" ({ cls := "HeirsAtLaw$Reader", name := "isName", desc := "()Z" } : Jvm.MethodName) ({ cls := "HeirsAtLaw$Reader", name := "isName", desc := "()Z" } : Jvm.MethodName)) ∈ lw_all := lw_g (lw_at lw_m11 209 rfl) rfl
theorem q2737 : (Jvm.Cond.selects "HeirsAtLaw$SentenceReader" ({ cls := "HeirsAtLaw$Reader", name := "find", desc := "()I" } : Jvm.MethodName) ({ cls := "HeirsAtLaw$Reader", name := "find", desc := "()I" } : Jvm.MethodName)) ∈ lw_all := lw_g (lw_at lw_m11 213 rfl) rfl
theorem q2741 : (Jvm.Cond.selects "HeirsAtLaw$SentenceReader" ({ cls := "HeirsAtLaw$Reader", name := "hold", desc := "()I" } : Jvm.MethodName) ({ cls := "HeirsAtLaw$Reader", name := "hold", desc := "()I" } : Jvm.MethodName)) ∈ lw_all := lw_g (lw_at lw_m11 217 rfl) rfl
theorem q2774 : (Jvm.Cond.castable "HeirsAtLaw$SentenceReader" "java/lang/Object") ∈ lw_tbl := lw_at lw_m12 10 rfl
theorem in_X22 : ∀ w ∈ wsX220, w ∈ lw_all := lw_in wsX220 [1810, 1811, 1812, 1813, 1814, 1815, 1816, 1817, 1818, 1819, 1806, 1808] (by decide +kernel) (by decide +kernel)
/-! HeirsAtLaw$Cond -/
set_option maxRecDepth 100000
def RX23 : String := "HeirsAtLaw$Cond"
abbrev cX23_init : ByteArray := prog_4_method_1_code
def yX23_init : MethodName := ⟨RX23, "<init>", "()V"⟩
theorem dX23_init_0 : decode cX23_init 0 = .ok (.aload_n 0, 1) := by decide +kernel
theorem dX23_init_1 : decode cX23_init 1 = .ok (.invokespecial 1, 3) := by decide +kernel
theorem dX23_init_4 : decode cX23_init 4 = .ok (.return_, 1) := by decide +kernel
theorem q168 : (Jvm.Cond.initialized "HeirsAtLaw$Cond") ∈ lw_all := lw_g (lw_at lw_m1 44 rfl) rfl
theorem q1874 : (Jvm.Cond.instanceMethod ({ cls := "HeirsAtLaw$Cond", name := "<init>", desc := "()V" } : Jvm.MethodName)) ∈ lw_all := lw_g (lw_at lw_m8 70 rfl) rfl
theorem q1875 : (Jvm.Cond.code ({ cls := "HeirsAtLaw$Cond", name := "<init>", desc := "()V" } : Jvm.MethodName) prog_4_method_1_code (1 : Nat) (Option.none : Option Jvm.ClassFile.FieldType)) ∈ lw_all := lw_g (lw_at lw_m8 71 rfl) rfl
theorem q1876 : (Jvm.Cond.methodLink "HeirsAtLaw$Cond" (1 : Nat) ({ cls := "java/lang/Object", name := "<init>", desc := "()V" } : Jvm.MethodName)) ∈ lw_all := lw_g (lw_at lw_m8 72 rfl) rfl
theorem q1953 : (Jvm.Cond.declares ({ cls := "HeirsAtLaw$Cond", name := "holds", desc := "(LHeirsAtLaw$Estate;I)Z" } : Jvm.MethodName)) ∈ lw_tbl := lw_at lw_m8 149 rfl
theorem q1954 : (Jvm.Cond.sameMethod "HeirsAtLaw$Cond" "HeirsAtLaw$Cond" "holds" "(LHeirsAtLaw$Estate;I)Z") ∈ lw_all := lw_g (lw_at lw_m8 150 rfl) rfl
/-! HeirsAtLaw$Not -/
set_option maxRecDepth 100000
def RX24 : String := "HeirsAtLaw$Not"
def TX24 : u_T := fun k => match k with
  | _ => ("HeirsAtLaw$Not", "c", "LHeirsAtLaw$Cond;", true)
def tyX24 : Nat → FieldType := fun k => match k with
  | _ => .object "HeirsAtLaw$Cond"
abbrev wsX240 : List Cond := u_ws RX24 TX24 1
theorem nmX24 : ∀ a, a < 1 → ∀ b, b < 1 → a ≠ b → (TX24 a).2.1 ≠ (TX24 b).2.1 := by decide +kernel
theorem tyX24_ok : ∀ k, k < 1 → parseFieldDescriptor (TX24 k).2.2.1 = some (tyX24 k) := by decide +kernel
abbrev cX24_init : ByteArray := prog_15_method_1_code
def yX24_init : MethodName := ⟨RX24, "<init>", "(LHeirsAtLaw$Cond;)V"⟩
def dkwX24_init_0 : List UInt8 := [42, 183, 0, 1, 42, 43, 181, 0, 7, 177]
abbrev dktX24_init_0 : List UInt8 := dkwX24_init_0 ++ []
theorem dksX24_init_0 : cX24_init.data.toList.drop 0 = dktX24_init_0 := by decide +kernel
theorem dX24_init_0 : decode cX24_init 0 = .ok (.aload_n 0, 1) := dk_42 (dk_at dksX24_init_0 0 rfl rfl)
theorem dX24_init_1 : decode cX24_init 1 = .ok (.invokespecial 1, 3) := dk_183 0 1 (dk_at dksX24_init_0 1 rfl rfl)
theorem dX24_init_4 : decode cX24_init 4 = .ok (.aload_n 0, 1) := dk_42 (dk_at dksX24_init_0 4 rfl rfl)
theorem dX24_init_5 : decode cX24_init 5 = .ok (.aload_n 1, 1) := dk_43 (dk_at dksX24_init_0 5 rfl rfl)
theorem dX24_init_6 : decode cX24_init 6 = .ok (.putfield 7, 3) := dk_181 0 7 (dk_at dksX24_init_0 6 rfl rfl)
theorem dX24_init_9 : decode cX24_init 9 = .ok (.return_, 1) := dk_177 (dk_at dksX24_init_0 9 rfl rfl)
abbrev cX24_holds : ByteArray := prog_15_method_2_code
def yX24_holds : MethodName := ⟨RX24, "holds", "(LHeirsAtLaw$Estate;I)Z"⟩
def dkwX24_holds_0 : List UInt8 := [42, 180, 0, 7, 43, 28, 182, 0, 13, 154, 0, 7, 4, 167, 0, 4, 3, 172]
abbrev dktX24_holds_0 : List UInt8 := dkwX24_holds_0 ++ []
theorem dksX24_holds_0 : cX24_holds.data.toList.drop 0 = dktX24_holds_0 := by decide +kernel
theorem dX24_holds_0 : decode cX24_holds 0 = .ok (.aload_n 0, 1) := dk_42 (dk_at dksX24_holds_0 0 rfl rfl)
theorem dX24_holds_1 : decode cX24_holds 1 = .ok (.getfield 7, 3) := dk_180 0 7 (dk_at dksX24_holds_0 1 rfl rfl)
theorem dX24_holds_4 : decode cX24_holds 4 = .ok (.aload_n 1, 1) := dk_43 (dk_at dksX24_holds_0 4 rfl rfl)
theorem dX24_holds_5 : decode cX24_holds 5 = .ok (.iload_n 2, 1) := dk_28 (dk_at dksX24_holds_0 5 rfl rfl)
theorem dX24_holds_6 : decode cX24_holds 6 = .ok (.invokevirtual 13, 3) := dk_182 0 13 (dk_at dksX24_holds_0 6 rfl rfl)
theorem dX24_holds_9 : decode cX24_holds 9 = .ok (.ifCond .ne 7, 3) := dk_154 0 7 (dk_at dksX24_holds_0 9 rfl rfl)
theorem dX24_holds_12 : decode cX24_holds 12 = .ok (.iconst 1, 1) := dk_4 (dk_at dksX24_holds_0 12 rfl rfl)
theorem dX24_holds_13 : decode cX24_holds 13 = .ok (.goto 4, 3) := dk_167 0 4 (dk_at dksX24_holds_0 13 rfl rfl)
theorem dX24_holds_16 : decode cX24_holds 16 = .ok (.iconst 0, 1) := dk_3 (dk_at dksX24_holds_0 16 rfl rfl)
theorem dX24_holds_17 : decode cX24_holds 17 = .ok (.ireturn, 1) := dk_172 (dk_at dksX24_holds_0 17 rfl rfl)
theorem q169 : (Jvm.Cond.initialized "HeirsAtLaw$Not") ∈ lw_all := lw_g (lw_at lw_m1 45 rfl) rfl
theorem q1065 : (Jvm.Cond.selects "HeirsAtLaw$Not" ({ cls := "java/lang/Object", name := "getClass", desc := "()Ljava/lang/Class;" } : Jvm.MethodName) ({ cls := "java/lang/Object", name := "getClass", desc := "()Ljava/lang/Class;" } : Jvm.MethodName)) ∈ lw_all := lw_g (lw_at lw_m4 221 rfl) rfl
theorem q1869 : (Jvm.Cond.instantiable "HeirsAtLaw$Not" (1 : Nat)) ∈ lw_all := lw_g (lw_at lw_m8 65 rfl) rfl
theorem q1871 : (Jvm.Cond.instanceMethod ({ cls := "HeirsAtLaw$Not", name := "<init>", desc := "(LHeirsAtLaw$Cond;)V" } : Jvm.MethodName)) ∈ lw_all := lw_g (lw_at lw_m8 67 rfl) rfl
theorem q1872 : (Jvm.Cond.code ({ cls := "HeirsAtLaw$Not", name := "<init>", desc := "(LHeirsAtLaw$Cond;)V" } : Jvm.MethodName) prog_15_method_1_code (2 : Nat) (Option.none : Option Jvm.ClassFile.FieldType)) ∈ lw_all := lw_g (lw_at lw_m8 68 rfl) rfl
theorem q1873 : (Jvm.Cond.methodLinkNest "HeirsAtLaw$Not" (1 : Nat) ({ cls := "HeirsAtLaw$Cond", name := "<init>", desc := "()V" } : Jvm.MethodName) "HeirsAtLaw") ∈ lw_tbl := lw_at lw_m8 69 rfl
theorem q1877 : (Jvm.Cond.fieldLink "HeirsAtLaw$Not" (7 : Nat) "HeirsAtLaw$Not" "c" "LHeirsAtLaw$Cond;") ∈ lw_all := lw_g (lw_at lw_m8 73 rfl) rfl
theorem q1878 : (Jvm.Cond.laysFinal "HeirsAtLaw$Not" "HeirsAtLaw$Not" "c" "LHeirsAtLaw$Cond;") ∈ lw_all := lw_g (lw_at lw_m8 74 rfl) rfl
theorem q1879 : (Jvm.Cond.soleField "HeirsAtLaw$Not" "c") ∈ lw_all := lw_g (lw_at lw_m8 75 rfl) rfl
theorem q1880 : (Jvm.Cond.superclass "HeirsAtLaw$Not" "HeirsAtLaw$Cond") ∈ lw_all := lw_g (lw_at lw_m8 76 rfl) rfl
theorem q1961 : (Jvm.Cond.selects "HeirsAtLaw$Not" ({ cls := "HeirsAtLaw$Cond", name := "holds", desc := "(LHeirsAtLaw$Estate;I)Z" } : Jvm.MethodName) ({ cls := "HeirsAtLaw$Not", name := "holds", desc := "(LHeirsAtLaw$Estate;I)Z" } : Jvm.MethodName)) ∈ lw_all := lw_g (lw_at lw_m8 157 rfl) rfl
theorem q1962 : (Jvm.Cond.instanceMethod ({ cls := "HeirsAtLaw$Not", name := "holds", desc := "(LHeirsAtLaw$Estate;I)Z" } : Jvm.MethodName)) ∈ lw_all := lw_g (lw_at lw_m8 158 rfl) rfl
theorem q1963 : (Jvm.Cond.code ({ cls := "HeirsAtLaw$Not", name := "holds", desc := "(LHeirsAtLaw$Estate;I)Z" } : Jvm.MethodName) prog_15_method_2_code (3 : Nat) (Option.some Jvm.ClassFile.FieldType.boolean)) ∈ lw_all := lw_g (lw_at lw_m8 159 rfl) rfl
theorem q1964 : (Jvm.Cond.methodLink "HeirsAtLaw$Not" (13 : Nat) ({ cls := "HeirsAtLaw$Cond", name := "holds", desc := "(LHeirsAtLaw$Estate;I)Z" } : Jvm.MethodName)) ∈ lw_all := lw_g (lw_at lw_m8 160 rfl) rfl
theorem q2775 : (Jvm.Cond.castable "HeirsAtLaw$Not" "java/lang/Object") ∈ lw_tbl := lw_at lw_m12 11 rfl
theorem in_X24 : ∀ w ∈ wsX240, w ∈ lw_all := lw_in wsX240 [1878] (by decide +kernel) (by decide +kernel)
/-! HeirsAtLaw$Of -/
set_option maxRecDepth 100000
def RX25 : String := "HeirsAtLaw$Of"
def TX25 : u_T := fun k => match k with
  | 0 => ("HeirsAtLaw$Of", "kin", "Z", true)
  | _ => ("HeirsAtLaw$Of", "which", "I", true)
def tyX25 : Nat → FieldType := fun k => match k with
  | 0 => .boolean
  | _ => .int
abbrev wsX250 : List Cond := u_ws RX25 TX25 2
theorem nmX25 : ∀ a, a < 2 → ∀ b, b < 2 → a ≠ b → (TX25 a).2.1 ≠ (TX25 b).2.1 := by decide +kernel
theorem tyX25_ok : ∀ k, k < 2 → parseFieldDescriptor (TX25 k).2.2.1 = some (tyX25 k) := by decide +kernel
abbrev cX25_init : ByteArray := prog_16_method_1_code
def yX25_init : MethodName := ⟨RX25, "<init>", "(ZI)V"⟩
def dkwX25_init_0 : List UInt8 := [42, 183, 0, 3, 42, 27, 181, 0, 9, 42, 28, 181, 0, 15, 177]
abbrev dktX25_init_0 : List UInt8 := dkwX25_init_0 ++ []
theorem dksX25_init_0 : cX25_init.data.toList.drop 0 = dktX25_init_0 := by decide +kernel
theorem dX25_init_0 : decode cX25_init 0 = .ok (.aload_n 0, 1) := dk_42 (dk_at dksX25_init_0 0 rfl rfl)
theorem dX25_init_1 : decode cX25_init 1 = .ok (.invokespecial 3, 3) := dk_183 0 3 (dk_at dksX25_init_0 1 rfl rfl)
theorem dX25_init_4 : decode cX25_init 4 = .ok (.aload_n 0, 1) := dk_42 (dk_at dksX25_init_0 4 rfl rfl)
theorem dX25_init_5 : decode cX25_init 5 = .ok (.iload_n 1, 1) := dk_27 (dk_at dksX25_init_0 5 rfl rfl)
theorem dX25_init_6 : decode cX25_init 6 = .ok (.putfield 9, 3) := dk_181 0 9 (dk_at dksX25_init_0 6 rfl rfl)
theorem dX25_init_9 : decode cX25_init 9 = .ok (.aload_n 0, 1) := dk_42 (dk_at dksX25_init_0 9 rfl rfl)
theorem dX25_init_10 : decode cX25_init 10 = .ok (.iload_n 2, 1) := dk_28 (dk_at dksX25_init_0 10 rfl rfl)
theorem dX25_init_11 : decode cX25_init 11 = .ok (.putfield 15, 3) := dk_181 0 15 (dk_at dksX25_init_0 11 rfl rfl)
theorem dX25_init_14 : decode cX25_init 14 = .ok (.return_, 1) := dk_177 (dk_at dksX25_init_0 14 rfl rfl)
abbrev cX25_holds : ByteArray := prog_16_method_2_code
def yX25_holds : MethodName := ⟨RX25, "holds", "(LHeirsAtLaw$Estate;I)Z"⟩
def dkwX25_holds_1 : List UInt8 := [167, 0, 22, 3, 167, 0, 18, 43, 28, 182, 0, 31, 180, 0, 35, 42, 180, 0, 15, 184, 0, 40, 172]
abbrev dktX25_holds_1 : List UInt8 := dkwX25_holds_1 ++ []
def dkwX25_holds_0 : List UInt8 := [42, 180, 0, 9, 153, 0, 27, 43, 180, 0, 19, 28, 42, 180, 0, 15, 182, 0, 25, 2, 159, 0, 7, 4]
abbrev dktX25_holds_0 : List UInt8 := dkwX25_holds_0 ++ dktX25_holds_1
theorem dksX25_holds_0 : cX25_holds.data.toList.drop 0 = dktX25_holds_0 := by decide +kernel
theorem dksX25_holds_1 : cX25_holds.data.toList.drop 24 = dktX25_holds_1 := dk_seg dksX25_holds_0 24 rfl rfl
theorem dX25_holds_0 : decode cX25_holds 0 = .ok (.aload_n 0, 1) := dk_42 (dk_at dksX25_holds_0 0 rfl rfl)
theorem dX25_holds_1 : decode cX25_holds 1 = .ok (.getfield 9, 3) := dk_180 0 9 (dk_at dksX25_holds_0 1 rfl rfl)
theorem dX25_holds_4 : decode cX25_holds 4 = .ok (.ifCond .eq 27, 3) := dk_153 0 27 (dk_at dksX25_holds_0 4 rfl rfl)
theorem dX25_holds_7 : decode cX25_holds 7 = .ok (.aload_n 1, 1) := dk_43 (dk_at dksX25_holds_0 7 rfl rfl)
theorem dX25_holds_8 : decode cX25_holds 8 = .ok (.getfield 19, 3) := dk_180 0 19 (dk_at dksX25_holds_0 8 rfl rfl)
theorem dX25_holds_11 : decode cX25_holds 11 = .ok (.iload_n 2, 1) := dk_28 (dk_at dksX25_holds_0 11 rfl rfl)
theorem dX25_holds_12 : decode cX25_holds 12 = .ok (.aload_n 0, 1) := dk_42 (dk_at dksX25_holds_0 12 rfl rfl)
theorem dX25_holds_13 : decode cX25_holds 13 = .ok (.getfield 15, 3) := dk_180 0 15 (dk_at dksX25_holds_0 13 rfl rfl)
theorem dX25_holds_16 : decode cX25_holds 16 = .ok (.invokevirtual 25, 3) := dk_182 0 25 (dk_at dksX25_holds_0 16 rfl rfl)
theorem dX25_holds_19 : decode cX25_holds 19 = .ok (.iconst (-1), 1) := dk_2 (dk_at dksX25_holds_0 19 rfl rfl)
theorem dX25_holds_20 : decode cX25_holds 20 = .ok (.if_icmp .eq 7, 3) := dk_159 0 7 (dk_at dksX25_holds_0 20 rfl rfl)
theorem dX25_holds_23 : decode cX25_holds 23 = .ok (.iconst 1, 1) := dk_4 (dk_at dksX25_holds_0 23 rfl rfl)
theorem dX25_holds_24 : decode cX25_holds 24 = .ok (.goto 22, 3) := dk_167 0 22 (dk_at dksX25_holds_1 0 rfl rfl)
theorem dX25_holds_27 : decode cX25_holds 27 = .ok (.iconst 0, 1) := dk_3 (dk_at dksX25_holds_1 3 rfl rfl)
theorem dX25_holds_28 : decode cX25_holds 28 = .ok (.goto 18, 3) := dk_167 0 18 (dk_at dksX25_holds_1 4 rfl rfl)
theorem dX25_holds_31 : decode cX25_holds 31 = .ok (.aload_n 1, 1) := dk_43 (dk_at dksX25_holds_1 7 rfl rfl)
theorem dX25_holds_32 : decode cX25_holds 32 = .ok (.iload_n 2, 1) := dk_28 (dk_at dksX25_holds_1 8 rfl rfl)
theorem dX25_holds_33 : decode cX25_holds 33 = .ok (.invokevirtual 31, 3) := dk_182 0 31 (dk_at dksX25_holds_1 9 rfl rfl)
theorem dX25_holds_36 : decode cX25_holds 36 = .ok (.getfield 35, 3) := dk_180 0 35 (dk_at dksX25_holds_1 12 rfl rfl)
theorem dX25_holds_39 : decode cX25_holds 39 = .ok (.aload_n 0, 1) := dk_42 (dk_at dksX25_holds_1 15 rfl rfl)
theorem dX25_holds_40 : decode cX25_holds 40 = .ok (.getfield 15, 3) := dk_180 0 15 (dk_at dksX25_holds_1 16 rfl rfl)
theorem dX25_holds_43 : decode cX25_holds 43 = .ok (.invokestatic 40, 3) := dk_184 0 40 (dk_at dksX25_holds_1 19 rfl rfl)
theorem dX25_holds_46 : decode cX25_holds 46 = .ok (.ireturn, 1) := dk_172 (dk_at dksX25_holds_1 22 rfl rfl)
theorem q170 : (Jvm.Cond.initialized "HeirsAtLaw$Of") ∈ lw_all := lw_g (lw_at lw_m1 46 rfl) rfl
theorem q252 : (Jvm.Cond.fieldLinkNest "HeirsAtLaw$Of" (19 : Nat) "HeirsAtLaw$Estate" "f" "LHeirsAtLaw$Family;" "HeirsAtLaw") ∈ lw_tbl := lw_at lw_m1 128 rfl
theorem q998 : (Jvm.Cond.fieldLinkNest "HeirsAtLaw$Of" (35 : Nat) "HeirsAtLaw$Person" "parents" "I" "HeirsAtLaw") ∈ lw_tbl := lw_at lw_m4 154 rfl
theorem q1066 : (Jvm.Cond.selects "HeirsAtLaw$Of" ({ cls := "java/lang/Object", name := "getClass", desc := "()Ljava/lang/Class;" } : Jvm.MethodName) ({ cls := "java/lang/Object", name := "getClass", desc := "()Ljava/lang/Class;" } : Jvm.MethodName)) ∈ lw_all := lw_g (lw_at lw_m4 222 rfl) rfl
theorem q1882 : (Jvm.Cond.instantiable "HeirsAtLaw$Of" (2 : Nat)) ∈ lw_all := lw_g (lw_at lw_m8 78 rfl) rfl
theorem q1887 : (Jvm.Cond.instanceMethod ({ cls := "HeirsAtLaw$Of", name := "<init>", desc := "(ZI)V" } : Jvm.MethodName)) ∈ lw_all := lw_g (lw_at lw_m8 83 rfl) rfl
theorem q1888 : (Jvm.Cond.code ({ cls := "HeirsAtLaw$Of", name := "<init>", desc := "(ZI)V" } : Jvm.MethodName) prog_16_method_1_code (3 : Nat) (Option.none : Option Jvm.ClassFile.FieldType)) ∈ lw_all := lw_g (lw_at lw_m8 84 rfl) rfl
theorem q1889 : (Jvm.Cond.methodLinkNest "HeirsAtLaw$Of" (3 : Nat) ({ cls := "HeirsAtLaw$Cond", name := "<init>", desc := "()V" } : Jvm.MethodName) "HeirsAtLaw") ∈ lw_tbl := lw_at lw_m8 85 rfl
theorem q1890 : (Jvm.Cond.fieldLink "HeirsAtLaw$Of" (9 : Nat) "HeirsAtLaw$Of" "kin" "Z") ∈ lw_all := lw_g (lw_at lw_m8 86 rfl) rfl
theorem q1891 : (Jvm.Cond.fieldLink "HeirsAtLaw$Of" (15 : Nat) "HeirsAtLaw$Of" "which" "I") ∈ lw_all := lw_g (lw_at lw_m8 87 rfl) rfl
theorem q1892 : (Jvm.Cond.laysFinal "HeirsAtLaw$Of" "HeirsAtLaw$Of" "kin" "Z") ∈ lw_all := lw_g (lw_at lw_m8 88 rfl) rfl
theorem q1893 : (Jvm.Cond.soleField "HeirsAtLaw$Of" "kin") ∈ lw_all := lw_g (lw_at lw_m8 89 rfl) rfl
theorem q1894 : (Jvm.Cond.laysFinal "HeirsAtLaw$Of" "HeirsAtLaw$Of" "which" "I") ∈ lw_all := lw_g (lw_at lw_m8 90 rfl) rfl
theorem q1895 : (Jvm.Cond.soleField "HeirsAtLaw$Of" "which") ∈ lw_all := lw_g (lw_at lw_m8 91 rfl) rfl
theorem q1896 : (Jvm.Cond.superclass "HeirsAtLaw$Of" "HeirsAtLaw$Cond") ∈ lw_all := lw_g (lw_at lw_m8 92 rfl) rfl
theorem q1965 : (Jvm.Cond.instanceMethod ({ cls := "HeirsAtLaw$Of", name := "holds", desc := "(LHeirsAtLaw$Estate;I)Z" } : Jvm.MethodName)) ∈ lw_all := lw_g (lw_at lw_m8 161 rfl) rfl
theorem q1966 : (Jvm.Cond.code ({ cls := "HeirsAtLaw$Of", name := "holds", desc := "(LHeirsAtLaw$Estate;I)Z" } : Jvm.MethodName) prog_16_method_2_code (3 : Nat) (Option.some Jvm.ClassFile.FieldType.boolean)) ∈ lw_all := lw_g (lw_at lw_m8 162 rfl) rfl
theorem q1967 : (Jvm.Cond.methodLink "HeirsAtLaw$Of" (25 : Nat) ({ cls := "HeirsAtLaw$Family", name := "degree", desc := "(II)I" } : Jvm.MethodName)) ∈ lw_all := lw_g (lw_at lw_m8 163 rfl) rfl
theorem q1968 : (Jvm.Cond.methodLink "HeirsAtLaw$Of" (31 : Nat) ({ cls := "HeirsAtLaw$Estate", name := "person", desc := "(I)LHeirsAtLaw$Person;" } : Jvm.MethodName)) ∈ lw_all := lw_g (lw_at lw_m8 164 rfl) rfl
theorem q1969 : (Jvm.Cond.methodLinkNest "HeirsAtLaw$Of" (40 : Nat) ({ cls := "HeirsAtLaw", name := "isOf", desc := "(II)Z" } : Jvm.MethodName) "HeirsAtLaw") ∈ lw_tbl := lw_at lw_m8 165 rfl
theorem q1978 : (Jvm.Cond.selects "HeirsAtLaw$Of" ({ cls := "HeirsAtLaw$Cond", name := "holds", desc := "(LHeirsAtLaw$Estate;I)Z" } : Jvm.MethodName) ({ cls := "HeirsAtLaw$Of", name := "holds", desc := "(LHeirsAtLaw$Estate;I)Z" } : Jvm.MethodName)) ∈ lw_all := lw_g (lw_at lw_m8 174 rfl) rfl
theorem q2776 : (Jvm.Cond.castable "HeirsAtLaw$Of" "java/lang/Object") ∈ lw_tbl := lw_at lw_m12 12 rfl
theorem in_X25 : ∀ w ∈ wsX250, w ∈ lw_all := lw_in wsX250 [1892, 1894] (by decide +kernel) (by decide +kernel)
/-! HeirsAtLaw$IsSo -/
set_option maxRecDepth 100000
def RX26 : String := "HeirsAtLaw$IsSo"
def TX26 : u_T := fun k => match k with
  | _ => ("HeirsAtLaw$IsSo", "what", "I", true)
def tyX26 : Nat → FieldType := fun k => match k with
  | _ => .int
abbrev wsX260 : List Cond := u_ws RX26 TX26 1
theorem nmX26 : ∀ a, a < 1 → ∀ b, b < 1 → a ≠ b → (TX26 a).2.1 ≠ (TX26 b).2.1 := by decide +kernel
theorem tyX26_ok : ∀ k, k < 1 → parseFieldDescriptor (TX26 k).2.2.1 = some (tyX26 k) := by decide +kernel
abbrev cX26_init : ByteArray := prog_11_method_1_code
def yX26_init : MethodName := ⟨RX26, "<init>", "(I)V"⟩
def dkwX26_init_0 : List UInt8 := [42, 183, 0, 1, 42, 27, 181, 0, 7, 177]
abbrev dktX26_init_0 : List UInt8 := dkwX26_init_0 ++ []
theorem dksX26_init_0 : cX26_init.data.toList.drop 0 = dktX26_init_0 := by decide +kernel
theorem dX26_init_0 : decode cX26_init 0 = .ok (.aload_n 0, 1) := dk_42 (dk_at dksX26_init_0 0 rfl rfl)
theorem dX26_init_1 : decode cX26_init 1 = .ok (.invokespecial 1, 3) := dk_183 0 1 (dk_at dksX26_init_0 1 rfl rfl)
theorem dX26_init_4 : decode cX26_init 4 = .ok (.aload_n 0, 1) := dk_42 (dk_at dksX26_init_0 4 rfl rfl)
theorem dX26_init_5 : decode cX26_init 5 = .ok (.iload_n 1, 1) := dk_27 (dk_at dksX26_init_0 5 rfl rfl)
theorem dX26_init_6 : decode cX26_init 6 = .ok (.putfield 7, 3) := dk_181 0 7 (dk_at dksX26_init_0 6 rfl rfl)
theorem dX26_init_9 : decode cX26_init 9 = .ok (.return_, 1) := dk_177 (dk_at dksX26_init_0 9 rfl rfl)
abbrev cX26_holds : ByteArray := prog_11_method_2_code
def yX26_holds : MethodName := ⟨RX26, "holds", "(LHeirsAtLaw$Estate;I)Z"⟩
def dkwX26_holds_2 : List UInt8 := [180, 0, 31, 126, 154, 0, 7, 4, 167, 0, 4, 3, 172]
abbrev dktX26_holds_2 : List UInt8 := dkwX26_holds_2 ++ []
def dkwX26_holds_1 : List UInt8 := [180, 0, 7, 4, 160, 0, 11, 43, 28, 182, 0, 19, 167, 0, 24, 43, 28, 182, 0, 22, 180, 0, 26, 43]
abbrev dktX26_holds_1 : List UInt8 := dkwX26_holds_1 ++ dktX26_holds_2
def dkwX26_holds_0 : List UInt8 := [42, 180, 0, 7, 154, 0, 19, 43, 28, 182, 0, 13, 154, 0, 7, 4, 167, 0, 44, 3, 167, 0, 40, 42]
abbrev dktX26_holds_0 : List UInt8 := dkwX26_holds_0 ++ dktX26_holds_1
theorem dksX26_holds_0 : cX26_holds.data.toList.drop 0 = dktX26_holds_0 := by decide +kernel
theorem dksX26_holds_1 : cX26_holds.data.toList.drop 24 = dktX26_holds_1 := dk_seg dksX26_holds_0 24 rfl rfl
theorem dksX26_holds_2 : cX26_holds.data.toList.drop 48 = dktX26_holds_2 := dk_seg dksX26_holds_1 24 rfl rfl
theorem dX26_holds_0 : decode cX26_holds 0 = .ok (.aload_n 0, 1) := dk_42 (dk_at dksX26_holds_0 0 rfl rfl)
theorem dX26_holds_1 : decode cX26_holds 1 = .ok (.getfield 7, 3) := dk_180 0 7 (dk_at dksX26_holds_0 1 rfl rfl)
theorem dX26_holds_4 : decode cX26_holds 4 = .ok (.ifCond .ne 19, 3) := dk_154 0 19 (dk_at dksX26_holds_0 4 rfl rfl)
theorem dX26_holds_7 : decode cX26_holds 7 = .ok (.aload_n 1, 1) := dk_43 (dk_at dksX26_holds_0 7 rfl rfl)
theorem dX26_holds_8 : decode cX26_holds 8 = .ok (.iload_n 2, 1) := dk_28 (dk_at dksX26_holds_0 8 rfl rfl)
theorem dX26_holds_9 : decode cX26_holds 9 = .ok (.invokevirtual 13, 3) := dk_182 0 13 (dk_at dksX26_holds_0 9 rfl rfl)
theorem dX26_holds_12 : decode cX26_holds 12 = .ok (.ifCond .ne 7, 3) := dk_154 0 7 (dk_at dksX26_holds_0 12 rfl rfl)
theorem dX26_holds_15 : decode cX26_holds 15 = .ok (.iconst 1, 1) := dk_4 (dk_at dksX26_holds_0 15 rfl rfl)
theorem dX26_holds_16 : decode cX26_holds 16 = .ok (.goto 44, 3) := dk_167 0 44 (dk_at dksX26_holds_0 16 rfl rfl)
theorem dX26_holds_19 : decode cX26_holds 19 = .ok (.iconst 0, 1) := dk_3 (dk_at dksX26_holds_0 19 rfl rfl)
theorem dX26_holds_20 : decode cX26_holds 20 = .ok (.goto 40, 3) := dk_167 0 40 (dk_at dksX26_holds_0 20 rfl rfl)
theorem dX26_holds_23 : decode cX26_holds 23 = .ok (.aload_n 0, 1) := dk_42 (dk_at dksX26_holds_0 23 rfl rfl)
theorem dX26_holds_24 : decode cX26_holds 24 = .ok (.getfield 7, 3) := dk_180 0 7 (dk_at dksX26_holds_1 0 rfl rfl)
theorem dX26_holds_27 : decode cX26_holds 27 = .ok (.iconst 1, 1) := dk_4 (dk_at dksX26_holds_1 3 rfl rfl)
theorem dX26_holds_28 : decode cX26_holds 28 = .ok (.if_icmp .ne 11, 3) := dk_160 0 11 (dk_at dksX26_holds_1 4 rfl rfl)
theorem dX26_holds_31 : decode cX26_holds 31 = .ok (.aload_n 1, 1) := dk_43 (dk_at dksX26_holds_1 7 rfl rfl)
theorem dX26_holds_32 : decode cX26_holds 32 = .ok (.iload_n 2, 1) := dk_28 (dk_at dksX26_holds_1 8 rfl rfl)
theorem dX26_holds_33 : decode cX26_holds 33 = .ok (.invokevirtual 19, 3) := dk_182 0 19 (dk_at dksX26_holds_1 9 rfl rfl)
theorem dX26_holds_36 : decode cX26_holds 36 = .ok (.goto 24, 3) := dk_167 0 24 (dk_at dksX26_holds_1 12 rfl rfl)
theorem dX26_holds_39 : decode cX26_holds 39 = .ok (.aload_n 1, 1) := dk_43 (dk_at dksX26_holds_1 15 rfl rfl)
theorem dX26_holds_40 : decode cX26_holds 40 = .ok (.iload_n 2, 1) := dk_28 (dk_at dksX26_holds_1 16 rfl rfl)
theorem dX26_holds_41 : decode cX26_holds 41 = .ok (.invokevirtual 22, 3) := dk_182 0 22 (dk_at dksX26_holds_1 17 rfl rfl)
theorem dX26_holds_44 : decode cX26_holds 44 = .ok (.getfield 26, 3) := dk_180 0 26 (dk_at dksX26_holds_1 20 rfl rfl)
theorem dX26_holds_47 : decode cX26_holds 47 = .ok (.aload_n 1, 1) := dk_43 (dk_at dksX26_holds_1 23 rfl rfl)
theorem dX26_holds_48 : decode cX26_holds 48 = .ok (.getfield 31, 3) := dk_180 0 31 (dk_at dksX26_holds_2 0 rfl rfl)
theorem dX26_holds_51 : decode cX26_holds 51 = .ok (.iand, 1) := dk_126 (dk_at dksX26_holds_2 3 rfl rfl)
theorem dX26_holds_52 : decode cX26_holds 52 = .ok (.ifCond .ne 7, 3) := dk_154 0 7 (dk_at dksX26_holds_2 4 rfl rfl)
theorem dX26_holds_55 : decode cX26_holds 55 = .ok (.iconst 1, 1) := dk_4 (dk_at dksX26_holds_2 7 rfl rfl)
theorem dX26_holds_56 : decode cX26_holds 56 = .ok (.goto 4, 3) := dk_167 0 4 (dk_at dksX26_holds_2 8 rfl rfl)
theorem dX26_holds_59 : decode cX26_holds 59 = .ok (.iconst 0, 1) := dk_3 (dk_at dksX26_holds_2 11 rfl rfl)
theorem dX26_holds_60 : decode cX26_holds 60 = .ok (.ireturn, 1) := dk_172 (dk_at dksX26_holds_2 12 rfl rfl)
theorem q171 : (Jvm.Cond.initialized "HeirsAtLaw$IsSo") ∈ lw_all := lw_g (lw_at lw_m1 47 rfl) rfl
theorem q262 : (Jvm.Cond.fieldLinkNest "HeirsAtLaw$IsSo" (31 : Nat) "HeirsAtLaw$Estate" "living" "I" "HeirsAtLaw") ∈ lw_tbl := lw_at lw_m1 138 rfl
theorem q999 : (Jvm.Cond.fieldLinkNest "HeirsAtLaw$IsSo" (26 : Nat) "HeirsAtLaw$Person" "parents" "I" "HeirsAtLaw") ∈ lw_tbl := lw_at lw_m4 155 rfl
theorem q1061 : (Jvm.Cond.selects "HeirsAtLaw$IsSo" ({ cls := "java/lang/Object", name := "getClass", desc := "()Ljava/lang/Class;" } : Jvm.MethodName) ({ cls := "java/lang/Object", name := "getClass", desc := "()Ljava/lang/Class;" } : Jvm.MethodName)) ∈ lw_all := lw_g (lw_at lw_m4 217 rfl) rfl
theorem q1898 : (Jvm.Cond.instantiable "HeirsAtLaw$IsSo" (1 : Nat)) ∈ lw_all := lw_g (lw_at lw_m8 94 rfl) rfl
theorem q1900 : (Jvm.Cond.instanceMethod ({ cls := "HeirsAtLaw$IsSo", name := "<init>", desc := "(I)V" } : Jvm.MethodName)) ∈ lw_all := lw_g (lw_at lw_m8 96 rfl) rfl
theorem q1901 : (Jvm.Cond.code ({ cls := "HeirsAtLaw$IsSo", name := "<init>", desc := "(I)V" } : Jvm.MethodName) prog_11_method_1_code (2 : Nat) (Option.none : Option Jvm.ClassFile.FieldType)) ∈ lw_all := lw_g (lw_at lw_m8 97 rfl) rfl
theorem q1902 : (Jvm.Cond.methodLinkNest "HeirsAtLaw$IsSo" (1 : Nat) ({ cls := "HeirsAtLaw$Cond", name := "<init>", desc := "()V" } : Jvm.MethodName) "HeirsAtLaw") ∈ lw_tbl := lw_at lw_m8 98 rfl
theorem q1903 : (Jvm.Cond.fieldLink "HeirsAtLaw$IsSo" (7 : Nat) "HeirsAtLaw$IsSo" "what" "I") ∈ lw_all := lw_g (lw_at lw_m8 99 rfl) rfl
theorem q1904 : (Jvm.Cond.laysFinal "HeirsAtLaw$IsSo" "HeirsAtLaw$IsSo" "what" "I") ∈ lw_all := lw_g (lw_at lw_m8 100 rfl) rfl
theorem q1905 : (Jvm.Cond.soleField "HeirsAtLaw$IsSo" "what") ∈ lw_all := lw_g (lw_at lw_m8 101 rfl) rfl
theorem q1906 : (Jvm.Cond.superclass "HeirsAtLaw$IsSo" "HeirsAtLaw$Cond") ∈ lw_all := lw_g (lw_at lw_m8 102 rfl) rfl
theorem q1955 : (Jvm.Cond.selects "HeirsAtLaw$IsSo" ({ cls := "HeirsAtLaw$Cond", name := "holds", desc := "(LHeirsAtLaw$Estate;I)Z" } : Jvm.MethodName) ({ cls := "HeirsAtLaw$IsSo", name := "holds", desc := "(LHeirsAtLaw$Estate;I)Z" } : Jvm.MethodName)) ∈ lw_all := lw_g (lw_at lw_m8 151 rfl) rfl
theorem q1956 : (Jvm.Cond.instanceMethod ({ cls := "HeirsAtLaw$IsSo", name := "holds", desc := "(LHeirsAtLaw$Estate;I)Z" } : Jvm.MethodName)) ∈ lw_all := lw_g (lw_at lw_m8 152 rfl) rfl
theorem q1957 : (Jvm.Cond.code ({ cls := "HeirsAtLaw$IsSo", name := "holds", desc := "(LHeirsAtLaw$Estate;I)Z" } : Jvm.MethodName) prog_11_method_2_code (3 : Nat) (Option.some Jvm.ClassFile.FieldType.boolean)) ∈ lw_all := lw_g (lw_at lw_m8 153 rfl) rfl
theorem q1958 : (Jvm.Cond.methodLink "HeirsAtLaw$IsSo" (13 : Nat) ({ cls := "HeirsAtLaw$Estate", name := "lives", desc := "(I)Z" } : Jvm.MethodName)) ∈ lw_all := lw_g (lw_at lw_m8 154 rfl) rfl
theorem q1959 : (Jvm.Cond.methodLink "HeirsAtLaw$IsSo" (19 : Nat) ({ cls := "HeirsAtLaw$Estate", name := "isWed", desc := "(I)Z" } : Jvm.MethodName)) ∈ lw_all := lw_g (lw_at lw_m8 155 rfl) rfl
theorem q1960 : (Jvm.Cond.methodLink "HeirsAtLaw$IsSo" (22 : Nat) ({ cls := "HeirsAtLaw$Estate", name := "person", desc := "(I)LHeirsAtLaw$Person;" } : Jvm.MethodName)) ∈ lw_all := lw_g (lw_at lw_m8 156 rfl) rfl
theorem q2777 : (Jvm.Cond.castable "HeirsAtLaw$IsSo" "java/lang/Object") ∈ lw_tbl := lw_at lw_m12 13 rfl
theorem in_X26 : ∀ w ∈ wsX260, w ∈ lw_all := lw_in wsX260 [1904] (by decide +kernel) (by decide +kernel)
/-! HeirsAtLaw$Than -/
set_option maxRecDepth 100000
def RX27 : String := "HeirsAtLaw$Than"
def TX27 : u_T := fun k => match k with
  | 0 => ("HeirsAtLaw$Than", "what", "I", true)
  | 1 => ("HeirsAtLaw$Than", "sign", "I", true)
  | _ => ("HeirsAtLaw$Than", "number", "I", true)
def tyX27 : Nat → FieldType := fun k => match k with
  | 0 => .int
  | 1 => .int
  | _ => .int
abbrev wsX270 : List Cond := u_ws RX27 TX27 3
theorem nmX27 : ∀ a, a < 3 → ∀ b, b < 3 → a ≠ b → (TX27 a).2.1 ≠ (TX27 b).2.1 := by decide +kernel
theorem tyX27_ok : ∀ k, k < 3 → parseFieldDescriptor (TX27 k).2.2.1 = some (tyX27 k) := by decide +kernel
abbrev cX27_init : ByteArray := prog_25_method_1_code
def yX27_init : MethodName := ⟨RX27, "<init>", "(III)V"⟩
def dkwX27_init_0 : List UInt8 := [42, 183, 0, 1, 42, 27, 181, 0, 7, 42, 28, 181, 0, 13, 42, 29, 181, 0, 16, 177]
abbrev dktX27_init_0 : List UInt8 := dkwX27_init_0 ++ []
theorem dksX27_init_0 : cX27_init.data.toList.drop 0 = dktX27_init_0 := by decide +kernel
theorem dX27_init_0 : decode cX27_init 0 = .ok (.aload_n 0, 1) := dk_42 (dk_at dksX27_init_0 0 rfl rfl)
theorem dX27_init_1 : decode cX27_init 1 = .ok (.invokespecial 1, 3) := dk_183 0 1 (dk_at dksX27_init_0 1 rfl rfl)
theorem dX27_init_4 : decode cX27_init 4 = .ok (.aload_n 0, 1) := dk_42 (dk_at dksX27_init_0 4 rfl rfl)
theorem dX27_init_5 : decode cX27_init 5 = .ok (.iload_n 1, 1) := dk_27 (dk_at dksX27_init_0 5 rfl rfl)
theorem dX27_init_6 : decode cX27_init 6 = .ok (.putfield 7, 3) := dk_181 0 7 (dk_at dksX27_init_0 6 rfl rfl)
theorem dX27_init_9 : decode cX27_init 9 = .ok (.aload_n 0, 1) := dk_42 (dk_at dksX27_init_0 9 rfl rfl)
theorem dX27_init_10 : decode cX27_init 10 = .ok (.iload_n 2, 1) := dk_28 (dk_at dksX27_init_0 10 rfl rfl)
theorem dX27_init_11 : decode cX27_init 11 = .ok (.putfield 13, 3) := dk_181 0 13 (dk_at dksX27_init_0 11 rfl rfl)
theorem dX27_init_14 : decode cX27_init 14 = .ok (.aload_n 0, 1) := dk_42 (dk_at dksX27_init_0 14 rfl rfl)
theorem dX27_init_15 : decode cX27_init 15 = .ok (.iload_n 3, 1) := dk_29 (dk_at dksX27_init_0 15 rfl rfl)
theorem dX27_init_16 : decode cX27_init 16 = .ok (.putfield 16, 3) := dk_181 0 16 (dk_at dksX27_init_0 16 rfl rfl)
theorem dX27_init_19 : decode cX27_init 19 = .ok (.return_, 1) := dk_177 (dk_at dksX27_init_0 19 rfl rfl)
abbrev cX27_holds : ByteArray := prog_25_method_2_code
def yX27_holds : MethodName := ⟨RX27, "holds", "(LHeirsAtLaw$Estate;I)Z"⟩
def dkwX27_holds_5 : List UInt8 := [167, 0, 4, 3, 172]
abbrev dktX27_holds_5 : List UInt8 := dkwX27_holds_5 ++ []
def dkwX27_holds_4 : List UInt8 := [42, 180, 0, 16, 160, 0, 7, 4, 167, 0, 20, 3, 167, 0, 16, 29, 42, 180, 0, 16, 164, 0, 7, 4]
abbrev dktX27_holds_4 : List UInt8 := dkwX27_holds_4 ++ dktX27_holds_5
def dkwX27_holds_3 : List UInt8 := [180, 0, 16, 162, 0, 7, 4, 167, 0, 45, 3, 167, 0, 41, 42, 180, 0, 13, 16, 61, 160, 0, 19, 29]
abbrev dktX27_holds_3 : List UInt8 := dkwX27_holds_3 ++ dktX27_holds_4
def dkwX27_holds_2 : List UInt8 := [43, 28, 182, 0, 37, 184, 0, 41, 167, 0, 4, 28, 62, 42, 180, 0, 13, 16, 60, 160, 0, 19, 29, 42]
abbrev dktX27_holds_2 : List UInt8 := dkwX27_holds_2 ++ dktX27_holds_3
def dkwX27_holds_1 : List UInt8 := [43, 180, 0, 25, 43, 28, 182, 0, 28, 180, 0, 32, 100, 167, 0, 23, 42, 180, 0, 7, 5, 160, 0, 14]
abbrev dktX27_holds_1 : List UInt8 := dkwX27_holds_1 ++ dktX27_holds_2
def dkwX27_holds_0 : List UInt8 := [42, 180, 0, 7, 154, 0, 12, 43, 180, 0, 19, 28, 46, 167, 0, 47, 42, 180, 0, 7, 4, 160, 0, 19]
abbrev dktX27_holds_0 : List UInt8 := dkwX27_holds_0 ++ dktX27_holds_1
theorem dksX27_holds_0 : cX27_holds.data.toList.drop 0 = dktX27_holds_0 := by decide +kernel
theorem dksX27_holds_1 : cX27_holds.data.toList.drop 24 = dktX27_holds_1 := dk_seg dksX27_holds_0 24 rfl rfl
theorem dksX27_holds_2 : cX27_holds.data.toList.drop 48 = dktX27_holds_2 := dk_seg dksX27_holds_1 24 rfl rfl
theorem dksX27_holds_3 : cX27_holds.data.toList.drop 72 = dktX27_holds_3 := dk_seg dksX27_holds_2 24 rfl rfl
theorem dksX27_holds_4 : cX27_holds.data.toList.drop 96 = dktX27_holds_4 := dk_seg dksX27_holds_3 24 rfl rfl
theorem dksX27_holds_5 : cX27_holds.data.toList.drop 120 = dktX27_holds_5 := dk_seg dksX27_holds_4 24 rfl rfl
theorem dX27_holds_0 : decode cX27_holds 0 = .ok (.aload_n 0, 1) := dk_42 (dk_at dksX27_holds_0 0 rfl rfl)
theorem dX27_holds_1 : decode cX27_holds 1 = .ok (.getfield 7, 3) := dk_180 0 7 (dk_at dksX27_holds_0 1 rfl rfl)
theorem dX27_holds_4 : decode cX27_holds 4 = .ok (.ifCond .ne 12, 3) := dk_154 0 12 (dk_at dksX27_holds_0 4 rfl rfl)
theorem dX27_holds_7 : decode cX27_holds 7 = .ok (.aload_n 1, 1) := dk_43 (dk_at dksX27_holds_0 7 rfl rfl)
theorem dX27_holds_8 : decode cX27_holds 8 = .ok (.getfield 19, 3) := dk_180 0 19 (dk_at dksX27_holds_0 8 rfl rfl)
theorem dX27_holds_11 : decode cX27_holds 11 = .ok (.iload_n 2, 1) := dk_28 (dk_at dksX27_holds_0 11 rfl rfl)
theorem dX27_holds_12 : decode cX27_holds 12 = .ok (.iaload, 1) := dk_46 (dk_at dksX27_holds_0 12 rfl rfl)
theorem dX27_holds_13 : decode cX27_holds 13 = .ok (.goto 47, 3) := dk_167 0 47 (dk_at dksX27_holds_0 13 rfl rfl)
theorem dX27_holds_16 : decode cX27_holds 16 = .ok (.aload_n 0, 1) := dk_42 (dk_at dksX27_holds_0 16 rfl rfl)
theorem dX27_holds_17 : decode cX27_holds 17 = .ok (.getfield 7, 3) := dk_180 0 7 (dk_at dksX27_holds_0 17 rfl rfl)
theorem dX27_holds_20 : decode cX27_holds 20 = .ok (.iconst 1, 1) := dk_4 (dk_at dksX27_holds_0 20 rfl rfl)
theorem dX27_holds_21 : decode cX27_holds 21 = .ok (.if_icmp .ne 19, 3) := dk_160 0 19 (dk_at dksX27_holds_0 21 rfl rfl)
theorem dX27_holds_24 : decode cX27_holds 24 = .ok (.aload_n 1, 1) := dk_43 (dk_at dksX27_holds_1 0 rfl rfl)
theorem dX27_holds_25 : decode cX27_holds 25 = .ok (.getfield 25, 3) := dk_180 0 25 (dk_at dksX27_holds_1 1 rfl rfl)
theorem dX27_holds_28 : decode cX27_holds 28 = .ok (.aload_n 1, 1) := dk_43 (dk_at dksX27_holds_1 4 rfl rfl)
theorem dX27_holds_29 : decode cX27_holds 29 = .ok (.iload_n 2, 1) := dk_28 (dk_at dksX27_holds_1 5 rfl rfl)
theorem dX27_holds_30 : decode cX27_holds 30 = .ok (.invokevirtual 28, 3) := dk_182 0 28 (dk_at dksX27_holds_1 6 rfl rfl)
theorem dX27_holds_33 : decode cX27_holds 33 = .ok (.getfield 32, 3) := dk_180 0 32 (dk_at dksX27_holds_1 9 rfl rfl)
theorem dX27_holds_36 : decode cX27_holds 36 = .ok (.isub, 1) := dk_100 (dk_at dksX27_holds_1 12 rfl rfl)
theorem dX27_holds_37 : decode cX27_holds 37 = .ok (.goto 23, 3) := dk_167 0 23 (dk_at dksX27_holds_1 13 rfl rfl)
theorem dX27_holds_40 : decode cX27_holds 40 = .ok (.aload_n 0, 1) := dk_42 (dk_at dksX27_holds_1 16 rfl rfl)
theorem dX27_holds_41 : decode cX27_holds 41 = .ok (.getfield 7, 3) := dk_180 0 7 (dk_at dksX27_holds_1 17 rfl rfl)
theorem dX27_holds_44 : decode cX27_holds 44 = .ok (.iconst 2, 1) := dk_5 (dk_at dksX27_holds_1 20 rfl rfl)
theorem dX27_holds_45 : decode cX27_holds 45 = .ok (.if_icmp .ne 14, 3) := dk_160 0 14 (dk_at dksX27_holds_1 21 rfl rfl)
theorem dX27_holds_48 : decode cX27_holds 48 = .ok (.aload_n 1, 1) := dk_43 (dk_at dksX27_holds_2 0 rfl rfl)
theorem dX27_holds_49 : decode cX27_holds 49 = .ok (.iload_n 2, 1) := dk_28 (dk_at dksX27_holds_2 1 rfl rfl)
theorem dX27_holds_50 : decode cX27_holds 50 = .ok (.invokevirtual 37, 3) := dk_182 0 37 (dk_at dksX27_holds_2 2 rfl rfl)
theorem dX27_holds_53 : decode cX27_holds 53 = .ok (.invokestatic 41, 3) := dk_184 0 41 (dk_at dksX27_holds_2 5 rfl rfl)
theorem dX27_holds_56 : decode cX27_holds 56 = .ok (.goto 4, 3) := dk_167 0 4 (dk_at dksX27_holds_2 8 rfl rfl)
theorem dX27_holds_59 : decode cX27_holds 59 = .ok (.iload_n 2, 1) := dk_28 (dk_at dksX27_holds_2 11 rfl rfl)
theorem dX27_holds_60 : decode cX27_holds 60 = .ok (.istore_n 3, 1) := dk_62 (dk_at dksX27_holds_2 12 rfl rfl)
theorem dX27_holds_61 : decode cX27_holds 61 = .ok (.aload_n 0, 1) := dk_42 (dk_at dksX27_holds_2 13 rfl rfl)
theorem dX27_holds_62 : decode cX27_holds 62 = .ok (.getfield 13, 3) := dk_180 0 13 (dk_at dksX27_holds_2 14 rfl rfl)
theorem dX27_holds_65 : decode cX27_holds 65 = .ok (.bipush 60, 2) := dk_16 60 (dk_at dksX27_holds_2 17 rfl rfl)
theorem dX27_holds_67 : decode cX27_holds 67 = .ok (.if_icmp .ne 19, 3) := dk_160 0 19 (dk_at dksX27_holds_2 19 rfl rfl)
theorem dX27_holds_70 : decode cX27_holds 70 = .ok (.iload_n 3, 1) := dk_29 (dk_at dksX27_holds_2 22 rfl rfl)
theorem dX27_holds_71 : decode cX27_holds 71 = .ok (.aload_n 0, 1) := dk_42 (dk_at dksX27_holds_2 23 rfl rfl)
theorem dX27_holds_72 : decode cX27_holds 72 = .ok (.getfield 16, 3) := dk_180 0 16 (dk_at dksX27_holds_3 0 rfl rfl)
theorem dX27_holds_75 : decode cX27_holds 75 = .ok (.if_icmp .ge 7, 3) := dk_162 0 7 (dk_at dksX27_holds_3 3 rfl rfl)
theorem dX27_holds_78 : decode cX27_holds 78 = .ok (.iconst 1, 1) := dk_4 (dk_at dksX27_holds_3 6 rfl rfl)
theorem dX27_holds_79 : decode cX27_holds 79 = .ok (.goto 45, 3) := dk_167 0 45 (dk_at dksX27_holds_3 7 rfl rfl)
theorem dX27_holds_82 : decode cX27_holds 82 = .ok (.iconst 0, 1) := dk_3 (dk_at dksX27_holds_3 10 rfl rfl)
theorem dX27_holds_83 : decode cX27_holds 83 = .ok (.goto 41, 3) := dk_167 0 41 (dk_at dksX27_holds_3 11 rfl rfl)
theorem dX27_holds_86 : decode cX27_holds 86 = .ok (.aload_n 0, 1) := dk_42 (dk_at dksX27_holds_3 14 rfl rfl)
theorem dX27_holds_87 : decode cX27_holds 87 = .ok (.getfield 13, 3) := dk_180 0 13 (dk_at dksX27_holds_3 15 rfl rfl)
theorem dX27_holds_90 : decode cX27_holds 90 = .ok (.bipush 61, 2) := dk_16 61 (dk_at dksX27_holds_3 18 rfl rfl)
theorem dX27_holds_92 : decode cX27_holds 92 = .ok (.if_icmp .ne 19, 3) := dk_160 0 19 (dk_at dksX27_holds_3 20 rfl rfl)
theorem dX27_holds_95 : decode cX27_holds 95 = .ok (.iload_n 3, 1) := dk_29 (dk_at dksX27_holds_3 23 rfl rfl)
theorem dX27_holds_96 : decode cX27_holds 96 = .ok (.aload_n 0, 1) := dk_42 (dk_at dksX27_holds_4 0 rfl rfl)
theorem dX27_holds_97 : decode cX27_holds 97 = .ok (.getfield 16, 3) := dk_180 0 16 (dk_at dksX27_holds_4 1 rfl rfl)
theorem dX27_holds_100 : decode cX27_holds 100 = .ok (.if_icmp .ne 7, 3) := dk_160 0 7 (dk_at dksX27_holds_4 4 rfl rfl)
theorem dX27_holds_103 : decode cX27_holds 103 = .ok (.iconst 1, 1) := dk_4 (dk_at dksX27_holds_4 7 rfl rfl)
theorem dX27_holds_104 : decode cX27_holds 104 = .ok (.goto 20, 3) := dk_167 0 20 (dk_at dksX27_holds_4 8 rfl rfl)
theorem dX27_holds_107 : decode cX27_holds 107 = .ok (.iconst 0, 1) := dk_3 (dk_at dksX27_holds_4 11 rfl rfl)
theorem dX27_holds_108 : decode cX27_holds 108 = .ok (.goto 16, 3) := dk_167 0 16 (dk_at dksX27_holds_4 12 rfl rfl)
theorem dX27_holds_111 : decode cX27_holds 111 = .ok (.iload_n 3, 1) := dk_29 (dk_at dksX27_holds_4 15 rfl rfl)
theorem dX27_holds_112 : decode cX27_holds 112 = .ok (.aload_n 0, 1) := dk_42 (dk_at dksX27_holds_4 16 rfl rfl)
theorem dX27_holds_113 : decode cX27_holds 113 = .ok (.getfield 16, 3) := dk_180 0 16 (dk_at dksX27_holds_4 17 rfl rfl)
theorem dX27_holds_116 : decode cX27_holds 116 = .ok (.if_icmp .le 7, 3) := dk_164 0 7 (dk_at dksX27_holds_4 20 rfl rfl)
theorem dX27_holds_119 : decode cX27_holds 119 = .ok (.iconst 1, 1) := dk_4 (dk_at dksX27_holds_4 23 rfl rfl)
theorem dX27_holds_120 : decode cX27_holds 120 = .ok (.goto 4, 3) := dk_167 0 4 (dk_at dksX27_holds_5 0 rfl rfl)
theorem dX27_holds_123 : decode cX27_holds 123 = .ok (.iconst 0, 1) := dk_3 (dk_at dksX27_holds_5 3 rfl rfl)
theorem dX27_holds_124 : decode cX27_holds 124 = .ok (.ireturn, 1) := dk_172 (dk_at dksX27_holds_5 4 rfl rfl)
theorem q172 : (Jvm.Cond.initialized "HeirsAtLaw$Than") ∈ lw_all := lw_g (lw_at lw_m1 48 rfl) rfl
theorem q255 : (Jvm.Cond.fieldLinkNest "HeirsAtLaw$Than" (25 : Nat) "HeirsAtLaw$Estate" "year" "I" "HeirsAtLaw") ∈ lw_tbl := lw_at lw_m1 131 rfl
theorem q267 : (Jvm.Cond.fieldLinkNest "HeirsAtLaw$Than" (19 : Nat) "HeirsAtLaw$Estate" "coins" "[I" "HeirsAtLaw") ∈ lw_tbl := lw_at lw_m1 143 rfl
theorem q993 : (Jvm.Cond.fieldLinkNest "HeirsAtLaw$Than" (32 : Nat) "HeirsAtLaw$Person" "born" "I" "HeirsAtLaw") ∈ lw_tbl := lw_at lw_m4 149 rfl
theorem q1072 : (Jvm.Cond.selects "HeirsAtLaw$Than" ({ cls := "java/lang/Object", name := "getClass", desc := "()Ljava/lang/Class;" } : Jvm.MethodName) ({ cls := "java/lang/Object", name := "getClass", desc := "()Ljava/lang/Class;" } : Jvm.MethodName)) ∈ lw_all := lw_g (lw_at lw_m4 228 rfl) rfl
theorem q1912 : (Jvm.Cond.instantiable "HeirsAtLaw$Than" (3 : Nat)) ∈ lw_all := lw_g (lw_at lw_m8 108 rfl) rfl
theorem q1917 : (Jvm.Cond.instanceMethod ({ cls := "HeirsAtLaw$Than", name := "<init>", desc := "(III)V" } : Jvm.MethodName)) ∈ lw_all := lw_g (lw_at lw_m8 113 rfl) rfl
theorem q1918 : (Jvm.Cond.code ({ cls := "HeirsAtLaw$Than", name := "<init>", desc := "(III)V" } : Jvm.MethodName) prog_25_method_1_code (4 : Nat) (Option.none : Option Jvm.ClassFile.FieldType)) ∈ lw_all := lw_g (lw_at lw_m8 114 rfl) rfl
theorem q1919 : (Jvm.Cond.methodLinkNest "HeirsAtLaw$Than" (1 : Nat) ({ cls := "HeirsAtLaw$Cond", name := "<init>", desc := "()V" } : Jvm.MethodName) "HeirsAtLaw") ∈ lw_tbl := lw_at lw_m8 115 rfl
theorem q1920 : (Jvm.Cond.fieldLink "HeirsAtLaw$Than" (7 : Nat) "HeirsAtLaw$Than" "what" "I") ∈ lw_all := lw_g (lw_at lw_m8 116 rfl) rfl
theorem q1921 : (Jvm.Cond.fieldLink "HeirsAtLaw$Than" (13 : Nat) "HeirsAtLaw$Than" "sign" "I") ∈ lw_all := lw_g (lw_at lw_m8 117 rfl) rfl
theorem q1922 : (Jvm.Cond.fieldLink "HeirsAtLaw$Than" (16 : Nat) "HeirsAtLaw$Than" "number" "I") ∈ lw_all := lw_g (lw_at lw_m8 118 rfl) rfl
theorem q1923 : (Jvm.Cond.laysFinal "HeirsAtLaw$Than" "HeirsAtLaw$Than" "what" "I") ∈ lw_all := lw_g (lw_at lw_m8 119 rfl) rfl
theorem q1924 : (Jvm.Cond.soleField "HeirsAtLaw$Than" "what") ∈ lw_all := lw_g (lw_at lw_m8 120 rfl) rfl
theorem q1925 : (Jvm.Cond.laysFinal "HeirsAtLaw$Than" "HeirsAtLaw$Than" "sign" "I") ∈ lw_all := lw_g (lw_at lw_m8 121 rfl) rfl
theorem q1926 : (Jvm.Cond.soleField "HeirsAtLaw$Than" "sign") ∈ lw_all := lw_g (lw_at lw_m8 122 rfl) rfl
theorem q1927 : (Jvm.Cond.laysFinal "HeirsAtLaw$Than" "HeirsAtLaw$Than" "number" "I") ∈ lw_all := lw_g (lw_at lw_m8 123 rfl) rfl
theorem q1928 : (Jvm.Cond.soleField "HeirsAtLaw$Than" "number") ∈ lw_all := lw_g (lw_at lw_m8 124 rfl) rfl
theorem q1929 : (Jvm.Cond.superclass "HeirsAtLaw$Than" "HeirsAtLaw$Cond") ∈ lw_all := lw_g (lw_at lw_m8 125 rfl) rfl
theorem q1970 : (Jvm.Cond.instanceMethod ({ cls := "HeirsAtLaw$Than", name := "holds", desc := "(LHeirsAtLaw$Estate;I)Z" } : Jvm.MethodName)) ∈ lw_all := lw_g (lw_at lw_m8 166 rfl) rfl
theorem q1971 : (Jvm.Cond.code ({ cls := "HeirsAtLaw$Than", name := "holds", desc := "(LHeirsAtLaw$Estate;I)Z" } : Jvm.MethodName) prog_25_method_2_code (4 : Nat) (Option.some Jvm.ClassFile.FieldType.boolean)) ∈ lw_all := lw_g (lw_at lw_m8 167 rfl) rfl
theorem q1972 : (Jvm.Cond.methodLink "HeirsAtLaw$Than" (28 : Nat) ({ cls := "HeirsAtLaw$Estate", name := "person", desc := "(I)LHeirsAtLaw$Person;" } : Jvm.MethodName)) ∈ lw_all := lw_g (lw_at lw_m8 168 rfl) rfl
theorem q1973 : (Jvm.Cond.methodLink "HeirsAtLaw$Than" (37 : Nat) ({ cls := "HeirsAtLaw$Estate", name := "livingIssue", desc := "(I)I" } : Jvm.MethodName)) ∈ lw_all := lw_g (lw_at lw_m8 169 rfl) rfl
theorem q1974 : (Jvm.Cond.methodLinkNest "HeirsAtLaw$Than" (41 : Nat) ({ cls := "HeirsAtLaw", name := "many", desc := "(I)I" } : Jvm.MethodName) "HeirsAtLaw") ∈ lw_tbl := lw_at lw_m8 170 rfl
theorem q1979 : (Jvm.Cond.selects "HeirsAtLaw$Than" ({ cls := "HeirsAtLaw$Cond", name := "holds", desc := "(LHeirsAtLaw$Estate;I)Z" } : Jvm.MethodName) ({ cls := "HeirsAtLaw$Than", name := "holds", desc := "(LHeirsAtLaw$Estate;I)Z" } : Jvm.MethodName)) ∈ lw_all := lw_g (lw_at lw_m8 175 rfl) rfl
theorem q2778 : (Jvm.Cond.castable "HeirsAtLaw$Than" "java/lang/Object") ∈ lw_tbl := lw_at lw_m12 14 rfl
theorem in_X27 : ∀ w ∈ wsX270, w ∈ lw_all := lw_in wsX270 [1923, 1925, 1927] (by decide +kernel) (by decide +kernel)
/-! HeirsAtLaw$Two -/
set_option maxRecDepth 100000
def RX28 : String := "HeirsAtLaw$Two"
def TX28 : u_T := fun k => match k with
  | 0 => ("HeirsAtLaw$Two", "one", "LHeirsAtLaw$Cond;", true)
  | 1 => ("HeirsAtLaw$Two", "other", "LHeirsAtLaw$Cond;", true)
  | _ => ("HeirsAtLaw$Two", "both", "Z", true)
def tyX28 : Nat → FieldType := fun k => match k with
  | 0 => .object "HeirsAtLaw$Cond"
  | 1 => .object "HeirsAtLaw$Cond"
  | _ => .boolean
abbrev wsX280 : List Cond := u_ws RX28 TX28 3
theorem nmX28 : ∀ a, a < 3 → ∀ b, b < 3 → a ≠ b → (TX28 a).2.1 ≠ (TX28 b).2.1 := by decide +kernel
theorem tyX28_ok : ∀ k, k < 3 → parseFieldDescriptor (TX28 k).2.2.1 = some (tyX28 k) := by decide +kernel
abbrev cX28_init : ByteArray := prog_26_method_1_code
def yX28_init : MethodName := ⟨RX28, "<init>", "(LHeirsAtLaw$Cond;LHeirsAtLaw$Cond;Z)V"⟩
def dkwX28_init_0 : List UInt8 := [42, 183, 0, 1, 42, 43, 181, 0, 7, 42, 44, 181, 0, 13, 42, 29, 181, 0, 16, 177]
abbrev dktX28_init_0 : List UInt8 := dkwX28_init_0 ++ []
theorem dksX28_init_0 : cX28_init.data.toList.drop 0 = dktX28_init_0 := by decide +kernel
theorem dX28_init_0 : decode cX28_init 0 = .ok (.aload_n 0, 1) := dk_42 (dk_at dksX28_init_0 0 rfl rfl)
theorem dX28_init_1 : decode cX28_init 1 = .ok (.invokespecial 1, 3) := dk_183 0 1 (dk_at dksX28_init_0 1 rfl rfl)
theorem dX28_init_4 : decode cX28_init 4 = .ok (.aload_n 0, 1) := dk_42 (dk_at dksX28_init_0 4 rfl rfl)
theorem dX28_init_5 : decode cX28_init 5 = .ok (.aload_n 1, 1) := dk_43 (dk_at dksX28_init_0 5 rfl rfl)
theorem dX28_init_6 : decode cX28_init 6 = .ok (.putfield 7, 3) := dk_181 0 7 (dk_at dksX28_init_0 6 rfl rfl)
theorem dX28_init_9 : decode cX28_init 9 = .ok (.aload_n 0, 1) := dk_42 (dk_at dksX28_init_0 9 rfl rfl)
theorem dX28_init_10 : decode cX28_init 10 = .ok (.aload_n 2, 1) := dk_44 (dk_at dksX28_init_0 10 rfl rfl)
theorem dX28_init_11 : decode cX28_init 11 = .ok (.putfield 13, 3) := dk_181 0 13 (dk_at dksX28_init_0 11 rfl rfl)
theorem dX28_init_14 : decode cX28_init 14 = .ok (.aload_n 0, 1) := dk_42 (dk_at dksX28_init_0 14 rfl rfl)
theorem dX28_init_15 : decode cX28_init 15 = .ok (.iload_n 3, 1) := dk_29 (dk_at dksX28_init_0 15 rfl rfl)
theorem dX28_init_16 : decode cX28_init 16 = .ok (.putfield 16, 3) := dk_181 0 16 (dk_at dksX28_init_0 16 rfl rfl)
theorem dX28_init_19 : decode cX28_init 19 = .ok (.return_, 1) := dk_177 (dk_at dksX28_init_0 19 rfl rfl)
abbrev cX28_holds : ByteArray := prog_26_method_2_code
def yX28_holds : MethodName := ⟨RX28, "holds", "(LHeirsAtLaw$Estate;I)Z"⟩
def dkwX28_holds_2 : List UInt8 := [154, 0, 15, 42, 180, 0, 13, 43, 28, 182, 0, 20, 153, 0, 7, 4, 167, 0, 4, 3, 172]
abbrev dktX28_holds_2 : List UInt8 := dkwX28_holds_2 ++ []
def dkwX28_holds_1 : List UInt8 := [28, 182, 0, 20, 153, 0, 7, 4, 167, 0, 36, 3, 167, 0, 32, 42, 180, 0, 7, 43, 28, 182, 0, 20]
abbrev dktX28_holds_1 : List UInt8 := dkwX28_holds_1 ++ dktX28_holds_2
def dkwX28_holds_0 : List UInt8 := [42, 180, 0, 16, 153, 0, 35, 42, 180, 0, 7, 43, 28, 182, 0, 20, 153, 0, 19, 42, 180, 0, 13, 43]
abbrev dktX28_holds_0 : List UInt8 := dkwX28_holds_0 ++ dktX28_holds_1
theorem dksX28_holds_0 : cX28_holds.data.toList.drop 0 = dktX28_holds_0 := by decide +kernel
theorem dksX28_holds_1 : cX28_holds.data.toList.drop 24 = dktX28_holds_1 := dk_seg dksX28_holds_0 24 rfl rfl
theorem dksX28_holds_2 : cX28_holds.data.toList.drop 48 = dktX28_holds_2 := dk_seg dksX28_holds_1 24 rfl rfl
theorem dX28_holds_0 : decode cX28_holds 0 = .ok (.aload_n 0, 1) := dk_42 (dk_at dksX28_holds_0 0 rfl rfl)
theorem dX28_holds_1 : decode cX28_holds 1 = .ok (.getfield 16, 3) := dk_180 0 16 (dk_at dksX28_holds_0 1 rfl rfl)
theorem dX28_holds_4 : decode cX28_holds 4 = .ok (.ifCond .eq 35, 3) := dk_153 0 35 (dk_at dksX28_holds_0 4 rfl rfl)
theorem dX28_holds_7 : decode cX28_holds 7 = .ok (.aload_n 0, 1) := dk_42 (dk_at dksX28_holds_0 7 rfl rfl)
theorem dX28_holds_8 : decode cX28_holds 8 = .ok (.getfield 7, 3) := dk_180 0 7 (dk_at dksX28_holds_0 8 rfl rfl)
theorem dX28_holds_11 : decode cX28_holds 11 = .ok (.aload_n 1, 1) := dk_43 (dk_at dksX28_holds_0 11 rfl rfl)
theorem dX28_holds_12 : decode cX28_holds 12 = .ok (.iload_n 2, 1) := dk_28 (dk_at dksX28_holds_0 12 rfl rfl)
theorem dX28_holds_13 : decode cX28_holds 13 = .ok (.invokevirtual 20, 3) := dk_182 0 20 (dk_at dksX28_holds_0 13 rfl rfl)
theorem dX28_holds_16 : decode cX28_holds 16 = .ok (.ifCond .eq 19, 3) := dk_153 0 19 (dk_at dksX28_holds_0 16 rfl rfl)
theorem dX28_holds_19 : decode cX28_holds 19 = .ok (.aload_n 0, 1) := dk_42 (dk_at dksX28_holds_0 19 rfl rfl)
theorem dX28_holds_20 : decode cX28_holds 20 = .ok (.getfield 13, 3) := dk_180 0 13 (dk_at dksX28_holds_0 20 rfl rfl)
theorem dX28_holds_23 : decode cX28_holds 23 = .ok (.aload_n 1, 1) := dk_43 (dk_at dksX28_holds_0 23 rfl rfl)
theorem dX28_holds_24 : decode cX28_holds 24 = .ok (.iload_n 2, 1) := dk_28 (dk_at dksX28_holds_1 0 rfl rfl)
theorem dX28_holds_25 : decode cX28_holds 25 = .ok (.invokevirtual 20, 3) := dk_182 0 20 (dk_at dksX28_holds_1 1 rfl rfl)
theorem dX28_holds_28 : decode cX28_holds 28 = .ok (.ifCond .eq 7, 3) := dk_153 0 7 (dk_at dksX28_holds_1 4 rfl rfl)
theorem dX28_holds_31 : decode cX28_holds 31 = .ok (.iconst 1, 1) := dk_4 (dk_at dksX28_holds_1 7 rfl rfl)
theorem dX28_holds_32 : decode cX28_holds 32 = .ok (.goto 36, 3) := dk_167 0 36 (dk_at dksX28_holds_1 8 rfl rfl)
theorem dX28_holds_35 : decode cX28_holds 35 = .ok (.iconst 0, 1) := dk_3 (dk_at dksX28_holds_1 11 rfl rfl)
theorem dX28_holds_36 : decode cX28_holds 36 = .ok (.goto 32, 3) := dk_167 0 32 (dk_at dksX28_holds_1 12 rfl rfl)
theorem dX28_holds_39 : decode cX28_holds 39 = .ok (.aload_n 0, 1) := dk_42 (dk_at dksX28_holds_1 15 rfl rfl)
theorem dX28_holds_40 : decode cX28_holds 40 = .ok (.getfield 7, 3) := dk_180 0 7 (dk_at dksX28_holds_1 16 rfl rfl)
theorem dX28_holds_43 : decode cX28_holds 43 = .ok (.aload_n 1, 1) := dk_43 (dk_at dksX28_holds_1 19 rfl rfl)
theorem dX28_holds_44 : decode cX28_holds 44 = .ok (.iload_n 2, 1) := dk_28 (dk_at dksX28_holds_1 20 rfl rfl)
theorem dX28_holds_45 : decode cX28_holds 45 = .ok (.invokevirtual 20, 3) := dk_182 0 20 (dk_at dksX28_holds_1 21 rfl rfl)
theorem dX28_holds_48 : decode cX28_holds 48 = .ok (.ifCond .ne 15, 3) := dk_154 0 15 (dk_at dksX28_holds_2 0 rfl rfl)
theorem dX28_holds_51 : decode cX28_holds 51 = .ok (.aload_n 0, 1) := dk_42 (dk_at dksX28_holds_2 3 rfl rfl)
theorem dX28_holds_52 : decode cX28_holds 52 = .ok (.getfield 13, 3) := dk_180 0 13 (dk_at dksX28_holds_2 4 rfl rfl)
theorem dX28_holds_55 : decode cX28_holds 55 = .ok (.aload_n 1, 1) := dk_43 (dk_at dksX28_holds_2 7 rfl rfl)
theorem dX28_holds_56 : decode cX28_holds 56 = .ok (.iload_n 2, 1) := dk_28 (dk_at dksX28_holds_2 8 rfl rfl)
theorem dX28_holds_57 : decode cX28_holds 57 = .ok (.invokevirtual 20, 3) := dk_182 0 20 (dk_at dksX28_holds_2 9 rfl rfl)
theorem dX28_holds_60 : decode cX28_holds 60 = .ok (.ifCond .eq 7, 3) := dk_153 0 7 (dk_at dksX28_holds_2 12 rfl rfl)
theorem dX28_holds_63 : decode cX28_holds 63 = .ok (.iconst 1, 1) := dk_4 (dk_at dksX28_holds_2 15 rfl rfl)
theorem dX28_holds_64 : decode cX28_holds 64 = .ok (.goto 4, 3) := dk_167 0 4 (dk_at dksX28_holds_2 16 rfl rfl)
theorem dX28_holds_67 : decode cX28_holds 67 = .ok (.iconst 0, 1) := dk_3 (dk_at dksX28_holds_2 19 rfl rfl)
theorem dX28_holds_68 : decode cX28_holds 68 = .ok (.ireturn, 1) := dk_172 (dk_at dksX28_holds_2 20 rfl rfl)
theorem q173 : (Jvm.Cond.initialized "HeirsAtLaw$Two") ∈ lw_all := lw_g (lw_at lw_m1 49 rfl) rfl
theorem q1073 : (Jvm.Cond.selects "HeirsAtLaw$Two" ({ cls := "java/lang/Object", name := "getClass", desc := "()Ljava/lang/Class;" } : Jvm.MethodName) ({ cls := "java/lang/Object", name := "getClass", desc := "()Ljava/lang/Class;" } : Jvm.MethodName)) ∈ lw_all := lw_g (lw_at lw_m4 229 rfl) rfl
theorem q1932 : (Jvm.Cond.instantiable "HeirsAtLaw$Two" (3 : Nat)) ∈ lw_all := lw_g (lw_at lw_m8 128 rfl) rfl
theorem q1934 : (Jvm.Cond.instanceMethod ({ cls := "HeirsAtLaw$Two", name := "<init>", desc := "(LHeirsAtLaw$Cond;LHeirsAtLaw$Cond;Z)V" } : Jvm.MethodName)) ∈ lw_all := lw_g (lw_at lw_m8 130 rfl) rfl
theorem q1935 : (Jvm.Cond.code ({ cls := "HeirsAtLaw$Two", name := "<init>", desc := "(LHeirsAtLaw$Cond;LHeirsAtLaw$Cond;Z)V" } : Jvm.MethodName) prog_26_method_1_code (4 : Nat) (Option.none : Option Jvm.ClassFile.FieldType)) ∈ lw_all := lw_g (lw_at lw_m8 131 rfl) rfl
theorem q1936 : (Jvm.Cond.methodLinkNest "HeirsAtLaw$Two" (1 : Nat) ({ cls := "HeirsAtLaw$Cond", name := "<init>", desc := "()V" } : Jvm.MethodName) "HeirsAtLaw") ∈ lw_tbl := lw_at lw_m8 132 rfl
theorem q1937 : (Jvm.Cond.fieldLink "HeirsAtLaw$Two" (7 : Nat) "HeirsAtLaw$Two" "one" "LHeirsAtLaw$Cond;") ∈ lw_all := lw_g (lw_at lw_m8 133 rfl) rfl
theorem q1938 : (Jvm.Cond.fieldLink "HeirsAtLaw$Two" (13 : Nat) "HeirsAtLaw$Two" "other" "LHeirsAtLaw$Cond;") ∈ lw_all := lw_g (lw_at lw_m8 134 rfl) rfl
theorem q1939 : (Jvm.Cond.fieldLink "HeirsAtLaw$Two" (16 : Nat) "HeirsAtLaw$Two" "both" "Z") ∈ lw_all := lw_g (lw_at lw_m8 135 rfl) rfl
theorem q1940 : (Jvm.Cond.laysFinal "HeirsAtLaw$Two" "HeirsAtLaw$Two" "one" "LHeirsAtLaw$Cond;") ∈ lw_all := lw_g (lw_at lw_m8 136 rfl) rfl
theorem q1941 : (Jvm.Cond.soleField "HeirsAtLaw$Two" "one") ∈ lw_all := lw_g (lw_at lw_m8 137 rfl) rfl
theorem q1942 : (Jvm.Cond.laysFinal "HeirsAtLaw$Two" "HeirsAtLaw$Two" "other" "LHeirsAtLaw$Cond;") ∈ lw_all := lw_g (lw_at lw_m8 138 rfl) rfl
theorem q1943 : (Jvm.Cond.soleField "HeirsAtLaw$Two" "other") ∈ lw_all := lw_g (lw_at lw_m8 139 rfl) rfl
theorem q1944 : (Jvm.Cond.laysFinal "HeirsAtLaw$Two" "HeirsAtLaw$Two" "both" "Z") ∈ lw_all := lw_g (lw_at lw_m8 140 rfl) rfl
theorem q1945 : (Jvm.Cond.soleField "HeirsAtLaw$Two" "both") ∈ lw_all := lw_g (lw_at lw_m8 141 rfl) rfl
theorem q1946 : (Jvm.Cond.superclass "HeirsAtLaw$Two" "HeirsAtLaw$Cond") ∈ lw_all := lw_g (lw_at lw_m8 142 rfl) rfl
theorem q1975 : (Jvm.Cond.instanceMethod ({ cls := "HeirsAtLaw$Two", name := "holds", desc := "(LHeirsAtLaw$Estate;I)Z" } : Jvm.MethodName)) ∈ lw_all := lw_g (lw_at lw_m8 171 rfl) rfl
theorem q1976 : (Jvm.Cond.code ({ cls := "HeirsAtLaw$Two", name := "holds", desc := "(LHeirsAtLaw$Estate;I)Z" } : Jvm.MethodName) prog_26_method_2_code (3 : Nat) (Option.some Jvm.ClassFile.FieldType.boolean)) ∈ lw_all := lw_g (lw_at lw_m8 172 rfl) rfl
theorem q1977 : (Jvm.Cond.methodLink "HeirsAtLaw$Two" (20 : Nat) ({ cls := "HeirsAtLaw$Cond", name := "holds", desc := "(LHeirsAtLaw$Estate;I)Z" } : Jvm.MethodName)) ∈ lw_all := lw_g (lw_at lw_m8 173 rfl) rfl
theorem q1980 : (Jvm.Cond.selects "HeirsAtLaw$Two" ({ cls := "HeirsAtLaw$Cond", name := "holds", desc := "(LHeirsAtLaw$Estate;I)Z" } : Jvm.MethodName) ({ cls := "HeirsAtLaw$Two", name := "holds", desc := "(LHeirsAtLaw$Estate;I)Z" } : Jvm.MethodName)) ∈ lw_all := lw_g (lw_at lw_m8 176 rfl) rfl
theorem q2779 : (Jvm.Cond.castable "HeirsAtLaw$Two" "java/lang/Object") ∈ lw_tbl := lw_at lw_m12 15 rfl
theorem in_X28 : ∀ w ∈ wsX280, w ∈ lw_all := lw_in wsX280 [1940, 1942, 1944] (by decide +kernel) (by decide +kernel)
/-! HeirsAtLaw$Estate -/
set_option maxRecDepth 100000
def RX3 : String := "HeirsAtLaw$Estate"
def TX3 : u_T := fun k => match k with
  | 0 => ("HeirsAtLaw$Estate", "f", "LHeirsAtLaw$Family;", false)
  | 1 => ("HeirsAtLaw$Estate", "year", "I", false)
  | 2 => ("HeirsAtLaw$Estate", "crown", "I", false)
  | 3 => ("HeirsAtLaw$Estate", "deaths", "I", false)
  | 4 => ("HeirsAtLaw$Estate", "living", "I", false)
  | 5 => ("HeirsAtLaw$Estate", "wills", "I", false)
  | 6 => ("HeirsAtLaw$Estate", "coins", "[I", true)
  | 7 => ("HeirsAtLaw$Estate", "spouse", "[I", true)
  | 8 => ("HeirsAtLaw$Estate", "from", "[I", true)
  | 9 => ("HeirsAtLaw$Estate", "to", "[I", true)
  | 10 => ("HeirsAtLaw$Estate", "much", "[I", true)
  | _ => ("HeirsAtLaw$Estate", "seed", "I", false)
def tyX3 : Nat → FieldType := fun k => match k with
  | 0 => .object "HeirsAtLaw$Family"
  | 1 => .int
  | 2 => .int
  | 3 => .int
  | 4 => .int
  | 5 => .int
  | 6 => .array .int
  | 7 => .array .int
  | 8 => .array .int
  | 9 => .array .int
  | 10 => .array .int
  | _ => .int
abbrev wsX30 : List Cond := u_ws RX3 TX3 12
theorem nmX3 : ∀ a, a < 12 → ∀ b, b < 12 → a ≠ b → (TX3 a).2.1 ≠ (TX3 b).2.1 := by decide +kernel
theorem tyX3_ok : ∀ k, k < 12 → parseFieldDescriptor (TX3 k).2.2.1 = some (tyX3 k) := by decide +kernel
abbrev cX3_init : ByteArray := prog_6_method_1_code
def yX3_init : MethodName := ⟨RX3, "<init>", "()V"⟩
def dkwX3_init_1 : List UInt8 := [188, 10, 181, 0, 18, 42, 16, 12, 188, 10, 181, 0, 21, 42, 16, 12, 188, 10, 181, 0, 24, 177]
abbrev dktX3_init_1 : List UInt8 := dkwX3_init_1 ++ []
def dkwX3_init_0 : List UInt8 := [42, 183, 0, 3, 42, 16, 12, 188, 10, 181, 0, 9, 42, 16, 12, 188, 10, 181, 0, 15, 42, 16, 12]
abbrev dktX3_init_0 : List UInt8 := dkwX3_init_0 ++ dktX3_init_1
theorem dksX3_init_0 : cX3_init.data.toList.drop 0 = dktX3_init_0 := by decide +kernel
theorem dksX3_init_1 : cX3_init.data.toList.drop 23 = dktX3_init_1 := dk_seg dksX3_init_0 23 rfl rfl
theorem dX3_init_0 : decode cX3_init 0 = .ok (.aload_n 0, 1) := dk_42 (dk_at dksX3_init_0 0 rfl rfl)
theorem dX3_init_1 : decode cX3_init 1 = .ok (.invokespecial 3, 3) := dk_183 0 3 (dk_at dksX3_init_0 1 rfl rfl)
theorem dX3_init_4 : decode cX3_init 4 = .ok (.aload_n 0, 1) := dk_42 (dk_at dksX3_init_0 4 rfl rfl)
theorem dX3_init_5 : decode cX3_init 5 = .ok (.bipush 12, 2) := dk_16 12 (dk_at dksX3_init_0 5 rfl rfl)
theorem dX3_init_7 : decode cX3_init 7 = .ok (.newarray .int, 2) := dk_188_10 (dk_at dksX3_init_0 7 rfl rfl)
theorem dX3_init_9 : decode cX3_init 9 = .ok (.putfield 9, 3) := dk_181 0 9 (dk_at dksX3_init_0 9 rfl rfl)
theorem dX3_init_12 : decode cX3_init 12 = .ok (.aload_n 0, 1) := dk_42 (dk_at dksX3_init_0 12 rfl rfl)
theorem dX3_init_13 : decode cX3_init 13 = .ok (.bipush 12, 2) := dk_16 12 (dk_at dksX3_init_0 13 rfl rfl)
theorem dX3_init_15 : decode cX3_init 15 = .ok (.newarray .int, 2) := dk_188_10 (dk_at dksX3_init_0 15 rfl rfl)
theorem dX3_init_17 : decode cX3_init 17 = .ok (.putfield 15, 3) := dk_181 0 15 (dk_at dksX3_init_0 17 rfl rfl)
theorem dX3_init_20 : decode cX3_init 20 = .ok (.aload_n 0, 1) := dk_42 (dk_at dksX3_init_0 20 rfl rfl)
theorem dX3_init_21 : decode cX3_init 21 = .ok (.bipush 12, 2) := dk_16 12 (dk_at dksX3_init_0 21 rfl rfl)
theorem dX3_init_23 : decode cX3_init 23 = .ok (.newarray .int, 2) := dk_188_10 (dk_at dksX3_init_1 0 rfl rfl)
theorem dX3_init_25 : decode cX3_init 25 = .ok (.putfield 18, 3) := dk_181 0 18 (dk_at dksX3_init_1 2 rfl rfl)
theorem dX3_init_28 : decode cX3_init 28 = .ok (.aload_n 0, 1) := dk_42 (dk_at dksX3_init_1 5 rfl rfl)
theorem dX3_init_29 : decode cX3_init 29 = .ok (.bipush 12, 2) := dk_16 12 (dk_at dksX3_init_1 6 rfl rfl)
theorem dX3_init_31 : decode cX3_init 31 = .ok (.newarray .int, 2) := dk_188_10 (dk_at dksX3_init_1 8 rfl rfl)
theorem dX3_init_33 : decode cX3_init 33 = .ok (.putfield 21, 3) := dk_181 0 21 (dk_at dksX3_init_1 10 rfl rfl)
theorem dX3_init_36 : decode cX3_init 36 = .ok (.aload_n 0, 1) := dk_42 (dk_at dksX3_init_1 13 rfl rfl)
theorem dX3_init_37 : decode cX3_init 37 = .ok (.bipush 12, 2) := dk_16 12 (dk_at dksX3_init_1 14 rfl rfl)
theorem dX3_init_39 : decode cX3_init 39 = .ok (.newarray .int, 2) := dk_188_10 (dk_at dksX3_init_1 16 rfl rfl)
theorem dX3_init_41 : decode cX3_init 41 = .ok (.putfield 24, 3) := dk_181 0 24 (dk_at dksX3_init_1 18 rfl rfl)
theorem dX3_init_44 : decode cX3_init 44 = .ok (.return_, 1) := dk_177 (dk_at dksX3_init_1 21 rfl rfl)
abbrev cX3_begin : ByteArray := prog_6_method_2_code
def yX3_begin : MethodName := ⟨RX3, "begin", "(LHeirsAtLaw$Family;)LHeirsAtLaw$Estate;"⟩
def dkwX3_begin_6 : List UInt8 := [182, 0, 95, 167, 255, 221, 42, 176]
abbrev dktX3_begin_6 : List UInt8 := dkwX3_begin_6 ++ []
def dkwX3_begin_5 : List UInt8 := [185, 0, 84, 1, 0, 192, 0, 88, 78, 42, 45, 180, 0, 90, 45, 180, 0, 92, 45, 180, 0, 94]
abbrev dktX3_begin_5 : List UInt8 := dkwX3_begin_5 ++ dktX3_begin_6
def dkwX3_begin_4 : List UInt8 := [167, 255, 217, 42, 180, 0, 27, 180, 0, 67, 182, 0, 72, 77, 44, 185, 0, 78, 1, 0, 153, 0, 32, 44]
abbrev dktX3_begin_4 : List UInt8 := dkwX3_begin_4 ++ dktX3_begin_5
def dkwX3_begin_3 : List UInt8 := [182, 0, 57, 180, 0, 61, 79, 42, 180, 0, 15, 28, 42, 28, 182, 0, 57, 180, 0, 65, 79, 132, 2, 1]
abbrev dktX3_begin_3 : List UInt8 := dkwX3_begin_3 ++ dktX3_begin_4
def dkwX3_begin_2 : List UInt8 := [180, 0, 15, 2, 184, 0, 51, 3, 61, 28, 42, 182, 0, 41, 162, 0, 37, 42, 180, 0, 9, 28, 42, 28]
abbrev dktX3_begin_2 : List UInt8 := dkwX3_begin_2 ++ dktX3_begin_3
def dkwX3_begin_1 : List UInt8 := [182, 0, 41, 120, 4, 100, 181, 0, 45, 42, 3, 181, 0, 48, 42, 180, 0, 9, 3, 184, 0, 51, 42]
abbrev dktX3_begin_1 : List UInt8 := dkwX3_begin_1 ++ dktX3_begin_2
def dkwX3_begin_0 : List UInt8 := [42, 43, 181, 0, 27, 42, 16, 100, 181, 0, 31, 42, 3, 181, 0, 35, 42, 3, 181, 0, 38, 42, 4, 42]
abbrev dktX3_begin_0 : List UInt8 := dkwX3_begin_0 ++ dktX3_begin_1
theorem dksX3_begin_0 : cX3_begin.data.toList.drop 0 = dktX3_begin_0 := by decide +kernel
theorem dksX3_begin_1 : cX3_begin.data.toList.drop 24 = dktX3_begin_1 := dk_seg dksX3_begin_0 24 rfl rfl
theorem dksX3_begin_2 : cX3_begin.data.toList.drop 47 = dktX3_begin_2 := dk_seg dksX3_begin_1 23 rfl rfl
theorem dksX3_begin_3 : cX3_begin.data.toList.drop 71 = dktX3_begin_3 := dk_seg dksX3_begin_2 24 rfl rfl
theorem dksX3_begin_4 : cX3_begin.data.toList.drop 95 = dktX3_begin_4 := dk_seg dksX3_begin_3 24 rfl rfl
theorem dksX3_begin_5 : cX3_begin.data.toList.drop 119 = dktX3_begin_5 := dk_seg dksX3_begin_4 24 rfl rfl
theorem dksX3_begin_6 : cX3_begin.data.toList.drop 141 = dktX3_begin_6 := dk_seg dksX3_begin_5 22 rfl rfl
theorem dX3_begin_0 : decode cX3_begin 0 = .ok (.aload_n 0, 1) := dk_42 (dk_at dksX3_begin_0 0 rfl rfl)
theorem dX3_begin_1 : decode cX3_begin 1 = .ok (.aload_n 1, 1) := dk_43 (dk_at dksX3_begin_0 1 rfl rfl)
theorem dX3_begin_2 : decode cX3_begin 2 = .ok (.putfield 27, 3) := dk_181 0 27 (dk_at dksX3_begin_0 2 rfl rfl)
theorem dX3_begin_5 : decode cX3_begin 5 = .ok (.aload_n 0, 1) := dk_42 (dk_at dksX3_begin_0 5 rfl rfl)
theorem dX3_begin_6 : decode cX3_begin 6 = .ok (.bipush 100, 2) := dk_16 100 (dk_at dksX3_begin_0 6 rfl rfl)
theorem dX3_begin_8 : decode cX3_begin 8 = .ok (.putfield 31, 3) := dk_181 0 31 (dk_at dksX3_begin_0 8 rfl rfl)
theorem dX3_begin_11 : decode cX3_begin 11 = .ok (.aload_n 0, 1) := dk_42 (dk_at dksX3_begin_0 11 rfl rfl)
theorem dX3_begin_12 : decode cX3_begin 12 = .ok (.iconst 0, 1) := dk_3 (dk_at dksX3_begin_0 12 rfl rfl)
theorem dX3_begin_13 : decode cX3_begin 13 = .ok (.putfield 35, 3) := dk_181 0 35 (dk_at dksX3_begin_0 13 rfl rfl)
theorem dX3_begin_16 : decode cX3_begin 16 = .ok (.aload_n 0, 1) := dk_42 (dk_at dksX3_begin_0 16 rfl rfl)
theorem dX3_begin_17 : decode cX3_begin 17 = .ok (.iconst 0, 1) := dk_3 (dk_at dksX3_begin_0 17 rfl rfl)
theorem dX3_begin_18 : decode cX3_begin 18 = .ok (.putfield 38, 3) := dk_181 0 38 (dk_at dksX3_begin_0 18 rfl rfl)
theorem dX3_begin_21 : decode cX3_begin 21 = .ok (.aload_n 0, 1) := dk_42 (dk_at dksX3_begin_0 21 rfl rfl)
theorem dX3_begin_22 : decode cX3_begin 22 = .ok (.iconst 1, 1) := dk_4 (dk_at dksX3_begin_0 22 rfl rfl)
theorem dX3_begin_23 : decode cX3_begin 23 = .ok (.aload_n 0, 1) := dk_42 (dk_at dksX3_begin_0 23 rfl rfl)
theorem dX3_begin_24 : decode cX3_begin 24 = .ok (.invokevirtual 41, 3) := dk_182 0 41 (dk_at dksX3_begin_1 0 rfl rfl)
theorem dX3_begin_27 : decode cX3_begin 27 = .ok (.ishl, 1) := dk_120 (dk_at dksX3_begin_1 3 rfl rfl)
theorem dX3_begin_28 : decode cX3_begin 28 = .ok (.iconst 1, 1) := dk_4 (dk_at dksX3_begin_1 4 rfl rfl)
theorem dX3_begin_29 : decode cX3_begin 29 = .ok (.isub, 1) := dk_100 (dk_at dksX3_begin_1 5 rfl rfl)
theorem dX3_begin_30 : decode cX3_begin 30 = .ok (.putfield 45, 3) := dk_181 0 45 (dk_at dksX3_begin_1 6 rfl rfl)
theorem dX3_begin_33 : decode cX3_begin 33 = .ok (.aload_n 0, 1) := dk_42 (dk_at dksX3_begin_1 9 rfl rfl)
theorem dX3_begin_34 : decode cX3_begin 34 = .ok (.iconst 0, 1) := dk_3 (dk_at dksX3_begin_1 10 rfl rfl)
theorem dX3_begin_35 : decode cX3_begin 35 = .ok (.putfield 48, 3) := dk_181 0 48 (dk_at dksX3_begin_1 11 rfl rfl)
theorem dX3_begin_38 : decode cX3_begin 38 = .ok (.aload_n 0, 1) := dk_42 (dk_at dksX3_begin_1 14 rfl rfl)
theorem dX3_begin_39 : decode cX3_begin 39 = .ok (.getfield 9, 3) := dk_180 0 9 (dk_at dksX3_begin_1 15 rfl rfl)
theorem dX3_begin_42 : decode cX3_begin 42 = .ok (.iconst 0, 1) := dk_3 (dk_at dksX3_begin_1 18 rfl rfl)
theorem dX3_begin_43 : decode cX3_begin 43 = .ok (.invokestatic 51, 3) := dk_184 0 51 (dk_at dksX3_begin_1 19 rfl rfl)
theorem dX3_begin_46 : decode cX3_begin 46 = .ok (.aload_n 0, 1) := dk_42 (dk_at dksX3_begin_1 22 rfl rfl)
theorem dX3_begin_47 : decode cX3_begin 47 = .ok (.getfield 15, 3) := dk_180 0 15 (dk_at dksX3_begin_2 0 rfl rfl)
theorem dX3_begin_50 : decode cX3_begin 50 = .ok (.iconst (-1), 1) := dk_2 (dk_at dksX3_begin_2 3 rfl rfl)
theorem dX3_begin_51 : decode cX3_begin 51 = .ok (.invokestatic 51, 3) := dk_184 0 51 (dk_at dksX3_begin_2 4 rfl rfl)
theorem dX3_begin_54 : decode cX3_begin 54 = .ok (.iconst 0, 1) := dk_3 (dk_at dksX3_begin_2 7 rfl rfl)
theorem dX3_begin_55 : decode cX3_begin 55 = .ok (.istore_n 2, 1) := dk_61 (dk_at dksX3_begin_2 8 rfl rfl)
theorem dX3_begin_56 : decode cX3_begin 56 = .ok (.iload_n 2, 1) := dk_28 (dk_at dksX3_begin_2 9 rfl rfl)
theorem dX3_begin_57 : decode cX3_begin 57 = .ok (.aload_n 0, 1) := dk_42 (dk_at dksX3_begin_2 10 rfl rfl)
theorem dX3_begin_58 : decode cX3_begin 58 = .ok (.invokevirtual 41, 3) := dk_182 0 41 (dk_at dksX3_begin_2 11 rfl rfl)
theorem dX3_begin_61 : decode cX3_begin 61 = .ok (.if_icmp .ge 37, 3) := dk_162 0 37 (dk_at dksX3_begin_2 14 rfl rfl)
theorem dX3_begin_64 : decode cX3_begin 64 = .ok (.aload_n 0, 1) := dk_42 (dk_at dksX3_begin_2 17 rfl rfl)
theorem dX3_begin_65 : decode cX3_begin 65 = .ok (.getfield 9, 3) := dk_180 0 9 (dk_at dksX3_begin_2 18 rfl rfl)
theorem dX3_begin_68 : decode cX3_begin 68 = .ok (.iload_n 2, 1) := dk_28 (dk_at dksX3_begin_2 21 rfl rfl)
theorem dX3_begin_69 : decode cX3_begin 69 = .ok (.aload_n 0, 1) := dk_42 (dk_at dksX3_begin_2 22 rfl rfl)
theorem dX3_begin_70 : decode cX3_begin 70 = .ok (.iload_n 2, 1) := dk_28 (dk_at dksX3_begin_2 23 rfl rfl)
theorem dX3_begin_71 : decode cX3_begin 71 = .ok (.invokevirtual 57, 3) := dk_182 0 57 (dk_at dksX3_begin_3 0 rfl rfl)
theorem dX3_begin_74 : decode cX3_begin 74 = .ok (.getfield 61, 3) := dk_180 0 61 (dk_at dksX3_begin_3 3 rfl rfl)
theorem dX3_begin_77 : decode cX3_begin 77 = .ok (.iastore, 1) := dk_79 (dk_at dksX3_begin_3 6 rfl rfl)
theorem dX3_begin_78 : decode cX3_begin 78 = .ok (.aload_n 0, 1) := dk_42 (dk_at dksX3_begin_3 7 rfl rfl)
theorem dX3_begin_79 : decode cX3_begin 79 = .ok (.getfield 15, 3) := dk_180 0 15 (dk_at dksX3_begin_3 8 rfl rfl)
theorem dX3_begin_82 : decode cX3_begin 82 = .ok (.iload_n 2, 1) := dk_28 (dk_at dksX3_begin_3 11 rfl rfl)
theorem dX3_begin_83 : decode cX3_begin 83 = .ok (.aload_n 0, 1) := dk_42 (dk_at dksX3_begin_3 12 rfl rfl)
theorem dX3_begin_84 : decode cX3_begin 84 = .ok (.iload_n 2, 1) := dk_28 (dk_at dksX3_begin_3 13 rfl rfl)
theorem dX3_begin_85 : decode cX3_begin 85 = .ok (.invokevirtual 57, 3) := dk_182 0 57 (dk_at dksX3_begin_3 14 rfl rfl)
theorem dX3_begin_88 : decode cX3_begin 88 = .ok (.getfield 65, 3) := dk_180 0 65 (dk_at dksX3_begin_3 17 rfl rfl)
theorem dX3_begin_91 : decode cX3_begin 91 = .ok (.iastore, 1) := dk_79 (dk_at dksX3_begin_3 20 rfl rfl)
theorem dX3_begin_92 : decode cX3_begin 92 = .ok (.iinc 2 1, 3) := dk_132 2 1 (dk_at dksX3_begin_3 21 rfl rfl)
theorem dX3_begin_95 : decode cX3_begin 95 = .ok (.goto (-39), 3) := dk_167 255 217 (dk_at dksX3_begin_4 0 rfl rfl)
theorem dX3_begin_98 : decode cX3_begin 98 = .ok (.aload_n 0, 1) := dk_42 (dk_at dksX3_begin_4 3 rfl rfl)
theorem dX3_begin_99 : decode cX3_begin 99 = .ok (.getfield 27, 3) := dk_180 0 27 (dk_at dksX3_begin_4 4 rfl rfl)
theorem dX3_begin_102 : decode cX3_begin 102 = .ok (.getfield 67, 3) := dk_180 0 67 (dk_at dksX3_begin_4 7 rfl rfl)
theorem dX3_begin_105 : decode cX3_begin 105 = .ok (.invokevirtual 72, 3) := dk_182 0 72 (dk_at dksX3_begin_4 10 rfl rfl)
theorem dX3_begin_108 : decode cX3_begin 108 = .ok (.astore_n 2, 1) := dk_77 (dk_at dksX3_begin_4 13 rfl rfl)
theorem dX3_begin_109 : decode cX3_begin 109 = .ok (.aload_n 2, 1) := dk_44 (dk_at dksX3_begin_4 14 rfl rfl)
theorem dX3_begin_110 : decode cX3_begin 110 = .ok (.invokeinterface 78 1, 5) := by decide +kernel
theorem dX3_begin_115 : decode cX3_begin 115 = .ok (.ifCond .eq 32, 3) := dk_153 0 32 (dk_at dksX3_begin_4 20 rfl rfl)
theorem dX3_begin_118 : decode cX3_begin 118 = .ok (.aload_n 2, 1) := dk_44 (dk_at dksX3_begin_4 23 rfl rfl)
theorem dX3_begin_119 : decode cX3_begin 119 = .ok (.invokeinterface 84 1, 5) := by decide +kernel
theorem dX3_begin_124 : decode cX3_begin 124 = .ok (.checkcast 88, 3) := dk_192 0 88 (dk_at dksX3_begin_5 5 rfl rfl)
theorem dX3_begin_127 : decode cX3_begin 127 = .ok (.astore_n 3, 1) := dk_78 (dk_at dksX3_begin_5 8 rfl rfl)
theorem dX3_begin_128 : decode cX3_begin 128 = .ok (.aload_n 0, 1) := dk_42 (dk_at dksX3_begin_5 9 rfl rfl)
theorem dX3_begin_129 : decode cX3_begin 129 = .ok (.aload_n 3, 1) := dk_45 (dk_at dksX3_begin_5 10 rfl rfl)
theorem dX3_begin_130 : decode cX3_begin 130 = .ok (.getfield 90, 3) := dk_180 0 90 (dk_at dksX3_begin_5 11 rfl rfl)
theorem dX3_begin_133 : decode cX3_begin 133 = .ok (.aload_n 3, 1) := dk_45 (dk_at dksX3_begin_5 14 rfl rfl)
theorem dX3_begin_134 : decode cX3_begin 134 = .ok (.getfield 92, 3) := dk_180 0 92 (dk_at dksX3_begin_5 15 rfl rfl)
theorem dX3_begin_137 : decode cX3_begin 137 = .ok (.aload_n 3, 1) := dk_45 (dk_at dksX3_begin_5 18 rfl rfl)
theorem dX3_begin_138 : decode cX3_begin 138 = .ok (.getfield 94, 3) := dk_180 0 94 (dk_at dksX3_begin_5 19 rfl rfl)
theorem dX3_begin_141 : decode cX3_begin 141 = .ok (.invokevirtual 95, 3) := dk_182 0 95 (dk_at dksX3_begin_6 0 rfl rfl)
theorem dX3_begin_144 : decode cX3_begin 144 = .ok (.goto (-35), 3) := dk_167 255 221 (dk_at dksX3_begin_6 3 rfl rfl)
theorem dX3_begin_147 : decode cX3_begin 147 = .ok (.aload_n 0, 1) := dk_42 (dk_at dksX3_begin_6 6 rfl rfl)
theorem dX3_begin_148 : decode cX3_begin 148 = .ok (.areturn, 1) := dk_176 (dk_at dksX3_begin_6 7 rfl rfl)
abbrev cX3_persons : ByteArray := prog_6_method_6_code
def yX3_persons : MethodName := ⟨RX3, "persons", "()I"⟩
def dkwX3_persons_0 : List UInt8 := [42, 180, 0, 27, 180, 0, 109, 182, 0, 111, 172]
abbrev dktX3_persons_0 : List UInt8 := dkwX3_persons_0 ++ []
theorem dksX3_persons_0 : cX3_persons.data.toList.drop 0 = dktX3_persons_0 := by decide +kernel
theorem dX3_persons_0 : decode cX3_persons 0 = .ok (.aload_n 0, 1) := dk_42 (dk_at dksX3_persons_0 0 rfl rfl)
theorem dX3_persons_1 : decode cX3_persons 1 = .ok (.getfield 27, 3) := dk_180 0 27 (dk_at dksX3_persons_0 1 rfl rfl)
theorem dX3_persons_4 : decode cX3_persons 4 = .ok (.getfield 109, 3) := dk_180 0 109 (dk_at dksX3_persons_0 4 rfl rfl)
theorem dX3_persons_7 : decode cX3_persons 7 = .ok (.invokevirtual 111, 3) := dk_182 0 111 (dk_at dksX3_persons_0 7 rfl rfl)
theorem dX3_persons_10 : decode cX3_persons 10 = .ok (.ireturn, 1) := dk_172 (dk_at dksX3_persons_0 10 rfl rfl)
abbrev cX3_person : ByteArray := prog_6_method_7_code
def yX3_person : MethodName := ⟨RX3, "person", "(I)LHeirsAtLaw$Person;"⟩
def dkwX3_person_0 : List UInt8 := [42, 180, 0, 27, 27, 182, 0, 114, 176]
abbrev dktX3_person_0 : List UInt8 := dkwX3_person_0 ++ []
theorem dksX3_person_0 : cX3_person.data.toList.drop 0 = dktX3_person_0 := by decide +kernel
theorem dX3_person_0 : decode cX3_person 0 = .ok (.aload_n 0, 1) := dk_42 (dk_at dksX3_person_0 0 rfl rfl)
theorem dX3_person_1 : decode cX3_person 1 = .ok (.getfield 27, 3) := dk_180 0 27 (dk_at dksX3_person_0 1 rfl rfl)
theorem dX3_person_4 : decode cX3_person 4 = .ok (.iload_n 1, 1) := dk_27 (dk_at dksX3_person_0 4 rfl rfl)
theorem dX3_person_5 : decode cX3_person 5 = .ok (.invokevirtual 114, 3) := dk_182 0 114 (dk_at dksX3_person_0 5 rfl rfl)
theorem dX3_person_8 : decode cX3_person 8 = .ok (.areturn, 1) := dk_176 (dk_at dksX3_person_0 8 rfl rfl)
abbrev cX3_leave : ByteArray := prog_6_method_20_code
def yX3_leave : MethodName := ⟨RX3, "leave", "(III)V"⟩
def dkwX3_leave_1 : List UInt8 := [42, 180, 0, 48, 29, 79, 42, 89, 180, 0, 48, 4, 96, 181, 0, 48, 177]
abbrev dktX3_leave_1 : List UInt8 := dkwX3_leave_1 ++ []
def dkwX3_leave_0 : List UInt8 := [42, 180, 0, 18, 42, 180, 0, 48, 27, 79, 42, 180, 0, 21, 42, 180, 0, 48, 28, 79, 42, 180, 0, 24]
abbrev dktX3_leave_0 : List UInt8 := dkwX3_leave_0 ++ dktX3_leave_1
theorem dksX3_leave_0 : cX3_leave.data.toList.drop 0 = dktX3_leave_0 := by decide +kernel
theorem dksX3_leave_1 : cX3_leave.data.toList.drop 24 = dktX3_leave_1 := dk_seg dksX3_leave_0 24 rfl rfl
theorem dX3_leave_0 : decode cX3_leave 0 = .ok (.aload_n 0, 1) := dk_42 (dk_at dksX3_leave_0 0 rfl rfl)
theorem dX3_leave_1 : decode cX3_leave 1 = .ok (.getfield 18, 3) := dk_180 0 18 (dk_at dksX3_leave_0 1 rfl rfl)
theorem dX3_leave_4 : decode cX3_leave 4 = .ok (.aload_n 0, 1) := dk_42 (dk_at dksX3_leave_0 4 rfl rfl)
theorem dX3_leave_5 : decode cX3_leave 5 = .ok (.getfield 48, 3) := dk_180 0 48 (dk_at dksX3_leave_0 5 rfl rfl)
theorem dX3_leave_8 : decode cX3_leave 8 = .ok (.iload_n 1, 1) := dk_27 (dk_at dksX3_leave_0 8 rfl rfl)
theorem dX3_leave_9 : decode cX3_leave 9 = .ok (.iastore, 1) := dk_79 (dk_at dksX3_leave_0 9 rfl rfl)
theorem dX3_leave_10 : decode cX3_leave 10 = .ok (.aload_n 0, 1) := dk_42 (dk_at dksX3_leave_0 10 rfl rfl)
theorem dX3_leave_11 : decode cX3_leave 11 = .ok (.getfield 21, 3) := dk_180 0 21 (dk_at dksX3_leave_0 11 rfl rfl)
theorem dX3_leave_14 : decode cX3_leave 14 = .ok (.aload_n 0, 1) := dk_42 (dk_at dksX3_leave_0 14 rfl rfl)
theorem dX3_leave_15 : decode cX3_leave 15 = .ok (.getfield 48, 3) := dk_180 0 48 (dk_at dksX3_leave_0 15 rfl rfl)
theorem dX3_leave_18 : decode cX3_leave 18 = .ok (.iload_n 2, 1) := dk_28 (dk_at dksX3_leave_0 18 rfl rfl)
theorem dX3_leave_19 : decode cX3_leave 19 = .ok (.iastore, 1) := dk_79 (dk_at dksX3_leave_0 19 rfl rfl)
theorem dX3_leave_20 : decode cX3_leave 20 = .ok (.aload_n 0, 1) := dk_42 (dk_at dksX3_leave_0 20 rfl rfl)
theorem dX3_leave_21 : decode cX3_leave 21 = .ok (.getfield 24, 3) := dk_180 0 24 (dk_at dksX3_leave_0 21 rfl rfl)
theorem dX3_leave_24 : decode cX3_leave 24 = .ok (.aload_n 0, 1) := dk_42 (dk_at dksX3_leave_1 0 rfl rfl)
theorem dX3_leave_25 : decode cX3_leave 25 = .ok (.getfield 48, 3) := dk_180 0 48 (dk_at dksX3_leave_1 1 rfl rfl)
theorem dX3_leave_28 : decode cX3_leave 28 = .ok (.iload_n 3, 1) := dk_29 (dk_at dksX3_leave_1 4 rfl rfl)
theorem dX3_leave_29 : decode cX3_leave 29 = .ok (.iastore, 1) := dk_79 (dk_at dksX3_leave_1 5 rfl rfl)
theorem dX3_leave_30 : decode cX3_leave 30 = .ok (.aload_n 0, 1) := dk_42 (dk_at dksX3_leave_1 6 rfl rfl)
theorem dX3_leave_31 : decode cX3_leave 31 = .ok (.dup, 1) := dk_89 (dk_at dksX3_leave_1 7 rfl rfl)
theorem dX3_leave_32 : decode cX3_leave 32 = .ok (.getfield 48, 3) := dk_180 0 48 (dk_at dksX3_leave_1 8 rfl rfl)
theorem dX3_leave_35 : decode cX3_leave 35 = .ok (.iconst 1, 1) := dk_4 (dk_at dksX3_leave_1 11 rfl rfl)
theorem dX3_leave_36 : decode cX3_leave 36 = .ok (.iadd, 1) := dk_96 (dk_at dksX3_leave_1 12 rfl rfl)
theorem dX3_leave_37 : decode cX3_leave 37 = .ok (.putfield 48, 3) := dk_181 0 48 (dk_at dksX3_leave_1 13 rfl rfl)
theorem dX3_leave_40 : decode cX3_leave 40 = .ok (.return_, 1) := dk_177 (dk_at dksX3_leave_1 16 rfl rfl)
abbrev cX3_isWed : ByteArray := prog_6_method_9_code
def yX3_isWed : MethodName := ⟨RX3, "isWed", "(I)Z"⟩
def dkwX3_isWed_0 : List UInt8 := [42, 180, 0, 15, 27, 46, 2, 159, 0, 7, 4, 167, 0, 4, 3, 172]
abbrev dktX3_isWed_0 : List UInt8 := dkwX3_isWed_0 ++ []
theorem dksX3_isWed_0 : cX3_isWed.data.toList.drop 0 = dktX3_isWed_0 := by decide +kernel
theorem dX3_isWed_0 : decode cX3_isWed 0 = .ok (.aload_n 0, 1) := dk_42 (dk_at dksX3_isWed_0 0 rfl rfl)
theorem dX3_isWed_1 : decode cX3_isWed 1 = .ok (.getfield 15, 3) := dk_180 0 15 (dk_at dksX3_isWed_0 1 rfl rfl)
theorem dX3_isWed_4 : decode cX3_isWed 4 = .ok (.iload_n 1, 1) := dk_27 (dk_at dksX3_isWed_0 4 rfl rfl)
theorem dX3_isWed_5 : decode cX3_isWed 5 = .ok (.iaload, 1) := dk_46 (dk_at dksX3_isWed_0 5 rfl rfl)
theorem dX3_isWed_6 : decode cX3_isWed 6 = .ok (.iconst (-1), 1) := dk_2 (dk_at dksX3_isWed_0 6 rfl rfl)
theorem dX3_isWed_7 : decode cX3_isWed 7 = .ok (.if_icmp .eq 7, 3) := dk_159 0 7 (dk_at dksX3_isWed_0 7 rfl rfl)
theorem dX3_isWed_10 : decode cX3_isWed 10 = .ok (.iconst 1, 1) := dk_4 (dk_at dksX3_isWed_0 10 rfl rfl)
theorem dX3_isWed_11 : decode cX3_isWed 11 = .ok (.goto 4, 3) := dk_167 0 4 (dk_at dksX3_isWed_0 11 rfl rfl)
theorem dX3_isWed_14 : decode cX3_isWed 14 = .ok (.iconst 0, 1) := dk_3 (dk_at dksX3_isWed_0 14 rfl rfl)
theorem dX3_isWed_15 : decode cX3_isWed 15 = .ok (.ireturn, 1) := dk_172 (dk_at dksX3_isWed_0 15 rfl rfl)
abbrev cX3_allCoins : ByteArray := prog_6_method_12_code
def yX3_allCoins : MethodName := ⟨RX3, "allCoins", "()I"⟩
def dkwX3_allCoins_1 : List UInt8 := [54, 5, 27, 21, 5, 96, 60, 132, 4, 1, 167, 255, 236, 27, 172]
abbrev dktX3_allCoins_1 : List UInt8 := dkwX3_allCoins_1 ++ []
def dkwX3_allCoins_0 : List UInt8 := [3, 60, 42, 180, 0, 9, 77, 44, 190, 62, 3, 54, 4, 21, 4, 29, 162, 0, 20, 44, 21, 4, 46]
abbrev dktX3_allCoins_0 : List UInt8 := dkwX3_allCoins_0 ++ dktX3_allCoins_1
theorem dksX3_allCoins_0 : cX3_allCoins.data.toList.drop 0 = dktX3_allCoins_0 := by decide +kernel
theorem dksX3_allCoins_1 : cX3_allCoins.data.toList.drop 23 = dktX3_allCoins_1 := dk_seg dksX3_allCoins_0 23 rfl rfl
theorem dX3_allCoins_0 : decode cX3_allCoins 0 = .ok (.iconst 0, 1) := dk_3 (dk_at dksX3_allCoins_0 0 rfl rfl)
theorem dX3_allCoins_1 : decode cX3_allCoins 1 = .ok (.istore_n 1, 1) := dk_60 (dk_at dksX3_allCoins_0 1 rfl rfl)
theorem dX3_allCoins_2 : decode cX3_allCoins 2 = .ok (.aload_n 0, 1) := dk_42 (dk_at dksX3_allCoins_0 2 rfl rfl)
theorem dX3_allCoins_3 : decode cX3_allCoins 3 = .ok (.getfield 9, 3) := dk_180 0 9 (dk_at dksX3_allCoins_0 3 rfl rfl)
theorem dX3_allCoins_6 : decode cX3_allCoins 6 = .ok (.astore_n 2, 1) := dk_77 (dk_at dksX3_allCoins_0 6 rfl rfl)
theorem dX3_allCoins_7 : decode cX3_allCoins 7 = .ok (.aload_n 2, 1) := dk_44 (dk_at dksX3_allCoins_0 7 rfl rfl)
theorem dX3_allCoins_8 : decode cX3_allCoins 8 = .ok (.arraylength, 1) := dk_190 (dk_at dksX3_allCoins_0 8 rfl rfl)
theorem dX3_allCoins_9 : decode cX3_allCoins 9 = .ok (.istore_n 3, 1) := dk_62 (dk_at dksX3_allCoins_0 9 rfl rfl)
theorem dX3_allCoins_10 : decode cX3_allCoins 10 = .ok (.iconst 0, 1) := dk_3 (dk_at dksX3_allCoins_0 10 rfl rfl)
theorem dX3_allCoins_11 : decode cX3_allCoins 11 = .ok (.istore 4, 2) := dk_54 4 (dk_at dksX3_allCoins_0 11 rfl rfl)
theorem dX3_allCoins_13 : decode cX3_allCoins 13 = .ok (.iload 4, 2) := dk_21 4 (dk_at dksX3_allCoins_0 13 rfl rfl)
theorem dX3_allCoins_15 : decode cX3_allCoins 15 = .ok (.iload_n 3, 1) := dk_29 (dk_at dksX3_allCoins_0 15 rfl rfl)
theorem dX3_allCoins_16 : decode cX3_allCoins 16 = .ok (.if_icmp .ge 20, 3) := dk_162 0 20 (dk_at dksX3_allCoins_0 16 rfl rfl)
theorem dX3_allCoins_19 : decode cX3_allCoins 19 = .ok (.aload_n 2, 1) := dk_44 (dk_at dksX3_allCoins_0 19 rfl rfl)
theorem dX3_allCoins_20 : decode cX3_allCoins 20 = .ok (.iload 4, 2) := dk_21 4 (dk_at dksX3_allCoins_0 20 rfl rfl)
theorem dX3_allCoins_22 : decode cX3_allCoins 22 = .ok (.iaload, 1) := dk_46 (dk_at dksX3_allCoins_0 22 rfl rfl)
theorem dX3_allCoins_23 : decode cX3_allCoins 23 = .ok (.istore 5, 2) := dk_54 5 (dk_at dksX3_allCoins_1 0 rfl rfl)
theorem dX3_allCoins_25 : decode cX3_allCoins 25 = .ok (.iload_n 1, 1) := dk_27 (dk_at dksX3_allCoins_1 2 rfl rfl)
theorem dX3_allCoins_26 : decode cX3_allCoins 26 = .ok (.iload 5, 2) := dk_21 5 (dk_at dksX3_allCoins_1 3 rfl rfl)
theorem dX3_allCoins_28 : decode cX3_allCoins 28 = .ok (.iadd, 1) := dk_96 (dk_at dksX3_allCoins_1 5 rfl rfl)
theorem dX3_allCoins_29 : decode cX3_allCoins 29 = .ok (.istore_n 1, 1) := dk_60 (dk_at dksX3_allCoins_1 6 rfl rfl)
theorem dX3_allCoins_30 : decode cX3_allCoins 30 = .ok (.iinc 4 1, 3) := dk_132 4 1 (dk_at dksX3_allCoins_1 7 rfl rfl)
theorem dX3_allCoins_33 : decode cX3_allCoins 33 = .ok (.goto (-20), 3) := dk_167 255 236 (dk_at dksX3_allCoins_1 10 rfl rfl)
theorem dX3_allCoins_36 : decode cX3_allCoins 36 = .ok (.iload_n 1, 1) := dk_27 (dk_at dksX3_allCoins_1 13 rfl rfl)
theorem dX3_allCoins_37 : decode cX3_allCoins 37 = .ok (.ireturn, 1) := dk_172 (dk_at dksX3_allCoins_1 14 rfl rfl)
abbrev cX3_as : ByteArray := prog_6_method_3_code
def yX3_as : MethodName := ⟨RX3, "as", "(LHeirsAtLaw$Estate;)LHeirsAtLaw$Estate;"⟩
def dkwX3_as_4 : List UInt8 := [180, 0, 24, 42, 180, 0, 24, 184, 0, 99, 42, 176]
abbrev dktX3_as_4 : List UInt8 := dkwX3_as_4 ++ []
def dkwX3_as_3 : List UInt8 := [180, 0, 18, 42, 180, 0, 18, 184, 0, 99, 43, 180, 0, 21, 42, 180, 0, 21, 184, 0, 99, 43]
abbrev dktX3_as_3 : List UInt8 := dkwX3_as_3 ++ dktX3_as_4
def dkwX3_as_2 : List UInt8 := [43, 180, 0, 9, 42, 180, 0, 9, 184, 0, 99, 43, 180, 0, 15, 42, 180, 0, 15, 184, 0, 99, 43]
abbrev dktX3_as_2 : List UInt8 := dkwX3_as_2 ++ dktX3_as_3
def dkwX3_as_1 : List UInt8 := [42, 43, 180, 0, 38, 181, 0, 38, 42, 43, 180, 0, 45, 181, 0, 45, 42, 43, 180, 0, 48, 181, 0, 48]
abbrev dktX3_as_1 : List UInt8 := dkwX3_as_1 ++ dktX3_as_2
def dkwX3_as_0 : List UInt8 := [42, 43, 180, 0, 27, 181, 0, 27, 42, 43, 180, 0, 31, 181, 0, 31, 42, 43, 180, 0, 35, 181, 0, 35]
abbrev dktX3_as_0 : List UInt8 := dkwX3_as_0 ++ dktX3_as_1
theorem dksX3_as_0 : cX3_as.data.toList.drop 0 = dktX3_as_0 := by decide +kernel
theorem dksX3_as_1 : cX3_as.data.toList.drop 24 = dktX3_as_1 := dk_seg dksX3_as_0 24 rfl rfl
theorem dksX3_as_2 : cX3_as.data.toList.drop 48 = dktX3_as_2 := dk_seg dksX3_as_1 24 rfl rfl
theorem dksX3_as_3 : cX3_as.data.toList.drop 71 = dktX3_as_3 := dk_seg dksX3_as_2 23 rfl rfl
theorem dksX3_as_4 : cX3_as.data.toList.drop 93 = dktX3_as_4 := dk_seg dksX3_as_3 22 rfl rfl
theorem dX3_as_0 : decode cX3_as 0 = .ok (.aload_n 0, 1) := dk_42 (dk_at dksX3_as_0 0 rfl rfl)
theorem dX3_as_1 : decode cX3_as 1 = .ok (.aload_n 1, 1) := dk_43 (dk_at dksX3_as_0 1 rfl rfl)
theorem dX3_as_2 : decode cX3_as 2 = .ok (.getfield 27, 3) := dk_180 0 27 (dk_at dksX3_as_0 2 rfl rfl)
theorem dX3_as_5 : decode cX3_as 5 = .ok (.putfield 27, 3) := dk_181 0 27 (dk_at dksX3_as_0 5 rfl rfl)
theorem dX3_as_8 : decode cX3_as 8 = .ok (.aload_n 0, 1) := dk_42 (dk_at dksX3_as_0 8 rfl rfl)
theorem dX3_as_9 : decode cX3_as 9 = .ok (.aload_n 1, 1) := dk_43 (dk_at dksX3_as_0 9 rfl rfl)
theorem dX3_as_10 : decode cX3_as 10 = .ok (.getfield 31, 3) := dk_180 0 31 (dk_at dksX3_as_0 10 rfl rfl)
theorem dX3_as_13 : decode cX3_as 13 = .ok (.putfield 31, 3) := dk_181 0 31 (dk_at dksX3_as_0 13 rfl rfl)
theorem dX3_as_16 : decode cX3_as 16 = .ok (.aload_n 0, 1) := dk_42 (dk_at dksX3_as_0 16 rfl rfl)
theorem dX3_as_17 : decode cX3_as 17 = .ok (.aload_n 1, 1) := dk_43 (dk_at dksX3_as_0 17 rfl rfl)
theorem dX3_as_18 : decode cX3_as 18 = .ok (.getfield 35, 3) := dk_180 0 35 (dk_at dksX3_as_0 18 rfl rfl)
theorem dX3_as_21 : decode cX3_as 21 = .ok (.putfield 35, 3) := dk_181 0 35 (dk_at dksX3_as_0 21 rfl rfl)
theorem dX3_as_24 : decode cX3_as 24 = .ok (.aload_n 0, 1) := dk_42 (dk_at dksX3_as_1 0 rfl rfl)
theorem dX3_as_25 : decode cX3_as 25 = .ok (.aload_n 1, 1) := dk_43 (dk_at dksX3_as_1 1 rfl rfl)
theorem dX3_as_26 : decode cX3_as 26 = .ok (.getfield 38, 3) := dk_180 0 38 (dk_at dksX3_as_1 2 rfl rfl)
theorem dX3_as_29 : decode cX3_as 29 = .ok (.putfield 38, 3) := dk_181 0 38 (dk_at dksX3_as_1 5 rfl rfl)
theorem dX3_as_32 : decode cX3_as 32 = .ok (.aload_n 0, 1) := dk_42 (dk_at dksX3_as_1 8 rfl rfl)
theorem dX3_as_33 : decode cX3_as 33 = .ok (.aload_n 1, 1) := dk_43 (dk_at dksX3_as_1 9 rfl rfl)
theorem dX3_as_34 : decode cX3_as 34 = .ok (.getfield 45, 3) := dk_180 0 45 (dk_at dksX3_as_1 10 rfl rfl)
theorem dX3_as_37 : decode cX3_as 37 = .ok (.putfield 45, 3) := dk_181 0 45 (dk_at dksX3_as_1 13 rfl rfl)
theorem dX3_as_40 : decode cX3_as 40 = .ok (.aload_n 0, 1) := dk_42 (dk_at dksX3_as_1 16 rfl rfl)
theorem dX3_as_41 : decode cX3_as 41 = .ok (.aload_n 1, 1) := dk_43 (dk_at dksX3_as_1 17 rfl rfl)
theorem dX3_as_42 : decode cX3_as 42 = .ok (.getfield 48, 3) := dk_180 0 48 (dk_at dksX3_as_1 18 rfl rfl)
theorem dX3_as_45 : decode cX3_as 45 = .ok (.putfield 48, 3) := dk_181 0 48 (dk_at dksX3_as_1 21 rfl rfl)
theorem dX3_as_48 : decode cX3_as 48 = .ok (.aload_n 1, 1) := dk_43 (dk_at dksX3_as_2 0 rfl rfl)
theorem dX3_as_49 : decode cX3_as 49 = .ok (.getfield 9, 3) := dk_180 0 9 (dk_at dksX3_as_2 1 rfl rfl)
theorem dX3_as_52 : decode cX3_as 52 = .ok (.aload_n 0, 1) := dk_42 (dk_at dksX3_as_2 4 rfl rfl)
theorem dX3_as_53 : decode cX3_as 53 = .ok (.getfield 9, 3) := dk_180 0 9 (dk_at dksX3_as_2 5 rfl rfl)
theorem dX3_as_56 : decode cX3_as 56 = .ok (.invokestatic 99, 3) := dk_184 0 99 (dk_at dksX3_as_2 8 rfl rfl)
theorem dX3_as_59 : decode cX3_as 59 = .ok (.aload_n 1, 1) := dk_43 (dk_at dksX3_as_2 11 rfl rfl)
theorem dX3_as_60 : decode cX3_as 60 = .ok (.getfield 15, 3) := dk_180 0 15 (dk_at dksX3_as_2 12 rfl rfl)
theorem dX3_as_63 : decode cX3_as 63 = .ok (.aload_n 0, 1) := dk_42 (dk_at dksX3_as_2 15 rfl rfl)
theorem dX3_as_64 : decode cX3_as 64 = .ok (.getfield 15, 3) := dk_180 0 15 (dk_at dksX3_as_2 16 rfl rfl)
theorem dX3_as_67 : decode cX3_as 67 = .ok (.invokestatic 99, 3) := dk_184 0 99 (dk_at dksX3_as_2 19 rfl rfl)
theorem dX3_as_70 : decode cX3_as 70 = .ok (.aload_n 1, 1) := dk_43 (dk_at dksX3_as_2 22 rfl rfl)
theorem dX3_as_71 : decode cX3_as 71 = .ok (.getfield 18, 3) := dk_180 0 18 (dk_at dksX3_as_3 0 rfl rfl)
theorem dX3_as_74 : decode cX3_as 74 = .ok (.aload_n 0, 1) := dk_42 (dk_at dksX3_as_3 3 rfl rfl)
theorem dX3_as_75 : decode cX3_as 75 = .ok (.getfield 18, 3) := dk_180 0 18 (dk_at dksX3_as_3 4 rfl rfl)
theorem dX3_as_78 : decode cX3_as 78 = .ok (.invokestatic 99, 3) := dk_184 0 99 (dk_at dksX3_as_3 7 rfl rfl)
theorem dX3_as_81 : decode cX3_as 81 = .ok (.aload_n 1, 1) := dk_43 (dk_at dksX3_as_3 10 rfl rfl)
theorem dX3_as_82 : decode cX3_as 82 = .ok (.getfield 21, 3) := dk_180 0 21 (dk_at dksX3_as_3 11 rfl rfl)
theorem dX3_as_85 : decode cX3_as 85 = .ok (.aload_n 0, 1) := dk_42 (dk_at dksX3_as_3 14 rfl rfl)
theorem dX3_as_86 : decode cX3_as 86 = .ok (.getfield 21, 3) := dk_180 0 21 (dk_at dksX3_as_3 15 rfl rfl)
theorem dX3_as_89 : decode cX3_as 89 = .ok (.invokestatic 99, 3) := dk_184 0 99 (dk_at dksX3_as_3 18 rfl rfl)
theorem dX3_as_92 : decode cX3_as 92 = .ok (.aload_n 1, 1) := dk_43 (dk_at dksX3_as_3 21 rfl rfl)
theorem dX3_as_93 : decode cX3_as 93 = .ok (.getfield 24, 3) := dk_180 0 24 (dk_at dksX3_as_4 0 rfl rfl)
theorem dX3_as_96 : decode cX3_as 96 = .ok (.aload_n 0, 1) := dk_42 (dk_at dksX3_as_4 3 rfl rfl)
theorem dX3_as_97 : decode cX3_as 97 = .ok (.getfield 24, 3) := dk_180 0 24 (dk_at dksX3_as_4 4 rfl rfl)
theorem dX3_as_100 : decode cX3_as 100 = .ok (.invokestatic 99, 3) := dk_184 0 99 (dk_at dksX3_as_4 7 rfl rfl)
theorem dX3_as_103 : decode cX3_as 103 = .ok (.aload_n 0, 1) := dk_42 (dk_at dksX3_as_4 10 rfl rfl)
theorem dX3_as_104 : decode cX3_as 104 = .ok (.areturn, 1) := dk_176 (dk_at dksX3_as_4 11 rfl rfl)
abbrev cX3_copy : ByteArray := prog_6_method_4_code
def yX3_copy : MethodName := ⟨RX3, "copy", "([I[I)V"⟩
def dkwX3_copy_0 : List UInt8 := [42, 3, 43, 3, 43, 190, 184, 0, 103, 177]
abbrev dktX3_copy_0 : List UInt8 := dkwX3_copy_0 ++ []
theorem dksX3_copy_0 : cX3_copy.data.toList.drop 0 = dktX3_copy_0 := by decide +kernel
theorem dX3_copy_0 : decode cX3_copy 0 = .ok (.aload_n 0, 1) := dk_42 (dk_at dksX3_copy_0 0 rfl rfl)
theorem dX3_copy_1 : decode cX3_copy 1 = .ok (.iconst 0, 1) := dk_3 (dk_at dksX3_copy_0 1 rfl rfl)
theorem dX3_copy_2 : decode cX3_copy 2 = .ok (.aload_n 1, 1) := dk_43 (dk_at dksX3_copy_0 2 rfl rfl)
theorem dX3_copy_3 : decode cX3_copy 3 = .ok (.iconst 0, 1) := dk_3 (dk_at dksX3_copy_0 3 rfl rfl)
theorem dX3_copy_4 : decode cX3_copy 4 = .ok (.aload_n 1, 1) := dk_43 (dk_at dksX3_copy_0 4 rfl rfl)
theorem dX3_copy_5 : decode cX3_copy 5 = .ok (.arraylength, 1) := dk_190 (dk_at dksX3_copy_0 5 rfl rfl)
theorem dX3_copy_6 : decode cX3_copy 6 = .ok (.invokestatic 103, 3) := dk_184 0 103 (dk_at dksX3_copy_0 6 rfl rfl)
theorem dX3_copy_9 : decode cX3_copy 9 = .ok (.return_, 1) := dk_177 (dk_at dksX3_copy_0 9 rfl rfl)
abbrev cX3_lives : ByteArray := prog_6_method_8_code
def yX3_lives : MethodName := ⟨RX3, "lives", "(I)Z"⟩
def dkwX3_lives_0 : List UInt8 := [42, 180, 0, 45, 27, 184, 0, 115, 172]
abbrev dktX3_lives_0 : List UInt8 := dkwX3_lives_0 ++ []
theorem dksX3_lives_0 : cX3_lives.data.toList.drop 0 = dktX3_lives_0 := by decide +kernel
theorem dX3_lives_0 : decode cX3_lives 0 = .ok (.aload_n 0, 1) := dk_42 (dk_at dksX3_lives_0 0 rfl rfl)
theorem dX3_lives_1 : decode cX3_lives 1 = .ok (.getfield 45, 3) := dk_180 0 45 (dk_at dksX3_lives_0 1 rfl rfl)
theorem dX3_lives_4 : decode cX3_lives 4 = .ok (.iload_n 1, 1) := dk_27 (dk_at dksX3_lives_0 4 rfl rfl)
theorem dX3_lives_5 : decode cX3_lives 5 = .ok (.invokestatic 115, 3) := dk_184 0 115 (dk_at dksX3_lives_0 5 rfl rfl)
theorem dX3_lives_8 : decode cX3_lives 8 = .ok (.ireturn, 1) := dk_172 (dk_at dksX3_lives_0 8 rfl rfl)
abbrev cX3_die : ByteArray := prog_6_method_28_code
def yX3_die : MethodName := ⟨RX3, "die", "(I)V"⟩
def dkwX3_die_3 : List UInt8 := [27, 29, 182, 0, 181, 167, 0, 10, 42, 27, 28, 29, 182, 0, 184, 177]
abbrev dktX3_die_3 : List UInt8 := dkwX3_die_3 ++ []
def dkwX3_die_2 : List UInt8 := [62, 42, 180, 0, 9, 27, 3, 79, 42, 27, 182, 0, 178, 29, 154, 0, 4, 177, 28, 2, 160, 0, 12, 42]
abbrev dktX3_die_2 : List UInt8 := dkwX3_die_2 ++ dktX3_die_3
def dkwX3_die_1 : List UInt8 := [180, 0, 38, 4, 96, 181, 0, 38, 42, 27, 182, 0, 171, 42, 27, 42, 180, 0, 9, 27, 46, 182, 0, 175]
abbrev dktX3_die_1 : List UInt8 := dkwX3_die_1 ++ dktX3_die_2
def dkwX3_die_0 : List UInt8 := [42, 180, 0, 15, 27, 46, 61, 42, 89, 180, 0, 45, 4, 27, 120, 2, 130, 126, 181, 0, 45, 42, 89]
abbrev dktX3_die_0 : List UInt8 := dkwX3_die_0 ++ dktX3_die_1
theorem dksX3_die_0 : cX3_die.data.toList.drop 0 = dktX3_die_0 := by decide +kernel
theorem dksX3_die_1 : cX3_die.data.toList.drop 23 = dktX3_die_1 := dk_seg dksX3_die_0 23 rfl rfl
theorem dksX3_die_2 : cX3_die.data.toList.drop 47 = dktX3_die_2 := dk_seg dksX3_die_1 24 rfl rfl
theorem dksX3_die_3 : cX3_die.data.toList.drop 71 = dktX3_die_3 := dk_seg dksX3_die_2 24 rfl rfl
theorem dX3_die_0 : decode cX3_die 0 = .ok (.aload_n 0, 1) := dk_42 (dk_at dksX3_die_0 0 rfl rfl)
theorem dX3_die_1 : decode cX3_die 1 = .ok (.getfield 15, 3) := dk_180 0 15 (dk_at dksX3_die_0 1 rfl rfl)
theorem dX3_die_4 : decode cX3_die 4 = .ok (.iload_n 1, 1) := dk_27 (dk_at dksX3_die_0 4 rfl rfl)
theorem dX3_die_5 : decode cX3_die 5 = .ok (.iaload, 1) := dk_46 (dk_at dksX3_die_0 5 rfl rfl)
theorem dX3_die_6 : decode cX3_die 6 = .ok (.istore_n 2, 1) := dk_61 (dk_at dksX3_die_0 6 rfl rfl)
theorem dX3_die_7 : decode cX3_die 7 = .ok (.aload_n 0, 1) := dk_42 (dk_at dksX3_die_0 7 rfl rfl)
theorem dX3_die_8 : decode cX3_die 8 = .ok (.dup, 1) := dk_89 (dk_at dksX3_die_0 8 rfl rfl)
theorem dX3_die_9 : decode cX3_die 9 = .ok (.getfield 45, 3) := dk_180 0 45 (dk_at dksX3_die_0 9 rfl rfl)
theorem dX3_die_12 : decode cX3_die 12 = .ok (.iconst 1, 1) := dk_4 (dk_at dksX3_die_0 12 rfl rfl)
theorem dX3_die_13 : decode cX3_die 13 = .ok (.iload_n 1, 1) := dk_27 (dk_at dksX3_die_0 13 rfl rfl)
theorem dX3_die_14 : decode cX3_die 14 = .ok (.ishl, 1) := dk_120 (dk_at dksX3_die_0 14 rfl rfl)
theorem dX3_die_15 : decode cX3_die 15 = .ok (.iconst (-1), 1) := dk_2 (dk_at dksX3_die_0 15 rfl rfl)
theorem dX3_die_16 : decode cX3_die 16 = .ok (.ixor, 1) := dk_130 (dk_at dksX3_die_0 16 rfl rfl)
theorem dX3_die_17 : decode cX3_die 17 = .ok (.iand, 1) := dk_126 (dk_at dksX3_die_0 17 rfl rfl)
theorem dX3_die_18 : decode cX3_die 18 = .ok (.putfield 45, 3) := dk_181 0 45 (dk_at dksX3_die_0 18 rfl rfl)
theorem dX3_die_21 : decode cX3_die 21 = .ok (.aload_n 0, 1) := dk_42 (dk_at dksX3_die_0 21 rfl rfl)
theorem dX3_die_22 : decode cX3_die 22 = .ok (.dup, 1) := dk_89 (dk_at dksX3_die_0 22 rfl rfl)
theorem dX3_die_23 : decode cX3_die 23 = .ok (.getfield 38, 3) := dk_180 0 38 (dk_at dksX3_die_1 0 rfl rfl)
theorem dX3_die_26 : decode cX3_die 26 = .ok (.iconst 1, 1) := dk_4 (dk_at dksX3_die_1 3 rfl rfl)
theorem dX3_die_27 : decode cX3_die 27 = .ok (.iadd, 1) := dk_96 (dk_at dksX3_die_1 4 rfl rfl)
theorem dX3_die_28 : decode cX3_die 28 = .ok (.putfield 38, 3) := dk_181 0 38 (dk_at dksX3_die_1 5 rfl rfl)
theorem dX3_die_31 : decode cX3_die 31 = .ok (.aload_n 0, 1) := dk_42 (dk_at dksX3_die_1 8 rfl rfl)
theorem dX3_die_32 : decode cX3_die 32 = .ok (.iload_n 1, 1) := dk_27 (dk_at dksX3_die_1 9 rfl rfl)
theorem dX3_die_33 : decode cX3_die 33 = .ok (.invokevirtual 171, 3) := dk_182 0 171 (dk_at dksX3_die_1 10 rfl rfl)
theorem dX3_die_36 : decode cX3_die 36 = .ok (.aload_n 0, 1) := dk_42 (dk_at dksX3_die_1 13 rfl rfl)
theorem dX3_die_37 : decode cX3_die 37 = .ok (.iload_n 1, 1) := dk_27 (dk_at dksX3_die_1 14 rfl rfl)
theorem dX3_die_38 : decode cX3_die 38 = .ok (.aload_n 0, 1) := dk_42 (dk_at dksX3_die_1 15 rfl rfl)
theorem dX3_die_39 : decode cX3_die 39 = .ok (.getfield 9, 3) := dk_180 0 9 (dk_at dksX3_die_1 16 rfl rfl)
theorem dX3_die_42 : decode cX3_die 42 = .ok (.iload_n 1, 1) := dk_27 (dk_at dksX3_die_1 19 rfl rfl)
theorem dX3_die_43 : decode cX3_die 43 = .ok (.iaload, 1) := dk_46 (dk_at dksX3_die_1 20 rfl rfl)
theorem dX3_die_44 : decode cX3_die 44 = .ok (.invokevirtual 175, 3) := dk_182 0 175 (dk_at dksX3_die_1 21 rfl rfl)
theorem dX3_die_47 : decode cX3_die 47 = .ok (.istore_n 3, 1) := dk_62 (dk_at dksX3_die_2 0 rfl rfl)
theorem dX3_die_48 : decode cX3_die 48 = .ok (.aload_n 0, 1) := dk_42 (dk_at dksX3_die_2 1 rfl rfl)
theorem dX3_die_49 : decode cX3_die 49 = .ok (.getfield 9, 3) := dk_180 0 9 (dk_at dksX3_die_2 2 rfl rfl)
theorem dX3_die_52 : decode cX3_die 52 = .ok (.iload_n 1, 1) := dk_27 (dk_at dksX3_die_2 5 rfl rfl)
theorem dX3_die_53 : decode cX3_die 53 = .ok (.iconst 0, 1) := dk_3 (dk_at dksX3_die_2 6 rfl rfl)
theorem dX3_die_54 : decode cX3_die 54 = .ok (.iastore, 1) := dk_79 (dk_at dksX3_die_2 7 rfl rfl)
theorem dX3_die_55 : decode cX3_die 55 = .ok (.aload_n 0, 1) := dk_42 (dk_at dksX3_die_2 8 rfl rfl)
theorem dX3_die_56 : decode cX3_die 56 = .ok (.iload_n 1, 1) := dk_27 (dk_at dksX3_die_2 9 rfl rfl)
theorem dX3_die_57 : decode cX3_die 57 = .ok (.invokevirtual 178, 3) := dk_182 0 178 (dk_at dksX3_die_2 10 rfl rfl)
theorem dX3_die_60 : decode cX3_die 60 = .ok (.iload_n 3, 1) := dk_29 (dk_at dksX3_die_2 13 rfl rfl)
theorem dX3_die_61 : decode cX3_die 61 = .ok (.ifCond .ne 4, 3) := dk_154 0 4 (dk_at dksX3_die_2 14 rfl rfl)
theorem dX3_die_64 : decode cX3_die 64 = .ok (.return_, 1) := dk_177 (dk_at dksX3_die_2 17 rfl rfl)
theorem dX3_die_65 : decode cX3_die 65 = .ok (.iload_n 2, 1) := dk_28 (dk_at dksX3_die_2 18 rfl rfl)
theorem dX3_die_66 : decode cX3_die 66 = .ok (.iconst (-1), 1) := dk_2 (dk_at dksX3_die_2 19 rfl rfl)
theorem dX3_die_67 : decode cX3_die 67 = .ok (.if_icmp .ne 12, 3) := dk_160 0 12 (dk_at dksX3_die_2 20 rfl rfl)
theorem dX3_die_70 : decode cX3_die 70 = .ok (.aload_n 0, 1) := dk_42 (dk_at dksX3_die_2 23 rfl rfl)
theorem dX3_die_71 : decode cX3_die 71 = .ok (.iload_n 1, 1) := dk_27 (dk_at dksX3_die_3 0 rfl rfl)
theorem dX3_die_72 : decode cX3_die 72 = .ok (.iload_n 3, 1) := dk_29 (dk_at dksX3_die_3 1 rfl rfl)
theorem dX3_die_73 : decode cX3_die 73 = .ok (.invokevirtual 181, 3) := dk_182 0 181 (dk_at dksX3_die_3 2 rfl rfl)
theorem dX3_die_76 : decode cX3_die 76 = .ok (.goto 10, 3) := dk_167 0 10 (dk_at dksX3_die_3 5 rfl rfl)
theorem dX3_die_79 : decode cX3_die 79 = .ok (.aload_n 0, 1) := dk_42 (dk_at dksX3_die_3 8 rfl rfl)
theorem dX3_die_80 : decode cX3_die 80 = .ok (.iload_n 1, 1) := dk_27 (dk_at dksX3_die_3 9 rfl rfl)
theorem dX3_die_81 : decode cX3_die 81 = .ok (.iload_n 2, 1) := dk_28 (dk_at dksX3_die_3 10 rfl rfl)
theorem dX3_die_82 : decode cX3_die 82 = .ok (.iload_n 3, 1) := dk_29 (dk_at dksX3_die_3 11 rfl rfl)
theorem dX3_die_83 : decode cX3_die 83 = .ok (.invokevirtual 184, 3) := dk_182 0 184 (dk_at dksX3_die_3 12 rfl rfl)
theorem dX3_die_86 : decode cX3_die 86 = .ok (.return_, 1) := dk_177 (dk_at dksX3_die_3 15 rfl rfl)
abbrev cX3_part : ByteArray := prog_6_method_16_code
def yX3_part : MethodName := ⟨RX3, "part", "(I)V"⟩
def dkwX3_part_1 : List UInt8 := [180, 0, 15, 27, 2, 79, 177]
abbrev dktX3_part_1 : List UInt8 := dkwX3_part_1 ++ []
def dkwX3_part_0 : List UInt8 := [42, 27, 182, 0, 127, 154, 0, 4, 177, 42, 180, 0, 15, 42, 180, 0, 15, 27, 46, 2, 79, 42]
abbrev dktX3_part_0 : List UInt8 := dkwX3_part_0 ++ dktX3_part_1
theorem dksX3_part_0 : cX3_part.data.toList.drop 0 = dktX3_part_0 := by decide +kernel
theorem dksX3_part_1 : cX3_part.data.toList.drop 22 = dktX3_part_1 := dk_seg dksX3_part_0 22 rfl rfl
theorem dX3_part_0 : decode cX3_part 0 = .ok (.aload_n 0, 1) := dk_42 (dk_at dksX3_part_0 0 rfl rfl)
theorem dX3_part_1 : decode cX3_part 1 = .ok (.iload_n 1, 1) := dk_27 (dk_at dksX3_part_0 1 rfl rfl)
theorem dX3_part_2 : decode cX3_part 2 = .ok (.invokevirtual 127, 3) := dk_182 0 127 (dk_at dksX3_part_0 2 rfl rfl)
theorem dX3_part_5 : decode cX3_part 5 = .ok (.ifCond .ne 4, 3) := dk_154 0 4 (dk_at dksX3_part_0 5 rfl rfl)
theorem dX3_part_8 : decode cX3_part 8 = .ok (.return_, 1) := dk_177 (dk_at dksX3_part_0 8 rfl rfl)
theorem dX3_part_9 : decode cX3_part 9 = .ok (.aload_n 0, 1) := dk_42 (dk_at dksX3_part_0 9 rfl rfl)
theorem dX3_part_10 : decode cX3_part 10 = .ok (.getfield 15, 3) := dk_180 0 15 (dk_at dksX3_part_0 10 rfl rfl)
theorem dX3_part_13 : decode cX3_part 13 = .ok (.aload_n 0, 1) := dk_42 (dk_at dksX3_part_0 13 rfl rfl)
theorem dX3_part_14 : decode cX3_part 14 = .ok (.getfield 15, 3) := dk_180 0 15 (dk_at dksX3_part_0 14 rfl rfl)
theorem dX3_part_17 : decode cX3_part 17 = .ok (.iload_n 1, 1) := dk_27 (dk_at dksX3_part_0 17 rfl rfl)
theorem dX3_part_18 : decode cX3_part 18 = .ok (.iaload, 1) := dk_46 (dk_at dksX3_part_0 18 rfl rfl)
theorem dX3_part_19 : decode cX3_part 19 = .ok (.iconst (-1), 1) := dk_2 (dk_at dksX3_part_0 19 rfl rfl)
theorem dX3_part_20 : decode cX3_part 20 = .ok (.iastore, 1) := dk_79 (dk_at dksX3_part_0 20 rfl rfl)
theorem dX3_part_21 : decode cX3_part 21 = .ok (.aload_n 0, 1) := dk_42 (dk_at dksX3_part_0 21 rfl rfl)
theorem dX3_part_22 : decode cX3_part 22 = .ok (.getfield 15, 3) := dk_180 0 15 (dk_at dksX3_part_1 0 rfl rfl)
theorem dX3_part_25 : decode cX3_part 25 = .ok (.iload_n 1, 1) := dk_27 (dk_at dksX3_part_1 3 rfl rfl)
theorem dX3_part_26 : decode cX3_part 26 = .ok (.iconst (-1), 1) := dk_2 (dk_at dksX3_part_1 4 rfl rfl)
theorem dX3_part_27 : decode cX3_part 27 = .ok (.iastore, 1) := dk_79 (dk_at dksX3_part_1 5 rfl rfl)
theorem dX3_part_28 : decode cX3_part 28 = .ok (.return_, 1) := dk_177 (dk_at dksX3_part_1 6 rfl rfl)
abbrev cX3_paysLegacies : ByteArray := prog_6_method_24_code
def yX3_paysLegacies : MethodName := ⟨RX3, "paysLegacies", "(II)I"⟩
def dkwX3_paysLegacies_3 : List UInt8 := [21, 5, 96, 79, 29, 21, 5, 100, 62, 132, 4, 1, 167, 255, 181, 29, 172]
abbrev dktX3_paysLegacies_3 : List UInt8 := dkwX3_paysLegacies_3 ++ []
def dkwX3_paysLegacies_2 : List UInt8 := [180, 0, 24, 21, 4, 46, 184, 0, 154, 54, 5, 42, 180, 0, 9, 42, 180, 0, 21, 21, 4, 46, 92, 46]
abbrev dktX3_paysLegacies_2 : List UInt8 := dkwX3_paysLegacies_2 ++ dktX3_paysLegacies_3
def dkwX3_paysLegacies_1 : List UInt8 := [160, 0, 55, 42, 42, 180, 0, 21, 21, 4, 46, 182, 0, 123, 154, 0, 6, 167, 0, 38, 29, 42]
abbrev dktX3_paysLegacies_1 : List UInt8 := dkwX3_paysLegacies_1 ++ dktX3_paysLegacies_2
def dkwX3_paysLegacies_0 : List UInt8 := [28, 62, 3, 54, 4, 21, 4, 42, 180, 0, 48, 162, 0, 72, 42, 180, 0, 18, 21, 4, 46, 27]
abbrev dktX3_paysLegacies_0 : List UInt8 := dkwX3_paysLegacies_0 ++ dktX3_paysLegacies_1
theorem dksX3_paysLegacies_0 : cX3_paysLegacies.data.toList.drop 0 = dktX3_paysLegacies_0 := by decide +kernel
theorem dksX3_paysLegacies_1 : cX3_paysLegacies.data.toList.drop 22 = dktX3_paysLegacies_1 := dk_seg dksX3_paysLegacies_0 22 rfl rfl
theorem dksX3_paysLegacies_2 : cX3_paysLegacies.data.toList.drop 44 = dktX3_paysLegacies_2 := dk_seg dksX3_paysLegacies_1 22 rfl rfl
theorem dksX3_paysLegacies_3 : cX3_paysLegacies.data.toList.drop 68 = dktX3_paysLegacies_3 := dk_seg dksX3_paysLegacies_2 24 rfl rfl
theorem dX3_paysLegacies_0 : decode cX3_paysLegacies 0 = .ok (.iload_n 2, 1) := dk_28 (dk_at dksX3_paysLegacies_0 0 rfl rfl)
theorem dX3_paysLegacies_1 : decode cX3_paysLegacies 1 = .ok (.istore_n 3, 1) := dk_62 (dk_at dksX3_paysLegacies_0 1 rfl rfl)
theorem dX3_paysLegacies_2 : decode cX3_paysLegacies 2 = .ok (.iconst 0, 1) := dk_3 (dk_at dksX3_paysLegacies_0 2 rfl rfl)
theorem dX3_paysLegacies_3 : decode cX3_paysLegacies 3 = .ok (.istore 4, 2) := dk_54 4 (dk_at dksX3_paysLegacies_0 3 rfl rfl)
theorem dX3_paysLegacies_5 : decode cX3_paysLegacies 5 = .ok (.iload 4, 2) := dk_21 4 (dk_at dksX3_paysLegacies_0 5 rfl rfl)
theorem dX3_paysLegacies_7 : decode cX3_paysLegacies 7 = .ok (.aload_n 0, 1) := dk_42 (dk_at dksX3_paysLegacies_0 7 rfl rfl)
theorem dX3_paysLegacies_8 : decode cX3_paysLegacies 8 = .ok (.getfield 48, 3) := dk_180 0 48 (dk_at dksX3_paysLegacies_0 8 rfl rfl)
theorem dX3_paysLegacies_11 : decode cX3_paysLegacies 11 = .ok (.if_icmp .ge 72, 3) := dk_162 0 72 (dk_at dksX3_paysLegacies_0 11 rfl rfl)
theorem dX3_paysLegacies_14 : decode cX3_paysLegacies 14 = .ok (.aload_n 0, 1) := dk_42 (dk_at dksX3_paysLegacies_0 14 rfl rfl)
theorem dX3_paysLegacies_15 : decode cX3_paysLegacies 15 = .ok (.getfield 18, 3) := dk_180 0 18 (dk_at dksX3_paysLegacies_0 15 rfl rfl)
theorem dX3_paysLegacies_18 : decode cX3_paysLegacies 18 = .ok (.iload 4, 2) := dk_21 4 (dk_at dksX3_paysLegacies_0 18 rfl rfl)
theorem dX3_paysLegacies_20 : decode cX3_paysLegacies 20 = .ok (.iaload, 1) := dk_46 (dk_at dksX3_paysLegacies_0 20 rfl rfl)
theorem dX3_paysLegacies_21 : decode cX3_paysLegacies 21 = .ok (.iload_n 1, 1) := dk_27 (dk_at dksX3_paysLegacies_0 21 rfl rfl)
theorem dX3_paysLegacies_22 : decode cX3_paysLegacies 22 = .ok (.if_icmp .ne 55, 3) := dk_160 0 55 (dk_at dksX3_paysLegacies_1 0 rfl rfl)
theorem dX3_paysLegacies_25 : decode cX3_paysLegacies 25 = .ok (.aload_n 0, 1) := dk_42 (dk_at dksX3_paysLegacies_1 3 rfl rfl)
theorem dX3_paysLegacies_26 : decode cX3_paysLegacies 26 = .ok (.aload_n 0, 1) := dk_42 (dk_at dksX3_paysLegacies_1 4 rfl rfl)
theorem dX3_paysLegacies_27 : decode cX3_paysLegacies 27 = .ok (.getfield 21, 3) := dk_180 0 21 (dk_at dksX3_paysLegacies_1 5 rfl rfl)
theorem dX3_paysLegacies_30 : decode cX3_paysLegacies 30 = .ok (.iload 4, 2) := dk_21 4 (dk_at dksX3_paysLegacies_1 8 rfl rfl)
theorem dX3_paysLegacies_32 : decode cX3_paysLegacies 32 = .ok (.iaload, 1) := dk_46 (dk_at dksX3_paysLegacies_1 10 rfl rfl)
theorem dX3_paysLegacies_33 : decode cX3_paysLegacies 33 = .ok (.invokevirtual 123, 3) := dk_182 0 123 (dk_at dksX3_paysLegacies_1 11 rfl rfl)
theorem dX3_paysLegacies_36 : decode cX3_paysLegacies 36 = .ok (.ifCond .ne 6, 3) := dk_154 0 6 (dk_at dksX3_paysLegacies_1 14 rfl rfl)
theorem dX3_paysLegacies_39 : decode cX3_paysLegacies 39 = .ok (.goto 38, 3) := dk_167 0 38 (dk_at dksX3_paysLegacies_1 17 rfl rfl)
theorem dX3_paysLegacies_42 : decode cX3_paysLegacies 42 = .ok (.iload_n 3, 1) := dk_29 (dk_at dksX3_paysLegacies_1 20 rfl rfl)
theorem dX3_paysLegacies_43 : decode cX3_paysLegacies 43 = .ok (.aload_n 0, 1) := dk_42 (dk_at dksX3_paysLegacies_1 21 rfl rfl)
theorem dX3_paysLegacies_44 : decode cX3_paysLegacies 44 = .ok (.getfield 24, 3) := dk_180 0 24 (dk_at dksX3_paysLegacies_2 0 rfl rfl)
theorem dX3_paysLegacies_47 : decode cX3_paysLegacies 47 = .ok (.iload 4, 2) := dk_21 4 (dk_at dksX3_paysLegacies_2 3 rfl rfl)
theorem dX3_paysLegacies_49 : decode cX3_paysLegacies 49 = .ok (.iaload, 1) := dk_46 (dk_at dksX3_paysLegacies_2 5 rfl rfl)
theorem dX3_paysLegacies_50 : decode cX3_paysLegacies 50 = .ok (.invokestatic 154, 3) := dk_184 0 154 (dk_at dksX3_paysLegacies_2 6 rfl rfl)
theorem dX3_paysLegacies_53 : decode cX3_paysLegacies 53 = .ok (.istore 5, 2) := dk_54 5 (dk_at dksX3_paysLegacies_2 9 rfl rfl)
theorem dX3_paysLegacies_55 : decode cX3_paysLegacies 55 = .ok (.aload_n 0, 1) := dk_42 (dk_at dksX3_paysLegacies_2 11 rfl rfl)
theorem dX3_paysLegacies_56 : decode cX3_paysLegacies 56 = .ok (.getfield 9, 3) := dk_180 0 9 (dk_at dksX3_paysLegacies_2 12 rfl rfl)
theorem dX3_paysLegacies_59 : decode cX3_paysLegacies 59 = .ok (.aload_n 0, 1) := dk_42 (dk_at dksX3_paysLegacies_2 15 rfl rfl)
theorem dX3_paysLegacies_60 : decode cX3_paysLegacies 60 = .ok (.getfield 21, 3) := dk_180 0 21 (dk_at dksX3_paysLegacies_2 16 rfl rfl)
theorem dX3_paysLegacies_63 : decode cX3_paysLegacies 63 = .ok (.iload 4, 2) := dk_21 4 (dk_at dksX3_paysLegacies_2 19 rfl rfl)
theorem dX3_paysLegacies_65 : decode cX3_paysLegacies 65 = .ok (.iaload, 1) := dk_46 (dk_at dksX3_paysLegacies_2 21 rfl rfl)
theorem dX3_paysLegacies_66 : decode cX3_paysLegacies 66 = .ok (.dup2, 1) := dk_92 (dk_at dksX3_paysLegacies_2 22 rfl rfl)
theorem dX3_paysLegacies_67 : decode cX3_paysLegacies 67 = .ok (.iaload, 1) := dk_46 (dk_at dksX3_paysLegacies_2 23 rfl rfl)
theorem dX3_paysLegacies_68 : decode cX3_paysLegacies 68 = .ok (.iload 5, 2) := dk_21 5 (dk_at dksX3_paysLegacies_3 0 rfl rfl)
theorem dX3_paysLegacies_70 : decode cX3_paysLegacies 70 = .ok (.iadd, 1) := dk_96 (dk_at dksX3_paysLegacies_3 2 rfl rfl)
theorem dX3_paysLegacies_71 : decode cX3_paysLegacies 71 = .ok (.iastore, 1) := dk_79 (dk_at dksX3_paysLegacies_3 3 rfl rfl)
theorem dX3_paysLegacies_72 : decode cX3_paysLegacies 72 = .ok (.iload_n 3, 1) := dk_29 (dk_at dksX3_paysLegacies_3 4 rfl rfl)
theorem dX3_paysLegacies_73 : decode cX3_paysLegacies 73 = .ok (.iload 5, 2) := dk_21 5 (dk_at dksX3_paysLegacies_3 5 rfl rfl)
theorem dX3_paysLegacies_75 : decode cX3_paysLegacies 75 = .ok (.isub, 1) := dk_100 (dk_at dksX3_paysLegacies_3 7 rfl rfl)
theorem dX3_paysLegacies_76 : decode cX3_paysLegacies 76 = .ok (.istore_n 3, 1) := dk_62 (dk_at dksX3_paysLegacies_3 8 rfl rfl)
theorem dX3_paysLegacies_77 : decode cX3_paysLegacies 77 = .ok (.iinc 4 1, 3) := dk_132 4 1 (dk_at dksX3_paysLegacies_3 9 rfl rfl)
theorem dX3_paysLegacies_80 : decode cX3_paysLegacies 80 = .ok (.goto (-75), 3) := dk_167 255 181 (dk_at dksX3_paysLegacies_3 12 rfl rfl)
theorem dX3_paysLegacies_83 : decode cX3_paysLegacies 83 = .ok (.iload_n 3, 1) := dk_29 (dk_at dksX3_paysLegacies_3 15 rfl rfl)
theorem dX3_paysLegacies_84 : decode cX3_paysLegacies 84 = .ok (.ireturn, 1) := dk_172 (dk_at dksX3_paysLegacies_3 16 rfl rfl)
abbrev cX3_revoke : ByteArray := prog_6_method_21_code
def yX3_revoke : MethodName := ⟨RX3, "revoke", "(I)V"⟩
def dkwX3_revoke_2 : List UInt8 := [182, 0, 95, 132, 3, 1, 167, 255, 216, 177]
abbrev dktX3_revoke_2 : List UInt8 := dkwX3_revoke_2 ++ []
def dkwX3_revoke_1 : List UInt8 := [159, 0, 25, 42, 42, 180, 0, 18, 29, 46, 42, 180, 0, 21, 29, 46, 42, 180, 0, 24, 29, 46]
abbrev dktX3_revoke_1 : List UInt8 := dkwX3_revoke_1 ++ dktX3_revoke_2
def dkwX3_revoke_0 : List UInt8 := [42, 180, 0, 48, 61, 42, 3, 181, 0, 48, 3, 62, 29, 28, 162, 0, 41, 42, 180, 0, 18, 29, 46, 27]
abbrev dktX3_revoke_0 : List UInt8 := dkwX3_revoke_0 ++ dktX3_revoke_1
theorem dksX3_revoke_0 : cX3_revoke.data.toList.drop 0 = dktX3_revoke_0 := by decide +kernel
theorem dksX3_revoke_1 : cX3_revoke.data.toList.drop 24 = dktX3_revoke_1 := dk_seg dksX3_revoke_0 24 rfl rfl
theorem dksX3_revoke_2 : cX3_revoke.data.toList.drop 46 = dktX3_revoke_2 := dk_seg dksX3_revoke_1 22 rfl rfl
theorem dX3_revoke_0 : decode cX3_revoke 0 = .ok (.aload_n 0, 1) := dk_42 (dk_at dksX3_revoke_0 0 rfl rfl)
theorem dX3_revoke_1 : decode cX3_revoke 1 = .ok (.getfield 48, 3) := dk_180 0 48 (dk_at dksX3_revoke_0 1 rfl rfl)
theorem dX3_revoke_4 : decode cX3_revoke 4 = .ok (.istore_n 2, 1) := dk_61 (dk_at dksX3_revoke_0 4 rfl rfl)
theorem dX3_revoke_5 : decode cX3_revoke 5 = .ok (.aload_n 0, 1) := dk_42 (dk_at dksX3_revoke_0 5 rfl rfl)
theorem dX3_revoke_6 : decode cX3_revoke 6 = .ok (.iconst 0, 1) := dk_3 (dk_at dksX3_revoke_0 6 rfl rfl)
theorem dX3_revoke_7 : decode cX3_revoke 7 = .ok (.putfield 48, 3) := dk_181 0 48 (dk_at dksX3_revoke_0 7 rfl rfl)
theorem dX3_revoke_10 : decode cX3_revoke 10 = .ok (.iconst 0, 1) := dk_3 (dk_at dksX3_revoke_0 10 rfl rfl)
theorem dX3_revoke_11 : decode cX3_revoke 11 = .ok (.istore_n 3, 1) := dk_62 (dk_at dksX3_revoke_0 11 rfl rfl)
theorem dX3_revoke_12 : decode cX3_revoke 12 = .ok (.iload_n 3, 1) := dk_29 (dk_at dksX3_revoke_0 12 rfl rfl)
theorem dX3_revoke_13 : decode cX3_revoke 13 = .ok (.iload_n 2, 1) := dk_28 (dk_at dksX3_revoke_0 13 rfl rfl)
theorem dX3_revoke_14 : decode cX3_revoke 14 = .ok (.if_icmp .ge 41, 3) := dk_162 0 41 (dk_at dksX3_revoke_0 14 rfl rfl)
theorem dX3_revoke_17 : decode cX3_revoke 17 = .ok (.aload_n 0, 1) := dk_42 (dk_at dksX3_revoke_0 17 rfl rfl)
theorem dX3_revoke_18 : decode cX3_revoke 18 = .ok (.getfield 18, 3) := dk_180 0 18 (dk_at dksX3_revoke_0 18 rfl rfl)
theorem dX3_revoke_21 : decode cX3_revoke 21 = .ok (.iload_n 3, 1) := dk_29 (dk_at dksX3_revoke_0 21 rfl rfl)
theorem dX3_revoke_22 : decode cX3_revoke 22 = .ok (.iaload, 1) := dk_46 (dk_at dksX3_revoke_0 22 rfl rfl)
theorem dX3_revoke_23 : decode cX3_revoke 23 = .ok (.iload_n 1, 1) := dk_27 (dk_at dksX3_revoke_0 23 rfl rfl)
theorem dX3_revoke_24 : decode cX3_revoke 24 = .ok (.if_icmp .eq 25, 3) := dk_159 0 25 (dk_at dksX3_revoke_1 0 rfl rfl)
theorem dX3_revoke_27 : decode cX3_revoke 27 = .ok (.aload_n 0, 1) := dk_42 (dk_at dksX3_revoke_1 3 rfl rfl)
theorem dX3_revoke_28 : decode cX3_revoke 28 = .ok (.aload_n 0, 1) := dk_42 (dk_at dksX3_revoke_1 4 rfl rfl)
theorem dX3_revoke_29 : decode cX3_revoke 29 = .ok (.getfield 18, 3) := dk_180 0 18 (dk_at dksX3_revoke_1 5 rfl rfl)
theorem dX3_revoke_32 : decode cX3_revoke 32 = .ok (.iload_n 3, 1) := dk_29 (dk_at dksX3_revoke_1 8 rfl rfl)
theorem dX3_revoke_33 : decode cX3_revoke 33 = .ok (.iaload, 1) := dk_46 (dk_at dksX3_revoke_1 9 rfl rfl)
theorem dX3_revoke_34 : decode cX3_revoke 34 = .ok (.aload_n 0, 1) := dk_42 (dk_at dksX3_revoke_1 10 rfl rfl)
theorem dX3_revoke_35 : decode cX3_revoke 35 = .ok (.getfield 21, 3) := dk_180 0 21 (dk_at dksX3_revoke_1 11 rfl rfl)
theorem dX3_revoke_38 : decode cX3_revoke 38 = .ok (.iload_n 3, 1) := dk_29 (dk_at dksX3_revoke_1 14 rfl rfl)
theorem dX3_revoke_39 : decode cX3_revoke 39 = .ok (.iaload, 1) := dk_46 (dk_at dksX3_revoke_1 15 rfl rfl)
theorem dX3_revoke_40 : decode cX3_revoke 40 = .ok (.aload_n 0, 1) := dk_42 (dk_at dksX3_revoke_1 16 rfl rfl)
theorem dX3_revoke_41 : decode cX3_revoke 41 = .ok (.getfield 24, 3) := dk_180 0 24 (dk_at dksX3_revoke_1 17 rfl rfl)
theorem dX3_revoke_44 : decode cX3_revoke 44 = .ok (.iload_n 3, 1) := dk_29 (dk_at dksX3_revoke_1 20 rfl rfl)
theorem dX3_revoke_45 : decode cX3_revoke 45 = .ok (.iaload, 1) := dk_46 (dk_at dksX3_revoke_1 21 rfl rfl)
theorem dX3_revoke_46 : decode cX3_revoke 46 = .ok (.invokevirtual 95, 3) := dk_182 0 95 (dk_at dksX3_revoke_2 0 rfl rfl)
theorem dX3_revoke_49 : decode cX3_revoke 49 = .ok (.iinc 3 1, 3) := dk_132 3 1 (dk_at dksX3_revoke_2 3 rfl rfl)
theorem dX3_revoke_52 : decode cX3_revoke 52 = .ok (.goto (-40), 3) := dk_167 255 216 (dk_at dksX3_revoke_2 6 rfl rfl)
theorem dX3_revoke_55 : decode cX3_revoke 55 = .ok (.return_, 1) := dk_177 (dk_at dksX3_revoke_2 9 rfl rfl)
abbrev cX3_goesToKin : ByteArray := prog_6_method_26_code
def yX3_goesToKin : MethodName := ⟨RX3, "goesToKin", "(II)V"⟩
def dkwX3_goesToKin_2 : List UInt8 := [181, 0, 35, 177]
abbrev dktX3_goesToKin_2 : List UInt8 := dkwX3_goesToKin_2 ++ []
def dkwX3_goesToKin_1 : List UInt8 := [28, 42, 27, 29, 182, 0, 165, 182, 0, 150, 177, 132, 3, 1, 167, 255, 220, 42, 89, 180, 0, 35, 28, 96]
abbrev dktX3_goesToKin_1 : List UInt8 := dkwX3_goesToKin_1 ++ dktX3_goesToKin_2
def dkwX3_goesToKin_0 : List UInt8 := [3, 62, 29, 8, 162, 0, 37, 42, 42, 27, 29, 182, 0, 165, 182, 0, 141, 154, 0, 6, 167, 0, 15, 42]
abbrev dktX3_goesToKin_0 : List UInt8 := dkwX3_goesToKin_0 ++ dktX3_goesToKin_1
theorem dksX3_goesToKin_0 : cX3_goesToKin.data.toList.drop 0 = dktX3_goesToKin_0 := by decide +kernel
theorem dksX3_goesToKin_1 : cX3_goesToKin.data.toList.drop 24 = dktX3_goesToKin_1 := dk_seg dksX3_goesToKin_0 24 rfl rfl
theorem dksX3_goesToKin_2 : cX3_goesToKin.data.toList.drop 48 = dktX3_goesToKin_2 := dk_seg dksX3_goesToKin_1 24 rfl rfl
theorem dX3_goesToKin_0 : decode cX3_goesToKin 0 = .ok (.iconst 0, 1) := dk_3 (dk_at dksX3_goesToKin_0 0 rfl rfl)
theorem dX3_goesToKin_1 : decode cX3_goesToKin 1 = .ok (.istore_n 3, 1) := dk_62 (dk_at dksX3_goesToKin_0 1 rfl rfl)
theorem dX3_goesToKin_2 : decode cX3_goesToKin 2 = .ok (.iload_n 3, 1) := dk_29 (dk_at dksX3_goesToKin_0 2 rfl rfl)
theorem dX3_goesToKin_3 : decode cX3_goesToKin 3 = .ok (.iconst 5, 1) := dk_8 (dk_at dksX3_goesToKin_0 3 rfl rfl)
theorem dX3_goesToKin_4 : decode cX3_goesToKin 4 = .ok (.if_icmp .ge 37, 3) := dk_162 0 37 (dk_at dksX3_goesToKin_0 4 rfl rfl)
theorem dX3_goesToKin_7 : decode cX3_goesToKin 7 = .ok (.aload_n 0, 1) := dk_42 (dk_at dksX3_goesToKin_0 7 rfl rfl)
theorem dX3_goesToKin_8 : decode cX3_goesToKin 8 = .ok (.aload_n 0, 1) := dk_42 (dk_at dksX3_goesToKin_0 8 rfl rfl)
theorem dX3_goesToKin_9 : decode cX3_goesToKin 9 = .ok (.iload_n 1, 1) := dk_27 (dk_at dksX3_goesToKin_0 9 rfl rfl)
theorem dX3_goesToKin_10 : decode cX3_goesToKin 10 = .ok (.iload_n 3, 1) := dk_29 (dk_at dksX3_goesToKin_0 10 rfl rfl)
theorem dX3_goesToKin_11 : decode cX3_goesToKin 11 = .ok (.invokevirtual 165, 3) := dk_182 0 165 (dk_at dksX3_goesToKin_0 11 rfl rfl)
theorem dX3_goesToKin_14 : decode cX3_goesToKin 14 = .ok (.invokevirtual 141, 3) := dk_182 0 141 (dk_at dksX3_goesToKin_0 14 rfl rfl)
theorem dX3_goesToKin_17 : decode cX3_goesToKin 17 = .ok (.ifCond .ne 6, 3) := dk_154 0 6 (dk_at dksX3_goesToKin_0 17 rfl rfl)
theorem dX3_goesToKin_20 : decode cX3_goesToKin 20 = .ok (.goto 15, 3) := dk_167 0 15 (dk_at dksX3_goesToKin_0 20 rfl rfl)
theorem dX3_goesToKin_23 : decode cX3_goesToKin 23 = .ok (.aload_n 0, 1) := dk_42 (dk_at dksX3_goesToKin_0 23 rfl rfl)
theorem dX3_goesToKin_24 : decode cX3_goesToKin 24 = .ok (.iload_n 2, 1) := dk_28 (dk_at dksX3_goesToKin_1 0 rfl rfl)
theorem dX3_goesToKin_25 : decode cX3_goesToKin 25 = .ok (.aload_n 0, 1) := dk_42 (dk_at dksX3_goesToKin_1 1 rfl rfl)
theorem dX3_goesToKin_26 : decode cX3_goesToKin 26 = .ok (.iload_n 1, 1) := dk_27 (dk_at dksX3_goesToKin_1 2 rfl rfl)
theorem dX3_goesToKin_27 : decode cX3_goesToKin 27 = .ok (.iload_n 3, 1) := dk_29 (dk_at dksX3_goesToKin_1 3 rfl rfl)
theorem dX3_goesToKin_28 : decode cX3_goesToKin 28 = .ok (.invokevirtual 165, 3) := dk_182 0 165 (dk_at dksX3_goesToKin_1 4 rfl rfl)
theorem dX3_goesToKin_31 : decode cX3_goesToKin 31 = .ok (.invokevirtual 150, 3) := dk_182 0 150 (dk_at dksX3_goesToKin_1 7 rfl rfl)
theorem dX3_goesToKin_34 : decode cX3_goesToKin 34 = .ok (.return_, 1) := dk_177 (dk_at dksX3_goesToKin_1 10 rfl rfl)
theorem dX3_goesToKin_35 : decode cX3_goesToKin 35 = .ok (.iinc 3 1, 3) := dk_132 3 1 (dk_at dksX3_goesToKin_1 11 rfl rfl)
theorem dX3_goesToKin_38 : decode cX3_goesToKin 38 = .ok (.goto (-36), 3) := dk_167 255 220 (dk_at dksX3_goesToKin_1 14 rfl rfl)
theorem dX3_goesToKin_41 : decode cX3_goesToKin 41 = .ok (.aload_n 0, 1) := dk_42 (dk_at dksX3_goesToKin_1 17 rfl rfl)
theorem dX3_goesToKin_42 : decode cX3_goesToKin 42 = .ok (.dup, 1) := dk_89 (dk_at dksX3_goesToKin_1 18 rfl rfl)
theorem dX3_goesToKin_43 : decode cX3_goesToKin 43 = .ok (.getfield 35, 3) := dk_180 0 35 (dk_at dksX3_goesToKin_1 19 rfl rfl)
theorem dX3_goesToKin_46 : decode cX3_goesToKin 46 = .ok (.iload_n 2, 1) := dk_28 (dk_at dksX3_goesToKin_1 22 rfl rfl)
theorem dX3_goesToKin_47 : decode cX3_goesToKin 47 = .ok (.iadd, 1) := dk_96 (dk_at dksX3_goesToKin_1 23 rfl rfl)
theorem dX3_goesToKin_48 : decode cX3_goesToKin 48 = .ok (.putfield 35, 3) := dk_181 0 35 (dk_at dksX3_goesToKin_2 0 rfl rfl)
theorem dX3_goesToKin_51 : decode cX3_goesToKin 51 = .ok (.return_, 1) := dk_177 (dk_at dksX3_goesToKin_2 3 rfl rfl)
abbrev cX3_kinOf : ByteArray := prog_6_method_25_code
def yX3_kinOf : MethodName := ⟨RX3, "kinOf", "(II)I"⟩
def dkwX3_kinOf_3 : List UInt8 := [182, 0, 162, 172, 21, 4, 42, 180, 0, 45, 126, 172, 42, 180, 0, 27, 21, 4, 3, 182, 0, 162, 172]
abbrev dktX3_kinOf_3 : List UInt8 := dkwX3_kinOf_3 ++ []
def dkwX3_kinOf_2 : List UInt8 := [42, 27, 182, 0, 57, 180, 0, 147, 172, 29, 42, 180, 0, 45, 126, 172, 42, 180, 0, 27, 29, 3]
abbrev dktX3_kinOf_2 : List UInt8 := dkwX3_kinOf_2 ++ dktX3_kinOf_3
def dkwX3_kinOf_1 : List UInt8 := [170, 0, 0, 0, 0, 0, 65, 0, 0, 0, 0, 0, 0, 0, 3, 0, 0, 0, 31, 0, 0, 0, 40, 0, 0, 0, 47, 0, 0, 0, 57]
abbrev dktX3_kinOf_1 : List UInt8 := dkwX3_kinOf_1 ++ dktX3_kinOf_2
def dkwX3_kinOf_0 : List UInt8 := [42, 27, 182, 0, 57, 180, 0, 159, 62, 42, 180, 0, 27, 29, 4, 182, 0, 162, 54, 4, 28]
abbrev dktX3_kinOf_0 : List UInt8 := dkwX3_kinOf_0 ++ dktX3_kinOf_1
theorem dksX3_kinOf_0 : cX3_kinOf.data.toList.drop 0 = dktX3_kinOf_0 := by decide +kernel
theorem dksX3_kinOf_1 : cX3_kinOf.data.toList.drop 21 = dktX3_kinOf_1 := dk_seg dksX3_kinOf_0 21 rfl rfl
theorem dksX3_kinOf_2 : cX3_kinOf.data.toList.drop 52 = dktX3_kinOf_2 := dk_seg dksX3_kinOf_1 31 rfl rfl
theorem dksX3_kinOf_3 : cX3_kinOf.data.toList.drop 74 = dktX3_kinOf_3 := dk_seg dksX3_kinOf_2 22 rfl rfl
theorem dX3_kinOf_0 : decode cX3_kinOf 0 = .ok (.aload_n 0, 1) := dk_42 (dk_at dksX3_kinOf_0 0 rfl rfl)
theorem dX3_kinOf_1 : decode cX3_kinOf 1 = .ok (.iload_n 1, 1) := dk_27 (dk_at dksX3_kinOf_0 1 rfl rfl)
theorem dX3_kinOf_2 : decode cX3_kinOf 2 = .ok (.invokevirtual 57, 3) := dk_182 0 57 (dk_at dksX3_kinOf_0 2 rfl rfl)
theorem dX3_kinOf_5 : decode cX3_kinOf 5 = .ok (.getfield 159, 3) := dk_180 0 159 (dk_at dksX3_kinOf_0 5 rfl rfl)
theorem dX3_kinOf_8 : decode cX3_kinOf 8 = .ok (.istore_n 3, 1) := dk_62 (dk_at dksX3_kinOf_0 8 rfl rfl)
theorem dX3_kinOf_9 : decode cX3_kinOf 9 = .ok (.aload_n 0, 1) := dk_42 (dk_at dksX3_kinOf_0 9 rfl rfl)
theorem dX3_kinOf_10 : decode cX3_kinOf 10 = .ok (.getfield 27, 3) := dk_180 0 27 (dk_at dksX3_kinOf_0 10 rfl rfl)
theorem dX3_kinOf_13 : decode cX3_kinOf 13 = .ok (.iload_n 3, 1) := dk_29 (dk_at dksX3_kinOf_0 13 rfl rfl)
theorem dX3_kinOf_14 : decode cX3_kinOf 14 = .ok (.iconst 1, 1) := dk_4 (dk_at dksX3_kinOf_0 14 rfl rfl)
theorem dX3_kinOf_15 : decode cX3_kinOf 15 = .ok (.invokevirtual 162, 3) := dk_182 0 162 (dk_at dksX3_kinOf_0 15 rfl rfl)
theorem dX3_kinOf_18 : decode cX3_kinOf 18 = .ok (.istore 4, 2) := dk_54 4 (dk_at dksX3_kinOf_0 18 rfl rfl)
theorem dX3_kinOf_20 : decode cX3_kinOf 20 = .ok (.iload_n 2, 1) := dk_28 (dk_at dksX3_kinOf_0 20 rfl rfl)
theorem dX3_kinOf_21 : decode cX3_kinOf 21 = .ok (.tableswitch 65 0 3 #[31, 40, 47, 57], 31) := by decide +kernel
theorem dX3_kinOf_52 : decode cX3_kinOf 52 = .ok (.aload_n 0, 1) := dk_42 (dk_at dksX3_kinOf_2 0 rfl rfl)
theorem dX3_kinOf_53 : decode cX3_kinOf 53 = .ok (.iload_n 1, 1) := dk_27 (dk_at dksX3_kinOf_2 1 rfl rfl)
theorem dX3_kinOf_54 : decode cX3_kinOf 54 = .ok (.invokevirtual 57, 3) := dk_182 0 57 (dk_at dksX3_kinOf_2 2 rfl rfl)
theorem dX3_kinOf_57 : decode cX3_kinOf 57 = .ok (.getfield 147, 3) := dk_180 0 147 (dk_at dksX3_kinOf_2 5 rfl rfl)
theorem dX3_kinOf_60 : decode cX3_kinOf 60 = .ok (.ireturn, 1) := dk_172 (dk_at dksX3_kinOf_2 8 rfl rfl)
theorem dX3_kinOf_61 : decode cX3_kinOf 61 = .ok (.iload_n 3, 1) := dk_29 (dk_at dksX3_kinOf_2 9 rfl rfl)
theorem dX3_kinOf_62 : decode cX3_kinOf 62 = .ok (.aload_n 0, 1) := dk_42 (dk_at dksX3_kinOf_2 10 rfl rfl)
theorem dX3_kinOf_63 : decode cX3_kinOf 63 = .ok (.getfield 45, 3) := dk_180 0 45 (dk_at dksX3_kinOf_2 11 rfl rfl)
theorem dX3_kinOf_66 : decode cX3_kinOf 66 = .ok (.iand, 1) := dk_126 (dk_at dksX3_kinOf_2 14 rfl rfl)
theorem dX3_kinOf_67 : decode cX3_kinOf 67 = .ok (.ireturn, 1) := dk_172 (dk_at dksX3_kinOf_2 15 rfl rfl)
theorem dX3_kinOf_68 : decode cX3_kinOf 68 = .ok (.aload_n 0, 1) := dk_42 (dk_at dksX3_kinOf_2 16 rfl rfl)
theorem dX3_kinOf_69 : decode cX3_kinOf 69 = .ok (.getfield 27, 3) := dk_180 0 27 (dk_at dksX3_kinOf_2 17 rfl rfl)
theorem dX3_kinOf_72 : decode cX3_kinOf 72 = .ok (.iload_n 3, 1) := dk_29 (dk_at dksX3_kinOf_2 20 rfl rfl)
theorem dX3_kinOf_73 : decode cX3_kinOf 73 = .ok (.iconst 0, 1) := dk_3 (dk_at dksX3_kinOf_2 21 rfl rfl)
theorem dX3_kinOf_74 : decode cX3_kinOf 74 = .ok (.invokevirtual 162, 3) := dk_182 0 162 (dk_at dksX3_kinOf_3 0 rfl rfl)
theorem dX3_kinOf_77 : decode cX3_kinOf 77 = .ok (.ireturn, 1) := dk_172 (dk_at dksX3_kinOf_3 3 rfl rfl)
theorem dX3_kinOf_78 : decode cX3_kinOf 78 = .ok (.iload 4, 2) := dk_21 4 (dk_at dksX3_kinOf_3 4 rfl rfl)
theorem dX3_kinOf_80 : decode cX3_kinOf 80 = .ok (.aload_n 0, 1) := dk_42 (dk_at dksX3_kinOf_3 6 rfl rfl)
theorem dX3_kinOf_81 : decode cX3_kinOf 81 = .ok (.getfield 45, 3) := dk_180 0 45 (dk_at dksX3_kinOf_3 7 rfl rfl)
theorem dX3_kinOf_84 : decode cX3_kinOf 84 = .ok (.iand, 1) := dk_126 (dk_at dksX3_kinOf_3 10 rfl rfl)
theorem dX3_kinOf_85 : decode cX3_kinOf 85 = .ok (.ireturn, 1) := dk_172 (dk_at dksX3_kinOf_3 11 rfl rfl)
theorem dX3_kinOf_86 : decode cX3_kinOf 86 = .ok (.aload_n 0, 1) := dk_42 (dk_at dksX3_kinOf_3 12 rfl rfl)
theorem dX3_kinOf_87 : decode cX3_kinOf 87 = .ok (.getfield 27, 3) := dk_180 0 27 (dk_at dksX3_kinOf_3 13 rfl rfl)
theorem dX3_kinOf_90 : decode cX3_kinOf 90 = .ok (.iload 4, 2) := dk_21 4 (dk_at dksX3_kinOf_3 16 rfl rfl)
theorem dX3_kinOf_92 : decode cX3_kinOf 92 = .ok (.iconst 0, 1) := dk_3 (dk_at dksX3_kinOf_3 18 rfl rfl)
theorem dX3_kinOf_93 : decode cX3_kinOf 93 = .ok (.invokevirtual 162, 3) := dk_182 0 162 (dk_at dksX3_kinOf_3 19 rfl rfl)
theorem dX3_kinOf_96 : decode cX3_kinOf 96 = .ok (.ireturn, 1) := dk_172 (dk_at dksX3_kinOf_3 22 rfl rfl)
abbrev cX3_stirpes : ByteArray := prog_6_method_22_code
def yX3_stirpes : MethodName := ⟨RX3, "stirpes", "(I)I"⟩
def dkwX3_stirpes_2 : List UInt8 := [167, 255, 215, 28, 172]
abbrev dktX3_stirpes_2 : List UInt8 := dkwX3_stirpes_2 ++ []
def dkwX3_stirpes_1 : List UInt8 := [182, 0, 123, 154, 0, 11, 42, 29, 182, 0, 138, 153, 0, 9, 28, 4, 29, 120, 128, 61, 132, 3, 1]
abbrev dktX3_stirpes_1 : List UInt8 := dkwX3_stirpes_1 ++ dktX3_stirpes_2
def dkwX3_stirpes_0 : List UInt8 := [3, 61, 3, 62, 29, 42, 182, 0, 41, 162, 0, 39, 27, 29, 184, 0, 115, 153, 0, 25, 42, 29]
abbrev dktX3_stirpes_0 : List UInt8 := dkwX3_stirpes_0 ++ dktX3_stirpes_1
theorem dksX3_stirpes_0 : cX3_stirpes.data.toList.drop 0 = dktX3_stirpes_0 := by decide +kernel
theorem dksX3_stirpes_1 : cX3_stirpes.data.toList.drop 22 = dktX3_stirpes_1 := dk_seg dksX3_stirpes_0 22 rfl rfl
theorem dksX3_stirpes_2 : cX3_stirpes.data.toList.drop 45 = dktX3_stirpes_2 := dk_seg dksX3_stirpes_1 23 rfl rfl
theorem dX3_stirpes_0 : decode cX3_stirpes 0 = .ok (.iconst 0, 1) := dk_3 (dk_at dksX3_stirpes_0 0 rfl rfl)
theorem dX3_stirpes_1 : decode cX3_stirpes 1 = .ok (.istore_n 2, 1) := dk_61 (dk_at dksX3_stirpes_0 1 rfl rfl)
theorem dX3_stirpes_2 : decode cX3_stirpes 2 = .ok (.iconst 0, 1) := dk_3 (dk_at dksX3_stirpes_0 2 rfl rfl)
theorem dX3_stirpes_3 : decode cX3_stirpes 3 = .ok (.istore_n 3, 1) := dk_62 (dk_at dksX3_stirpes_0 3 rfl rfl)
theorem dX3_stirpes_4 : decode cX3_stirpes 4 = .ok (.iload_n 3, 1) := dk_29 (dk_at dksX3_stirpes_0 4 rfl rfl)
theorem dX3_stirpes_5 : decode cX3_stirpes 5 = .ok (.aload_n 0, 1) := dk_42 (dk_at dksX3_stirpes_0 5 rfl rfl)
theorem dX3_stirpes_6 : decode cX3_stirpes 6 = .ok (.invokevirtual 41, 3) := dk_182 0 41 (dk_at dksX3_stirpes_0 6 rfl rfl)
theorem dX3_stirpes_9 : decode cX3_stirpes 9 = .ok (.if_icmp .ge 39, 3) := dk_162 0 39 (dk_at dksX3_stirpes_0 9 rfl rfl)
theorem dX3_stirpes_12 : decode cX3_stirpes 12 = .ok (.iload_n 1, 1) := dk_27 (dk_at dksX3_stirpes_0 12 rfl rfl)
theorem dX3_stirpes_13 : decode cX3_stirpes 13 = .ok (.iload_n 3, 1) := dk_29 (dk_at dksX3_stirpes_0 13 rfl rfl)
theorem dX3_stirpes_14 : decode cX3_stirpes 14 = .ok (.invokestatic 115, 3) := dk_184 0 115 (dk_at dksX3_stirpes_0 14 rfl rfl)
theorem dX3_stirpes_17 : decode cX3_stirpes 17 = .ok (.ifCond .eq 25, 3) := dk_153 0 25 (dk_at dksX3_stirpes_0 17 rfl rfl)
theorem dX3_stirpes_20 : decode cX3_stirpes 20 = .ok (.aload_n 0, 1) := dk_42 (dk_at dksX3_stirpes_0 20 rfl rfl)
theorem dX3_stirpes_21 : decode cX3_stirpes 21 = .ok (.iload_n 3, 1) := dk_29 (dk_at dksX3_stirpes_0 21 rfl rfl)
theorem dX3_stirpes_22 : decode cX3_stirpes 22 = .ok (.invokevirtual 123, 3) := dk_182 0 123 (dk_at dksX3_stirpes_1 0 rfl rfl)
theorem dX3_stirpes_25 : decode cX3_stirpes 25 = .ok (.ifCond .ne 11, 3) := dk_154 0 11 (dk_at dksX3_stirpes_1 3 rfl rfl)
theorem dX3_stirpes_28 : decode cX3_stirpes 28 = .ok (.aload_n 0, 1) := dk_42 (dk_at dksX3_stirpes_1 6 rfl rfl)
theorem dX3_stirpes_29 : decode cX3_stirpes 29 = .ok (.iload_n 3, 1) := dk_29 (dk_at dksX3_stirpes_1 7 rfl rfl)
theorem dX3_stirpes_30 : decode cX3_stirpes 30 = .ok (.invokevirtual 138, 3) := dk_182 0 138 (dk_at dksX3_stirpes_1 8 rfl rfl)
theorem dX3_stirpes_33 : decode cX3_stirpes 33 = .ok (.ifCond .eq 9, 3) := dk_153 0 9 (dk_at dksX3_stirpes_1 11 rfl rfl)
theorem dX3_stirpes_36 : decode cX3_stirpes 36 = .ok (.iload_n 2, 1) := dk_28 (dk_at dksX3_stirpes_1 14 rfl rfl)
theorem dX3_stirpes_37 : decode cX3_stirpes 37 = .ok (.iconst 1, 1) := dk_4 (dk_at dksX3_stirpes_1 15 rfl rfl)
theorem dX3_stirpes_38 : decode cX3_stirpes 38 = .ok (.iload_n 3, 1) := dk_29 (dk_at dksX3_stirpes_1 16 rfl rfl)
theorem dX3_stirpes_39 : decode cX3_stirpes 39 = .ok (.ishl, 1) := dk_120 (dk_at dksX3_stirpes_1 17 rfl rfl)
theorem dX3_stirpes_40 : decode cX3_stirpes 40 = .ok (.ior, 1) := dk_128 (dk_at dksX3_stirpes_1 18 rfl rfl)
theorem dX3_stirpes_41 : decode cX3_stirpes 41 = .ok (.istore_n 2, 1) := dk_61 (dk_at dksX3_stirpes_1 19 rfl rfl)
theorem dX3_stirpes_42 : decode cX3_stirpes 42 = .ok (.iinc 3 1, 3) := dk_132 3 1 (dk_at dksX3_stirpes_1 20 rfl rfl)
theorem dX3_stirpes_45 : decode cX3_stirpes 45 = .ok (.goto (-41), 3) := dk_167 255 215 (dk_at dksX3_stirpes_2 0 rfl rfl)
theorem dX3_stirpes_48 : decode cX3_stirpes 48 = .ok (.iload_n 2, 1) := dk_28 (dk_at dksX3_stirpes_2 3 rfl rfl)
theorem dX3_stirpes_49 : decode cX3_stirpes 49 = .ok (.ireturn, 1) := dk_172 (dk_at dksX3_stirpes_2 4 rfl rfl)
abbrev cX3_livingIssue : ByteArray := prog_6_method_10_code
def yX3_livingIssue : MethodName := ⟨RX3, "livingIssue", "(I)I"⟩
def dkwX3_livingIssue_0 : List UInt8 := [42, 180, 0, 27, 27, 182, 0, 119, 42, 180, 0, 45, 126, 172]
abbrev dktX3_livingIssue_0 : List UInt8 := dkwX3_livingIssue_0 ++ []
theorem dksX3_livingIssue_0 : cX3_livingIssue.data.toList.drop 0 = dktX3_livingIssue_0 := by decide +kernel
theorem dX3_livingIssue_0 : decode cX3_livingIssue 0 = .ok (.aload_n 0, 1) := dk_42 (dk_at dksX3_livingIssue_0 0 rfl rfl)
theorem dX3_livingIssue_1 : decode cX3_livingIssue 1 = .ok (.getfield 27, 3) := dk_180 0 27 (dk_at dksX3_livingIssue_0 1 rfl rfl)
theorem dX3_livingIssue_4 : decode cX3_livingIssue 4 = .ok (.iload_n 1, 1) := dk_27 (dk_at dksX3_livingIssue_0 4 rfl rfl)
theorem dX3_livingIssue_5 : decode cX3_livingIssue 5 = .ok (.invokevirtual 119, 3) := dk_182 0 119 (dk_at dksX3_livingIssue_0 5 rfl rfl)
theorem dX3_livingIssue_8 : decode cX3_livingIssue 8 = .ok (.aload_n 0, 1) := dk_42 (dk_at dksX3_livingIssue_0 8 rfl rfl)
theorem dX3_livingIssue_9 : decode cX3_livingIssue 9 = .ok (.getfield 45, 3) := dk_180 0 45 (dk_at dksX3_livingIssue_0 9 rfl rfl)
theorem dX3_livingIssue_12 : decode cX3_livingIssue 12 = .ok (.iand, 1) := dk_126 (dk_at dksX3_livingIssue_0 12 rfl rfl)
theorem dX3_livingIssue_13 : decode cX3_livingIssue 13 = .ok (.ireturn, 1) := dk_172 (dk_at dksX3_livingIssue_0 13 rfl rfl)
abbrev cX3_share : ByteArray := prog_6_method_23_code
def yX3_share : MethodName := ⟨RX3, "share", "(II)V"⟩
def dkwX3_share_4 : List UInt8 := [42, 21, 6, 182, 0, 57, 180, 0, 147, 182, 0, 150, 132, 6, 1, 167, 255, 174, 177]
abbrev dktX3_share_4 : List UInt8 := dkwX3_share_4 ++ []
def dkwX3_share_3 : List UInt8 := [182, 0, 123, 153, 0, 18, 42, 180, 0, 9, 21, 6, 92, 46, 21, 7, 96, 79, 167, 0, 18, 42, 21, 7]
abbrev dktX3_share_3 : List UInt8 := dkwX3_share_3 ++ dktX3_share_4
def dkwX3_share_2 : List UInt8 := [21, 5, 158, 0, 10, 21, 4, 4, 96, 167, 0, 5, 21, 4, 54, 7, 132, 5, 255, 42, 21, 6]
abbrev dktX3_share_2 : List UInt8 := dkwX3_share_2 ++ dktX3_share_3
def dkwX3_share_1 : List UInt8 := [54, 6, 21, 6, 42, 182, 0, 41, 162, 0, 79, 29, 21, 6, 184, 0, 115, 154, 0, 6, 167, 0, 61]
abbrev dktX3_share_1 : List UInt8 := dkwX3_share_1 ++ dktX3_share_2
def dkwX3_share_0 : List UInt8 := [42, 28, 182, 0, 141, 62, 27, 29, 184, 0, 144, 108, 54, 4, 27, 29, 184, 0, 144, 112, 54, 5, 3]
abbrev dktX3_share_0 : List UInt8 := dkwX3_share_0 ++ dktX3_share_1
theorem dksX3_share_0 : cX3_share.data.toList.drop 0 = dktX3_share_0 := by decide +kernel
theorem dksX3_share_1 : cX3_share.data.toList.drop 23 = dktX3_share_1 := dk_seg dksX3_share_0 23 rfl rfl
theorem dksX3_share_2 : cX3_share.data.toList.drop 46 = dktX3_share_2 := dk_seg dksX3_share_1 23 rfl rfl
theorem dksX3_share_3 : cX3_share.data.toList.drop 68 = dktX3_share_3 := dk_seg dksX3_share_2 22 rfl rfl
theorem dksX3_share_4 : cX3_share.data.toList.drop 92 = dktX3_share_4 := dk_seg dksX3_share_3 24 rfl rfl
theorem dX3_share_0 : decode cX3_share 0 = .ok (.aload_n 0, 1) := dk_42 (dk_at dksX3_share_0 0 rfl rfl)
theorem dX3_share_1 : decode cX3_share 1 = .ok (.iload_n 2, 1) := dk_28 (dk_at dksX3_share_0 1 rfl rfl)
theorem dX3_share_2 : decode cX3_share 2 = .ok (.invokevirtual 141, 3) := dk_182 0 141 (dk_at dksX3_share_0 2 rfl rfl)
theorem dX3_share_5 : decode cX3_share 5 = .ok (.istore_n 3, 1) := dk_62 (dk_at dksX3_share_0 5 rfl rfl)
theorem dX3_share_6 : decode cX3_share 6 = .ok (.iload_n 1, 1) := dk_27 (dk_at dksX3_share_0 6 rfl rfl)
theorem dX3_share_7 : decode cX3_share 7 = .ok (.iload_n 3, 1) := dk_29 (dk_at dksX3_share_0 7 rfl rfl)
theorem dX3_share_8 : decode cX3_share 8 = .ok (.invokestatic 144, 3) := dk_184 0 144 (dk_at dksX3_share_0 8 rfl rfl)
theorem dX3_share_11 : decode cX3_share 11 = .ok (.idiv, 1) := dk_108 (dk_at dksX3_share_0 11 rfl rfl)
theorem dX3_share_12 : decode cX3_share 12 = .ok (.istore 4, 2) := dk_54 4 (dk_at dksX3_share_0 12 rfl rfl)
theorem dX3_share_14 : decode cX3_share 14 = .ok (.iload_n 1, 1) := dk_27 (dk_at dksX3_share_0 14 rfl rfl)
theorem dX3_share_15 : decode cX3_share 15 = .ok (.iload_n 3, 1) := dk_29 (dk_at dksX3_share_0 15 rfl rfl)
theorem dX3_share_16 : decode cX3_share 16 = .ok (.invokestatic 144, 3) := dk_184 0 144 (dk_at dksX3_share_0 16 rfl rfl)
theorem dX3_share_19 : decode cX3_share 19 = .ok (.irem, 1) := dk_112 (dk_at dksX3_share_0 19 rfl rfl)
theorem dX3_share_20 : decode cX3_share 20 = .ok (.istore 5, 2) := dk_54 5 (dk_at dksX3_share_0 20 rfl rfl)
theorem dX3_share_22 : decode cX3_share 22 = .ok (.iconst 0, 1) := dk_3 (dk_at dksX3_share_0 22 rfl rfl)
theorem dX3_share_23 : decode cX3_share 23 = .ok (.istore 6, 2) := dk_54 6 (dk_at dksX3_share_1 0 rfl rfl)
theorem dX3_share_25 : decode cX3_share 25 = .ok (.iload 6, 2) := dk_21 6 (dk_at dksX3_share_1 2 rfl rfl)
theorem dX3_share_27 : decode cX3_share 27 = .ok (.aload_n 0, 1) := dk_42 (dk_at dksX3_share_1 4 rfl rfl)
theorem dX3_share_28 : decode cX3_share 28 = .ok (.invokevirtual 41, 3) := dk_182 0 41 (dk_at dksX3_share_1 5 rfl rfl)
theorem dX3_share_31 : decode cX3_share 31 = .ok (.if_icmp .ge 79, 3) := dk_162 0 79 (dk_at dksX3_share_1 8 rfl rfl)
theorem dX3_share_34 : decode cX3_share 34 = .ok (.iload_n 3, 1) := dk_29 (dk_at dksX3_share_1 11 rfl rfl)
theorem dX3_share_35 : decode cX3_share 35 = .ok (.iload 6, 2) := dk_21 6 (dk_at dksX3_share_1 12 rfl rfl)
theorem dX3_share_37 : decode cX3_share 37 = .ok (.invokestatic 115, 3) := dk_184 0 115 (dk_at dksX3_share_1 14 rfl rfl)
theorem dX3_share_40 : decode cX3_share 40 = .ok (.ifCond .ne 6, 3) := dk_154 0 6 (dk_at dksX3_share_1 17 rfl rfl)
theorem dX3_share_43 : decode cX3_share 43 = .ok (.goto 61, 3) := dk_167 0 61 (dk_at dksX3_share_1 20 rfl rfl)
theorem dX3_share_46 : decode cX3_share 46 = .ok (.iload 5, 2) := dk_21 5 (dk_at dksX3_share_2 0 rfl rfl)
theorem dX3_share_48 : decode cX3_share 48 = .ok (.ifCond .le 10, 3) := dk_158 0 10 (dk_at dksX3_share_2 2 rfl rfl)
theorem dX3_share_51 : decode cX3_share 51 = .ok (.iload 4, 2) := dk_21 4 (dk_at dksX3_share_2 5 rfl rfl)
theorem dX3_share_53 : decode cX3_share 53 = .ok (.iconst 1, 1) := dk_4 (dk_at dksX3_share_2 7 rfl rfl)
theorem dX3_share_54 : decode cX3_share 54 = .ok (.iadd, 1) := dk_96 (dk_at dksX3_share_2 8 rfl rfl)
theorem dX3_share_55 : decode cX3_share 55 = .ok (.goto 5, 3) := dk_167 0 5 (dk_at dksX3_share_2 9 rfl rfl)
theorem dX3_share_58 : decode cX3_share 58 = .ok (.iload 4, 2) := dk_21 4 (dk_at dksX3_share_2 12 rfl rfl)
theorem dX3_share_60 : decode cX3_share 60 = .ok (.istore 7, 2) := dk_54 7 (dk_at dksX3_share_2 14 rfl rfl)
theorem dX3_share_62 : decode cX3_share 62 = .ok (.iinc 5 (-1), 3) := dk_132 5 255 (dk_at dksX3_share_2 16 rfl rfl)
theorem dX3_share_65 : decode cX3_share 65 = .ok (.aload_n 0, 1) := dk_42 (dk_at dksX3_share_2 19 rfl rfl)
theorem dX3_share_66 : decode cX3_share 66 = .ok (.iload 6, 2) := dk_21 6 (dk_at dksX3_share_2 20 rfl rfl)
theorem dX3_share_68 : decode cX3_share 68 = .ok (.invokevirtual 123, 3) := dk_182 0 123 (dk_at dksX3_share_3 0 rfl rfl)
theorem dX3_share_71 : decode cX3_share 71 = .ok (.ifCond .eq 18, 3) := dk_153 0 18 (dk_at dksX3_share_3 3 rfl rfl)
theorem dX3_share_74 : decode cX3_share 74 = .ok (.aload_n 0, 1) := dk_42 (dk_at dksX3_share_3 6 rfl rfl)
theorem dX3_share_75 : decode cX3_share 75 = .ok (.getfield 9, 3) := dk_180 0 9 (dk_at dksX3_share_3 7 rfl rfl)
theorem dX3_share_78 : decode cX3_share 78 = .ok (.iload 6, 2) := dk_21 6 (dk_at dksX3_share_3 10 rfl rfl)
theorem dX3_share_80 : decode cX3_share 80 = .ok (.dup2, 1) := dk_92 (dk_at dksX3_share_3 12 rfl rfl)
theorem dX3_share_81 : decode cX3_share 81 = .ok (.iaload, 1) := dk_46 (dk_at dksX3_share_3 13 rfl rfl)
theorem dX3_share_82 : decode cX3_share 82 = .ok (.iload 7, 2) := dk_21 7 (dk_at dksX3_share_3 14 rfl rfl)
theorem dX3_share_84 : decode cX3_share 84 = .ok (.iadd, 1) := dk_96 (dk_at dksX3_share_3 16 rfl rfl)
theorem dX3_share_85 : decode cX3_share 85 = .ok (.iastore, 1) := dk_79 (dk_at dksX3_share_3 17 rfl rfl)
theorem dX3_share_86 : decode cX3_share 86 = .ok (.goto 18, 3) := dk_167 0 18 (dk_at dksX3_share_3 18 rfl rfl)
theorem dX3_share_89 : decode cX3_share 89 = .ok (.aload_n 0, 1) := dk_42 (dk_at dksX3_share_3 21 rfl rfl)
theorem dX3_share_90 : decode cX3_share 90 = .ok (.iload 7, 2) := dk_21 7 (dk_at dksX3_share_3 22 rfl rfl)
theorem dX3_share_92 : decode cX3_share 92 = .ok (.aload_n 0, 1) := dk_42 (dk_at dksX3_share_4 0 rfl rfl)
theorem dX3_share_93 : decode cX3_share 93 = .ok (.iload 6, 2) := dk_21 6 (dk_at dksX3_share_4 1 rfl rfl)
theorem dX3_share_95 : decode cX3_share 95 = .ok (.invokevirtual 57, 3) := dk_182 0 57 (dk_at dksX3_share_4 3 rfl rfl)
theorem dX3_share_98 : decode cX3_share 98 = .ok (.getfield 147, 3) := dk_180 0 147 (dk_at dksX3_share_4 6 rfl rfl)
theorem dX3_share_101 : decode cX3_share 101 = .ok (.invokevirtual 150, 3) := dk_182 0 150 (dk_at dksX3_share_4 9 rfl rfl)
theorem dX3_share_104 : decode cX3_share 104 = .ok (.iinc 6 1, 3) := dk_132 6 1 (dk_at dksX3_share_4 12 rfl rfl)
theorem dX3_share_107 : decode cX3_share 107 = .ok (.goto (-82), 3) := dk_167 255 174 (dk_at dksX3_share_4 15 rfl rfl)
theorem dX3_share_110 : decode cX3_share 110 = .ok (.return_, 1) := dk_177 (dk_at dksX3_share_4 18 rfl rfl)
abbrev cX3_goesToSpouse : ByteArray := prog_6_method_27_code
def yX3_goesToSpouse : MethodName := ⟨RX3, "goesToSpouse", "(III)V"⟩
def dkwX3_goesToSpouse_2 : List UInt8 := [100, 42, 27, 182, 0, 57, 180, 0, 147, 182, 0, 150, 177]
abbrev dktX3_goesToSpouse_2 : List UInt8 := dkwX3_goesToSpouse_2 ++ []
def dkwX3_goesToSpouse_1 : List UInt8 := [180, 0, 168, 104, 16, 100, 108, 54, 4, 42, 180, 0, 9, 28, 92, 46, 21, 4, 96, 79, 42, 29, 21, 4]
abbrev dktX3_goesToSpouse_1 : List UInt8 := dkwX3_goesToSpouse_1 ++ dktX3_goesToSpouse_2
def dkwX3_goesToSpouse_0 : List UInt8 := [42, 27, 182, 0, 138, 154, 0, 14, 42, 180, 0, 9, 28, 92, 46, 29, 96, 79, 177, 29, 42, 180, 0, 27]
abbrev dktX3_goesToSpouse_0 : List UInt8 := dkwX3_goesToSpouse_0 ++ dktX3_goesToSpouse_1
theorem dksX3_goesToSpouse_0 : cX3_goesToSpouse.data.toList.drop 0 = dktX3_goesToSpouse_0 := by decide +kernel
theorem dksX3_goesToSpouse_1 : cX3_goesToSpouse.data.toList.drop 24 = dktX3_goesToSpouse_1 := dk_seg dksX3_goesToSpouse_0 24 rfl rfl
theorem dksX3_goesToSpouse_2 : cX3_goesToSpouse.data.toList.drop 48 = dktX3_goesToSpouse_2 := dk_seg dksX3_goesToSpouse_1 24 rfl rfl
theorem dX3_goesToSpouse_0 : decode cX3_goesToSpouse 0 = .ok (.aload_n 0, 1) := dk_42 (dk_at dksX3_goesToSpouse_0 0 rfl rfl)
theorem dX3_goesToSpouse_1 : decode cX3_goesToSpouse 1 = .ok (.iload_n 1, 1) := dk_27 (dk_at dksX3_goesToSpouse_0 1 rfl rfl)
theorem dX3_goesToSpouse_2 : decode cX3_goesToSpouse 2 = .ok (.invokevirtual 138, 3) := dk_182 0 138 (dk_at dksX3_goesToSpouse_0 2 rfl rfl)
theorem dX3_goesToSpouse_5 : decode cX3_goesToSpouse 5 = .ok (.ifCond .ne 14, 3) := dk_154 0 14 (dk_at dksX3_goesToSpouse_0 5 rfl rfl)
theorem dX3_goesToSpouse_8 : decode cX3_goesToSpouse 8 = .ok (.aload_n 0, 1) := dk_42 (dk_at dksX3_goesToSpouse_0 8 rfl rfl)
theorem dX3_goesToSpouse_9 : decode cX3_goesToSpouse 9 = .ok (.getfield 9, 3) := dk_180 0 9 (dk_at dksX3_goesToSpouse_0 9 rfl rfl)
theorem dX3_goesToSpouse_12 : decode cX3_goesToSpouse 12 = .ok (.iload_n 2, 1) := dk_28 (dk_at dksX3_goesToSpouse_0 12 rfl rfl)
theorem dX3_goesToSpouse_13 : decode cX3_goesToSpouse 13 = .ok (.dup2, 1) := dk_92 (dk_at dksX3_goesToSpouse_0 13 rfl rfl)
theorem dX3_goesToSpouse_14 : decode cX3_goesToSpouse 14 = .ok (.iaload, 1) := dk_46 (dk_at dksX3_goesToSpouse_0 14 rfl rfl)
theorem dX3_goesToSpouse_15 : decode cX3_goesToSpouse 15 = .ok (.iload_n 3, 1) := dk_29 (dk_at dksX3_goesToSpouse_0 15 rfl rfl)
theorem dX3_goesToSpouse_16 : decode cX3_goesToSpouse 16 = .ok (.iadd, 1) := dk_96 (dk_at dksX3_goesToSpouse_0 16 rfl rfl)
theorem dX3_goesToSpouse_17 : decode cX3_goesToSpouse 17 = .ok (.iastore, 1) := dk_79 (dk_at dksX3_goesToSpouse_0 17 rfl rfl)
theorem dX3_goesToSpouse_18 : decode cX3_goesToSpouse 18 = .ok (.return_, 1) := dk_177 (dk_at dksX3_goesToSpouse_0 18 rfl rfl)
theorem dX3_goesToSpouse_19 : decode cX3_goesToSpouse 19 = .ok (.iload_n 3, 1) := dk_29 (dk_at dksX3_goesToSpouse_0 19 rfl rfl)
theorem dX3_goesToSpouse_20 : decode cX3_goesToSpouse 20 = .ok (.aload_n 0, 1) := dk_42 (dk_at dksX3_goesToSpouse_0 20 rfl rfl)
theorem dX3_goesToSpouse_21 : decode cX3_goesToSpouse 21 = .ok (.getfield 27, 3) := dk_180 0 27 (dk_at dksX3_goesToSpouse_0 21 rfl rfl)
theorem dX3_goesToSpouse_24 : decode cX3_goesToSpouse 24 = .ok (.getfield 168, 3) := dk_180 0 168 (dk_at dksX3_goesToSpouse_1 0 rfl rfl)
theorem dX3_goesToSpouse_27 : decode cX3_goesToSpouse 27 = .ok (.imul, 1) := dk_104 (dk_at dksX3_goesToSpouse_1 3 rfl rfl)
theorem dX3_goesToSpouse_28 : decode cX3_goesToSpouse 28 = .ok (.bipush 100, 2) := dk_16 100 (dk_at dksX3_goesToSpouse_1 4 rfl rfl)
theorem dX3_goesToSpouse_30 : decode cX3_goesToSpouse 30 = .ok (.idiv, 1) := dk_108 (dk_at dksX3_goesToSpouse_1 6 rfl rfl)
theorem dX3_goesToSpouse_31 : decode cX3_goesToSpouse 31 = .ok (.istore 4, 2) := dk_54 4 (dk_at dksX3_goesToSpouse_1 7 rfl rfl)
theorem dX3_goesToSpouse_33 : decode cX3_goesToSpouse 33 = .ok (.aload_n 0, 1) := dk_42 (dk_at dksX3_goesToSpouse_1 9 rfl rfl)
theorem dX3_goesToSpouse_34 : decode cX3_goesToSpouse 34 = .ok (.getfield 9, 3) := dk_180 0 9 (dk_at dksX3_goesToSpouse_1 10 rfl rfl)
theorem dX3_goesToSpouse_37 : decode cX3_goesToSpouse 37 = .ok (.iload_n 2, 1) := dk_28 (dk_at dksX3_goesToSpouse_1 13 rfl rfl)
theorem dX3_goesToSpouse_38 : decode cX3_goesToSpouse 38 = .ok (.dup2, 1) := dk_92 (dk_at dksX3_goesToSpouse_1 14 rfl rfl)
theorem dX3_goesToSpouse_39 : decode cX3_goesToSpouse 39 = .ok (.iaload, 1) := dk_46 (dk_at dksX3_goesToSpouse_1 15 rfl rfl)
theorem dX3_goesToSpouse_40 : decode cX3_goesToSpouse 40 = .ok (.iload 4, 2) := dk_21 4 (dk_at dksX3_goesToSpouse_1 16 rfl rfl)
theorem dX3_goesToSpouse_42 : decode cX3_goesToSpouse 42 = .ok (.iadd, 1) := dk_96 (dk_at dksX3_goesToSpouse_1 18 rfl rfl)
theorem dX3_goesToSpouse_43 : decode cX3_goesToSpouse 43 = .ok (.iastore, 1) := dk_79 (dk_at dksX3_goesToSpouse_1 19 rfl rfl)
theorem dX3_goesToSpouse_44 : decode cX3_goesToSpouse 44 = .ok (.aload_n 0, 1) := dk_42 (dk_at dksX3_goesToSpouse_1 20 rfl rfl)
theorem dX3_goesToSpouse_45 : decode cX3_goesToSpouse 45 = .ok (.iload_n 3, 1) := dk_29 (dk_at dksX3_goesToSpouse_1 21 rfl rfl)
theorem dX3_goesToSpouse_46 : decode cX3_goesToSpouse 46 = .ok (.iload 4, 2) := dk_21 4 (dk_at dksX3_goesToSpouse_1 22 rfl rfl)
theorem dX3_goesToSpouse_48 : decode cX3_goesToSpouse 48 = .ok (.isub, 1) := dk_100 (dk_at dksX3_goesToSpouse_2 0 rfl rfl)
theorem dX3_goesToSpouse_49 : decode cX3_goesToSpouse 49 = .ok (.aload_n 0, 1) := dk_42 (dk_at dksX3_goesToSpouse_2 1 rfl rfl)
theorem dX3_goesToSpouse_50 : decode cX3_goesToSpouse 50 = .ok (.iload_n 1, 1) := dk_27 (dk_at dksX3_goesToSpouse_2 2 rfl rfl)
theorem dX3_goesToSpouse_51 : decode cX3_goesToSpouse 51 = .ok (.invokevirtual 57, 3) := dk_182 0 57 (dk_at dksX3_goesToSpouse_2 3 rfl rfl)
theorem dX3_goesToSpouse_54 : decode cX3_goesToSpouse 54 = .ok (.getfield 147, 3) := dk_180 0 147 (dk_at dksX3_goesToSpouse_2 6 rfl rfl)
theorem dX3_goesToSpouse_57 : decode cX3_goesToSpouse 57 = .ok (.invokevirtual 150, 3) := dk_182 0 150 (dk_at dksX3_goesToSpouse_2 9 rfl rfl)
theorem dX3_goesToSpouse_60 : decode cX3_goesToSpouse 60 = .ok (.return_, 1) := dk_177 (dk_at dksX3_goesToSpouse_2 12 rfl rfl)
abbrev cX3_whyGive : ByteArray := prog_6_method_17_code
def yX3_whyGive : MethodName := ⟨RX3, "whyGive", "(III)I"⟩
def dkwX3_whyGive_1 : List UInt8 := [27, 46, 29, 162, 0, 7, 5, 167, 0, 4, 3, 172]
abbrev dktX3_whyGive_1 : List UInt8 := dkwX3_whyGive_1 ++ []
def dkwX3_whyGive_0 : List UInt8 := [42, 27, 182, 0, 123, 153, 0, 11, 42, 28, 182, 0, 123, 154, 0, 7, 4, 167, 0, 18, 42, 180, 0, 9]
abbrev dktX3_whyGive_0 : List UInt8 := dkwX3_whyGive_0 ++ dktX3_whyGive_1
theorem dksX3_whyGive_0 : cX3_whyGive.data.toList.drop 0 = dktX3_whyGive_0 := by decide +kernel
theorem dksX3_whyGive_1 : cX3_whyGive.data.toList.drop 24 = dktX3_whyGive_1 := dk_seg dksX3_whyGive_0 24 rfl rfl
theorem dX3_whyGive_0 : decode cX3_whyGive 0 = .ok (.aload_n 0, 1) := dk_42 (dk_at dksX3_whyGive_0 0 rfl rfl)
theorem dX3_whyGive_1 : decode cX3_whyGive 1 = .ok (.iload_n 1, 1) := dk_27 (dk_at dksX3_whyGive_0 1 rfl rfl)
theorem dX3_whyGive_2 : decode cX3_whyGive 2 = .ok (.invokevirtual 123, 3) := dk_182 0 123 (dk_at dksX3_whyGive_0 2 rfl rfl)
theorem dX3_whyGive_5 : decode cX3_whyGive 5 = .ok (.ifCond .eq 11, 3) := dk_153 0 11 (dk_at dksX3_whyGive_0 5 rfl rfl)
theorem dX3_whyGive_8 : decode cX3_whyGive 8 = .ok (.aload_n 0, 1) := dk_42 (dk_at dksX3_whyGive_0 8 rfl rfl)
theorem dX3_whyGive_9 : decode cX3_whyGive 9 = .ok (.iload_n 2, 1) := dk_28 (dk_at dksX3_whyGive_0 9 rfl rfl)
theorem dX3_whyGive_10 : decode cX3_whyGive 10 = .ok (.invokevirtual 123, 3) := dk_182 0 123 (dk_at dksX3_whyGive_0 10 rfl rfl)
theorem dX3_whyGive_13 : decode cX3_whyGive 13 = .ok (.ifCond .ne 7, 3) := dk_154 0 7 (dk_at dksX3_whyGive_0 13 rfl rfl)
theorem dX3_whyGive_16 : decode cX3_whyGive 16 = .ok (.iconst 1, 1) := dk_4 (dk_at dksX3_whyGive_0 16 rfl rfl)
theorem dX3_whyGive_17 : decode cX3_whyGive 17 = .ok (.goto 18, 3) := dk_167 0 18 (dk_at dksX3_whyGive_0 17 rfl rfl)
theorem dX3_whyGive_20 : decode cX3_whyGive 20 = .ok (.aload_n 0, 1) := dk_42 (dk_at dksX3_whyGive_0 20 rfl rfl)
theorem dX3_whyGive_21 : decode cX3_whyGive 21 = .ok (.getfield 9, 3) := dk_180 0 9 (dk_at dksX3_whyGive_0 21 rfl rfl)
theorem dX3_whyGive_24 : decode cX3_whyGive 24 = .ok (.iload_n 1, 1) := dk_27 (dk_at dksX3_whyGive_1 0 rfl rfl)
theorem dX3_whyGive_25 : decode cX3_whyGive 25 = .ok (.iaload, 1) := dk_46 (dk_at dksX3_whyGive_1 1 rfl rfl)
theorem dX3_whyGive_26 : decode cX3_whyGive 26 = .ok (.iload_n 3, 1) := dk_29 (dk_at dksX3_whyGive_1 2 rfl rfl)
theorem dX3_whyGive_27 : decode cX3_whyGive 27 = .ok (.if_icmp .ge 7, 3) := dk_162 0 7 (dk_at dksX3_whyGive_1 3 rfl rfl)
theorem dX3_whyGive_30 : decode cX3_whyGive 30 = .ok (.iconst 2, 1) := dk_5 (dk_at dksX3_whyGive_1 6 rfl rfl)
theorem dX3_whyGive_31 : decode cX3_whyGive 31 = .ok (.goto 4, 3) := dk_167 0 4 (dk_at dksX3_whyGive_1 7 rfl rfl)
theorem dX3_whyGive_34 : decode cX3_whyGive 34 = .ok (.iconst 0, 1) := dk_3 (dk_at dksX3_whyGive_1 10 rfl rfl)
theorem dX3_whyGive_35 : decode cX3_whyGive 35 = .ok (.ireturn, 1) := dk_172 (dk_at dksX3_whyGive_1 11 rfl rfl)
abbrev cX3_give : ByteArray := prog_6_method_18_code
def yX3_give : MethodName := ⟨RX3, "give", "(III)V"⟩
def dkwX3_give_0 : List UInt8 := [42, 180, 0, 9, 27, 92, 46, 29, 100, 79, 42, 180, 0, 9, 28, 92, 46, 29, 96, 79, 177]
abbrev dktX3_give_0 : List UInt8 := dkwX3_give_0 ++ []
theorem dksX3_give_0 : cX3_give.data.toList.drop 0 = dktX3_give_0 := by decide +kernel
theorem dX3_give_0 : decode cX3_give 0 = .ok (.aload_n 0, 1) := dk_42 (dk_at dksX3_give_0 0 rfl rfl)
theorem dX3_give_1 : decode cX3_give 1 = .ok (.getfield 9, 3) := dk_180 0 9 (dk_at dksX3_give_0 1 rfl rfl)
theorem dX3_give_4 : decode cX3_give 4 = .ok (.iload_n 1, 1) := dk_27 (dk_at dksX3_give_0 4 rfl rfl)
theorem dX3_give_5 : decode cX3_give 5 = .ok (.dup2, 1) := dk_92 (dk_at dksX3_give_0 5 rfl rfl)
theorem dX3_give_6 : decode cX3_give 6 = .ok (.iaload, 1) := dk_46 (dk_at dksX3_give_0 6 rfl rfl)
theorem dX3_give_7 : decode cX3_give 7 = .ok (.iload_n 3, 1) := dk_29 (dk_at dksX3_give_0 7 rfl rfl)
theorem dX3_give_8 : decode cX3_give 8 = .ok (.isub, 1) := dk_100 (dk_at dksX3_give_0 8 rfl rfl)
theorem dX3_give_9 : decode cX3_give 9 = .ok (.iastore, 1) := dk_79 (dk_at dksX3_give_0 9 rfl rfl)
theorem dX3_give_10 : decode cX3_give 10 = .ok (.aload_n 0, 1) := dk_42 (dk_at dksX3_give_0 10 rfl rfl)
theorem dX3_give_11 : decode cX3_give 11 = .ok (.getfield 9, 3) := dk_180 0 9 (dk_at dksX3_give_0 11 rfl rfl)
theorem dX3_give_14 : decode cX3_give 14 = .ok (.iload_n 2, 1) := dk_28 (dk_at dksX3_give_0 14 rfl rfl)
theorem dX3_give_15 : decode cX3_give 15 = .ok (.dup2, 1) := dk_92 (dk_at dksX3_give_0 15 rfl rfl)
theorem dX3_give_16 : decode cX3_give 16 = .ok (.iaload, 1) := dk_46 (dk_at dksX3_give_0 16 rfl rfl)
theorem dX3_give_17 : decode cX3_give 17 = .ok (.iload_n 3, 1) := dk_29 (dk_at dksX3_give_0 17 rfl rfl)
theorem dX3_give_18 : decode cX3_give 18 = .ok (.iadd, 1) := dk_96 (dk_at dksX3_give_0 18 rfl rfl)
theorem dX3_give_19 : decode cX3_give 19 = .ok (.iastore, 1) := dk_79 (dk_at dksX3_give_0 19 rfl rfl)
theorem dX3_give_20 : decode cX3_give 20 = .ok (.return_, 1) := dk_177 (dk_at dksX3_give_0 20 rfl rfl)
abbrev cX3_whyLeave : ByteArray := prog_6_method_19_code
def yX3_whyLeave : MethodName := ⟨RX3, "whyLeave", "(II)I"⟩
def dkwX3_whyLeave_1 : List UInt8 := [16, 12, 160, 0, 7, 5, 167, 0, 4, 3, 172]
abbrev dktX3_whyLeave_1 : List UInt8 := dkwX3_whyLeave_1 ++ []
def dkwX3_whyLeave_0 : List UInt8 := [42, 27, 182, 0, 123, 153, 0, 11, 42, 28, 182, 0, 123, 154, 0, 7, 4, 167, 0, 17, 42, 180, 0, 48]
abbrev dktX3_whyLeave_0 : List UInt8 := dkwX3_whyLeave_0 ++ dktX3_whyLeave_1
theorem dksX3_whyLeave_0 : cX3_whyLeave.data.toList.drop 0 = dktX3_whyLeave_0 := by decide +kernel
theorem dksX3_whyLeave_1 : cX3_whyLeave.data.toList.drop 24 = dktX3_whyLeave_1 := dk_seg dksX3_whyLeave_0 24 rfl rfl
theorem dX3_whyLeave_0 : decode cX3_whyLeave 0 = .ok (.aload_n 0, 1) := dk_42 (dk_at dksX3_whyLeave_0 0 rfl rfl)
theorem dX3_whyLeave_1 : decode cX3_whyLeave 1 = .ok (.iload_n 1, 1) := dk_27 (dk_at dksX3_whyLeave_0 1 rfl rfl)
theorem dX3_whyLeave_2 : decode cX3_whyLeave 2 = .ok (.invokevirtual 123, 3) := dk_182 0 123 (dk_at dksX3_whyLeave_0 2 rfl rfl)
theorem dX3_whyLeave_5 : decode cX3_whyLeave 5 = .ok (.ifCond .eq 11, 3) := dk_153 0 11 (dk_at dksX3_whyLeave_0 5 rfl rfl)
theorem dX3_whyLeave_8 : decode cX3_whyLeave 8 = .ok (.aload_n 0, 1) := dk_42 (dk_at dksX3_whyLeave_0 8 rfl rfl)
theorem dX3_whyLeave_9 : decode cX3_whyLeave 9 = .ok (.iload_n 2, 1) := dk_28 (dk_at dksX3_whyLeave_0 9 rfl rfl)
theorem dX3_whyLeave_10 : decode cX3_whyLeave 10 = .ok (.invokevirtual 123, 3) := dk_182 0 123 (dk_at dksX3_whyLeave_0 10 rfl rfl)
theorem dX3_whyLeave_13 : decode cX3_whyLeave 13 = .ok (.ifCond .ne 7, 3) := dk_154 0 7 (dk_at dksX3_whyLeave_0 13 rfl rfl)
theorem dX3_whyLeave_16 : decode cX3_whyLeave 16 = .ok (.iconst 1, 1) := dk_4 (dk_at dksX3_whyLeave_0 16 rfl rfl)
theorem dX3_whyLeave_17 : decode cX3_whyLeave 17 = .ok (.goto 17, 3) := dk_167 0 17 (dk_at dksX3_whyLeave_0 17 rfl rfl)
theorem dX3_whyLeave_20 : decode cX3_whyLeave 20 = .ok (.aload_n 0, 1) := dk_42 (dk_at dksX3_whyLeave_0 20 rfl rfl)
theorem dX3_whyLeave_21 : decode cX3_whyLeave 21 = .ok (.getfield 48, 3) := dk_180 0 48 (dk_at dksX3_whyLeave_0 21 rfl rfl)
theorem dX3_whyLeave_24 : decode cX3_whyLeave 24 = .ok (.bipush 12, 2) := dk_16 12 (dk_at dksX3_whyLeave_1 0 rfl rfl)
theorem dX3_whyLeave_26 : decode cX3_whyLeave 26 = .ok (.if_icmp .ne 7, 3) := dk_160 0 7 (dk_at dksX3_whyLeave_1 2 rfl rfl)
theorem dX3_whyLeave_29 : decode cX3_whyLeave 29 = .ok (.iconst 2, 1) := dk_5 (dk_at dksX3_whyLeave_1 5 rfl rfl)
theorem dX3_whyLeave_30 : decode cX3_whyLeave 30 = .ok (.goto 4, 3) := dk_167 0 4 (dk_at dksX3_whyLeave_1 6 rfl rfl)
theorem dX3_whyLeave_33 : decode cX3_whyLeave 33 = .ok (.iconst 0, 1) := dk_3 (dk_at dksX3_whyLeave_1 9 rfl rfl)
theorem dX3_whyLeave_34 : decode cX3_whyLeave 34 = .ok (.ireturn, 1) := dk_172 (dk_at dksX3_whyLeave_1 10 rfl rfl)
abbrev cX3_passAll : ByteArray := prog_6_method_30_code
def yX3_passAll : MethodName := ⟨RX3, "passAll", "(I)I"⟩
def dkwX3_passAll_1 : List UInt8 := [28, 172]
abbrev dktX3_passAll_1 : List UInt8 := dkwX3_passAll_1 ++ []
def dkwX3_passAll_0 : List UInt8 := [3, 61, 28, 27, 162, 0, 20, 42, 182, 0, 193, 154, 0, 13, 42, 182, 0, 196, 132, 2, 1, 167, 255, 237]
abbrev dktX3_passAll_0 : List UInt8 := dkwX3_passAll_0 ++ dktX3_passAll_1
theorem dksX3_passAll_0 : cX3_passAll.data.toList.drop 0 = dktX3_passAll_0 := by decide +kernel
theorem dksX3_passAll_1 : cX3_passAll.data.toList.drop 24 = dktX3_passAll_1 := dk_seg dksX3_passAll_0 24 rfl rfl
theorem dX3_passAll_0 : decode cX3_passAll 0 = .ok (.iconst 0, 1) := dk_3 (dk_at dksX3_passAll_0 0 rfl rfl)
theorem dX3_passAll_1 : decode cX3_passAll 1 = .ok (.istore_n 2, 1) := dk_61 (dk_at dksX3_passAll_0 1 rfl rfl)
theorem dX3_passAll_2 : decode cX3_passAll 2 = .ok (.iload_n 2, 1) := dk_28 (dk_at dksX3_passAll_0 2 rfl rfl)
theorem dX3_passAll_3 : decode cX3_passAll 3 = .ok (.iload_n 1, 1) := dk_27 (dk_at dksX3_passAll_0 3 rfl rfl)
theorem dX3_passAll_4 : decode cX3_passAll 4 = .ok (.if_icmp .ge 20, 3) := dk_162 0 20 (dk_at dksX3_passAll_0 4 rfl rfl)
theorem dX3_passAll_7 : decode cX3_passAll 7 = .ok (.aload_n 0, 1) := dk_42 (dk_at dksX3_passAll_0 7 rfl rfl)
theorem dX3_passAll_8 : decode cX3_passAll 8 = .ok (.invokevirtual 193, 3) := dk_182 0 193 (dk_at dksX3_passAll_0 8 rfl rfl)
theorem dX3_passAll_11 : decode cX3_passAll 11 = .ok (.ifCond .ne 13, 3) := dk_154 0 13 (dk_at dksX3_passAll_0 11 rfl rfl)
theorem dX3_passAll_14 : decode cX3_passAll 14 = .ok (.aload_n 0, 1) := dk_42 (dk_at dksX3_passAll_0 14 rfl rfl)
theorem dX3_passAll_15 : decode cX3_passAll 15 = .ok (.invokevirtual 196, 3) := dk_182 0 196 (dk_at dksX3_passAll_0 15 rfl rfl)
theorem dX3_passAll_18 : decode cX3_passAll 18 = .ok (.iinc 2 1, 3) := dk_132 2 1 (dk_at dksX3_passAll_0 18 rfl rfl)
theorem dX3_passAll_21 : decode cX3_passAll 21 = .ok (.goto (-19), 3) := dk_167 255 237 (dk_at dksX3_passAll_0 21 rfl rfl)
theorem dX3_passAll_24 : decode cX3_passAll 24 = .ok (.iload_n 2, 1) := dk_28 (dk_at dksX3_passAll_1 0 rfl rfl)
theorem dX3_passAll_25 : decode cX3_passAll 25 = .ok (.ireturn, 1) := dk_172 (dk_at dksX3_passAll_1 1 rfl rfl)
abbrev cX3_isOver : ByteArray := prog_6_method_5_code
def yX3_isOver : MethodName := ⟨RX3, "isOver", "()Z"⟩
def dkwX3_isOver_0 : List UInt8 := [42, 180, 0, 31, 17, 0, 199, 160, 0, 7, 4, 167, 0, 4, 3, 172]
abbrev dktX3_isOver_0 : List UInt8 := dkwX3_isOver_0 ++ []
theorem dksX3_isOver_0 : cX3_isOver.data.toList.drop 0 = dktX3_isOver_0 := by decide +kernel
theorem dX3_isOver_0 : decode cX3_isOver 0 = .ok (.aload_n 0, 1) := dk_42 (dk_at dksX3_isOver_0 0 rfl rfl)
theorem dX3_isOver_1 : decode cX3_isOver 1 = .ok (.getfield 31, 3) := dk_180 0 31 (dk_at dksX3_isOver_0 1 rfl rfl)
theorem dX3_isOver_4 : decode cX3_isOver 4 = .ok (.sipush 199, 3) := dk_17 0 199 (dk_at dksX3_isOver_0 4 rfl rfl)
theorem dX3_isOver_7 : decode cX3_isOver 7 = .ok (.if_icmp .ne 7, 3) := dk_160 0 7 (dk_at dksX3_isOver_0 7 rfl rfl)
theorem dX3_isOver_10 : decode cX3_isOver 10 = .ok (.iconst 1, 1) := dk_4 (dk_at dksX3_isOver_0 10 rfl rfl)
theorem dX3_isOver_11 : decode cX3_isOver 11 = .ok (.goto 4, 3) := dk_167 0 4 (dk_at dksX3_isOver_0 11 rfl rfl)
theorem dX3_isOver_14 : decode cX3_isOver 14 = .ok (.iconst 0, 1) := dk_3 (dk_at dksX3_isOver_0 14 rfl rfl)
theorem dX3_isOver_15 : decode cX3_isOver 15 = .ok (.ireturn, 1) := dk_172 (dk_at dksX3_isOver_0 15 rfl rfl)
abbrev cX3_pass : ByteArray := prog_6_method_29_code
def yX3_pass : MethodName := ⟨RX3, "pass", "()V"⟩
def dkwX3_pass_2 : List UInt8 := [182, 0, 190, 132, 1, 1, 167, 255, 217, 177]
abbrev dktX3_pass_2 : List UInt8 := dkwX3_pass_2 ++ []
def dkwX3_pass_1 : List UInt8 := [182, 0, 123, 153, 0, 23, 42, 27, 182, 0, 57, 180, 0, 187, 42, 180, 0, 31, 160, 0, 8, 42, 27]
abbrev dktX3_pass_1 : List UInt8 := dkwX3_pass_1 ++ dktX3_pass_2
def dkwX3_pass_0 : List UInt8 := [42, 89, 180, 0, 31, 4, 96, 181, 0, 31, 3, 60, 27, 42, 182, 0, 41, 162, 0, 37, 42, 27]
abbrev dktX3_pass_0 : List UInt8 := dkwX3_pass_0 ++ dktX3_pass_1
theorem dksX3_pass_0 : cX3_pass.data.toList.drop 0 = dktX3_pass_0 := by decide +kernel
theorem dksX3_pass_1 : cX3_pass.data.toList.drop 22 = dktX3_pass_1 := dk_seg dksX3_pass_0 22 rfl rfl
theorem dksX3_pass_2 : cX3_pass.data.toList.drop 45 = dktX3_pass_2 := dk_seg dksX3_pass_1 23 rfl rfl
theorem dX3_pass_0 : decode cX3_pass 0 = .ok (.aload_n 0, 1) := dk_42 (dk_at dksX3_pass_0 0 rfl rfl)
theorem dX3_pass_1 : decode cX3_pass 1 = .ok (.dup, 1) := dk_89 (dk_at dksX3_pass_0 1 rfl rfl)
theorem dX3_pass_2 : decode cX3_pass 2 = .ok (.getfield 31, 3) := dk_180 0 31 (dk_at dksX3_pass_0 2 rfl rfl)
theorem dX3_pass_5 : decode cX3_pass 5 = .ok (.iconst 1, 1) := dk_4 (dk_at dksX3_pass_0 5 rfl rfl)
theorem dX3_pass_6 : decode cX3_pass 6 = .ok (.iadd, 1) := dk_96 (dk_at dksX3_pass_0 6 rfl rfl)
theorem dX3_pass_7 : decode cX3_pass 7 = .ok (.putfield 31, 3) := dk_181 0 31 (dk_at dksX3_pass_0 7 rfl rfl)
theorem dX3_pass_10 : decode cX3_pass 10 = .ok (.iconst 0, 1) := dk_3 (dk_at dksX3_pass_0 10 rfl rfl)
theorem dX3_pass_11 : decode cX3_pass 11 = .ok (.istore_n 1, 1) := dk_60 (dk_at dksX3_pass_0 11 rfl rfl)
theorem dX3_pass_12 : decode cX3_pass 12 = .ok (.iload_n 1, 1) := dk_27 (dk_at dksX3_pass_0 12 rfl rfl)
theorem dX3_pass_13 : decode cX3_pass 13 = .ok (.aload_n 0, 1) := dk_42 (dk_at dksX3_pass_0 13 rfl rfl)
theorem dX3_pass_14 : decode cX3_pass 14 = .ok (.invokevirtual 41, 3) := dk_182 0 41 (dk_at dksX3_pass_0 14 rfl rfl)
theorem dX3_pass_17 : decode cX3_pass 17 = .ok (.if_icmp .ge 37, 3) := dk_162 0 37 (dk_at dksX3_pass_0 17 rfl rfl)
theorem dX3_pass_20 : decode cX3_pass 20 = .ok (.aload_n 0, 1) := dk_42 (dk_at dksX3_pass_0 20 rfl rfl)
theorem dX3_pass_21 : decode cX3_pass 21 = .ok (.iload_n 1, 1) := dk_27 (dk_at dksX3_pass_0 21 rfl rfl)
theorem dX3_pass_22 : decode cX3_pass 22 = .ok (.invokevirtual 123, 3) := dk_182 0 123 (dk_at dksX3_pass_1 0 rfl rfl)
theorem dX3_pass_25 : decode cX3_pass 25 = .ok (.ifCond .eq 23, 3) := dk_153 0 23 (dk_at dksX3_pass_1 3 rfl rfl)
theorem dX3_pass_28 : decode cX3_pass 28 = .ok (.aload_n 0, 1) := dk_42 (dk_at dksX3_pass_1 6 rfl rfl)
theorem dX3_pass_29 : decode cX3_pass 29 = .ok (.iload_n 1, 1) := dk_27 (dk_at dksX3_pass_1 7 rfl rfl)
theorem dX3_pass_30 : decode cX3_pass 30 = .ok (.invokevirtual 57, 3) := dk_182 0 57 (dk_at dksX3_pass_1 8 rfl rfl)
theorem dX3_pass_33 : decode cX3_pass 33 = .ok (.getfield 187, 3) := dk_180 0 187 (dk_at dksX3_pass_1 11 rfl rfl)
theorem dX3_pass_36 : decode cX3_pass 36 = .ok (.aload_n 0, 1) := dk_42 (dk_at dksX3_pass_1 14 rfl rfl)
theorem dX3_pass_37 : decode cX3_pass 37 = .ok (.getfield 31, 3) := dk_180 0 31 (dk_at dksX3_pass_1 15 rfl rfl)
theorem dX3_pass_40 : decode cX3_pass 40 = .ok (.if_icmp .ne 8, 3) := dk_160 0 8 (dk_at dksX3_pass_1 18 rfl rfl)
theorem dX3_pass_43 : decode cX3_pass 43 = .ok (.aload_n 0, 1) := dk_42 (dk_at dksX3_pass_1 21 rfl rfl)
theorem dX3_pass_44 : decode cX3_pass 44 = .ok (.iload_n 1, 1) := dk_27 (dk_at dksX3_pass_1 22 rfl rfl)
theorem dX3_pass_45 : decode cX3_pass 45 = .ok (.invokevirtual 190, 3) := dk_182 0 190 (dk_at dksX3_pass_2 0 rfl rfl)
theorem dX3_pass_48 : decode cX3_pass 48 = .ok (.iinc 1 1, 3) := dk_132 1 1 (dk_at dksX3_pass_2 3 rfl rfl)
theorem dX3_pass_51 : decode cX3_pass 51 = .ok (.goto (-39), 3) := dk_167 255 217 (dk_at dksX3_pass_2 6 rfl rfl)
theorem dX3_pass_54 : decode cX3_pass 54 = .ok (.return_, 1) := dk_177 (dk_at dksX3_pass_2 9 rfl rfl)
abbrev cX3_willsOf : ByteArray := prog_6_method_11_code
def yX3_willsOf : MethodName := ⟨RX3, "willsOf", "(I)I"⟩
def dkwX3_willsOf_1 : List UInt8 := [132, 2, 1, 132, 3, 1, 167, 255, 232, 28, 172]
abbrev dktX3_willsOf_1 : List UInt8 := dkwX3_willsOf_1 ++ []
def dkwX3_willsOf_0 : List UInt8 := [3, 61, 3, 62, 29, 42, 180, 0, 48, 162, 0, 22, 42, 180, 0, 18, 29, 46, 27, 160, 0, 6]
abbrev dktX3_willsOf_0 : List UInt8 := dkwX3_willsOf_0 ++ dktX3_willsOf_1
theorem dksX3_willsOf_0 : cX3_willsOf.data.toList.drop 0 = dktX3_willsOf_0 := by decide +kernel
theorem dksX3_willsOf_1 : cX3_willsOf.data.toList.drop 22 = dktX3_willsOf_1 := dk_seg dksX3_willsOf_0 22 rfl rfl
theorem dX3_willsOf_0 : decode cX3_willsOf 0 = .ok (.iconst 0, 1) := dk_3 (dk_at dksX3_willsOf_0 0 rfl rfl)
theorem dX3_willsOf_1 : decode cX3_willsOf 1 = .ok (.istore_n 2, 1) := dk_61 (dk_at dksX3_willsOf_0 1 rfl rfl)
theorem dX3_willsOf_2 : decode cX3_willsOf 2 = .ok (.iconst 0, 1) := dk_3 (dk_at dksX3_willsOf_0 2 rfl rfl)
theorem dX3_willsOf_3 : decode cX3_willsOf 3 = .ok (.istore_n 3, 1) := dk_62 (dk_at dksX3_willsOf_0 3 rfl rfl)
theorem dX3_willsOf_4 : decode cX3_willsOf 4 = .ok (.iload_n 3, 1) := dk_29 (dk_at dksX3_willsOf_0 4 rfl rfl)
theorem dX3_willsOf_5 : decode cX3_willsOf 5 = .ok (.aload_n 0, 1) := dk_42 (dk_at dksX3_willsOf_0 5 rfl rfl)
theorem dX3_willsOf_6 : decode cX3_willsOf 6 = .ok (.getfield 48, 3) := dk_180 0 48 (dk_at dksX3_willsOf_0 6 rfl rfl)
theorem dX3_willsOf_9 : decode cX3_willsOf 9 = .ok (.if_icmp .ge 22, 3) := dk_162 0 22 (dk_at dksX3_willsOf_0 9 rfl rfl)
theorem dX3_willsOf_12 : decode cX3_willsOf 12 = .ok (.aload_n 0, 1) := dk_42 (dk_at dksX3_willsOf_0 12 rfl rfl)
theorem dX3_willsOf_13 : decode cX3_willsOf 13 = .ok (.getfield 18, 3) := dk_180 0 18 (dk_at dksX3_willsOf_0 13 rfl rfl)
theorem dX3_willsOf_16 : decode cX3_willsOf 16 = .ok (.iload_n 3, 1) := dk_29 (dk_at dksX3_willsOf_0 16 rfl rfl)
theorem dX3_willsOf_17 : decode cX3_willsOf 17 = .ok (.iaload, 1) := dk_46 (dk_at dksX3_willsOf_0 17 rfl rfl)
theorem dX3_willsOf_18 : decode cX3_willsOf 18 = .ok (.iload_n 1, 1) := dk_27 (dk_at dksX3_willsOf_0 18 rfl rfl)
theorem dX3_willsOf_19 : decode cX3_willsOf 19 = .ok (.if_icmp .ne 6, 3) := dk_160 0 6 (dk_at dksX3_willsOf_0 19 rfl rfl)
theorem dX3_willsOf_22 : decode cX3_willsOf 22 = .ok (.iinc 2 1, 3) := dk_132 2 1 (dk_at dksX3_willsOf_1 0 rfl rfl)
theorem dX3_willsOf_25 : decode cX3_willsOf 25 = .ok (.iinc 3 1, 3) := dk_132 3 1 (dk_at dksX3_willsOf_1 3 rfl rfl)
theorem dX3_willsOf_28 : decode cX3_willsOf 28 = .ok (.goto (-24), 3) := dk_167 255 232 (dk_at dksX3_willsOf_1 6 rfl rfl)
theorem dX3_willsOf_31 : decode cX3_willsOf 31 = .ok (.iload_n 2, 1) := dk_28 (dk_at dksX3_willsOf_1 9 rfl rfl)
theorem dX3_willsOf_32 : decode cX3_willsOf 32 = .ok (.ireturn, 1) := dk_172 (dk_at dksX3_willsOf_1 10 rfl rfl)
abbrev cX3_whyWed : ByteArray := prog_6_method_14_code
def yX3_whyWed : MethodName := ⟨RX3, "whyWed", "(II)I"⟩
def dkwX3_whyWed_2 : List UInt8 := [184, 0, 134, 153, 0, 7, 6, 167, 0, 4, 3, 172]
abbrev dktX3_whyWed_2 : List UInt8 := dkwX3_whyWed_2 ++ []
def dkwX3_whyWed_1 : List UInt8 := [154, 0, 11, 42, 28, 182, 0, 127, 153, 0, 5, 5, 172, 42, 180, 0, 27, 27, 28, 182, 0, 130, 3, 5]
abbrev dktX3_whyWed_1 : List UInt8 := dkwX3_whyWed_1 ++ dktX3_whyWed_2
def dkwX3_whyWed_0 : List UInt8 := [42, 27, 182, 0, 123, 153, 0, 11, 42, 28, 182, 0, 123, 154, 0, 5, 4, 172, 42, 27, 182, 0, 127]
abbrev dktX3_whyWed_0 : List UInt8 := dkwX3_whyWed_0 ++ dktX3_whyWed_1
theorem dksX3_whyWed_0 : cX3_whyWed.data.toList.drop 0 = dktX3_whyWed_0 := by decide +kernel
theorem dksX3_whyWed_1 : cX3_whyWed.data.toList.drop 23 = dktX3_whyWed_1 := dk_seg dksX3_whyWed_0 23 rfl rfl
theorem dksX3_whyWed_2 : cX3_whyWed.data.toList.drop 47 = dktX3_whyWed_2 := dk_seg dksX3_whyWed_1 24 rfl rfl
theorem dX3_whyWed_0 : decode cX3_whyWed 0 = .ok (.aload_n 0, 1) := dk_42 (dk_at dksX3_whyWed_0 0 rfl rfl)
theorem dX3_whyWed_1 : decode cX3_whyWed 1 = .ok (.iload_n 1, 1) := dk_27 (dk_at dksX3_whyWed_0 1 rfl rfl)
theorem dX3_whyWed_2 : decode cX3_whyWed 2 = .ok (.invokevirtual 123, 3) := dk_182 0 123 (dk_at dksX3_whyWed_0 2 rfl rfl)
theorem dX3_whyWed_5 : decode cX3_whyWed 5 = .ok (.ifCond .eq 11, 3) := dk_153 0 11 (dk_at dksX3_whyWed_0 5 rfl rfl)
theorem dX3_whyWed_8 : decode cX3_whyWed 8 = .ok (.aload_n 0, 1) := dk_42 (dk_at dksX3_whyWed_0 8 rfl rfl)
theorem dX3_whyWed_9 : decode cX3_whyWed 9 = .ok (.iload_n 2, 1) := dk_28 (dk_at dksX3_whyWed_0 9 rfl rfl)
theorem dX3_whyWed_10 : decode cX3_whyWed 10 = .ok (.invokevirtual 123, 3) := dk_182 0 123 (dk_at dksX3_whyWed_0 10 rfl rfl)
theorem dX3_whyWed_13 : decode cX3_whyWed 13 = .ok (.ifCond .ne 5, 3) := dk_154 0 5 (dk_at dksX3_whyWed_0 13 rfl rfl)
theorem dX3_whyWed_16 : decode cX3_whyWed 16 = .ok (.iconst 1, 1) := dk_4 (dk_at dksX3_whyWed_0 16 rfl rfl)
theorem dX3_whyWed_17 : decode cX3_whyWed 17 = .ok (.ireturn, 1) := dk_172 (dk_at dksX3_whyWed_0 17 rfl rfl)
theorem dX3_whyWed_18 : decode cX3_whyWed 18 = .ok (.aload_n 0, 1) := dk_42 (dk_at dksX3_whyWed_0 18 rfl rfl)
theorem dX3_whyWed_19 : decode cX3_whyWed 19 = .ok (.iload_n 1, 1) := dk_27 (dk_at dksX3_whyWed_0 19 rfl rfl)
theorem dX3_whyWed_20 : decode cX3_whyWed 20 = .ok (.invokevirtual 127, 3) := dk_182 0 127 (dk_at dksX3_whyWed_0 20 rfl rfl)
theorem dX3_whyWed_23 : decode cX3_whyWed 23 = .ok (.ifCond .ne 11, 3) := dk_154 0 11 (dk_at dksX3_whyWed_1 0 rfl rfl)
theorem dX3_whyWed_26 : decode cX3_whyWed 26 = .ok (.aload_n 0, 1) := dk_42 (dk_at dksX3_whyWed_1 3 rfl rfl)
theorem dX3_whyWed_27 : decode cX3_whyWed 27 = .ok (.iload_n 2, 1) := dk_28 (dk_at dksX3_whyWed_1 4 rfl rfl)
theorem dX3_whyWed_28 : decode cX3_whyWed 28 = .ok (.invokevirtual 127, 3) := dk_182 0 127 (dk_at dksX3_whyWed_1 5 rfl rfl)
theorem dX3_whyWed_31 : decode cX3_whyWed 31 = .ok (.ifCond .eq 5, 3) := dk_153 0 5 (dk_at dksX3_whyWed_1 8 rfl rfl)
theorem dX3_whyWed_34 : decode cX3_whyWed 34 = .ok (.iconst 2, 1) := dk_5 (dk_at dksX3_whyWed_1 11 rfl rfl)
theorem dX3_whyWed_35 : decode cX3_whyWed 35 = .ok (.ireturn, 1) := dk_172 (dk_at dksX3_whyWed_1 12 rfl rfl)
theorem dX3_whyWed_36 : decode cX3_whyWed 36 = .ok (.aload_n 0, 1) := dk_42 (dk_at dksX3_whyWed_1 13 rfl rfl)
theorem dX3_whyWed_37 : decode cX3_whyWed 37 = .ok (.getfield 27, 3) := dk_180 0 27 (dk_at dksX3_whyWed_1 14 rfl rfl)
theorem dX3_whyWed_40 : decode cX3_whyWed 40 = .ok (.iload_n 1, 1) := dk_27 (dk_at dksX3_whyWed_1 17 rfl rfl)
theorem dX3_whyWed_41 : decode cX3_whyWed 41 = .ok (.iload_n 2, 1) := dk_28 (dk_at dksX3_whyWed_1 18 rfl rfl)
theorem dX3_whyWed_42 : decode cX3_whyWed 42 = .ok (.invokevirtual 130, 3) := dk_182 0 130 (dk_at dksX3_whyWed_1 19 rfl rfl)
theorem dX3_whyWed_45 : decode cX3_whyWed 45 = .ok (.iconst 0, 1) := dk_3 (dk_at dksX3_whyWed_1 22 rfl rfl)
theorem dX3_whyWed_46 : decode cX3_whyWed 46 = .ok (.iconst 2, 1) := dk_5 (dk_at dksX3_whyWed_1 23 rfl rfl)
theorem dX3_whyWed_47 : decode cX3_whyWed 47 = .ok (.invokestatic 134, 3) := dk_184 0 134 (dk_at dksX3_whyWed_2 0 rfl rfl)
theorem dX3_whyWed_50 : decode cX3_whyWed 50 = .ok (.ifCond .eq 7, 3) := dk_153 0 7 (dk_at dksX3_whyWed_2 3 rfl rfl)
theorem dX3_whyWed_53 : decode cX3_whyWed 53 = .ok (.iconst 3, 1) := dk_6 (dk_at dksX3_whyWed_2 6 rfl rfl)
theorem dX3_whyWed_54 : decode cX3_whyWed 54 = .ok (.goto 4, 3) := dk_167 0 4 (dk_at dksX3_whyWed_2 7 rfl rfl)
theorem dX3_whyWed_57 : decode cX3_whyWed 57 = .ok (.iconst 0, 1) := dk_3 (dk_at dksX3_whyWed_2 10 rfl rfl)
theorem dX3_whyWed_58 : decode cX3_whyWed 58 = .ok (.ireturn, 1) := dk_172 (dk_at dksX3_whyWed_2 11 rfl rfl)
abbrev cX3_wed : ByteArray := prog_6_method_15_code
def yX3_wed : MethodName := ⟨RX3, "wed", "(II)V"⟩
def dkwX3_wed_0 : List UInt8 := [42, 180, 0, 15, 27, 28, 79, 42, 180, 0, 15, 28, 27, 79, 177]
abbrev dktX3_wed_0 : List UInt8 := dkwX3_wed_0 ++ []
theorem dksX3_wed_0 : cX3_wed.data.toList.drop 0 = dktX3_wed_0 := by decide +kernel
theorem dX3_wed_0 : decode cX3_wed 0 = .ok (.aload_n 0, 1) := dk_42 (dk_at dksX3_wed_0 0 rfl rfl)
theorem dX3_wed_1 : decode cX3_wed 1 = .ok (.getfield 15, 3) := dk_180 0 15 (dk_at dksX3_wed_0 1 rfl rfl)
theorem dX3_wed_4 : decode cX3_wed 4 = .ok (.iload_n 1, 1) := dk_27 (dk_at dksX3_wed_0 4 rfl rfl)
theorem dX3_wed_5 : decode cX3_wed 5 = .ok (.iload_n 2, 1) := dk_28 (dk_at dksX3_wed_0 5 rfl rfl)
theorem dX3_wed_6 : decode cX3_wed 6 = .ok (.iastore, 1) := dk_79 (dk_at dksX3_wed_0 6 rfl rfl)
theorem dX3_wed_7 : decode cX3_wed 7 = .ok (.aload_n 0, 1) := dk_42 (dk_at dksX3_wed_0 7 rfl rfl)
theorem dX3_wed_8 : decode cX3_wed 8 = .ok (.getfield 15, 3) := dk_180 0 15 (dk_at dksX3_wed_0 8 rfl rfl)
theorem dX3_wed_11 : decode cX3_wed 11 = .ok (.iload_n 2, 1) := dk_28 (dk_at dksX3_wed_0 11 rfl rfl)
theorem dX3_wed_12 : decode cX3_wed 12 = .ok (.iload_n 1, 1) := dk_27 (dk_at dksX3_wed_0 12 rfl rfl)
theorem dX3_wed_13 : decode cX3_wed 13 = .ok (.iastore, 1) := dk_79 (dk_at dksX3_wed_0 13 rfl rfl)
theorem dX3_wed_14 : decode cX3_wed 14 = .ok (.return_, 1) := dk_177 (dk_at dksX3_wed_0 14 rfl rfl)
abbrev cX3_richest : ByteArray := prog_6_method_13_code
def yX3_richest : MethodName := ⟨RX3, "richest", "()I"⟩
def dkwX3_richest_1 : List UInt8 := [180, 0, 9, 27, 46, 164, 0, 5, 28, 60, 132, 2, 1, 167, 255, 223, 27, 172]
abbrev dktX3_richest_1 : List UInt8 := dkwX3_richest_1 ++ []
def dkwX3_richest_0 : List UInt8 := [2, 60, 3, 61, 28, 42, 182, 0, 41, 162, 0, 31, 27, 2, 159, 0, 18, 42, 180, 0, 9, 28, 46, 42]
abbrev dktX3_richest_0 : List UInt8 := dkwX3_richest_0 ++ dktX3_richest_1
theorem dksX3_richest_0 : cX3_richest.data.toList.drop 0 = dktX3_richest_0 := by decide +kernel
theorem dksX3_richest_1 : cX3_richest.data.toList.drop 24 = dktX3_richest_1 := dk_seg dksX3_richest_0 24 rfl rfl
theorem dX3_richest_0 : decode cX3_richest 0 = .ok (.iconst (-1), 1) := dk_2 (dk_at dksX3_richest_0 0 rfl rfl)
theorem dX3_richest_1 : decode cX3_richest 1 = .ok (.istore_n 1, 1) := dk_60 (dk_at dksX3_richest_0 1 rfl rfl)
theorem dX3_richest_2 : decode cX3_richest 2 = .ok (.iconst 0, 1) := dk_3 (dk_at dksX3_richest_0 2 rfl rfl)
theorem dX3_richest_3 : decode cX3_richest 3 = .ok (.istore_n 2, 1) := dk_61 (dk_at dksX3_richest_0 3 rfl rfl)
theorem dX3_richest_4 : decode cX3_richest 4 = .ok (.iload_n 2, 1) := dk_28 (dk_at dksX3_richest_0 4 rfl rfl)
theorem dX3_richest_5 : decode cX3_richest 5 = .ok (.aload_n 0, 1) := dk_42 (dk_at dksX3_richest_0 5 rfl rfl)
theorem dX3_richest_6 : decode cX3_richest 6 = .ok (.invokevirtual 41, 3) := dk_182 0 41 (dk_at dksX3_richest_0 6 rfl rfl)
theorem dX3_richest_9 : decode cX3_richest 9 = .ok (.if_icmp .ge 31, 3) := dk_162 0 31 (dk_at dksX3_richest_0 9 rfl rfl)
theorem dX3_richest_12 : decode cX3_richest 12 = .ok (.iload_n 1, 1) := dk_27 (dk_at dksX3_richest_0 12 rfl rfl)
theorem dX3_richest_13 : decode cX3_richest 13 = .ok (.iconst (-1), 1) := dk_2 (dk_at dksX3_richest_0 13 rfl rfl)
theorem dX3_richest_14 : decode cX3_richest 14 = .ok (.if_icmp .eq 18, 3) := dk_159 0 18 (dk_at dksX3_richest_0 14 rfl rfl)
theorem dX3_richest_17 : decode cX3_richest 17 = .ok (.aload_n 0, 1) := dk_42 (dk_at dksX3_richest_0 17 rfl rfl)
theorem dX3_richest_18 : decode cX3_richest 18 = .ok (.getfield 9, 3) := dk_180 0 9 (dk_at dksX3_richest_0 18 rfl rfl)
theorem dX3_richest_21 : decode cX3_richest 21 = .ok (.iload_n 2, 1) := dk_28 (dk_at dksX3_richest_0 21 rfl rfl)
theorem dX3_richest_22 : decode cX3_richest 22 = .ok (.iaload, 1) := dk_46 (dk_at dksX3_richest_0 22 rfl rfl)
theorem dX3_richest_23 : decode cX3_richest 23 = .ok (.aload_n 0, 1) := dk_42 (dk_at dksX3_richest_0 23 rfl rfl)
theorem dX3_richest_24 : decode cX3_richest 24 = .ok (.getfield 9, 3) := dk_180 0 9 (dk_at dksX3_richest_1 0 rfl rfl)
theorem dX3_richest_27 : decode cX3_richest 27 = .ok (.iload_n 1, 1) := dk_27 (dk_at dksX3_richest_1 3 rfl rfl)
theorem dX3_richest_28 : decode cX3_richest 28 = .ok (.iaload, 1) := dk_46 (dk_at dksX3_richest_1 4 rfl rfl)
theorem dX3_richest_29 : decode cX3_richest 29 = .ok (.if_icmp .le 5, 3) := dk_164 0 5 (dk_at dksX3_richest_1 5 rfl rfl)
theorem dX3_richest_32 : decode cX3_richest 32 = .ok (.iload_n 2, 1) := dk_28 (dk_at dksX3_richest_1 8 rfl rfl)
theorem dX3_richest_33 : decode cX3_richest 33 = .ok (.istore_n 1, 1) := dk_60 (dk_at dksX3_richest_1 9 rfl rfl)
theorem dX3_richest_34 : decode cX3_richest 34 = .ok (.iinc 2 1, 3) := dk_132 2 1 (dk_at dksX3_richest_1 10 rfl rfl)
theorem dX3_richest_37 : decode cX3_richest 37 = .ok (.goto (-33), 3) := dk_167 255 223 (dk_at dksX3_richest_1 13 rfl rfl)
theorem dX3_richest_40 : decode cX3_richest 40 = .ok (.iload_n 1, 1) := dk_27 (dk_at dksX3_richest_1 16 rfl rfl)
theorem dX3_richest_41 : decode cX3_richest 41 = .ok (.ireturn, 1) := dk_172 (dk_at dksX3_richest_1 17 rfl rfl)
abbrev cX3_drawn : ByteArray := prog_6_method_34_code
def yX3_drawn : MethodName := ⟨RX3, "drawn", "(II)I"⟩
def dkwX3_drawn_1 : List UInt8 := [182, 0, 196, 132, 3, 1, 167, 255, 233, 29, 172]
abbrev dktX3_drawn_1 : List UInt8 := dkwX3_drawn_1 ++ []
def dkwX3_drawn_0 : List UInt8 := [42, 28, 181, 0, 199, 3, 62, 29, 27, 162, 0, 24, 42, 182, 0, 193, 154, 0, 17, 42, 182, 0, 225, 42]
abbrev dktX3_drawn_0 : List UInt8 := dkwX3_drawn_0 ++ dktX3_drawn_1
theorem dksX3_drawn_0 : cX3_drawn.data.toList.drop 0 = dktX3_drawn_0 := by decide +kernel
theorem dksX3_drawn_1 : cX3_drawn.data.toList.drop 24 = dktX3_drawn_1 := dk_seg dksX3_drawn_0 24 rfl rfl
theorem dX3_drawn_0 : decode cX3_drawn 0 = .ok (.aload_n 0, 1) := dk_42 (dk_at dksX3_drawn_0 0 rfl rfl)
theorem dX3_drawn_1 : decode cX3_drawn 1 = .ok (.iload_n 2, 1) := dk_28 (dk_at dksX3_drawn_0 1 rfl rfl)
theorem dX3_drawn_2 : decode cX3_drawn 2 = .ok (.putfield 199, 3) := dk_181 0 199 (dk_at dksX3_drawn_0 2 rfl rfl)
theorem dX3_drawn_5 : decode cX3_drawn 5 = .ok (.iconst 0, 1) := dk_3 (dk_at dksX3_drawn_0 5 rfl rfl)
theorem dX3_drawn_6 : decode cX3_drawn 6 = .ok (.istore_n 3, 1) := dk_62 (dk_at dksX3_drawn_0 6 rfl rfl)
theorem dX3_drawn_7 : decode cX3_drawn 7 = .ok (.iload_n 3, 1) := dk_29 (dk_at dksX3_drawn_0 7 rfl rfl)
theorem dX3_drawn_8 : decode cX3_drawn 8 = .ok (.iload_n 1, 1) := dk_27 (dk_at dksX3_drawn_0 8 rfl rfl)
theorem dX3_drawn_9 : decode cX3_drawn 9 = .ok (.if_icmp .ge 24, 3) := dk_162 0 24 (dk_at dksX3_drawn_0 9 rfl rfl)
theorem dX3_drawn_12 : decode cX3_drawn 12 = .ok (.aload_n 0, 1) := dk_42 (dk_at dksX3_drawn_0 12 rfl rfl)
theorem dX3_drawn_13 : decode cX3_drawn 13 = .ok (.invokevirtual 193, 3) := dk_182 0 193 (dk_at dksX3_drawn_0 13 rfl rfl)
theorem dX3_drawn_16 : decode cX3_drawn 16 = .ok (.ifCond .ne 17, 3) := dk_154 0 17 (dk_at dksX3_drawn_0 16 rfl rfl)
theorem dX3_drawn_19 : decode cX3_drawn 19 = .ok (.aload_n 0, 1) := dk_42 (dk_at dksX3_drawn_0 19 rfl rfl)
theorem dX3_drawn_20 : decode cX3_drawn 20 = .ok (.invokevirtual 225, 3) := dk_182 0 225 (dk_at dksX3_drawn_0 20 rfl rfl)
theorem dX3_drawn_23 : decode cX3_drawn 23 = .ok (.aload_n 0, 1) := dk_42 (dk_at dksX3_drawn_0 23 rfl rfl)
theorem dX3_drawn_24 : decode cX3_drawn 24 = .ok (.invokevirtual 196, 3) := dk_182 0 196 (dk_at dksX3_drawn_1 0 rfl rfl)
theorem dX3_drawn_27 : decode cX3_drawn 27 = .ok (.iinc 3 1, 3) := dk_132 3 1 (dk_at dksX3_drawn_1 3 rfl rfl)
theorem dX3_drawn_30 : decode cX3_drawn 30 = .ok (.goto (-23), 3) := dk_167 255 233 (dk_at dksX3_drawn_1 6 rfl rfl)
theorem dX3_drawn_33 : decode cX3_drawn 33 = .ok (.iload_n 3, 1) := dk_29 (dk_at dksX3_drawn_1 9 rfl rfl)
theorem dX3_drawn_34 : decode cX3_drawn 34 = .ok (.ireturn, 1) := dk_172 (dk_at dksX3_drawn_1 10 rfl rfl)
abbrev cX3_drawsFirst : ByteArray := prog_6_method_33_code
def yX3_drawsFirst : MethodName := ⟨RX3, "drawsFirst", "()V"⟩
def dkwX3_drawsFirst_3 : List UInt8 := [7, 160, 0, 8, 42, 28, 182, 0, 171, 177]
abbrev dktX3_drawsFirst_3 : List UInt8 := dkwX3_drawsFirst_3 ++ []
def dkwX3_drawsFirst_2 : List UInt8 := [27, 158, 0, 22, 27, 7, 162, 0, 17, 42, 27, 28, 42, 42, 182, 0, 41, 182, 0, 203, 182, 0, 222, 27]
abbrev dktX3_drawsFirst_2 : List UInt8 := dkwX3_drawsFirst_2 ++ dktX3_drawsFirst_3
def dkwX3_drawsFirst_1 : List UInt8 := [182, 0, 41, 182, 0, 203, 61, 27, 154, 0, 16, 42, 28, 182, 0, 123, 153, 0, 8, 42, 28, 182, 0, 190]
abbrev dktX3_drawsFirst_1 : List UInt8 := dkwX3_drawsFirst_1 ++ dktX3_drawsFirst_2
def dkwX3_drawsFirst_0 : List UInt8 := [42, 182, 0, 41, 154, 0, 4, 177, 42, 16, 10, 182, 0, 203, 60, 27, 7, 164, 0, 4, 177, 42, 42]
abbrev dktX3_drawsFirst_0 : List UInt8 := dkwX3_drawsFirst_0 ++ dktX3_drawsFirst_1
theorem dksX3_drawsFirst_0 : cX3_drawsFirst.data.toList.drop 0 = dktX3_drawsFirst_0 := by decide +kernel
theorem dksX3_drawsFirst_1 : cX3_drawsFirst.data.toList.drop 23 = dktX3_drawsFirst_1 := dk_seg dksX3_drawsFirst_0 23 rfl rfl
theorem dksX3_drawsFirst_2 : cX3_drawsFirst.data.toList.drop 47 = dktX3_drawsFirst_2 := dk_seg dksX3_drawsFirst_1 24 rfl rfl
theorem dksX3_drawsFirst_3 : cX3_drawsFirst.data.toList.drop 71 = dktX3_drawsFirst_3 := dk_seg dksX3_drawsFirst_2 24 rfl rfl
theorem dX3_drawsFirst_0 : decode cX3_drawsFirst 0 = .ok (.aload_n 0, 1) := dk_42 (dk_at dksX3_drawsFirst_0 0 rfl rfl)
theorem dX3_drawsFirst_1 : decode cX3_drawsFirst 1 = .ok (.invokevirtual 41, 3) := dk_182 0 41 (dk_at dksX3_drawsFirst_0 1 rfl rfl)
theorem dX3_drawsFirst_4 : decode cX3_drawsFirst 4 = .ok (.ifCond .ne 4, 3) := dk_154 0 4 (dk_at dksX3_drawsFirst_0 4 rfl rfl)
theorem dX3_drawsFirst_7 : decode cX3_drawsFirst 7 = .ok (.return_, 1) := dk_177 (dk_at dksX3_drawsFirst_0 7 rfl rfl)
theorem dX3_drawsFirst_8 : decode cX3_drawsFirst 8 = .ok (.aload_n 0, 1) := dk_42 (dk_at dksX3_drawsFirst_0 8 rfl rfl)
theorem dX3_drawsFirst_9 : decode cX3_drawsFirst 9 = .ok (.bipush 10, 2) := dk_16 10 (dk_at dksX3_drawsFirst_0 9 rfl rfl)
theorem dX3_drawsFirst_11 : decode cX3_drawsFirst 11 = .ok (.invokevirtual 203, 3) := dk_182 0 203 (dk_at dksX3_drawsFirst_0 11 rfl rfl)
theorem dX3_drawsFirst_14 : decode cX3_drawsFirst 14 = .ok (.istore_n 1, 1) := dk_60 (dk_at dksX3_drawsFirst_0 14 rfl rfl)
theorem dX3_drawsFirst_15 : decode cX3_drawsFirst 15 = .ok (.iload_n 1, 1) := dk_27 (dk_at dksX3_drawsFirst_0 15 rfl rfl)
theorem dX3_drawsFirst_16 : decode cX3_drawsFirst 16 = .ok (.iconst 4, 1) := dk_7 (dk_at dksX3_drawsFirst_0 16 rfl rfl)
theorem dX3_drawsFirst_17 : decode cX3_drawsFirst 17 = .ok (.if_icmp .le 4, 3) := dk_164 0 4 (dk_at dksX3_drawsFirst_0 17 rfl rfl)
theorem dX3_drawsFirst_20 : decode cX3_drawsFirst 20 = .ok (.return_, 1) := dk_177 (dk_at dksX3_drawsFirst_0 20 rfl rfl)
theorem dX3_drawsFirst_21 : decode cX3_drawsFirst 21 = .ok (.aload_n 0, 1) := dk_42 (dk_at dksX3_drawsFirst_0 21 rfl rfl)
theorem dX3_drawsFirst_22 : decode cX3_drawsFirst 22 = .ok (.aload_n 0, 1) := dk_42 (dk_at dksX3_drawsFirst_0 22 rfl rfl)
theorem dX3_drawsFirst_23 : decode cX3_drawsFirst 23 = .ok (.invokevirtual 41, 3) := dk_182 0 41 (dk_at dksX3_drawsFirst_1 0 rfl rfl)
theorem dX3_drawsFirst_26 : decode cX3_drawsFirst 26 = .ok (.invokevirtual 203, 3) := dk_182 0 203 (dk_at dksX3_drawsFirst_1 3 rfl rfl)
theorem dX3_drawsFirst_29 : decode cX3_drawsFirst 29 = .ok (.istore_n 2, 1) := dk_61 (dk_at dksX3_drawsFirst_1 6 rfl rfl)
theorem dX3_drawsFirst_30 : decode cX3_drawsFirst 30 = .ok (.iload_n 1, 1) := dk_27 (dk_at dksX3_drawsFirst_1 7 rfl rfl)
theorem dX3_drawsFirst_31 : decode cX3_drawsFirst 31 = .ok (.ifCond .ne 16, 3) := dk_154 0 16 (dk_at dksX3_drawsFirst_1 8 rfl rfl)
theorem dX3_drawsFirst_34 : decode cX3_drawsFirst 34 = .ok (.aload_n 0, 1) := dk_42 (dk_at dksX3_drawsFirst_1 11 rfl rfl)
theorem dX3_drawsFirst_35 : decode cX3_drawsFirst 35 = .ok (.iload_n 2, 1) := dk_28 (dk_at dksX3_drawsFirst_1 12 rfl rfl)
theorem dX3_drawsFirst_36 : decode cX3_drawsFirst 36 = .ok (.invokevirtual 123, 3) := dk_182 0 123 (dk_at dksX3_drawsFirst_1 13 rfl rfl)
theorem dX3_drawsFirst_39 : decode cX3_drawsFirst 39 = .ok (.ifCond .eq 8, 3) := dk_153 0 8 (dk_at dksX3_drawsFirst_1 16 rfl rfl)
theorem dX3_drawsFirst_42 : decode cX3_drawsFirst 42 = .ok (.aload_n 0, 1) := dk_42 (dk_at dksX3_drawsFirst_1 19 rfl rfl)
theorem dX3_drawsFirst_43 : decode cX3_drawsFirst 43 = .ok (.iload_n 2, 1) := dk_28 (dk_at dksX3_drawsFirst_1 20 rfl rfl)
theorem dX3_drawsFirst_44 : decode cX3_drawsFirst 44 = .ok (.invokevirtual 190, 3) := dk_182 0 190 (dk_at dksX3_drawsFirst_1 21 rfl rfl)
theorem dX3_drawsFirst_47 : decode cX3_drawsFirst 47 = .ok (.iload_n 1, 1) := dk_27 (dk_at dksX3_drawsFirst_2 0 rfl rfl)
theorem dX3_drawsFirst_48 : decode cX3_drawsFirst 48 = .ok (.ifCond .le 22, 3) := dk_158 0 22 (dk_at dksX3_drawsFirst_2 1 rfl rfl)
theorem dX3_drawsFirst_51 : decode cX3_drawsFirst 51 = .ok (.iload_n 1, 1) := dk_27 (dk_at dksX3_drawsFirst_2 4 rfl rfl)
theorem dX3_drawsFirst_52 : decode cX3_drawsFirst 52 = .ok (.iconst 4, 1) := dk_7 (dk_at dksX3_drawsFirst_2 5 rfl rfl)
theorem dX3_drawsFirst_53 : decode cX3_drawsFirst 53 = .ok (.if_icmp .ge 17, 3) := dk_162 0 17 (dk_at dksX3_drawsFirst_2 6 rfl rfl)
theorem dX3_drawsFirst_56 : decode cX3_drawsFirst 56 = .ok (.aload_n 0, 1) := dk_42 (dk_at dksX3_drawsFirst_2 9 rfl rfl)
theorem dX3_drawsFirst_57 : decode cX3_drawsFirst 57 = .ok (.iload_n 1, 1) := dk_27 (dk_at dksX3_drawsFirst_2 10 rfl rfl)
theorem dX3_drawsFirst_58 : decode cX3_drawsFirst 58 = .ok (.iload_n 2, 1) := dk_28 (dk_at dksX3_drawsFirst_2 11 rfl rfl)
theorem dX3_drawsFirst_59 : decode cX3_drawsFirst 59 = .ok (.aload_n 0, 1) := dk_42 (dk_at dksX3_drawsFirst_2 12 rfl rfl)
theorem dX3_drawsFirst_60 : decode cX3_drawsFirst 60 = .ok (.aload_n 0, 1) := dk_42 (dk_at dksX3_drawsFirst_2 13 rfl rfl)
theorem dX3_drawsFirst_61 : decode cX3_drawsFirst 61 = .ok (.invokevirtual 41, 3) := dk_182 0 41 (dk_at dksX3_drawsFirst_2 14 rfl rfl)
theorem dX3_drawsFirst_64 : decode cX3_drawsFirst 64 = .ok (.invokevirtual 203, 3) := dk_182 0 203 (dk_at dksX3_drawsFirst_2 17 rfl rfl)
theorem dX3_drawsFirst_67 : decode cX3_drawsFirst 67 = .ok (.invokevirtual 222, 3) := dk_182 0 222 (dk_at dksX3_drawsFirst_2 20 rfl rfl)
theorem dX3_drawsFirst_70 : decode cX3_drawsFirst 70 = .ok (.iload_n 1, 1) := dk_27 (dk_at dksX3_drawsFirst_2 23 rfl rfl)
theorem dX3_drawsFirst_71 : decode cX3_drawsFirst 71 = .ok (.iconst 4, 1) := dk_7 (dk_at dksX3_drawsFirst_3 0 rfl rfl)
theorem dX3_drawsFirst_72 : decode cX3_drawsFirst 72 = .ok (.if_icmp .ne 8, 3) := dk_160 0 8 (dk_at dksX3_drawsFirst_3 1 rfl rfl)
theorem dX3_drawsFirst_75 : decode cX3_drawsFirst 75 = .ok (.aload_n 0, 1) := dk_42 (dk_at dksX3_drawsFirst_3 4 rfl rfl)
theorem dX3_drawsFirst_76 : decode cX3_drawsFirst 76 = .ok (.iload_n 2, 1) := dk_28 (dk_at dksX3_drawsFirst_3 5 rfl rfl)
theorem dX3_drawsFirst_77 : decode cX3_drawsFirst 77 = .ok (.invokevirtual 171, 3) := dk_182 0 171 (dk_at dksX3_drawsFirst_3 6 rfl rfl)
theorem dX3_drawsFirst_80 : decode cX3_drawsFirst 80 = .ok (.return_, 1) := dk_177 (dk_at dksX3_drawsFirst_3 9 rfl rfl)
abbrev cX3_draw : ByteArray := prog_6_method_31_code
def yX3_draw : MethodName := ⟨RX3, "draw", "(I)I"⟩
def dkwX3_draw_1 : List UInt8 := [172]
abbrev dktX3_draw_1 : List UInt8 := dkwX3_draw_1 ++ []
def dkwX3_draw_0 : List UInt8 := [42, 42, 180, 0, 199, 18, 202, 104, 17, 48, 57, 96, 181, 0, 199, 42, 180, 0, 199, 16, 8, 124, 27, 112]
abbrev dktX3_draw_0 : List UInt8 := dkwX3_draw_0 ++ dktX3_draw_1
theorem dksX3_draw_0 : cX3_draw.data.toList.drop 0 = dktX3_draw_0 := by decide +kernel
theorem dksX3_draw_1 : cX3_draw.data.toList.drop 24 = dktX3_draw_1 := dk_seg dksX3_draw_0 24 rfl rfl
theorem dX3_draw_0 : decode cX3_draw 0 = .ok (.aload_n 0, 1) := dk_42 (dk_at dksX3_draw_0 0 rfl rfl)
theorem dX3_draw_1 : decode cX3_draw 1 = .ok (.aload_n 0, 1) := dk_42 (dk_at dksX3_draw_0 1 rfl rfl)
theorem dX3_draw_2 : decode cX3_draw 2 = .ok (.getfield 199, 3) := dk_180 0 199 (dk_at dksX3_draw_0 2 rfl rfl)
theorem dX3_draw_5 : decode cX3_draw 5 = .ok (.ldc 202, 2) := dk_18 202 (dk_at dksX3_draw_0 5 rfl rfl)
theorem dX3_draw_7 : decode cX3_draw 7 = .ok (.imul, 1) := dk_104 (dk_at dksX3_draw_0 7 rfl rfl)
theorem dX3_draw_8 : decode cX3_draw 8 = .ok (.sipush 12345, 3) := dk_17 48 57 (dk_at dksX3_draw_0 8 rfl rfl)
theorem dX3_draw_11 : decode cX3_draw 11 = .ok (.iadd, 1) := dk_96 (dk_at dksX3_draw_0 11 rfl rfl)
theorem dX3_draw_12 : decode cX3_draw 12 = .ok (.putfield 199, 3) := dk_181 0 199 (dk_at dksX3_draw_0 12 rfl rfl)
theorem dX3_draw_15 : decode cX3_draw 15 = .ok (.aload_n 0, 1) := dk_42 (dk_at dksX3_draw_0 15 rfl rfl)
theorem dX3_draw_16 : decode cX3_draw 16 = .ok (.getfield 199, 3) := dk_180 0 199 (dk_at dksX3_draw_0 16 rfl rfl)
theorem dX3_draw_19 : decode cX3_draw 19 = .ok (.bipush 8, 2) := dk_16 8 (dk_at dksX3_draw_0 19 rfl rfl)
theorem dX3_draw_21 : decode cX3_draw 21 = .ok (.iushr, 1) := dk_124 (dk_at dksX3_draw_0 21 rfl rfl)
theorem dX3_draw_22 : decode cX3_draw 22 = .ok (.iload_n 1, 1) := dk_27 (dk_at dksX3_draw_0 22 rfl rfl)
theorem dX3_draw_23 : decode cX3_draw 23 = .ok (.irem, 1) := dk_112 (dk_at dksX3_draw_0 23 rfl rfl)
theorem dX3_draw_24 : decode cX3_draw 24 = .ok (.ireturn, 1) := dk_172 (dk_at dksX3_draw_1 0 rfl rfl)
abbrev cX3_drawsTwo : ByteArray := prog_6_method_32_code
def yX3_drawsTwo : MethodName := ⟨RX3, "drawsTwo", "(III)V"⟩
def dkwX3_drawsTwo_3 : List UInt8 := [160, 0, 20, 42, 28, 29, 182, 0, 219, 154, 0, 11, 42, 28, 29, 21, 4, 182, 0, 95, 177]
abbrev dktX3_drawsTwo_3 : List UInt8 := dkwX3_drawsTwo_3 ++ []
def dkwX3_drawsTwo_2 : List UInt8 := [160, 0, 22, 42, 28, 29, 21, 4, 182, 0, 212, 154, 0, 11, 42, 28, 29, 21, 4, 182, 0, 216, 27, 6]
abbrev dktX3_drawsTwo_2 : List UInt8 := dkwX3_drawsTwo_2 ++ dktX3_drawsTwo_3
def dkwX3_drawsTwo_1 : List UInt8 := [177, 27, 4, 160, 0, 18, 42, 28, 29, 182, 0, 206, 154, 0, 9, 42, 28, 29, 182, 0, 209, 27, 5]
abbrev dktX3_drawsTwo_1 : List UInt8 := dkwX3_drawsTwo_1 ++ dktX3_drawsTwo_2
def dkwX3_drawsTwo_0 : List UInt8 := [27, 4, 160, 0, 7, 3, 167, 0, 11, 42, 16, 50, 182, 0, 203, 4, 96, 54, 4, 28, 29, 160, 0, 4]
abbrev dktX3_drawsTwo_0 : List UInt8 := dkwX3_drawsTwo_0 ++ dktX3_drawsTwo_1
theorem dksX3_drawsTwo_0 : cX3_drawsTwo.data.toList.drop 0 = dktX3_drawsTwo_0 := by decide +kernel
theorem dksX3_drawsTwo_1 : cX3_drawsTwo.data.toList.drop 24 = dktX3_drawsTwo_1 := dk_seg dksX3_drawsTwo_0 24 rfl rfl
theorem dksX3_drawsTwo_2 : cX3_drawsTwo.data.toList.drop 47 = dktX3_drawsTwo_2 := dk_seg dksX3_drawsTwo_1 23 rfl rfl
theorem dksX3_drawsTwo_3 : cX3_drawsTwo.data.toList.drop 71 = dktX3_drawsTwo_3 := dk_seg dksX3_drawsTwo_2 24 rfl rfl
theorem dX3_drawsTwo_0 : decode cX3_drawsTwo 0 = .ok (.iload_n 1, 1) := dk_27 (dk_at dksX3_drawsTwo_0 0 rfl rfl)
theorem dX3_drawsTwo_1 : decode cX3_drawsTwo 1 = .ok (.iconst 1, 1) := dk_4 (dk_at dksX3_drawsTwo_0 1 rfl rfl)
theorem dX3_drawsTwo_2 : decode cX3_drawsTwo 2 = .ok (.if_icmp .ne 7, 3) := dk_160 0 7 (dk_at dksX3_drawsTwo_0 2 rfl rfl)
theorem dX3_drawsTwo_5 : decode cX3_drawsTwo 5 = .ok (.iconst 0, 1) := dk_3 (dk_at dksX3_drawsTwo_0 5 rfl rfl)
theorem dX3_drawsTwo_6 : decode cX3_drawsTwo 6 = .ok (.goto 11, 3) := dk_167 0 11 (dk_at dksX3_drawsTwo_0 6 rfl rfl)
theorem dX3_drawsTwo_9 : decode cX3_drawsTwo 9 = .ok (.aload_n 0, 1) := dk_42 (dk_at dksX3_drawsTwo_0 9 rfl rfl)
theorem dX3_drawsTwo_10 : decode cX3_drawsTwo 10 = .ok (.bipush 50, 2) := dk_16 50 (dk_at dksX3_drawsTwo_0 10 rfl rfl)
theorem dX3_drawsTwo_12 : decode cX3_drawsTwo 12 = .ok (.invokevirtual 203, 3) := dk_182 0 203 (dk_at dksX3_drawsTwo_0 12 rfl rfl)
theorem dX3_drawsTwo_15 : decode cX3_drawsTwo 15 = .ok (.iconst 1, 1) := dk_4 (dk_at dksX3_drawsTwo_0 15 rfl rfl)
theorem dX3_drawsTwo_16 : decode cX3_drawsTwo 16 = .ok (.iadd, 1) := dk_96 (dk_at dksX3_drawsTwo_0 16 rfl rfl)
theorem dX3_drawsTwo_17 : decode cX3_drawsTwo 17 = .ok (.istore 4, 2) := dk_54 4 (dk_at dksX3_drawsTwo_0 17 rfl rfl)
theorem dX3_drawsTwo_19 : decode cX3_drawsTwo 19 = .ok (.iload_n 2, 1) := dk_28 (dk_at dksX3_drawsTwo_0 19 rfl rfl)
theorem dX3_drawsTwo_20 : decode cX3_drawsTwo 20 = .ok (.iload_n 3, 1) := dk_29 (dk_at dksX3_drawsTwo_0 20 rfl rfl)
theorem dX3_drawsTwo_21 : decode cX3_drawsTwo 21 = .ok (.if_icmp .ne 4, 3) := dk_160 0 4 (dk_at dksX3_drawsTwo_0 21 rfl rfl)
theorem dX3_drawsTwo_24 : decode cX3_drawsTwo 24 = .ok (.return_, 1) := dk_177 (dk_at dksX3_drawsTwo_1 0 rfl rfl)
theorem dX3_drawsTwo_25 : decode cX3_drawsTwo 25 = .ok (.iload_n 1, 1) := dk_27 (dk_at dksX3_drawsTwo_1 1 rfl rfl)
theorem dX3_drawsTwo_26 : decode cX3_drawsTwo 26 = .ok (.iconst 1, 1) := dk_4 (dk_at dksX3_drawsTwo_1 2 rfl rfl)
theorem dX3_drawsTwo_27 : decode cX3_drawsTwo 27 = .ok (.if_icmp .ne 18, 3) := dk_160 0 18 (dk_at dksX3_drawsTwo_1 3 rfl rfl)
theorem dX3_drawsTwo_30 : decode cX3_drawsTwo 30 = .ok (.aload_n 0, 1) := dk_42 (dk_at dksX3_drawsTwo_1 6 rfl rfl)
theorem dX3_drawsTwo_31 : decode cX3_drawsTwo 31 = .ok (.iload_n 2, 1) := dk_28 (dk_at dksX3_drawsTwo_1 7 rfl rfl)
theorem dX3_drawsTwo_32 : decode cX3_drawsTwo 32 = .ok (.iload_n 3, 1) := dk_29 (dk_at dksX3_drawsTwo_1 8 rfl rfl)
theorem dX3_drawsTwo_33 : decode cX3_drawsTwo 33 = .ok (.invokevirtual 206, 3) := dk_182 0 206 (dk_at dksX3_drawsTwo_1 9 rfl rfl)
theorem dX3_drawsTwo_36 : decode cX3_drawsTwo 36 = .ok (.ifCond .ne 9, 3) := dk_154 0 9 (dk_at dksX3_drawsTwo_1 12 rfl rfl)
theorem dX3_drawsTwo_39 : decode cX3_drawsTwo 39 = .ok (.aload_n 0, 1) := dk_42 (dk_at dksX3_drawsTwo_1 15 rfl rfl)
theorem dX3_drawsTwo_40 : decode cX3_drawsTwo 40 = .ok (.iload_n 2, 1) := dk_28 (dk_at dksX3_drawsTwo_1 16 rfl rfl)
theorem dX3_drawsTwo_41 : decode cX3_drawsTwo 41 = .ok (.iload_n 3, 1) := dk_29 (dk_at dksX3_drawsTwo_1 17 rfl rfl)
theorem dX3_drawsTwo_42 : decode cX3_drawsTwo 42 = .ok (.invokevirtual 209, 3) := dk_182 0 209 (dk_at dksX3_drawsTwo_1 18 rfl rfl)
theorem dX3_drawsTwo_45 : decode cX3_drawsTwo 45 = .ok (.iload_n 1, 1) := dk_27 (dk_at dksX3_drawsTwo_1 21 rfl rfl)
theorem dX3_drawsTwo_46 : decode cX3_drawsTwo 46 = .ok (.iconst 2, 1) := dk_5 (dk_at dksX3_drawsTwo_1 22 rfl rfl)
theorem dX3_drawsTwo_47 : decode cX3_drawsTwo 47 = .ok (.if_icmp .ne 22, 3) := dk_160 0 22 (dk_at dksX3_drawsTwo_2 0 rfl rfl)
theorem dX3_drawsTwo_50 : decode cX3_drawsTwo 50 = .ok (.aload_n 0, 1) := dk_42 (dk_at dksX3_drawsTwo_2 3 rfl rfl)
theorem dX3_drawsTwo_51 : decode cX3_drawsTwo 51 = .ok (.iload_n 2, 1) := dk_28 (dk_at dksX3_drawsTwo_2 4 rfl rfl)
theorem dX3_drawsTwo_52 : decode cX3_drawsTwo 52 = .ok (.iload_n 3, 1) := dk_29 (dk_at dksX3_drawsTwo_2 5 rfl rfl)
theorem dX3_drawsTwo_53 : decode cX3_drawsTwo 53 = .ok (.iload 4, 2) := dk_21 4 (dk_at dksX3_drawsTwo_2 6 rfl rfl)
theorem dX3_drawsTwo_55 : decode cX3_drawsTwo 55 = .ok (.invokevirtual 212, 3) := dk_182 0 212 (dk_at dksX3_drawsTwo_2 8 rfl rfl)
theorem dX3_drawsTwo_58 : decode cX3_drawsTwo 58 = .ok (.ifCond .ne 11, 3) := dk_154 0 11 (dk_at dksX3_drawsTwo_2 11 rfl rfl)
theorem dX3_drawsTwo_61 : decode cX3_drawsTwo 61 = .ok (.aload_n 0, 1) := dk_42 (dk_at dksX3_drawsTwo_2 14 rfl rfl)
theorem dX3_drawsTwo_62 : decode cX3_drawsTwo 62 = .ok (.iload_n 2, 1) := dk_28 (dk_at dksX3_drawsTwo_2 15 rfl rfl)
theorem dX3_drawsTwo_63 : decode cX3_drawsTwo 63 = .ok (.iload_n 3, 1) := dk_29 (dk_at dksX3_drawsTwo_2 16 rfl rfl)
theorem dX3_drawsTwo_64 : decode cX3_drawsTwo 64 = .ok (.iload 4, 2) := dk_21 4 (dk_at dksX3_drawsTwo_2 17 rfl rfl)
theorem dX3_drawsTwo_66 : decode cX3_drawsTwo 66 = .ok (.invokevirtual 216, 3) := dk_182 0 216 (dk_at dksX3_drawsTwo_2 19 rfl rfl)
theorem dX3_drawsTwo_69 : decode cX3_drawsTwo 69 = .ok (.iload_n 1, 1) := dk_27 (dk_at dksX3_drawsTwo_2 22 rfl rfl)
theorem dX3_drawsTwo_70 : decode cX3_drawsTwo 70 = .ok (.iconst 3, 1) := dk_6 (dk_at dksX3_drawsTwo_2 23 rfl rfl)
theorem dX3_drawsTwo_71 : decode cX3_drawsTwo 71 = .ok (.if_icmp .ne 20, 3) := dk_160 0 20 (dk_at dksX3_drawsTwo_3 0 rfl rfl)
theorem dX3_drawsTwo_74 : decode cX3_drawsTwo 74 = .ok (.aload_n 0, 1) := dk_42 (dk_at dksX3_drawsTwo_3 3 rfl rfl)
theorem dX3_drawsTwo_75 : decode cX3_drawsTwo 75 = .ok (.iload_n 2, 1) := dk_28 (dk_at dksX3_drawsTwo_3 4 rfl rfl)
theorem dX3_drawsTwo_76 : decode cX3_drawsTwo 76 = .ok (.iload_n 3, 1) := dk_29 (dk_at dksX3_drawsTwo_3 5 rfl rfl)
theorem dX3_drawsTwo_77 : decode cX3_drawsTwo 77 = .ok (.invokevirtual 219, 3) := dk_182 0 219 (dk_at dksX3_drawsTwo_3 6 rfl rfl)
theorem dX3_drawsTwo_80 : decode cX3_drawsTwo 80 = .ok (.ifCond .ne 11, 3) := dk_154 0 11 (dk_at dksX3_drawsTwo_3 9 rfl rfl)
theorem dX3_drawsTwo_83 : decode cX3_drawsTwo 83 = .ok (.aload_n 0, 1) := dk_42 (dk_at dksX3_drawsTwo_3 12 rfl rfl)
theorem dX3_drawsTwo_84 : decode cX3_drawsTwo 84 = .ok (.iload_n 2, 1) := dk_28 (dk_at dksX3_drawsTwo_3 13 rfl rfl)
theorem dX3_drawsTwo_85 : decode cX3_drawsTwo 85 = .ok (.iload_n 3, 1) := dk_29 (dk_at dksX3_drawsTwo_3 14 rfl rfl)
theorem dX3_drawsTwo_86 : decode cX3_drawsTwo 86 = .ok (.iload 4, 2) := dk_21 4 (dk_at dksX3_drawsTwo_3 15 rfl rfl)
theorem dX3_drawsTwo_88 : decode cX3_drawsTwo 88 = .ok (.invokevirtual 95, 3) := dk_182 0 95 (dk_at dksX3_drawsTwo_3 17 rfl rfl)
theorem dX3_drawsTwo_91 : decode cX3_drawsTwo 91 = .ok (.return_, 1) := dk_177 (dk_at dksX3_drawsTwo_3 20 rfl rfl)
theorem q130 : (Jvm.Cond.initialized "HeirsAtLaw$Estate") ∈ lw_all := lw_g (lw_at lw_m1 6 rfl) rfl
theorem q224 : (Jvm.Cond.fieldLinkNest "HeirsAtLaw$Estate" (168 : Nat) "HeirsAtLaw$Family" "widow" "I" "HeirsAtLaw") ∈ lw_tbl := lw_at lw_m1 100 rfl
theorem q228 : (Jvm.Cond.fieldLinkNest "HeirsAtLaw$Estate" (109 : Nat) "HeirsAtLaw$Family" "persons" "Ljava/util/ArrayList;" "HeirsAtLaw") ∈ lw_tbl := lw_at lw_m1 104 rfl
theorem q232 : (Jvm.Cond.fieldLinkNest "HeirsAtLaw$Estate" (67 : Nat) "HeirsAtLaw$Family" "wills" "Ljava/util/ArrayList;" "HeirsAtLaw") ∈ lw_tbl := lw_at lw_m1 108 rfl
theorem q246 : (Jvm.Cond.instantiable "HeirsAtLaw$Estate" (12 : Nat)) ∈ lw_all := lw_g (lw_at lw_m1 122 rfl) rfl
theorem q248 : (Jvm.Cond.instanceMethod ({ cls := "HeirsAtLaw$Estate", name := "<init>", desc := "()V" } : Jvm.MethodName)) ∈ lw_all := lw_g (lw_at lw_m1 124 rfl) rfl
theorem q249 : (Jvm.Cond.code ({ cls := "HeirsAtLaw$Estate", name := "<init>", desc := "()V" } : Jvm.MethodName) prog_6_method_1_code (1 : Nat) (Option.none : Option Jvm.ClassFile.FieldType)) ∈ lw_all := lw_g (lw_at lw_m1 125 rfl) rfl
theorem q250 : (Jvm.Cond.methodLink "HeirsAtLaw$Estate" (3 : Nat) ({ cls := "java/lang/Object", name := "<init>", desc := "()V" } : Jvm.MethodName)) ∈ lw_all := lw_g (lw_at lw_m1 126 rfl) rfl
theorem q251 : (Jvm.Cond.fieldLink "HeirsAtLaw$Estate" (27 : Nat) "HeirsAtLaw$Estate" "f" "LHeirsAtLaw$Family;") ∈ lw_all := lw_g (lw_at lw_m1 127 rfl) rfl
theorem q254 : (Jvm.Cond.fieldLink "HeirsAtLaw$Estate" (31 : Nat) "HeirsAtLaw$Estate" "year" "I") ∈ lw_all := lw_g (lw_at lw_m1 130 rfl) rfl
theorem q257 : (Jvm.Cond.fieldLink "HeirsAtLaw$Estate" (35 : Nat) "HeirsAtLaw$Estate" "crown" "I") ∈ lw_all := lw_g (lw_at lw_m1 133 rfl) rfl
theorem q259 : (Jvm.Cond.fieldLink "HeirsAtLaw$Estate" (38 : Nat) "HeirsAtLaw$Estate" "deaths" "I") ∈ lw_all := lw_g (lw_at lw_m1 135 rfl) rfl
theorem q261 : (Jvm.Cond.fieldLink "HeirsAtLaw$Estate" (45 : Nat) "HeirsAtLaw$Estate" "living" "I") ∈ lw_all := lw_g (lw_at lw_m1 137 rfl) rfl
theorem q264 : (Jvm.Cond.fieldLink "HeirsAtLaw$Estate" (48 : Nat) "HeirsAtLaw$Estate" "wills" "I") ∈ lw_all := lw_g (lw_at lw_m1 140 rfl) rfl
theorem q266 : (Jvm.Cond.fieldLink "HeirsAtLaw$Estate" (9 : Nat) "HeirsAtLaw$Estate" "coins" "[I") ∈ lw_all := lw_g (lw_at lw_m1 142 rfl) rfl
theorem q269 : (Jvm.Cond.fieldLink "HeirsAtLaw$Estate" (15 : Nat) "HeirsAtLaw$Estate" "spouse" "[I") ∈ lw_all := lw_g (lw_at lw_m1 145 rfl) rfl
theorem q271 : (Jvm.Cond.fieldLink "HeirsAtLaw$Estate" (18 : Nat) "HeirsAtLaw$Estate" "from" "[I") ∈ lw_all := lw_g (lw_at lw_m1 147 rfl) rfl
theorem q273 : (Jvm.Cond.fieldLink "HeirsAtLaw$Estate" (21 : Nat) "HeirsAtLaw$Estate" "to" "[I") ∈ lw_all := lw_g (lw_at lw_m1 149 rfl) rfl
theorem q275 : (Jvm.Cond.fieldLink "HeirsAtLaw$Estate" (24 : Nat) "HeirsAtLaw$Estate" "much" "[I") ∈ lw_all := lw_g (lw_at lw_m1 151 rfl) rfl
theorem q277 : (Jvm.Cond.fieldLink "HeirsAtLaw$Estate" (199 : Nat) "HeirsAtLaw$Estate" "seed" "I") ∈ lw_all := lw_g (lw_at lw_m1 153 rfl) rfl
theorem q278 : (Jvm.Cond.lays "HeirsAtLaw$Estate" "HeirsAtLaw$Estate" "f" "LHeirsAtLaw$Family;") ∈ lw_all := lw_g (lw_at lw_m1 154 rfl) rfl
theorem q279 : (Jvm.Cond.soleField "HeirsAtLaw$Estate" "f") ∈ lw_all := lw_g (lw_at lw_m1 155 rfl) rfl
theorem q280 : (Jvm.Cond.lays "HeirsAtLaw$Estate" "HeirsAtLaw$Estate" "year" "I") ∈ lw_all := lw_g (lw_at lw_m1 156 rfl) rfl
theorem q281 : (Jvm.Cond.soleField "HeirsAtLaw$Estate" "year") ∈ lw_all := lw_g (lw_at lw_m1 157 rfl) rfl
theorem q282 : (Jvm.Cond.lays "HeirsAtLaw$Estate" "HeirsAtLaw$Estate" "crown" "I") ∈ lw_all := lw_g (lw_at lw_m1 158 rfl) rfl
theorem q283 : (Jvm.Cond.soleField "HeirsAtLaw$Estate" "crown") ∈ lw_all := lw_g (lw_at lw_m1 159 rfl) rfl
theorem q284 : (Jvm.Cond.lays "HeirsAtLaw$Estate" "HeirsAtLaw$Estate" "deaths" "I") ∈ lw_all := lw_g (lw_at lw_m1 160 rfl) rfl
theorem q285 : (Jvm.Cond.soleField "HeirsAtLaw$Estate" "deaths") ∈ lw_all := lw_g (lw_at lw_m1 161 rfl) rfl
theorem q286 : (Jvm.Cond.lays "HeirsAtLaw$Estate" "HeirsAtLaw$Estate" "living" "I") ∈ lw_all := lw_g (lw_at lw_m1 162 rfl) rfl
theorem q287 : (Jvm.Cond.soleField "HeirsAtLaw$Estate" "living") ∈ lw_all := lw_g (lw_at lw_m1 163 rfl) rfl
theorem q288 : (Jvm.Cond.lays "HeirsAtLaw$Estate" "HeirsAtLaw$Estate" "wills" "I") ∈ lw_all := lw_g (lw_at lw_m1 164 rfl) rfl
theorem q289 : (Jvm.Cond.soleField "HeirsAtLaw$Estate" "wills") ∈ lw_all := lw_g (lw_at lw_m1 165 rfl) rfl
theorem q290 : (Jvm.Cond.laysFinal "HeirsAtLaw$Estate" "HeirsAtLaw$Estate" "coins" "[I") ∈ lw_all := lw_g (lw_at lw_m1 166 rfl) rfl
theorem q291 : (Jvm.Cond.soleField "HeirsAtLaw$Estate" "coins") ∈ lw_all := lw_g (lw_at lw_m1 167 rfl) rfl
theorem q292 : (Jvm.Cond.laysFinal "HeirsAtLaw$Estate" "HeirsAtLaw$Estate" "spouse" "[I") ∈ lw_all := lw_g (lw_at lw_m1 168 rfl) rfl
theorem q293 : (Jvm.Cond.soleField "HeirsAtLaw$Estate" "spouse") ∈ lw_all := lw_g (lw_at lw_m1 169 rfl) rfl
theorem q294 : (Jvm.Cond.laysFinal "HeirsAtLaw$Estate" "HeirsAtLaw$Estate" "from" "[I") ∈ lw_all := lw_g (lw_at lw_m1 170 rfl) rfl
theorem q295 : (Jvm.Cond.soleField "HeirsAtLaw$Estate" "from") ∈ lw_all := lw_g (lw_at lw_m1 171 rfl) rfl
theorem q296 : (Jvm.Cond.laysFinal "HeirsAtLaw$Estate" "HeirsAtLaw$Estate" "to" "[I") ∈ lw_all := lw_g (lw_at lw_m1 172 rfl) rfl
theorem q297 : (Jvm.Cond.soleField "HeirsAtLaw$Estate" "to") ∈ lw_all := lw_g (lw_at lw_m1 173 rfl) rfl
theorem q298 : (Jvm.Cond.laysFinal "HeirsAtLaw$Estate" "HeirsAtLaw$Estate" "much" "[I") ∈ lw_all := lw_g (lw_at lw_m1 174 rfl) rfl
theorem q299 : (Jvm.Cond.soleField "HeirsAtLaw$Estate" "much") ∈ lw_all := lw_g (lw_at lw_m1 175 rfl) rfl
theorem q300 : (Jvm.Cond.lays "HeirsAtLaw$Estate" "HeirsAtLaw$Estate" "seed" "I") ∈ lw_all := lw_g (lw_at lw_m1 176 rfl) rfl
theorem q301 : (Jvm.Cond.soleField "HeirsAtLaw$Estate" "seed") ∈ lw_all := lw_g (lw_at lw_m1 177 rfl) rfl
theorem q302 : (Jvm.Cond.superclass "HeirsAtLaw$Estate" "java/lang/Object") ∈ lw_all := lw_g (lw_at lw_m1 178 rfl) rfl
theorem q305 : (Jvm.Cond.instanceMethod ({ cls := "HeirsAtLaw$Estate", name := "begin", desc := "(LHeirsAtLaw$Family;)LHeirsAtLaw$Estate;" } : Jvm.MethodName)) ∈ lw_all := lw_g (lw_at lw_m1 181 rfl) rfl
theorem q306 : (Jvm.Cond.selects "HeirsAtLaw$Estate" ({ cls := "HeirsAtLaw$Estate", name := "begin", desc := "(LHeirsAtLaw$Family;)LHeirsAtLaw$Estate;" } : Jvm.MethodName) ({ cls := "HeirsAtLaw$Estate", name := "begin", desc := "(LHeirsAtLaw$Family;)LHeirsAtLaw$Estate;" } : Jvm.MethodName)) ∈ lw_all := lw_g (lw_at lw_m1 182 rfl) rfl
theorem q307 : (Jvm.Cond.code ({ cls := "HeirsAtLaw$Estate", name := "begin", desc := "(LHeirsAtLaw$Family;)LHeirsAtLaw$Estate;" } : Jvm.MethodName) prog_6_method_2_code (4 : Nat) (Option.some (Jvm.ClassFile.FieldType.object "HeirsAtLaw$Estate"))) ∈ lw_all := lw_g (lw_at lw_m1 183 rfl) rfl
theorem q308 : (Jvm.Cond.methodLink "HeirsAtLaw$Estate" (41 : Nat) ({ cls := "HeirsAtLaw$Estate", name := "persons", desc := "()I" } : Jvm.MethodName)) ∈ lw_all := lw_g (lw_at lw_m1 184 rfl) rfl
theorem q309 : (Jvm.Cond.instanceMethod ({ cls := "HeirsAtLaw$Estate", name := "persons", desc := "()I" } : Jvm.MethodName)) ∈ lw_all := lw_g (lw_at lw_m1 185 rfl) rfl
theorem q310 : (Jvm.Cond.selects "HeirsAtLaw$Estate" ({ cls := "HeirsAtLaw$Estate", name := "persons", desc := "()I" } : Jvm.MethodName) ({ cls := "HeirsAtLaw$Estate", name := "persons", desc := "()I" } : Jvm.MethodName)) ∈ lw_all := lw_g (lw_at lw_m1 186 rfl) rfl
theorem q311 : (Jvm.Cond.code ({ cls := "HeirsAtLaw$Estate", name := "persons", desc := "()I" } : Jvm.MethodName) prog_6_method_6_code (1 : Nat) (Option.some Jvm.ClassFile.FieldType.int)) ∈ lw_all := lw_g (lw_at lw_m1 187 rfl) rfl
theorem q312 : (Jvm.Cond.methodLink "HeirsAtLaw$Estate" (111 : Nat) ({ cls := "java/util/ArrayList", name := "size", desc := "()I" } : Jvm.MethodName)) ∈ lw_all := lw_g (lw_at lw_m1 188 rfl) rfl
theorem q316 : (Jvm.Cond.methodLink "HeirsAtLaw$Estate" (51 : Nat) ({ cls := "java/util/Arrays", name := "fill", desc := "([II)V" } : Jvm.MethodName)) ∈ lw_all := lw_g (lw_at lw_m1 192 rfl) rfl
theorem q319 : (Jvm.Cond.methodLink "HeirsAtLaw$Estate" (57 : Nat) ({ cls := "HeirsAtLaw$Estate", name := "person", desc := "(I)LHeirsAtLaw$Person;" } : Jvm.MethodName)) ∈ lw_all := lw_g (lw_at lw_m1 195 rfl) rfl
theorem q320 : (Jvm.Cond.instanceMethod ({ cls := "HeirsAtLaw$Estate", name := "person", desc := "(I)LHeirsAtLaw$Person;" } : Jvm.MethodName)) ∈ lw_all := lw_g (lw_at lw_m1 196 rfl) rfl
theorem q321 : (Jvm.Cond.selects "HeirsAtLaw$Estate" ({ cls := "HeirsAtLaw$Estate", name := "person", desc := "(I)LHeirsAtLaw$Person;" } : Jvm.MethodName) ({ cls := "HeirsAtLaw$Estate", name := "person", desc := "(I)LHeirsAtLaw$Person;" } : Jvm.MethodName)) ∈ lw_all := lw_g (lw_at lw_m1 197 rfl) rfl
theorem q322 : (Jvm.Cond.code ({ cls := "HeirsAtLaw$Estate", name := "person", desc := "(I)LHeirsAtLaw$Person;" } : Jvm.MethodName) prog_6_method_7_code (2 : Nat) (Option.some (Jvm.ClassFile.FieldType.object "HeirsAtLaw$Person"))) ∈ lw_all := lw_g (lw_at lw_m1 198 rfl) rfl
theorem q323 : (Jvm.Cond.methodLink "HeirsAtLaw$Estate" (114 : Nat) ({ cls := "HeirsAtLaw$Family", name := "person", desc := "(I)LHeirsAtLaw$Person;" } : Jvm.MethodName)) ∈ lw_all := lw_g (lw_at lw_m1 199 rfl) rfl
theorem q342 : (Jvm.Cond.methodLink "HeirsAtLaw$Estate" (72 : Nat) ({ cls := "java/util/ArrayList", name := "iterator", desc := "()Ljava/util/Iterator;" } : Jvm.MethodName)) ∈ lw_all := lw_g (lw_at lw_m1 218 rfl) rfl
theorem q365 : (Jvm.Cond.interfaceEntry "HeirsAtLaw$Estate" (78 : Nat)) ∈ lw_tbl := lw_at lw_m2 1 rfl
theorem q366 : (Jvm.Cond.methodLink "HeirsAtLaw$Estate" (78 : Nat) ({ cls := "java/util/Iterator", name := "hasNext", desc := "()Z" } : Jvm.MethodName)) ∈ lw_all := lw_g (lw_at lw_m2 2 rfl) rfl
theorem q375 : (Jvm.Cond.interfaceEntry "HeirsAtLaw$Estate" (84 : Nat)) ∈ lw_tbl := lw_at lw_m2 11 rfl
theorem q376 : (Jvm.Cond.methodLink "HeirsAtLaw$Estate" (84 : Nat) ({ cls := "java/util/Iterator", name := "next", desc := "()Ljava/lang/Object;" } : Jvm.MethodName)) ∈ lw_all := lw_g (lw_at lw_m2 12 rfl) rfl
theorem q451 : (Jvm.Cond.classLink "HeirsAtLaw$Estate" (88 : Nat) "HeirsAtLaw$Legacy") ∈ lw_all := lw_g (lw_at lw_m2 87 rfl) rfl
theorem q452 : (Jvm.Cond.methodLink "HeirsAtLaw$Estate" (95 : Nat) ({ cls := "HeirsAtLaw$Estate", name := "leave", desc := "(III)V" } : Jvm.MethodName)) ∈ lw_all := lw_g (lw_at lw_m2 88 rfl) rfl
theorem q453 : (Jvm.Cond.instanceMethod ({ cls := "HeirsAtLaw$Estate", name := "leave", desc := "(III)V" } : Jvm.MethodName)) ∈ lw_all := lw_g (lw_at lw_m2 89 rfl) rfl
theorem q454 : (Jvm.Cond.selects "HeirsAtLaw$Estate" ({ cls := "HeirsAtLaw$Estate", name := "leave", desc := "(III)V" } : Jvm.MethodName) ({ cls := "HeirsAtLaw$Estate", name := "leave", desc := "(III)V" } : Jvm.MethodName)) ∈ lw_all := lw_g (lw_at lw_m2 90 rfl) rfl
theorem q455 : (Jvm.Cond.code ({ cls := "HeirsAtLaw$Estate", name := "leave", desc := "(III)V" } : Jvm.MethodName) prog_6_method_20_code (4 : Nat) (Option.none : Option Jvm.ClassFile.FieldType)) ∈ lw_all := lw_g (lw_at lw_m2 91 rfl) rfl
theorem q997 : (Jvm.Cond.fieldLinkNest "HeirsAtLaw$Estate" (61 : Nat) "HeirsAtLaw$Person" "coins" "I" "HeirsAtLaw") ∈ lw_tbl := lw_at lw_m4 153 rfl
theorem q1003 : (Jvm.Cond.fieldLinkNest "HeirsAtLaw$Estate" (159 : Nat) "HeirsAtLaw$Person" "parents" "I" "HeirsAtLaw") ∈ lw_tbl := lw_at lw_m4 159 rfl
theorem q1007 : (Jvm.Cond.fieldLinkNest "HeirsAtLaw$Estate" (147 : Nat) "HeirsAtLaw$Person" "children" "I" "HeirsAtLaw") ∈ lw_tbl := lw_at lw_m4 163 rfl
theorem q1009 : (Jvm.Cond.fieldLinkNest "HeirsAtLaw$Estate" (65 : Nat) "HeirsAtLaw$Person" "spouse" "I" "HeirsAtLaw") ∈ lw_tbl := lw_at lw_m4 165 rfl
theorem q1014 : (Jvm.Cond.fieldLinkNest "HeirsAtLaw$Estate" (187 : Nat) "HeirsAtLaw$Person" "dies" "I" "HeirsAtLaw") ∈ lw_tbl := lw_at lw_m4 170 rfl
theorem q1056 : (Jvm.Cond.selects "HeirsAtLaw$Estate" ({ cls := "java/lang/Object", name := "getClass", desc := "()Ljava/lang/Class;" } : Jvm.MethodName) ({ cls := "java/lang/Object", name := "getClass", desc := "()Ljava/lang/Class;" } : Jvm.MethodName)) ∈ lw_all := lw_g (lw_at lw_m4 212 rfl) rfl
theorem q1150 : (Jvm.Cond.fieldLinkNest "HeirsAtLaw$Estate" (90 : Nat) "HeirsAtLaw$Legacy" "from" "I" "HeirsAtLaw") ∈ lw_tbl := lw_at lw_m5 66 rfl
theorem q1152 : (Jvm.Cond.fieldLinkNest "HeirsAtLaw$Estate" (92 : Nat) "HeirsAtLaw$Legacy" "to" "I" "HeirsAtLaw") ∈ lw_tbl := lw_at lw_m5 68 rfl
theorem q1154 : (Jvm.Cond.fieldLinkNest "HeirsAtLaw$Estate" (94 : Nat) "HeirsAtLaw$Legacy" "coins" "I" "HeirsAtLaw") ∈ lw_tbl := lw_at lw_m5 70 rfl
theorem q1226 : (Jvm.Cond.instanceMethod ({ cls := "HeirsAtLaw$Estate", name := "isWed", desc := "(I)Z" } : Jvm.MethodName)) ∈ lw_all := lw_g (lw_at lw_m5 142 rfl) rfl
theorem q1227 : (Jvm.Cond.selects "HeirsAtLaw$Estate" ({ cls := "HeirsAtLaw$Estate", name := "isWed", desc := "(I)Z" } : Jvm.MethodName) ({ cls := "HeirsAtLaw$Estate", name := "isWed", desc := "(I)Z" } : Jvm.MethodName)) ∈ lw_all := lw_g (lw_at lw_m5 143 rfl) rfl
theorem q1228 : (Jvm.Cond.code ({ cls := "HeirsAtLaw$Estate", name := "isWed", desc := "(I)Z" } : Jvm.MethodName) prog_6_method_9_code (2 : Nat) (Option.some Jvm.ClassFile.FieldType.boolean)) ∈ lw_all := lw_g (lw_at lw_m5 144 rfl) rfl
theorem q1230 : (Jvm.Cond.instanceMethod ({ cls := "HeirsAtLaw$Estate", name := "allCoins", desc := "()I" } : Jvm.MethodName)) ∈ lw_all := lw_g (lw_at lw_m5 146 rfl) rfl
theorem q1231 : (Jvm.Cond.selects "HeirsAtLaw$Estate" ({ cls := "HeirsAtLaw$Estate", name := "allCoins", desc := "()I" } : Jvm.MethodName) ({ cls := "HeirsAtLaw$Estate", name := "allCoins", desc := "()I" } : Jvm.MethodName)) ∈ lw_all := lw_g (lw_at lw_m5 147 rfl) rfl
theorem q1232 : (Jvm.Cond.code ({ cls := "HeirsAtLaw$Estate", name := "allCoins", desc := "()I" } : Jvm.MethodName) prog_6_method_12_code (6 : Nat) (Option.some Jvm.ClassFile.FieldType.int)) ∈ lw_all := lw_g (lw_at lw_m5 148 rfl) rfl
theorem q1270 : (Jvm.Cond.instanceMethod ({ cls := "HeirsAtLaw$Estate", name := "as", desc := "(LHeirsAtLaw$Estate;)LHeirsAtLaw$Estate;" } : Jvm.MethodName)) ∈ lw_all := lw_g (lw_at lw_m5 186 rfl) rfl
theorem q1271 : (Jvm.Cond.selects "HeirsAtLaw$Estate" ({ cls := "HeirsAtLaw$Estate", name := "as", desc := "(LHeirsAtLaw$Estate;)LHeirsAtLaw$Estate;" } : Jvm.MethodName) ({ cls := "HeirsAtLaw$Estate", name := "as", desc := "(LHeirsAtLaw$Estate;)LHeirsAtLaw$Estate;" } : Jvm.MethodName)) ∈ lw_all := lw_g (lw_at lw_m5 187 rfl) rfl
theorem q1272 : (Jvm.Cond.code ({ cls := "HeirsAtLaw$Estate", name := "as", desc := "(LHeirsAtLaw$Estate;)LHeirsAtLaw$Estate;" } : Jvm.MethodName) prog_6_method_3_code (2 : Nat) (Option.some (Jvm.ClassFile.FieldType.object "HeirsAtLaw$Estate"))) ∈ lw_all := lw_g (lw_at lw_m5 188 rfl) rfl
theorem q1273 : (Jvm.Cond.methodLink "HeirsAtLaw$Estate" (99 : Nat) ({ cls := "HeirsAtLaw$Estate", name := "copy", desc := "([I[I)V" } : Jvm.MethodName)) ∈ lw_all := lw_g (lw_at lw_m5 189 rfl) rfl
theorem q1274 : (Jvm.Cond.static ({ cls := "HeirsAtLaw$Estate", name := "copy", desc := "([I[I)V" } : Jvm.MethodName)) ∈ lw_all := lw_g (lw_at lw_m5 190 rfl) rfl
theorem q1275 : (Jvm.Cond.code ({ cls := "HeirsAtLaw$Estate", name := "copy", desc := "([I[I)V" } : Jvm.MethodName) prog_6_method_4_code (2 : Nat) (Option.none : Option Jvm.ClassFile.FieldType)) ∈ lw_all := lw_g (lw_at lw_m5 191 rfl) rfl
theorem q1276 : (Jvm.Cond.methodLink "HeirsAtLaw$Estate" (103 : Nat) ({ cls := "java/lang/System", name := "arraycopy", desc := "(Ljava/lang/Object;ILjava/lang/Object;II)V" } : Jvm.MethodName)) ∈ lw_all := lw_g (lw_at lw_m5 192 rfl) rfl
theorem q1284 : (Jvm.Cond.instanceMethod ({ cls := "HeirsAtLaw$Estate", name := "lives", desc := "(I)Z" } : Jvm.MethodName)) ∈ lw_all := lw_g (lw_at lw_m5 200 rfl) rfl
theorem q1285 : (Jvm.Cond.selects "HeirsAtLaw$Estate" ({ cls := "HeirsAtLaw$Estate", name := "lives", desc := "(I)Z" } : Jvm.MethodName) ({ cls := "HeirsAtLaw$Estate", name := "lives", desc := "(I)Z" } : Jvm.MethodName)) ∈ lw_all := lw_g (lw_at lw_m5 201 rfl) rfl
theorem q1286 : (Jvm.Cond.code ({ cls := "HeirsAtLaw$Estate", name := "lives", desc := "(I)Z" } : Jvm.MethodName) prog_6_method_8_code (2 : Nat) (Option.some Jvm.ClassFile.FieldType.boolean)) ∈ lw_all := lw_g (lw_at lw_m5 202 rfl) rfl
theorem q1287 : (Jvm.Cond.methodLinkNest "HeirsAtLaw$Estate" (115 : Nat) ({ cls := "HeirsAtLaw", name := "isOf", desc := "(II)Z" } : Jvm.MethodName) "HeirsAtLaw") ∈ lw_tbl := lw_at lw_m5 203 rfl
theorem q1289 : (Jvm.Cond.instanceMethod ({ cls := "HeirsAtLaw$Estate", name := "die", desc := "(I)V" } : Jvm.MethodName)) ∈ lw_all := lw_g (lw_at lw_m5 205 rfl) rfl
theorem q1290 : (Jvm.Cond.selects "HeirsAtLaw$Estate" ({ cls := "HeirsAtLaw$Estate", name := "die", desc := "(I)V" } : Jvm.MethodName) ({ cls := "HeirsAtLaw$Estate", name := "die", desc := "(I)V" } : Jvm.MethodName)) ∈ lw_all := lw_g (lw_at lw_m5 206 rfl) rfl
theorem q1291 : (Jvm.Cond.code ({ cls := "HeirsAtLaw$Estate", name := "die", desc := "(I)V" } : Jvm.MethodName) prog_6_method_28_code (4 : Nat) (Option.none : Option Jvm.ClassFile.FieldType)) ∈ lw_all := lw_g (lw_at lw_m5 207 rfl) rfl
theorem q1292 : (Jvm.Cond.methodLink "HeirsAtLaw$Estate" (171 : Nat) ({ cls := "HeirsAtLaw$Estate", name := "part", desc := "(I)V" } : Jvm.MethodName)) ∈ lw_all := lw_g (lw_at lw_m5 208 rfl) rfl
theorem q1293 : (Jvm.Cond.instanceMethod ({ cls := "HeirsAtLaw$Estate", name := "part", desc := "(I)V" } : Jvm.MethodName)) ∈ lw_all := lw_g (lw_at lw_m5 209 rfl) rfl
theorem q1294 : (Jvm.Cond.selects "HeirsAtLaw$Estate" ({ cls := "HeirsAtLaw$Estate", name := "part", desc := "(I)V" } : Jvm.MethodName) ({ cls := "HeirsAtLaw$Estate", name := "part", desc := "(I)V" } : Jvm.MethodName)) ∈ lw_all := lw_g (lw_at lw_m5 210 rfl) rfl
theorem q1295 : (Jvm.Cond.code ({ cls := "HeirsAtLaw$Estate", name := "part", desc := "(I)V" } : Jvm.MethodName) prog_6_method_16_code (2 : Nat) (Option.none : Option Jvm.ClassFile.FieldType)) ∈ lw_all := lw_g (lw_at lw_m5 211 rfl) rfl
theorem q1296 : (Jvm.Cond.methodLink "HeirsAtLaw$Estate" (127 : Nat) ({ cls := "HeirsAtLaw$Estate", name := "isWed", desc := "(I)Z" } : Jvm.MethodName)) ∈ lw_all := lw_g (lw_at lw_m5 212 rfl) rfl
theorem q1297 : (Jvm.Cond.methodLink "HeirsAtLaw$Estate" (175 : Nat) ({ cls := "HeirsAtLaw$Estate", name := "paysLegacies", desc := "(II)I" } : Jvm.MethodName)) ∈ lw_all := lw_g (lw_at lw_m5 213 rfl) rfl
theorem q1298 : (Jvm.Cond.privateMethod ({ cls := "HeirsAtLaw$Estate", name := "paysLegacies", desc := "(II)I" } : Jvm.MethodName)) ∈ lw_tbl := lw_at lw_m5 214 rfl
theorem q1299 : (Jvm.Cond.instanceMethod ({ cls := "HeirsAtLaw$Estate", name := "paysLegacies", desc := "(II)I" } : Jvm.MethodName)) ∈ lw_all := lw_g (lw_at lw_m5 215 rfl) rfl
theorem q1300 : (Jvm.Cond.code ({ cls := "HeirsAtLaw$Estate", name := "paysLegacies", desc := "(II)I" } : Jvm.MethodName) prog_6_method_24_code (6 : Nat) (Option.some Jvm.ClassFile.FieldType.int)) ∈ lw_all := lw_g (lw_at lw_m5 216 rfl) rfl
theorem q1301 : (Jvm.Cond.methodLink "HeirsAtLaw$Estate" (123 : Nat) ({ cls := "HeirsAtLaw$Estate", name := "lives", desc := "(I)Z" } : Jvm.MethodName)) ∈ lw_all := lw_g (lw_at lw_m5 217 rfl) rfl
theorem q1302 : (Jvm.Cond.methodLink "HeirsAtLaw$Estate" (154 : Nat) ({ cls := "java/lang/Math", name := "min", desc := "(II)I" } : Jvm.MethodName)) ∈ lw_all := lw_g (lw_at lw_m5 218 rfl) rfl
theorem q1303 : (Jvm.Cond.methodLink "HeirsAtLaw$Estate" (178 : Nat) ({ cls := "HeirsAtLaw$Estate", name := "revoke", desc := "(I)V" } : Jvm.MethodName)) ∈ lw_all := lw_g (lw_at lw_m5 219 rfl) rfl
theorem q1304 : (Jvm.Cond.instanceMethod ({ cls := "HeirsAtLaw$Estate", name := "revoke", desc := "(I)V" } : Jvm.MethodName)) ∈ lw_all := lw_g (lw_at lw_m5 220 rfl) rfl
theorem q1305 : (Jvm.Cond.selects "HeirsAtLaw$Estate" ({ cls := "HeirsAtLaw$Estate", name := "revoke", desc := "(I)V" } : Jvm.MethodName) ({ cls := "HeirsAtLaw$Estate", name := "revoke", desc := "(I)V" } : Jvm.MethodName)) ∈ lw_all := lw_g (lw_at lw_m5 221 rfl) rfl
theorem q1306 : (Jvm.Cond.code ({ cls := "HeirsAtLaw$Estate", name := "revoke", desc := "(I)V" } : Jvm.MethodName) prog_6_method_21_code (4 : Nat) (Option.none : Option Jvm.ClassFile.FieldType)) ∈ lw_all := lw_g (lw_at lw_m5 222 rfl) rfl
theorem q1307 : (Jvm.Cond.methodLink "HeirsAtLaw$Estate" (181 : Nat) ({ cls := "HeirsAtLaw$Estate", name := "goesToKin", desc := "(II)V" } : Jvm.MethodName)) ∈ lw_all := lw_g (lw_at lw_m5 223 rfl) rfl
theorem q1308 : (Jvm.Cond.privateMethod ({ cls := "HeirsAtLaw$Estate", name := "goesToKin", desc := "(II)V" } : Jvm.MethodName)) ∈ lw_tbl := lw_at lw_m5 224 rfl
theorem q1309 : (Jvm.Cond.instanceMethod ({ cls := "HeirsAtLaw$Estate", name := "goesToKin", desc := "(II)V" } : Jvm.MethodName)) ∈ lw_all := lw_g (lw_at lw_m5 225 rfl) rfl
theorem q1310 : (Jvm.Cond.code ({ cls := "HeirsAtLaw$Estate", name := "goesToKin", desc := "(II)V" } : Jvm.MethodName) prog_6_method_26_code (4 : Nat) (Option.none : Option Jvm.ClassFile.FieldType)) ∈ lw_all := lw_g (lw_at lw_m5 226 rfl) rfl
theorem q1311 : (Jvm.Cond.methodLink "HeirsAtLaw$Estate" (165 : Nat) ({ cls := "HeirsAtLaw$Estate", name := "kinOf", desc := "(II)I" } : Jvm.MethodName)) ∈ lw_all := lw_g (lw_at lw_m5 227 rfl) rfl
theorem q1312 : (Jvm.Cond.privateMethod ({ cls := "HeirsAtLaw$Estate", name := "kinOf", desc := "(II)I" } : Jvm.MethodName)) ∈ lw_tbl := lw_at lw_m5 228 rfl
theorem q1313 : (Jvm.Cond.instanceMethod ({ cls := "HeirsAtLaw$Estate", name := "kinOf", desc := "(II)I" } : Jvm.MethodName)) ∈ lw_all := lw_g (lw_at lw_m5 229 rfl) rfl
theorem q1314 : (Jvm.Cond.code ({ cls := "HeirsAtLaw$Estate", name := "kinOf", desc := "(II)I" } : Jvm.MethodName) prog_6_method_25_code (5 : Nat) (Option.some Jvm.ClassFile.FieldType.int)) ∈ lw_all := lw_g (lw_at lw_m5 230 rfl) rfl
theorem q1315 : (Jvm.Cond.methodLink "HeirsAtLaw$Estate" (162 : Nat) ({ cls := "HeirsAtLaw$Family", name := "next", desc := "(IZ)I" } : Jvm.MethodName)) ∈ lw_all := lw_g (lw_at lw_m5 231 rfl) rfl
theorem q1316 : (Jvm.Cond.methodLink "HeirsAtLaw$Estate" (141 : Nat) ({ cls := "HeirsAtLaw$Estate", name := "stirpes", desc := "(I)I" } : Jvm.MethodName)) ∈ lw_all := lw_g (lw_at lw_m5 232 rfl) rfl
theorem q1317 : (Jvm.Cond.privateMethod ({ cls := "HeirsAtLaw$Estate", name := "stirpes", desc := "(I)I" } : Jvm.MethodName)) ∈ lw_tbl := lw_at lw_m5 233 rfl
theorem q1318 : (Jvm.Cond.instanceMethod ({ cls := "HeirsAtLaw$Estate", name := "stirpes", desc := "(I)I" } : Jvm.MethodName)) ∈ lw_all := lw_g (lw_at lw_m5 234 rfl) rfl
theorem q1319 : (Jvm.Cond.code ({ cls := "HeirsAtLaw$Estate", name := "stirpes", desc := "(I)I" } : Jvm.MethodName) prog_6_method_22_code (4 : Nat) (Option.some Jvm.ClassFile.FieldType.int)) ∈ lw_all := lw_g (lw_at lw_m5 235 rfl) rfl
theorem q1320 : (Jvm.Cond.methodLink "HeirsAtLaw$Estate" (138 : Nat) ({ cls := "HeirsAtLaw$Estate", name := "livingIssue", desc := "(I)I" } : Jvm.MethodName)) ∈ lw_all := lw_g (lw_at lw_m5 236 rfl) rfl
theorem q1321 : (Jvm.Cond.instanceMethod ({ cls := "HeirsAtLaw$Estate", name := "livingIssue", desc := "(I)I" } : Jvm.MethodName)) ∈ lw_all := lw_g (lw_at lw_m5 237 rfl) rfl
theorem q1322 : (Jvm.Cond.selects "HeirsAtLaw$Estate" ({ cls := "HeirsAtLaw$Estate", name := "livingIssue", desc := "(I)I" } : Jvm.MethodName) ({ cls := "HeirsAtLaw$Estate", name := "livingIssue", desc := "(I)I" } : Jvm.MethodName)) ∈ lw_all := lw_g (lw_at lw_m5 238 rfl) rfl
theorem q1323 : (Jvm.Cond.code ({ cls := "HeirsAtLaw$Estate", name := "livingIssue", desc := "(I)I" } : Jvm.MethodName) prog_6_method_10_code (2 : Nat) (Option.some Jvm.ClassFile.FieldType.int)) ∈ lw_all := lw_g (lw_at lw_m5 239 rfl) rfl
theorem q1324 : (Jvm.Cond.methodLink "HeirsAtLaw$Estate" (119 : Nat) ({ cls := "HeirsAtLaw$Family", name := "issue", desc := "(I)I" } : Jvm.MethodName)) ∈ lw_all := lw_g (lw_at lw_m6 0 rfl) rfl
theorem q1328 : (Jvm.Cond.methodLink "HeirsAtLaw$Estate" (150 : Nat) ({ cls := "HeirsAtLaw$Estate", name := "share", desc := "(II)V" } : Jvm.MethodName)) ∈ lw_all := lw_g (lw_at lw_m6 4 rfl) rfl
theorem q1329 : (Jvm.Cond.privateMethod ({ cls := "HeirsAtLaw$Estate", name := "share", desc := "(II)V" } : Jvm.MethodName)) ∈ lw_tbl := lw_at lw_m6 5 rfl
theorem q1330 : (Jvm.Cond.instanceMethod ({ cls := "HeirsAtLaw$Estate", name := "share", desc := "(II)V" } : Jvm.MethodName)) ∈ lw_all := lw_g (lw_at lw_m6 6 rfl) rfl
theorem q1331 : (Jvm.Cond.code ({ cls := "HeirsAtLaw$Estate", name := "share", desc := "(II)V" } : Jvm.MethodName) prog_6_method_23_code (8 : Nat) (Option.none : Option Jvm.ClassFile.FieldType)) ∈ lw_all := lw_g (lw_at lw_m6 7 rfl) rfl
theorem q1332 : (Jvm.Cond.methodLinkNest "HeirsAtLaw$Estate" (144 : Nat) ({ cls := "HeirsAtLaw", name := "many", desc := "(I)I" } : Jvm.MethodName) "HeirsAtLaw") ∈ lw_tbl := lw_at lw_m6 8 rfl
theorem q1333 : (Jvm.Cond.methodLink "HeirsAtLaw$Estate" (184 : Nat) ({ cls := "HeirsAtLaw$Estate", name := "goesToSpouse", desc := "(III)V" } : Jvm.MethodName)) ∈ lw_all := lw_g (lw_at lw_m6 9 rfl) rfl
theorem q1334 : (Jvm.Cond.privateMethod ({ cls := "HeirsAtLaw$Estate", name := "goesToSpouse", desc := "(III)V" } : Jvm.MethodName)) ∈ lw_tbl := lw_at lw_m6 10 rfl
theorem q1335 : (Jvm.Cond.instanceMethod ({ cls := "HeirsAtLaw$Estate", name := "goesToSpouse", desc := "(III)V" } : Jvm.MethodName)) ∈ lw_all := lw_g (lw_at lw_m6 11 rfl) rfl
theorem q1336 : (Jvm.Cond.code ({ cls := "HeirsAtLaw$Estate", name := "goesToSpouse", desc := "(III)V" } : Jvm.MethodName) prog_6_method_27_code (5 : Nat) (Option.none : Option Jvm.ClassFile.FieldType)) ∈ lw_all := lw_g (lw_at lw_m6 12 rfl) rfl
theorem q1341 : (Jvm.Cond.instanceMethod ({ cls := "HeirsAtLaw$Estate", name := "whyGive", desc := "(III)I" } : Jvm.MethodName)) ∈ lw_all := lw_g (lw_at lw_m6 17 rfl) rfl
theorem q1342 : (Jvm.Cond.selects "HeirsAtLaw$Estate" ({ cls := "HeirsAtLaw$Estate", name := "whyGive", desc := "(III)I" } : Jvm.MethodName) ({ cls := "HeirsAtLaw$Estate", name := "whyGive", desc := "(III)I" } : Jvm.MethodName)) ∈ lw_all := lw_g (lw_at lw_m6 18 rfl) rfl
theorem q1343 : (Jvm.Cond.code ({ cls := "HeirsAtLaw$Estate", name := "whyGive", desc := "(III)I" } : Jvm.MethodName) prog_6_method_17_code (4 : Nat) (Option.some Jvm.ClassFile.FieldType.int)) ∈ lw_all := lw_g (lw_at lw_m6 19 rfl) rfl
theorem q1345 : (Jvm.Cond.instanceMethod ({ cls := "HeirsAtLaw$Estate", name := "give", desc := "(III)V" } : Jvm.MethodName)) ∈ lw_all := lw_g (lw_at lw_m6 21 rfl) rfl
theorem q1346 : (Jvm.Cond.selects "HeirsAtLaw$Estate" ({ cls := "HeirsAtLaw$Estate", name := "give", desc := "(III)V" } : Jvm.MethodName) ({ cls := "HeirsAtLaw$Estate", name := "give", desc := "(III)V" } : Jvm.MethodName)) ∈ lw_all := lw_g (lw_at lw_m6 22 rfl) rfl
theorem q1347 : (Jvm.Cond.code ({ cls := "HeirsAtLaw$Estate", name := "give", desc := "(III)V" } : Jvm.MethodName) prog_6_method_18_code (4 : Nat) (Option.none : Option Jvm.ClassFile.FieldType)) ∈ lw_all := lw_g (lw_at lw_m6 23 rfl) rfl
theorem q1356 : (Jvm.Cond.instanceMethod ({ cls := "HeirsAtLaw$Estate", name := "whyLeave", desc := "(II)I" } : Jvm.MethodName)) ∈ lw_all := lw_g (lw_at lw_m6 32 rfl) rfl
theorem q1357 : (Jvm.Cond.selects "HeirsAtLaw$Estate" ({ cls := "HeirsAtLaw$Estate", name := "whyLeave", desc := "(II)I" } : Jvm.MethodName) ({ cls := "HeirsAtLaw$Estate", name := "whyLeave", desc := "(II)I" } : Jvm.MethodName)) ∈ lw_all := lw_g (lw_at lw_m6 33 rfl) rfl
theorem q1358 : (Jvm.Cond.code ({ cls := "HeirsAtLaw$Estate", name := "whyLeave", desc := "(II)I" } : Jvm.MethodName) prog_6_method_19_code (3 : Nat) (Option.some Jvm.ClassFile.FieldType.int)) ∈ lw_all := lw_g (lw_at lw_m6 34 rfl) rfl
theorem q1373 : (Jvm.Cond.instanceMethod ({ cls := "HeirsAtLaw$Estate", name := "passAll", desc := "(I)I" } : Jvm.MethodName)) ∈ lw_all := lw_g (lw_at lw_m6 49 rfl) rfl
theorem q1374 : (Jvm.Cond.selects "HeirsAtLaw$Estate" ({ cls := "HeirsAtLaw$Estate", name := "passAll", desc := "(I)I" } : Jvm.MethodName) ({ cls := "HeirsAtLaw$Estate", name := "passAll", desc := "(I)I" } : Jvm.MethodName)) ∈ lw_all := lw_g (lw_at lw_m6 50 rfl) rfl
theorem q1375 : (Jvm.Cond.code ({ cls := "HeirsAtLaw$Estate", name := "passAll", desc := "(I)I" } : Jvm.MethodName) prog_6_method_30_code (3 : Nat) (Option.some Jvm.ClassFile.FieldType.int)) ∈ lw_all := lw_g (lw_at lw_m6 51 rfl) rfl
theorem q1376 : (Jvm.Cond.methodLink "HeirsAtLaw$Estate" (193 : Nat) ({ cls := "HeirsAtLaw$Estate", name := "isOver", desc := "()Z" } : Jvm.MethodName)) ∈ lw_all := lw_g (lw_at lw_m6 52 rfl) rfl
theorem q1377 : (Jvm.Cond.instanceMethod ({ cls := "HeirsAtLaw$Estate", name := "isOver", desc := "()Z" } : Jvm.MethodName)) ∈ lw_all := lw_g (lw_at lw_m6 53 rfl) rfl
theorem q1378 : (Jvm.Cond.selects "HeirsAtLaw$Estate" ({ cls := "HeirsAtLaw$Estate", name := "isOver", desc := "()Z" } : Jvm.MethodName) ({ cls := "HeirsAtLaw$Estate", name := "isOver", desc := "()Z" } : Jvm.MethodName)) ∈ lw_all := lw_g (lw_at lw_m6 54 rfl) rfl
theorem q1379 : (Jvm.Cond.code ({ cls := "HeirsAtLaw$Estate", name := "isOver", desc := "()Z" } : Jvm.MethodName) prog_6_method_5_code (1 : Nat) (Option.some Jvm.ClassFile.FieldType.boolean)) ∈ lw_all := lw_g (lw_at lw_m6 55 rfl) rfl
theorem q1380 : (Jvm.Cond.methodLink "HeirsAtLaw$Estate" (196 : Nat) ({ cls := "HeirsAtLaw$Estate", name := "pass", desc := "()V" } : Jvm.MethodName)) ∈ lw_all := lw_g (lw_at lw_m6 56 rfl) rfl
theorem q1381 : (Jvm.Cond.instanceMethod ({ cls := "HeirsAtLaw$Estate", name := "pass", desc := "()V" } : Jvm.MethodName)) ∈ lw_all := lw_g (lw_at lw_m6 57 rfl) rfl
theorem q1382 : (Jvm.Cond.selects "HeirsAtLaw$Estate" ({ cls := "HeirsAtLaw$Estate", name := "pass", desc := "()V" } : Jvm.MethodName) ({ cls := "HeirsAtLaw$Estate", name := "pass", desc := "()V" } : Jvm.MethodName)) ∈ lw_all := lw_g (lw_at lw_m6 58 rfl) rfl
theorem q1383 : (Jvm.Cond.code ({ cls := "HeirsAtLaw$Estate", name := "pass", desc := "()V" } : Jvm.MethodName) prog_6_method_29_code (2 : Nat) (Option.none : Option Jvm.ClassFile.FieldType)) ∈ lw_all := lw_g (lw_at lw_m6 59 rfl) rfl
theorem q1384 : (Jvm.Cond.methodLink "HeirsAtLaw$Estate" (190 : Nat) ({ cls := "HeirsAtLaw$Estate", name := "die", desc := "(I)V" } : Jvm.MethodName)) ∈ lw_all := lw_g (lw_at lw_m6 60 rfl) rfl
theorem q1389 : (Jvm.Cond.instanceMethod ({ cls := "HeirsAtLaw$Estate", name := "willsOf", desc := "(I)I" } : Jvm.MethodName)) ∈ lw_all := lw_g (lw_at lw_m6 65 rfl) rfl
theorem q1390 : (Jvm.Cond.selects "HeirsAtLaw$Estate" ({ cls := "HeirsAtLaw$Estate", name := "willsOf", desc := "(I)I" } : Jvm.MethodName) ({ cls := "HeirsAtLaw$Estate", name := "willsOf", desc := "(I)I" } : Jvm.MethodName)) ∈ lw_all := lw_g (lw_at lw_m6 66 rfl) rfl
theorem q1391 : (Jvm.Cond.code ({ cls := "HeirsAtLaw$Estate", name := "willsOf", desc := "(I)I" } : Jvm.MethodName) prog_6_method_11_code (4 : Nat) (Option.some Jvm.ClassFile.FieldType.int)) ∈ lw_all := lw_g (lw_at lw_m6 67 rfl) rfl
theorem q1399 : (Jvm.Cond.instanceMethod ({ cls := "HeirsAtLaw$Estate", name := "whyWed", desc := "(II)I" } : Jvm.MethodName)) ∈ lw_all := lw_g (lw_at lw_m6 75 rfl) rfl
theorem q1400 : (Jvm.Cond.selects "HeirsAtLaw$Estate" ({ cls := "HeirsAtLaw$Estate", name := "whyWed", desc := "(II)I" } : Jvm.MethodName) ({ cls := "HeirsAtLaw$Estate", name := "whyWed", desc := "(II)I" } : Jvm.MethodName)) ∈ lw_all := lw_g (lw_at lw_m6 76 rfl) rfl
theorem q1401 : (Jvm.Cond.code ({ cls := "HeirsAtLaw$Estate", name := "whyWed", desc := "(II)I" } : Jvm.MethodName) prog_6_method_14_code (3 : Nat) (Option.some Jvm.ClassFile.FieldType.int)) ∈ lw_all := lw_g (lw_at lw_m6 77 rfl) rfl
theorem q1402 : (Jvm.Cond.methodLink "HeirsAtLaw$Estate" (130 : Nat) ({ cls := "HeirsAtLaw$Family", name := "degree", desc := "(II)I" } : Jvm.MethodName)) ∈ lw_all := lw_g (lw_at lw_m6 78 rfl) rfl
theorem q1403 : (Jvm.Cond.methodLinkNest "HeirsAtLaw$Estate" (134 : Nat) ({ cls := "HeirsAtLaw", name := "isIn", desc := "(III)Z" } : Jvm.MethodName) "HeirsAtLaw") ∈ lw_tbl := lw_at lw_m6 79 rfl
theorem q1405 : (Jvm.Cond.instanceMethod ({ cls := "HeirsAtLaw$Estate", name := "wed", desc := "(II)V" } : Jvm.MethodName)) ∈ lw_all := lw_g (lw_at lw_m6 81 rfl) rfl
theorem q1406 : (Jvm.Cond.selects "HeirsAtLaw$Estate" ({ cls := "HeirsAtLaw$Estate", name := "wed", desc := "(II)V" } : Jvm.MethodName) ({ cls := "HeirsAtLaw$Estate", name := "wed", desc := "(II)V" } : Jvm.MethodName)) ∈ lw_all := lw_g (lw_at lw_m6 82 rfl) rfl
theorem q1407 : (Jvm.Cond.code ({ cls := "HeirsAtLaw$Estate", name := "wed", desc := "(II)V" } : Jvm.MethodName) prog_6_method_15_code (3 : Nat) (Option.none : Option Jvm.ClassFile.FieldType)) ∈ lw_all := lw_g (lw_at lw_m6 83 rfl) rfl
theorem q1592 : (Jvm.Cond.instanceMethod ({ cls := "HeirsAtLaw$Estate", name := "richest", desc := "()I" } : Jvm.MethodName)) ∈ lw_all := lw_g (lw_at lw_m7 28 rfl) rfl
theorem q1593 : (Jvm.Cond.selects "HeirsAtLaw$Estate" ({ cls := "HeirsAtLaw$Estate", name := "richest", desc := "()I" } : Jvm.MethodName) ({ cls := "HeirsAtLaw$Estate", name := "richest", desc := "()I" } : Jvm.MethodName)) ∈ lw_all := lw_g (lw_at lw_m7 29 rfl) rfl
theorem q1594 : (Jvm.Cond.code ({ cls := "HeirsAtLaw$Estate", name := "richest", desc := "()I" } : Jvm.MethodName) prog_6_method_13_code (3 : Nat) (Option.some Jvm.ClassFile.FieldType.int)) ∈ lw_all := lw_g (lw_at lw_m7 30 rfl) rfl
theorem q1672 : (Jvm.Cond.instanceMethod ({ cls := "HeirsAtLaw$Estate", name := "drawn", desc := "(II)I" } : Jvm.MethodName)) ∈ lw_all := lw_g (lw_at lw_m7 108 rfl) rfl
theorem q1673 : (Jvm.Cond.selects "HeirsAtLaw$Estate" ({ cls := "HeirsAtLaw$Estate", name := "drawn", desc := "(II)I" } : Jvm.MethodName) ({ cls := "HeirsAtLaw$Estate", name := "drawn", desc := "(II)I" } : Jvm.MethodName)) ∈ lw_all := lw_g (lw_at lw_m7 109 rfl) rfl
theorem q1674 : (Jvm.Cond.code ({ cls := "HeirsAtLaw$Estate", name := "drawn", desc := "(II)I" } : Jvm.MethodName) prog_6_method_34_code (4 : Nat) (Option.some Jvm.ClassFile.FieldType.int)) ∈ lw_all := lw_g (lw_at lw_m7 110 rfl) rfl
theorem q1675 : (Jvm.Cond.methodLink "HeirsAtLaw$Estate" (225 : Nat) ({ cls := "HeirsAtLaw$Estate", name := "drawsFirst", desc := "()V" } : Jvm.MethodName)) ∈ lw_all := lw_g (lw_at lw_m7 111 rfl) rfl
theorem q1676 : (Jvm.Cond.privateMethod ({ cls := "HeirsAtLaw$Estate", name := "drawsFirst", desc := "()V" } : Jvm.MethodName)) ∈ lw_tbl := lw_at lw_m7 112 rfl
theorem q1677 : (Jvm.Cond.instanceMethod ({ cls := "HeirsAtLaw$Estate", name := "drawsFirst", desc := "()V" } : Jvm.MethodName)) ∈ lw_all := lw_g (lw_at lw_m7 113 rfl) rfl
theorem q1678 : (Jvm.Cond.code ({ cls := "HeirsAtLaw$Estate", name := "drawsFirst", desc := "()V" } : Jvm.MethodName) prog_6_method_33_code (3 : Nat) (Option.none : Option Jvm.ClassFile.FieldType)) ∈ lw_all := lw_g (lw_at lw_m7 114 rfl) rfl
theorem q1679 : (Jvm.Cond.methodLink "HeirsAtLaw$Estate" (203 : Nat) ({ cls := "HeirsAtLaw$Estate", name := "draw", desc := "(I)I" } : Jvm.MethodName)) ∈ lw_all := lw_g (lw_at lw_m7 115 rfl) rfl
theorem q1680 : (Jvm.Cond.privateMethod ({ cls := "HeirsAtLaw$Estate", name := "draw", desc := "(I)I" } : Jvm.MethodName)) ∈ lw_tbl := lw_at lw_m7 116 rfl
theorem q1681 : (Jvm.Cond.instanceMethod ({ cls := "HeirsAtLaw$Estate", name := "draw", desc := "(I)I" } : Jvm.MethodName)) ∈ lw_all := lw_g (lw_at lw_m7 117 rfl) rfl
theorem q1682 : (Jvm.Cond.code ({ cls := "HeirsAtLaw$Estate", name := "draw", desc := "(I)I" } : Jvm.MethodName) prog_6_method_31_code (2 : Nat) (Option.some Jvm.ClassFile.FieldType.int)) ∈ lw_all := lw_g (lw_at lw_m7 118 rfl) rfl
theorem q1683 : (Jvm.Cond.constant "HeirsAtLaw$Estate" (202 : Nat) (1103515245 : Int32)) ∈ lw_all := lw_g (lw_at lw_m7 119 rfl) rfl
theorem q1684 : (Jvm.Cond.methodLink "HeirsAtLaw$Estate" (222 : Nat) ({ cls := "HeirsAtLaw$Estate", name := "drawsTwo", desc := "(III)V" } : Jvm.MethodName)) ∈ lw_all := lw_g (lw_at lw_m7 120 rfl) rfl
theorem q1685 : (Jvm.Cond.privateMethod ({ cls := "HeirsAtLaw$Estate", name := "drawsTwo", desc := "(III)V" } : Jvm.MethodName)) ∈ lw_tbl := lw_at lw_m7 121 rfl
theorem q1686 : (Jvm.Cond.instanceMethod ({ cls := "HeirsAtLaw$Estate", name := "drawsTwo", desc := "(III)V" } : Jvm.MethodName)) ∈ lw_all := lw_g (lw_at lw_m7 122 rfl) rfl
theorem q1687 : (Jvm.Cond.code ({ cls := "HeirsAtLaw$Estate", name := "drawsTwo", desc := "(III)V" } : Jvm.MethodName) prog_6_method_32_code (5 : Nat) (Option.none : Option Jvm.ClassFile.FieldType)) ∈ lw_all := lw_g (lw_at lw_m7 123 rfl) rfl
theorem q1688 : (Jvm.Cond.methodLink "HeirsAtLaw$Estate" (206 : Nat) ({ cls := "HeirsAtLaw$Estate", name := "whyWed", desc := "(II)I" } : Jvm.MethodName)) ∈ lw_all := lw_g (lw_at lw_m7 124 rfl) rfl
theorem q1689 : (Jvm.Cond.methodLink "HeirsAtLaw$Estate" (209 : Nat) ({ cls := "HeirsAtLaw$Estate", name := "wed", desc := "(II)V" } : Jvm.MethodName)) ∈ lw_all := lw_g (lw_at lw_m7 125 rfl) rfl
theorem q1690 : (Jvm.Cond.methodLink "HeirsAtLaw$Estate" (212 : Nat) ({ cls := "HeirsAtLaw$Estate", name := "whyGive", desc := "(III)I" } : Jvm.MethodName)) ∈ lw_all := lw_g (lw_at lw_m7 126 rfl) rfl
theorem q1691 : (Jvm.Cond.methodLink "HeirsAtLaw$Estate" (216 : Nat) ({ cls := "HeirsAtLaw$Estate", name := "give", desc := "(III)V" } : Jvm.MethodName)) ∈ lw_all := lw_g (lw_at lw_m7 127 rfl) rfl
theorem q1692 : (Jvm.Cond.methodLink "HeirsAtLaw$Estate" (219 : Nat) ({ cls := "HeirsAtLaw$Estate", name := "whyLeave", desc := "(II)I" } : Jvm.MethodName)) ∈ lw_all := lw_g (lw_at lw_m7 128 rfl) rfl
theorem q2752 : (Jvm.Cond.castable "HeirsAtLaw$Estate" "java/lang/Object") ∈ lw_tbl := lw_at lw_m11 228 rfl
theorem in_X3 : ∀ w ∈ wsX30, w ∈ lw_all := lw_in wsX30 [278, 280, 282, 284, 286, 288, 290, 292, 294, 296, 298, 300] (by decide +kernel) (by decide +kernel)
/-! HeirsAtLaw$Kept -/
set_option maxRecDepth 100000
def RX4 : String := "HeirsAtLaw$Kept"
def TX4 : u_T := fun k => match k with
  | 0 => ("HeirsAtLaw$Kept", "family", "LHeirsAtLaw$Family;", false)
  | 1 => ("HeirsAtLaw$Kept", "sentence", "LHeirsAtLaw$Cond;", false)
  | _ => ("HeirsAtLaw$Kept", "estate", "LHeirsAtLaw$Estate;", true)
def tyX4 : Nat → FieldType := fun k => match k with
  | 0 => .object "HeirsAtLaw$Family"
  | 1 => .object "HeirsAtLaw$Cond"
  | _ => .object "HeirsAtLaw$Estate"
abbrev wsX40 : List Cond := u_ws RX4 TX4 3
theorem nmX4 : ∀ a, a < 3 → ∀ b, b < 3 → a ≠ b → (TX4 a).2.1 ≠ (TX4 b).2.1 := by decide +kernel
theorem tyX4_ok : ∀ k, k < 3 → parseFieldDescriptor (TX4 k).2.2.1 = some (tyX4 k) := by decide +kernel
abbrev cX4_init : ByteArray := prog_12_method_1_code
def yX4_init : MethodName := ⟨RX4, "<init>", "()V"⟩
def dkwX4_init_0 : List UInt8 := [42, 183, 0, 1, 42, 187, 0, 7, 89, 183, 0, 9, 181, 0, 10, 177]
abbrev dktX4_init_0 : List UInt8 := dkwX4_init_0 ++ []
theorem dksX4_init_0 : cX4_init.data.toList.drop 0 = dktX4_init_0 := by decide +kernel
theorem dX4_init_0 : decode cX4_init 0 = .ok (.aload_n 0, 1) := dk_42 (dk_at dksX4_init_0 0 rfl rfl)
theorem dX4_init_1 : decode cX4_init 1 = .ok (.invokespecial 1, 3) := dk_183 0 1 (dk_at dksX4_init_0 1 rfl rfl)
theorem dX4_init_4 : decode cX4_init 4 = .ok (.aload_n 0, 1) := dk_42 (dk_at dksX4_init_0 4 rfl rfl)
theorem dX4_init_5 : decode cX4_init 5 = .ok (.new 7, 3) := dk_187 0 7 (dk_at dksX4_init_0 5 rfl rfl)
theorem dX4_init_8 : decode cX4_init 8 = .ok (.dup, 1) := dk_89 (dk_at dksX4_init_0 8 rfl rfl)
theorem dX4_init_9 : decode cX4_init 9 = .ok (.invokespecial 9, 3) := dk_183 0 9 (dk_at dksX4_init_0 9 rfl rfl)
theorem dX4_init_12 : decode cX4_init 12 = .ok (.putfield 10, 3) := dk_181 0 10 (dk_at dksX4_init_0 12 rfl rfl)
theorem dX4_init_15 : decode cX4_init 15 = .ok (.return_, 1) := dk_177 (dk_at dksX4_init_0 15 rfl rfl)
theorem q139 : (Jvm.Cond.initialized "HeirsAtLaw$Kept") ∈ lw_all := lw_g (lw_at lw_m1 15 rfl) rfl
theorem q460 : (Jvm.Cond.instantiable "HeirsAtLaw$Kept" (3 : Nat)) ∈ lw_all := lw_g (lw_at lw_m2 96 rfl) rfl
theorem q462 : (Jvm.Cond.instanceMethod ({ cls := "HeirsAtLaw$Kept", name := "<init>", desc := "()V" } : Jvm.MethodName)) ∈ lw_all := lw_g (lw_at lw_m2 98 rfl) rfl
theorem q463 : (Jvm.Cond.code ({ cls := "HeirsAtLaw$Kept", name := "<init>", desc := "()V" } : Jvm.MethodName) prog_12_method_1_code (1 : Nat) (Option.none : Option Jvm.ClassFile.FieldType)) ∈ lw_all := lw_g (lw_at lw_m2 99 rfl) rfl
theorem q464 : (Jvm.Cond.methodLink "HeirsAtLaw$Kept" (1 : Nat) ({ cls := "java/lang/Object", name := "<init>", desc := "()V" } : Jvm.MethodName)) ∈ lw_all := lw_g (lw_at lw_m2 100 rfl) rfl
theorem q465 : (Jvm.Cond.classLink "HeirsAtLaw$Kept" (7 : Nat) "HeirsAtLaw$Estate") ∈ lw_all := lw_g (lw_at lw_m2 101 rfl) rfl
theorem q466 : (Jvm.Cond.methodLinkNest "HeirsAtLaw$Kept" (9 : Nat) ({ cls := "HeirsAtLaw$Estate", name := "<init>", desc := "()V" } : Jvm.MethodName) "HeirsAtLaw") ∈ lw_tbl := lw_at lw_m2 102 rfl
theorem q469 : (Jvm.Cond.fieldLink "HeirsAtLaw$Kept" (10 : Nat) "HeirsAtLaw$Kept" "estate" "LHeirsAtLaw$Estate;") ∈ lw_all := lw_g (lw_at lw_m2 105 rfl) rfl
theorem q471 : (Jvm.Cond.lays "HeirsAtLaw$Kept" "HeirsAtLaw$Kept" "family" "LHeirsAtLaw$Family;") ∈ lw_all := lw_g (lw_at lw_m2 107 rfl) rfl
theorem q472 : (Jvm.Cond.soleField "HeirsAtLaw$Kept" "family") ∈ lw_all := lw_g (lw_at lw_m2 108 rfl) rfl
theorem q473 : (Jvm.Cond.lays "HeirsAtLaw$Kept" "HeirsAtLaw$Kept" "sentence" "LHeirsAtLaw$Cond;") ∈ lw_all := lw_g (lw_at lw_m2 109 rfl) rfl
theorem q474 : (Jvm.Cond.soleField "HeirsAtLaw$Kept" "sentence") ∈ lw_all := lw_g (lw_at lw_m2 110 rfl) rfl
theorem q475 : (Jvm.Cond.laysFinal "HeirsAtLaw$Kept" "HeirsAtLaw$Kept" "estate" "LHeirsAtLaw$Estate;") ∈ lw_all := lw_g (lw_at lw_m2 111 rfl) rfl
theorem q476 : (Jvm.Cond.soleField "HeirsAtLaw$Kept" "estate") ∈ lw_all := lw_g (lw_at lw_m2 112 rfl) rfl
theorem q477 : (Jvm.Cond.superclass "HeirsAtLaw$Kept" "java/lang/Object") ∈ lw_all := lw_g (lw_at lw_m2 113 rfl) rfl
theorem q1062 : (Jvm.Cond.selects "HeirsAtLaw$Kept" ({ cls := "java/lang/Object", name := "getClass", desc := "()Ljava/lang/Class;" } : Jvm.MethodName) ({ cls := "java/lang/Object", name := "getClass", desc := "()Ljava/lang/Class;" } : Jvm.MethodName)) ∈ lw_all := lw_g (lw_at lw_m4 218 rfl) rfl
theorem q2753 : (Jvm.Cond.castable "HeirsAtLaw$Kept" "java/lang/Object") ∈ lw_tbl := lw_at lw_m11 229 rfl
theorem in_X4 : ∀ w ∈ wsX40, w ∈ lw_all := lw_in wsX40 [471, 473, 475] (by decide +kernel) (by decide +kernel)
/-! HeirsAtLaw$Reader -/
set_option maxRecDepth 100000
def RX6 : String := "HeirsAtLaw$Reader"
abbrev cX6_init : ByteArray := prog_22_method_1_code
def yX6_init : MethodName := ⟨RX6, "<init>", "([BIILHeirsAtLaw$Family;)V"⟩
def dkwX6_init_1 : List UInt8 := [181, 0, 25, 42, 25, 4, 181, 0, 28, 177]
abbrev dktX6_init_1 : List UInt8 := dkwX6_init_1 ++ []
def dkwX6_init_0 : List UInt8 := [42, 183, 0, 3, 42, 18, 9, 181, 0, 11, 42, 43, 181, 0, 17, 42, 28, 181, 0, 21, 42, 29]
abbrev dktX6_init_0 : List UInt8 := dkwX6_init_0 ++ dktX6_init_1
theorem dksX6_init_0 : cX6_init.data.toList.drop 0 = dktX6_init_0 := by decide +kernel
theorem dksX6_init_1 : cX6_init.data.toList.drop 22 = dktX6_init_1 := dk_seg dksX6_init_0 22 rfl rfl
theorem dX6_init_0 : decode cX6_init 0 = .ok (.aload_n 0, 1) := dk_42 (dk_at dksX6_init_0 0 rfl rfl)
theorem dX6_init_1 : decode cX6_init 1 = .ok (.invokespecial 3, 3) := dk_183 0 3 (dk_at dksX6_init_0 1 rfl rfl)
theorem dX6_init_4 : decode cX6_init 4 = .ok (.aload_n 0, 1) := dk_42 (dk_at dksX6_init_0 4 rfl rfl)
theorem dX6_init_5 : decode cX6_init 5 = .ok (.ldc 9, 2) := dk_18 9 (dk_at dksX6_init_0 5 rfl rfl)
theorem dX6_init_7 : decode cX6_init 7 = .ok (.putfield 11, 3) := dk_181 0 11 (dk_at dksX6_init_0 7 rfl rfl)
theorem dX6_init_10 : decode cX6_init 10 = .ok (.aload_n 0, 1) := dk_42 (dk_at dksX6_init_0 10 rfl rfl)
theorem dX6_init_11 : decode cX6_init 11 = .ok (.aload_n 1, 1) := dk_43 (dk_at dksX6_init_0 11 rfl rfl)
theorem dX6_init_12 : decode cX6_init 12 = .ok (.putfield 17, 3) := dk_181 0 17 (dk_at dksX6_init_0 12 rfl rfl)
theorem dX6_init_15 : decode cX6_init 15 = .ok (.aload_n 0, 1) := dk_42 (dk_at dksX6_init_0 15 rfl rfl)
theorem dX6_init_16 : decode cX6_init 16 = .ok (.iload_n 2, 1) := dk_28 (dk_at dksX6_init_0 16 rfl rfl)
theorem dX6_init_17 : decode cX6_init 17 = .ok (.putfield 21, 3) := dk_181 0 21 (dk_at dksX6_init_0 17 rfl rfl)
theorem dX6_init_20 : decode cX6_init 20 = .ok (.aload_n 0, 1) := dk_42 (dk_at dksX6_init_0 20 rfl rfl)
theorem dX6_init_21 : decode cX6_init 21 = .ok (.iload_n 3, 1) := dk_29 (dk_at dksX6_init_0 21 rfl rfl)
theorem dX6_init_22 : decode cX6_init 22 = .ok (.putfield 25, 3) := dk_181 0 25 (dk_at dksX6_init_1 0 rfl rfl)
theorem dX6_init_25 : decode cX6_init 25 = .ok (.aload_n 0, 1) := dk_42 (dk_at dksX6_init_1 3 rfl rfl)
theorem dX6_init_26 : decode cX6_init 26 = .ok (.aload 4, 2) := dk_25 4 (dk_at dksX6_init_1 4 rfl rfl)
theorem dX6_init_28 : decode cX6_init 28 = .ok (.putfield 28, 3) := dk_181 0 28 (dk_at dksX6_init_1 6 rfl rfl)
theorem dX6_init_31 : decode cX6_init 31 = .ok (.return_, 1) := dk_177 (dk_at dksX6_init_1 9 rfl rfl)
abbrev cX6_go : ByteArray := prog_22_method_5_code
def yX6_go : MethodName := ⟨RX6, "go", "()V"⟩
def dkwX6_go_17 : List UInt8 := [153, 0, 7, 5, 167, 0, 4, 6, 181, 0, 42, 177]
abbrev dktX6_go_17 : List UInt8 := dkwX6_go_17 ++ []
def dkwX6_go_16 : List UInt8 := [180, 0, 39, 100, 28, 153, 0, 8, 16, 7, 167, 0, 4, 6, 164, 0, 7, 4, 167, 0, 12, 28]
abbrev dktX6_go_16 : List UInt8 := dkwX6_go_16 ++ dktX6_go_17
def dkwX6_go_15 : List UInt8 := [167, 255, 128, 42, 25, 4, 182, 0, 65, 181, 0, 11, 42, 29, 153, 0, 25, 42, 180, 0, 32, 42]
abbrev dktX6_go_15 : List UInt8 := dkwX6_go_15 ++ dktX6_go_16
def dkwX6_go_14 : List UInt8 := [180, 0, 32, 182, 0, 35, 96, 16, 48, 100, 181, 0, 55, 42, 89, 180, 0, 32, 4, 96, 181, 0, 32]
abbrev dktX6_go_14 : List UInt8 := dkwX6_go_14 ++ dktX6_go_15
def dkwX6_go_13 : List UInt8 := [42, 180, 0, 32, 42, 180, 0, 39, 100, 6, 162, 0, 26, 42, 16, 10, 42, 180, 0, 55, 104, 42, 42]
abbrev dktX6_go_13 : List UInt8 := dkwX6_go_13 ++ dktX6_go_14
def dkwX6_go_12 : List UInt8 := [180, 0, 39, 100, 16, 7, 162, 0, 18, 25, 4, 42, 42, 180, 0, 32, 182, 0, 35, 146, 182, 0, 61, 87]
abbrev dktX6_go_12 : List UInt8 := dkwX6_go_12 ++ dktX6_go_13
def dkwX6_go_11 : List UInt8 := [180, 0, 32, 182, 0, 35, 184, 0, 45, 28, 160, 0, 7, 4, 167, 0, 4, 3, 62, 42, 180, 0, 32, 42]
abbrev dktX6_go_11 : List UInt8 := dkwX6_go_11 ++ dktX6_go_12
def dkwX6_go_10 : List UInt8 := [154, 0, 17, 42, 42, 180, 0, 32, 182, 0, 35, 184, 0, 49, 153, 0, 106, 29, 153, 0, 22, 42, 42]
abbrev dktX6_go_10 : List UInt8 := dkwX6_go_10 ++ dktX6_go_11
def dkwX6_go_9 : List UInt8 := [3, 181, 0, 55, 187, 0, 58, 89, 183, 0, 60, 58, 4, 42, 42, 180, 0, 32, 182, 0, 35, 184, 0, 45]
abbrev dktX6_go_9 : List UInt8 := dkwX6_go_9 ++ dktX6_go_10
def dkwX6_go_8 : List UInt8 := [42, 27, 181, 0, 52, 42, 89, 180, 0, 32, 4, 96, 181, 0, 32, 177, 27, 184, 0, 45, 61, 4, 62, 42]
abbrev dktX6_go_8 : List UInt8 := dkwX6_go_8 ++ dktX6_go_9
def dkwX6_go_7 : List UInt8 := [159, 0, 15, 27, 16, 40, 159, 0, 9, 27, 16, 41, 160, 0, 8, 16, 6, 167, 0, 4, 4, 181, 0, 42]
abbrev dktX6_go_7 : List UInt8 := dkwX6_go_7 ++ dktX6_go_8
def dkwX6_go_6 : List UInt8 := [160, 0, 7, 7, 167, 0, 39, 27, 16, 60, 159, 0, 27, 27, 16, 61, 159, 0, 21, 27, 16, 62]
abbrev dktX6_go_6 : List UInt8 := dkwX6_go_6 ++ dktX6_go_7
def dkwX6_go_5 : List UInt8 := [182, 0, 35, 60, 27, 184, 0, 45, 154, 0, 76, 27, 184, 0, 49, 154, 0, 69, 42, 27, 16, 59]
abbrev dktX6_go_5 : List UInt8 := dkwX6_go_5 ++ dktX6_go_6
def dkwX6_go_4 : List UInt8 := [42, 180, 0, 32, 42, 180, 0, 21, 161, 0, 9, 42, 3, 181, 0, 42, 177, 42, 42, 180, 0, 32]
abbrev dktX6_go_4 : List UInt8 := dkwX6_go_4 ++ dktX6_go_5
def dkwX6_go_3 : List UInt8 := [180, 0, 39, 42, 180, 0, 25, 161, 0, 17, 42, 42, 180, 0, 25, 181, 0, 39, 42, 8, 181, 0, 42, 177]
abbrev dktX6_go_3 : List UInt8 := dkwX6_go_3 ++ dktX6_go_4
def dkwX6_go_2 : List UInt8 := [167, 255, 209, 42, 42, 180, 0, 32, 181, 0, 39, 42, 180, 0, 21, 42, 180, 0, 25, 164, 0, 28, 42]
abbrev dktX6_go_2 : List UInt8 := dkwX6_go_2 ++ dktX6_go_3
def dkwX6_go_1 : List UInt8 := [42, 42, 180, 0, 32, 182, 0, 35, 16, 10, 160, 0, 16, 42, 89, 180, 0, 32, 4, 96, 181, 0, 32]
abbrev dktX6_go_1 : List UInt8 := dkwX6_go_1 ++ dktX6_go_2
def dkwX6_go_0 : List UInt8 := [42, 180, 0, 32, 42, 180, 0, 21, 162, 0, 42, 42, 42, 180, 0, 32, 182, 0, 35, 16, 32, 159, 0, 16]
abbrev dktX6_go_0 : List UInt8 := dkwX6_go_0 ++ dktX6_go_1
theorem dksX6_go_0 : cX6_go.data.toList.drop 0 = dktX6_go_0 := by decide +kernel
theorem dksX6_go_1 : cX6_go.data.toList.drop 24 = dktX6_go_1 := dk_seg dksX6_go_0 24 rfl rfl
theorem dksX6_go_2 : cX6_go.data.toList.drop 47 = dktX6_go_2 := dk_seg dksX6_go_1 23 rfl rfl
theorem dksX6_go_3 : cX6_go.data.toList.drop 70 = dktX6_go_3 := dk_seg dksX6_go_2 23 rfl rfl
theorem dksX6_go_4 : cX6_go.data.toList.drop 94 = dktX6_go_4 := dk_seg dksX6_go_3 24 rfl rfl
theorem dksX6_go_5 : cX6_go.data.toList.drop 116 = dktX6_go_5 := dk_seg dksX6_go_4 22 rfl rfl
theorem dksX6_go_6 : cX6_go.data.toList.drop 138 = dktX6_go_6 := dk_seg dksX6_go_5 22 rfl rfl
theorem dksX6_go_7 : cX6_go.data.toList.drop 160 = dktX6_go_7 := dk_seg dksX6_go_6 22 rfl rfl
theorem dksX6_go_8 : cX6_go.data.toList.drop 184 = dktX6_go_8 := dk_seg dksX6_go_7 24 rfl rfl
theorem dksX6_go_9 : cX6_go.data.toList.drop 208 = dktX6_go_9 := dk_seg dksX6_go_8 24 rfl rfl
theorem dksX6_go_10 : cX6_go.data.toList.drop 232 = dktX6_go_10 := dk_seg dksX6_go_9 24 rfl rfl
theorem dksX6_go_11 : cX6_go.data.toList.drop 255 = dktX6_go_11 := dk_seg dksX6_go_10 23 rfl rfl
theorem dksX6_go_12 : cX6_go.data.toList.drop 279 = dktX6_go_12 := dk_seg dksX6_go_11 24 rfl rfl
theorem dksX6_go_13 : cX6_go.data.toList.drop 303 = dktX6_go_13 := dk_seg dksX6_go_12 24 rfl rfl
theorem dksX6_go_14 : cX6_go.data.toList.drop 326 = dktX6_go_14 := dk_seg dksX6_go_13 23 rfl rfl
theorem dksX6_go_15 : cX6_go.data.toList.drop 349 = dktX6_go_15 := dk_seg dksX6_go_14 23 rfl rfl
theorem dksX6_go_16 : cX6_go.data.toList.drop 371 = dktX6_go_16 := dk_seg dksX6_go_15 22 rfl rfl
theorem dksX6_go_17 : cX6_go.data.toList.drop 393 = dktX6_go_17 := dk_seg dksX6_go_16 22 rfl rfl
theorem dX6_go_0 : decode cX6_go 0 = .ok (.aload_n 0, 1) := dk_42 (dk_at dksX6_go_0 0 rfl rfl)
theorem dX6_go_1 : decode cX6_go 1 = .ok (.getfield 32, 3) := dk_180 0 32 (dk_at dksX6_go_0 1 rfl rfl)
theorem dX6_go_4 : decode cX6_go 4 = .ok (.aload_n 0, 1) := dk_42 (dk_at dksX6_go_0 4 rfl rfl)
theorem dX6_go_5 : decode cX6_go 5 = .ok (.getfield 21, 3) := dk_180 0 21 (dk_at dksX6_go_0 5 rfl rfl)
theorem dX6_go_8 : decode cX6_go 8 = .ok (.if_icmp .ge 42, 3) := dk_162 0 42 (dk_at dksX6_go_0 8 rfl rfl)
theorem dX6_go_11 : decode cX6_go 11 = .ok (.aload_n 0, 1) := dk_42 (dk_at dksX6_go_0 11 rfl rfl)
theorem dX6_go_12 : decode cX6_go 12 = .ok (.aload_n 0, 1) := dk_42 (dk_at dksX6_go_0 12 rfl rfl)
theorem dX6_go_13 : decode cX6_go 13 = .ok (.getfield 32, 3) := dk_180 0 32 (dk_at dksX6_go_0 13 rfl rfl)
theorem dX6_go_16 : decode cX6_go 16 = .ok (.invokevirtual 35, 3) := dk_182 0 35 (dk_at dksX6_go_0 16 rfl rfl)
theorem dX6_go_19 : decode cX6_go 19 = .ok (.bipush 32, 2) := dk_16 32 (dk_at dksX6_go_0 19 rfl rfl)
theorem dX6_go_21 : decode cX6_go 21 = .ok (.if_icmp .eq 16, 3) := dk_159 0 16 (dk_at dksX6_go_0 21 rfl rfl)
theorem dX6_go_24 : decode cX6_go 24 = .ok (.aload_n 0, 1) := dk_42 (dk_at dksX6_go_1 0 rfl rfl)
theorem dX6_go_25 : decode cX6_go 25 = .ok (.aload_n 0, 1) := dk_42 (dk_at dksX6_go_1 1 rfl rfl)
theorem dX6_go_26 : decode cX6_go 26 = .ok (.getfield 32, 3) := dk_180 0 32 (dk_at dksX6_go_1 2 rfl rfl)
theorem dX6_go_29 : decode cX6_go 29 = .ok (.invokevirtual 35, 3) := dk_182 0 35 (dk_at dksX6_go_1 5 rfl rfl)
theorem dX6_go_32 : decode cX6_go 32 = .ok (.bipush 10, 2) := dk_16 10 (dk_at dksX6_go_1 8 rfl rfl)
theorem dX6_go_34 : decode cX6_go 34 = .ok (.if_icmp .ne 16, 3) := dk_160 0 16 (dk_at dksX6_go_1 10 rfl rfl)
theorem dX6_go_37 : decode cX6_go 37 = .ok (.aload_n 0, 1) := dk_42 (dk_at dksX6_go_1 13 rfl rfl)
theorem dX6_go_38 : decode cX6_go 38 = .ok (.dup, 1) := dk_89 (dk_at dksX6_go_1 14 rfl rfl)
theorem dX6_go_39 : decode cX6_go 39 = .ok (.getfield 32, 3) := dk_180 0 32 (dk_at dksX6_go_1 15 rfl rfl)
theorem dX6_go_42 : decode cX6_go 42 = .ok (.iconst 1, 1) := dk_4 (dk_at dksX6_go_1 18 rfl rfl)
theorem dX6_go_43 : decode cX6_go 43 = .ok (.iadd, 1) := dk_96 (dk_at dksX6_go_1 19 rfl rfl)
theorem dX6_go_44 : decode cX6_go 44 = .ok (.putfield 32, 3) := dk_181 0 32 (dk_at dksX6_go_1 20 rfl rfl)
theorem dX6_go_47 : decode cX6_go 47 = .ok (.goto (-47), 3) := dk_167 255 209 (dk_at dksX6_go_2 0 rfl rfl)
theorem dX6_go_50 : decode cX6_go 50 = .ok (.aload_n 0, 1) := dk_42 (dk_at dksX6_go_2 3 rfl rfl)
theorem dX6_go_51 : decode cX6_go 51 = .ok (.aload_n 0, 1) := dk_42 (dk_at dksX6_go_2 4 rfl rfl)
theorem dX6_go_52 : decode cX6_go 52 = .ok (.getfield 32, 3) := dk_180 0 32 (dk_at dksX6_go_2 5 rfl rfl)
theorem dX6_go_55 : decode cX6_go 55 = .ok (.putfield 39, 3) := dk_181 0 39 (dk_at dksX6_go_2 8 rfl rfl)
theorem dX6_go_58 : decode cX6_go 58 = .ok (.aload_n 0, 1) := dk_42 (dk_at dksX6_go_2 11 rfl rfl)
theorem dX6_go_59 : decode cX6_go 59 = .ok (.getfield 21, 3) := dk_180 0 21 (dk_at dksX6_go_2 12 rfl rfl)
theorem dX6_go_62 : decode cX6_go 62 = .ok (.aload_n 0, 1) := dk_42 (dk_at dksX6_go_2 15 rfl rfl)
theorem dX6_go_63 : decode cX6_go 63 = .ok (.getfield 25, 3) := dk_180 0 25 (dk_at dksX6_go_2 16 rfl rfl)
theorem dX6_go_66 : decode cX6_go 66 = .ok (.if_icmp .le 28, 3) := dk_164 0 28 (dk_at dksX6_go_2 19 rfl rfl)
theorem dX6_go_69 : decode cX6_go 69 = .ok (.aload_n 0, 1) := dk_42 (dk_at dksX6_go_2 22 rfl rfl)
theorem dX6_go_70 : decode cX6_go 70 = .ok (.getfield 39, 3) := dk_180 0 39 (dk_at dksX6_go_3 0 rfl rfl)
theorem dX6_go_73 : decode cX6_go 73 = .ok (.aload_n 0, 1) := dk_42 (dk_at dksX6_go_3 3 rfl rfl)
theorem dX6_go_74 : decode cX6_go 74 = .ok (.getfield 25, 3) := dk_180 0 25 (dk_at dksX6_go_3 4 rfl rfl)
theorem dX6_go_77 : decode cX6_go 77 = .ok (.if_icmp .lt 17, 3) := dk_161 0 17 (dk_at dksX6_go_3 7 rfl rfl)
theorem dX6_go_80 : decode cX6_go 80 = .ok (.aload_n 0, 1) := dk_42 (dk_at dksX6_go_3 10 rfl rfl)
theorem dX6_go_81 : decode cX6_go 81 = .ok (.aload_n 0, 1) := dk_42 (dk_at dksX6_go_3 11 rfl rfl)
theorem dX6_go_82 : decode cX6_go 82 = .ok (.getfield 25, 3) := dk_180 0 25 (dk_at dksX6_go_3 12 rfl rfl)
theorem dX6_go_85 : decode cX6_go 85 = .ok (.putfield 39, 3) := dk_181 0 39 (dk_at dksX6_go_3 15 rfl rfl)
theorem dX6_go_88 : decode cX6_go 88 = .ok (.aload_n 0, 1) := dk_42 (dk_at dksX6_go_3 18 rfl rfl)
theorem dX6_go_89 : decode cX6_go 89 = .ok (.iconst 5, 1) := dk_8 (dk_at dksX6_go_3 19 rfl rfl)
theorem dX6_go_90 : decode cX6_go 90 = .ok (.putfield 42, 3) := dk_181 0 42 (dk_at dksX6_go_3 20 rfl rfl)
theorem dX6_go_93 : decode cX6_go 93 = .ok (.return_, 1) := dk_177 (dk_at dksX6_go_3 23 rfl rfl)
theorem dX6_go_94 : decode cX6_go 94 = .ok (.aload_n 0, 1) := dk_42 (dk_at dksX6_go_4 0 rfl rfl)
theorem dX6_go_95 : decode cX6_go 95 = .ok (.getfield 32, 3) := dk_180 0 32 (dk_at dksX6_go_4 1 rfl rfl)
theorem dX6_go_98 : decode cX6_go 98 = .ok (.aload_n 0, 1) := dk_42 (dk_at dksX6_go_4 4 rfl rfl)
theorem dX6_go_99 : decode cX6_go 99 = .ok (.getfield 21, 3) := dk_180 0 21 (dk_at dksX6_go_4 5 rfl rfl)
theorem dX6_go_102 : decode cX6_go 102 = .ok (.if_icmp .lt 9, 3) := dk_161 0 9 (dk_at dksX6_go_4 8 rfl rfl)
theorem dX6_go_105 : decode cX6_go 105 = .ok (.aload_n 0, 1) := dk_42 (dk_at dksX6_go_4 11 rfl rfl)
theorem dX6_go_106 : decode cX6_go 106 = .ok (.iconst 0, 1) := dk_3 (dk_at dksX6_go_4 12 rfl rfl)
theorem dX6_go_107 : decode cX6_go 107 = .ok (.putfield 42, 3) := dk_181 0 42 (dk_at dksX6_go_4 13 rfl rfl)
theorem dX6_go_110 : decode cX6_go 110 = .ok (.return_, 1) := dk_177 (dk_at dksX6_go_4 16 rfl rfl)
theorem dX6_go_111 : decode cX6_go 111 = .ok (.aload_n 0, 1) := dk_42 (dk_at dksX6_go_4 17 rfl rfl)
theorem dX6_go_112 : decode cX6_go 112 = .ok (.aload_n 0, 1) := dk_42 (dk_at dksX6_go_4 18 rfl rfl)
theorem dX6_go_113 : decode cX6_go 113 = .ok (.getfield 32, 3) := dk_180 0 32 (dk_at dksX6_go_4 19 rfl rfl)
theorem dX6_go_116 : decode cX6_go 116 = .ok (.invokevirtual 35, 3) := dk_182 0 35 (dk_at dksX6_go_5 0 rfl rfl)
theorem dX6_go_119 : decode cX6_go 119 = .ok (.istore_n 1, 1) := dk_60 (dk_at dksX6_go_5 3 rfl rfl)
theorem dX6_go_120 : decode cX6_go 120 = .ok (.iload_n 1, 1) := dk_27 (dk_at dksX6_go_5 4 rfl rfl)
theorem dX6_go_121 : decode cX6_go 121 = .ok (.invokestatic 45, 3) := dk_184 0 45 (dk_at dksX6_go_5 5 rfl rfl)
theorem dX6_go_124 : decode cX6_go 124 = .ok (.ifCond .ne 76, 3) := dk_154 0 76 (dk_at dksX6_go_5 8 rfl rfl)
theorem dX6_go_127 : decode cX6_go 127 = .ok (.iload_n 1, 1) := dk_27 (dk_at dksX6_go_5 11 rfl rfl)
theorem dX6_go_128 : decode cX6_go 128 = .ok (.invokestatic 49, 3) := dk_184 0 49 (dk_at dksX6_go_5 12 rfl rfl)
theorem dX6_go_131 : decode cX6_go 131 = .ok (.ifCond .ne 69, 3) := dk_154 0 69 (dk_at dksX6_go_5 15 rfl rfl)
theorem dX6_go_134 : decode cX6_go 134 = .ok (.aload_n 0, 1) := dk_42 (dk_at dksX6_go_5 18 rfl rfl)
theorem dX6_go_135 : decode cX6_go 135 = .ok (.iload_n 1, 1) := dk_27 (dk_at dksX6_go_5 19 rfl rfl)
theorem dX6_go_136 : decode cX6_go 136 = .ok (.bipush 59, 2) := dk_16 59 (dk_at dksX6_go_5 20 rfl rfl)
theorem dX6_go_138 : decode cX6_go 138 = .ok (.if_icmp .ne 7, 3) := dk_160 0 7 (dk_at dksX6_go_6 0 rfl rfl)
theorem dX6_go_141 : decode cX6_go 141 = .ok (.iconst 4, 1) := dk_7 (dk_at dksX6_go_6 3 rfl rfl)
theorem dX6_go_142 : decode cX6_go 142 = .ok (.goto 39, 3) := dk_167 0 39 (dk_at dksX6_go_6 4 rfl rfl)
theorem dX6_go_145 : decode cX6_go 145 = .ok (.iload_n 1, 1) := dk_27 (dk_at dksX6_go_6 7 rfl rfl)
theorem dX6_go_146 : decode cX6_go 146 = .ok (.bipush 60, 2) := dk_16 60 (dk_at dksX6_go_6 8 rfl rfl)
theorem dX6_go_148 : decode cX6_go 148 = .ok (.if_icmp .eq 27, 3) := dk_159 0 27 (dk_at dksX6_go_6 10 rfl rfl)
theorem dX6_go_151 : decode cX6_go 151 = .ok (.iload_n 1, 1) := dk_27 (dk_at dksX6_go_6 13 rfl rfl)
theorem dX6_go_152 : decode cX6_go 152 = .ok (.bipush 61, 2) := dk_16 61 (dk_at dksX6_go_6 14 rfl rfl)
theorem dX6_go_154 : decode cX6_go 154 = .ok (.if_icmp .eq 21, 3) := dk_159 0 21 (dk_at dksX6_go_6 16 rfl rfl)
theorem dX6_go_157 : decode cX6_go 157 = .ok (.iload_n 1, 1) := dk_27 (dk_at dksX6_go_6 19 rfl rfl)
theorem dX6_go_158 : decode cX6_go 158 = .ok (.bipush 62, 2) := dk_16 62 (dk_at dksX6_go_6 20 rfl rfl)
theorem dX6_go_160 : decode cX6_go 160 = .ok (.if_icmp .eq 15, 3) := dk_159 0 15 (dk_at dksX6_go_7 0 rfl rfl)
theorem dX6_go_163 : decode cX6_go 163 = .ok (.iload_n 1, 1) := dk_27 (dk_at dksX6_go_7 3 rfl rfl)
theorem dX6_go_164 : decode cX6_go 164 = .ok (.bipush 40, 2) := dk_16 40 (dk_at dksX6_go_7 4 rfl rfl)
theorem dX6_go_166 : decode cX6_go 166 = .ok (.if_icmp .eq 9, 3) := dk_159 0 9 (dk_at dksX6_go_7 6 rfl rfl)
theorem dX6_go_169 : decode cX6_go 169 = .ok (.iload_n 1, 1) := dk_27 (dk_at dksX6_go_7 9 rfl rfl)
theorem dX6_go_170 : decode cX6_go 170 = .ok (.bipush 41, 2) := dk_16 41 (dk_at dksX6_go_7 10 rfl rfl)
theorem dX6_go_172 : decode cX6_go 172 = .ok (.if_icmp .ne 8, 3) := dk_160 0 8 (dk_at dksX6_go_7 12 rfl rfl)
theorem dX6_go_175 : decode cX6_go 175 = .ok (.bipush 6, 2) := dk_16 6 (dk_at dksX6_go_7 15 rfl rfl)
theorem dX6_go_177 : decode cX6_go 177 = .ok (.goto 4, 3) := dk_167 0 4 (dk_at dksX6_go_7 17 rfl rfl)
theorem dX6_go_180 : decode cX6_go 180 = .ok (.iconst 1, 1) := dk_4 (dk_at dksX6_go_7 20 rfl rfl)
theorem dX6_go_181 : decode cX6_go 181 = .ok (.putfield 42, 3) := dk_181 0 42 (dk_at dksX6_go_7 21 rfl rfl)
theorem dX6_go_184 : decode cX6_go 184 = .ok (.aload_n 0, 1) := dk_42 (dk_at dksX6_go_8 0 rfl rfl)
theorem dX6_go_185 : decode cX6_go 185 = .ok (.iload_n 1, 1) := dk_27 (dk_at dksX6_go_8 1 rfl rfl)
theorem dX6_go_186 : decode cX6_go 186 = .ok (.putfield 52, 3) := dk_181 0 52 (dk_at dksX6_go_8 2 rfl rfl)
theorem dX6_go_189 : decode cX6_go 189 = .ok (.aload_n 0, 1) := dk_42 (dk_at dksX6_go_8 5 rfl rfl)
theorem dX6_go_190 : decode cX6_go 190 = .ok (.dup, 1) := dk_89 (dk_at dksX6_go_8 6 rfl rfl)
theorem dX6_go_191 : decode cX6_go 191 = .ok (.getfield 32, 3) := dk_180 0 32 (dk_at dksX6_go_8 7 rfl rfl)
theorem dX6_go_194 : decode cX6_go 194 = .ok (.iconst 1, 1) := dk_4 (dk_at dksX6_go_8 10 rfl rfl)
theorem dX6_go_195 : decode cX6_go 195 = .ok (.iadd, 1) := dk_96 (dk_at dksX6_go_8 11 rfl rfl)
theorem dX6_go_196 : decode cX6_go 196 = .ok (.putfield 32, 3) := dk_181 0 32 (dk_at dksX6_go_8 12 rfl rfl)
theorem dX6_go_199 : decode cX6_go 199 = .ok (.return_, 1) := dk_177 (dk_at dksX6_go_8 15 rfl rfl)
theorem dX6_go_200 : decode cX6_go 200 = .ok (.iload_n 1, 1) := dk_27 (dk_at dksX6_go_8 16 rfl rfl)
theorem dX6_go_201 : decode cX6_go 201 = .ok (.invokestatic 45, 3) := dk_184 0 45 (dk_at dksX6_go_8 17 rfl rfl)
theorem dX6_go_204 : decode cX6_go 204 = .ok (.istore_n 2, 1) := dk_61 (dk_at dksX6_go_8 20 rfl rfl)
theorem dX6_go_205 : decode cX6_go 205 = .ok (.iconst 1, 1) := dk_4 (dk_at dksX6_go_8 21 rfl rfl)
theorem dX6_go_206 : decode cX6_go 206 = .ok (.istore_n 3, 1) := dk_62 (dk_at dksX6_go_8 22 rfl rfl)
theorem dX6_go_207 : decode cX6_go 207 = .ok (.aload_n 0, 1) := dk_42 (dk_at dksX6_go_8 23 rfl rfl)
theorem dX6_go_208 : decode cX6_go 208 = .ok (.iconst 0, 1) := dk_3 (dk_at dksX6_go_9 0 rfl rfl)
theorem dX6_go_209 : decode cX6_go 209 = .ok (.putfield 55, 3) := dk_181 0 55 (dk_at dksX6_go_9 1 rfl rfl)
theorem dX6_go_212 : decode cX6_go 212 = .ok (.new 58, 3) := dk_187 0 58 (dk_at dksX6_go_9 4 rfl rfl)
theorem dX6_go_215 : decode cX6_go 215 = .ok (.dup, 1) := dk_89 (dk_at dksX6_go_9 7 rfl rfl)
theorem dX6_go_216 : decode cX6_go 216 = .ok (.invokespecial 60, 3) := dk_183 0 60 (dk_at dksX6_go_9 8 rfl rfl)
theorem dX6_go_219 : decode cX6_go 219 = .ok (.astore 4, 2) := dk_58 4 (dk_at dksX6_go_9 11 rfl rfl)
theorem dX6_go_221 : decode cX6_go 221 = .ok (.aload_n 0, 1) := dk_42 (dk_at dksX6_go_9 13 rfl rfl)
theorem dX6_go_222 : decode cX6_go 222 = .ok (.aload_n 0, 1) := dk_42 (dk_at dksX6_go_9 14 rfl rfl)
theorem dX6_go_223 : decode cX6_go 223 = .ok (.getfield 32, 3) := dk_180 0 32 (dk_at dksX6_go_9 15 rfl rfl)
theorem dX6_go_226 : decode cX6_go 226 = .ok (.invokevirtual 35, 3) := dk_182 0 35 (dk_at dksX6_go_9 18 rfl rfl)
theorem dX6_go_229 : decode cX6_go 229 = .ok (.invokestatic 45, 3) := dk_184 0 45 (dk_at dksX6_go_9 21 rfl rfl)
theorem dX6_go_232 : decode cX6_go 232 = .ok (.ifCond .ne 17, 3) := dk_154 0 17 (dk_at dksX6_go_10 0 rfl rfl)
theorem dX6_go_235 : decode cX6_go 235 = .ok (.aload_n 0, 1) := dk_42 (dk_at dksX6_go_10 3 rfl rfl)
theorem dX6_go_236 : decode cX6_go 236 = .ok (.aload_n 0, 1) := dk_42 (dk_at dksX6_go_10 4 rfl rfl)
theorem dX6_go_237 : decode cX6_go 237 = .ok (.getfield 32, 3) := dk_180 0 32 (dk_at dksX6_go_10 5 rfl rfl)
theorem dX6_go_240 : decode cX6_go 240 = .ok (.invokevirtual 35, 3) := dk_182 0 35 (dk_at dksX6_go_10 8 rfl rfl)
theorem dX6_go_243 : decode cX6_go 243 = .ok (.invokestatic 49, 3) := dk_184 0 49 (dk_at dksX6_go_10 11 rfl rfl)
theorem dX6_go_246 : decode cX6_go 246 = .ok (.ifCond .eq 106, 3) := dk_153 0 106 (dk_at dksX6_go_10 14 rfl rfl)
theorem dX6_go_249 : decode cX6_go 249 = .ok (.iload_n 3, 1) := dk_29 (dk_at dksX6_go_10 17 rfl rfl)
theorem dX6_go_250 : decode cX6_go 250 = .ok (.ifCond .eq 22, 3) := dk_153 0 22 (dk_at dksX6_go_10 18 rfl rfl)
theorem dX6_go_253 : decode cX6_go 253 = .ok (.aload_n 0, 1) := dk_42 (dk_at dksX6_go_10 21 rfl rfl)
theorem dX6_go_254 : decode cX6_go 254 = .ok (.aload_n 0, 1) := dk_42 (dk_at dksX6_go_10 22 rfl rfl)
theorem dX6_go_255 : decode cX6_go 255 = .ok (.getfield 32, 3) := dk_180 0 32 (dk_at dksX6_go_11 0 rfl rfl)
theorem dX6_go_258 : decode cX6_go 258 = .ok (.invokevirtual 35, 3) := dk_182 0 35 (dk_at dksX6_go_11 3 rfl rfl)
theorem dX6_go_261 : decode cX6_go 261 = .ok (.invokestatic 45, 3) := dk_184 0 45 (dk_at dksX6_go_11 6 rfl rfl)
theorem dX6_go_264 : decode cX6_go 264 = .ok (.iload_n 2, 1) := dk_28 (dk_at dksX6_go_11 9 rfl rfl)
theorem dX6_go_265 : decode cX6_go 265 = .ok (.if_icmp .ne 7, 3) := dk_160 0 7 (dk_at dksX6_go_11 10 rfl rfl)
theorem dX6_go_268 : decode cX6_go 268 = .ok (.iconst 1, 1) := dk_4 (dk_at dksX6_go_11 13 rfl rfl)
theorem dX6_go_269 : decode cX6_go 269 = .ok (.goto 4, 3) := dk_167 0 4 (dk_at dksX6_go_11 14 rfl rfl)
theorem dX6_go_272 : decode cX6_go 272 = .ok (.iconst 0, 1) := dk_3 (dk_at dksX6_go_11 17 rfl rfl)
theorem dX6_go_273 : decode cX6_go 273 = .ok (.istore_n 3, 1) := dk_62 (dk_at dksX6_go_11 18 rfl rfl)
theorem dX6_go_274 : decode cX6_go 274 = .ok (.aload_n 0, 1) := dk_42 (dk_at dksX6_go_11 19 rfl rfl)
theorem dX6_go_275 : decode cX6_go 275 = .ok (.getfield 32, 3) := dk_180 0 32 (dk_at dksX6_go_11 20 rfl rfl)
theorem dX6_go_278 : decode cX6_go 278 = .ok (.aload_n 0, 1) := dk_42 (dk_at dksX6_go_11 23 rfl rfl)
theorem dX6_go_279 : decode cX6_go 279 = .ok (.getfield 39, 3) := dk_180 0 39 (dk_at dksX6_go_12 0 rfl rfl)
theorem dX6_go_282 : decode cX6_go 282 = .ok (.isub, 1) := dk_100 (dk_at dksX6_go_12 3 rfl rfl)
theorem dX6_go_283 : decode cX6_go 283 = .ok (.bipush 7, 2) := dk_16 7 (dk_at dksX6_go_12 4 rfl rfl)
theorem dX6_go_285 : decode cX6_go 285 = .ok (.if_icmp .ge 18, 3) := dk_162 0 18 (dk_at dksX6_go_12 6 rfl rfl)
theorem dX6_go_288 : decode cX6_go 288 = .ok (.aload 4, 2) := dk_25 4 (dk_at dksX6_go_12 9 rfl rfl)
theorem dX6_go_290 : decode cX6_go 290 = .ok (.aload_n 0, 1) := dk_42 (dk_at dksX6_go_12 11 rfl rfl)
theorem dX6_go_291 : decode cX6_go 291 = .ok (.aload_n 0, 1) := dk_42 (dk_at dksX6_go_12 12 rfl rfl)
theorem dX6_go_292 : decode cX6_go 292 = .ok (.getfield 32, 3) := dk_180 0 32 (dk_at dksX6_go_12 13 rfl rfl)
theorem dX6_go_295 : decode cX6_go 295 = .ok (.invokevirtual 35, 3) := dk_182 0 35 (dk_at dksX6_go_12 16 rfl rfl)
theorem dX6_go_298 : decode cX6_go 298 = .ok (.i2c, 1) := dk_146 (dk_at dksX6_go_12 19 rfl rfl)
theorem dX6_go_299 : decode cX6_go 299 = .ok (.invokevirtual 61, 3) := dk_182 0 61 (dk_at dksX6_go_12 20 rfl rfl)
theorem dX6_go_302 : decode cX6_go 302 = .ok (.pop, 1) := dk_87 (dk_at dksX6_go_12 23 rfl rfl)
theorem dX6_go_303 : decode cX6_go 303 = .ok (.aload_n 0, 1) := dk_42 (dk_at dksX6_go_13 0 rfl rfl)
theorem dX6_go_304 : decode cX6_go 304 = .ok (.getfield 32, 3) := dk_180 0 32 (dk_at dksX6_go_13 1 rfl rfl)
theorem dX6_go_307 : decode cX6_go 307 = .ok (.aload_n 0, 1) := dk_42 (dk_at dksX6_go_13 4 rfl rfl)
theorem dX6_go_308 : decode cX6_go 308 = .ok (.getfield 39, 3) := dk_180 0 39 (dk_at dksX6_go_13 5 rfl rfl)
theorem dX6_go_311 : decode cX6_go 311 = .ok (.isub, 1) := dk_100 (dk_at dksX6_go_13 8 rfl rfl)
theorem dX6_go_312 : decode cX6_go 312 = .ok (.iconst 3, 1) := dk_6 (dk_at dksX6_go_13 9 rfl rfl)
theorem dX6_go_313 : decode cX6_go 313 = .ok (.if_icmp .ge 26, 3) := dk_162 0 26 (dk_at dksX6_go_13 10 rfl rfl)
theorem dX6_go_316 : decode cX6_go 316 = .ok (.aload_n 0, 1) := dk_42 (dk_at dksX6_go_13 13 rfl rfl)
theorem dX6_go_317 : decode cX6_go 317 = .ok (.bipush 10, 2) := dk_16 10 (dk_at dksX6_go_13 14 rfl rfl)
theorem dX6_go_319 : decode cX6_go 319 = .ok (.aload_n 0, 1) := dk_42 (dk_at dksX6_go_13 16 rfl rfl)
theorem dX6_go_320 : decode cX6_go 320 = .ok (.getfield 55, 3) := dk_180 0 55 (dk_at dksX6_go_13 17 rfl rfl)
theorem dX6_go_323 : decode cX6_go 323 = .ok (.imul, 1) := dk_104 (dk_at dksX6_go_13 20 rfl rfl)
theorem dX6_go_324 : decode cX6_go 324 = .ok (.aload_n 0, 1) := dk_42 (dk_at dksX6_go_13 21 rfl rfl)
theorem dX6_go_325 : decode cX6_go 325 = .ok (.aload_n 0, 1) := dk_42 (dk_at dksX6_go_13 22 rfl rfl)
theorem dX6_go_326 : decode cX6_go 326 = .ok (.getfield 32, 3) := dk_180 0 32 (dk_at dksX6_go_14 0 rfl rfl)
theorem dX6_go_329 : decode cX6_go 329 = .ok (.invokevirtual 35, 3) := dk_182 0 35 (dk_at dksX6_go_14 3 rfl rfl)
theorem dX6_go_332 : decode cX6_go 332 = .ok (.iadd, 1) := dk_96 (dk_at dksX6_go_14 6 rfl rfl)
theorem dX6_go_333 : decode cX6_go 333 = .ok (.bipush 48, 2) := dk_16 48 (dk_at dksX6_go_14 7 rfl rfl)
theorem dX6_go_335 : decode cX6_go 335 = .ok (.isub, 1) := dk_100 (dk_at dksX6_go_14 9 rfl rfl)
theorem dX6_go_336 : decode cX6_go 336 = .ok (.putfield 55, 3) := dk_181 0 55 (dk_at dksX6_go_14 10 rfl rfl)
theorem dX6_go_339 : decode cX6_go 339 = .ok (.aload_n 0, 1) := dk_42 (dk_at dksX6_go_14 13 rfl rfl)
theorem dX6_go_340 : decode cX6_go 340 = .ok (.dup, 1) := dk_89 (dk_at dksX6_go_14 14 rfl rfl)
theorem dX6_go_341 : decode cX6_go 341 = .ok (.getfield 32, 3) := dk_180 0 32 (dk_at dksX6_go_14 15 rfl rfl)
theorem dX6_go_344 : decode cX6_go 344 = .ok (.iconst 1, 1) := dk_4 (dk_at dksX6_go_14 18 rfl rfl)
theorem dX6_go_345 : decode cX6_go 345 = .ok (.iadd, 1) := dk_96 (dk_at dksX6_go_14 19 rfl rfl)
theorem dX6_go_346 : decode cX6_go 346 = .ok (.putfield 32, 3) := dk_181 0 32 (dk_at dksX6_go_14 20 rfl rfl)
theorem dX6_go_349 : decode cX6_go 349 = .ok (.goto (-128), 3) := dk_167 255 128 (dk_at dksX6_go_15 0 rfl rfl)
theorem dX6_go_352 : decode cX6_go 352 = .ok (.aload_n 0, 1) := dk_42 (dk_at dksX6_go_15 3 rfl rfl)
theorem dX6_go_353 : decode cX6_go 353 = .ok (.aload 4, 2) := dk_25 4 (dk_at dksX6_go_15 4 rfl rfl)
theorem dX6_go_355 : decode cX6_go 355 = .ok (.invokevirtual 65, 3) := dk_182 0 65 (dk_at dksX6_go_15 6 rfl rfl)
theorem dX6_go_358 : decode cX6_go 358 = .ok (.putfield 11, 3) := dk_181 0 11 (dk_at dksX6_go_15 9 rfl rfl)
theorem dX6_go_361 : decode cX6_go 361 = .ok (.aload_n 0, 1) := dk_42 (dk_at dksX6_go_15 12 rfl rfl)
theorem dX6_go_362 : decode cX6_go 362 = .ok (.iload_n 3, 1) := dk_29 (dk_at dksX6_go_15 13 rfl rfl)
theorem dX6_go_363 : decode cX6_go 363 = .ok (.ifCond .eq 25, 3) := dk_153 0 25 (dk_at dksX6_go_15 14 rfl rfl)
theorem dX6_go_366 : decode cX6_go 366 = .ok (.aload_n 0, 1) := dk_42 (dk_at dksX6_go_15 17 rfl rfl)
theorem dX6_go_367 : decode cX6_go 367 = .ok (.getfield 32, 3) := dk_180 0 32 (dk_at dksX6_go_15 18 rfl rfl)
theorem dX6_go_370 : decode cX6_go 370 = .ok (.aload_n 0, 1) := dk_42 (dk_at dksX6_go_15 21 rfl rfl)
theorem dX6_go_371 : decode cX6_go 371 = .ok (.getfield 39, 3) := dk_180 0 39 (dk_at dksX6_go_16 0 rfl rfl)
theorem dX6_go_374 : decode cX6_go 374 = .ok (.isub, 1) := dk_100 (dk_at dksX6_go_16 3 rfl rfl)
theorem dX6_go_375 : decode cX6_go 375 = .ok (.iload_n 2, 1) := dk_28 (dk_at dksX6_go_16 4 rfl rfl)
theorem dX6_go_376 : decode cX6_go 376 = .ok (.ifCond .eq 8, 3) := dk_153 0 8 (dk_at dksX6_go_16 5 rfl rfl)
theorem dX6_go_379 : decode cX6_go 379 = .ok (.bipush 7, 2) := dk_16 7 (dk_at dksX6_go_16 8 rfl rfl)
theorem dX6_go_381 : decode cX6_go 381 = .ok (.goto 4, 3) := dk_167 0 4 (dk_at dksX6_go_16 10 rfl rfl)
theorem dX6_go_384 : decode cX6_go 384 = .ok (.iconst 3, 1) := dk_6 (dk_at dksX6_go_16 13 rfl rfl)
theorem dX6_go_385 : decode cX6_go 385 = .ok (.if_icmp .le 7, 3) := dk_164 0 7 (dk_at dksX6_go_16 14 rfl rfl)
theorem dX6_go_388 : decode cX6_go 388 = .ok (.iconst 1, 1) := dk_4 (dk_at dksX6_go_16 17 rfl rfl)
theorem dX6_go_389 : decode cX6_go 389 = .ok (.goto 12, 3) := dk_167 0 12 (dk_at dksX6_go_16 18 rfl rfl)
theorem dX6_go_392 : decode cX6_go 392 = .ok (.iload_n 2, 1) := dk_28 (dk_at dksX6_go_16 21 rfl rfl)
theorem dX6_go_393 : decode cX6_go 393 = .ok (.ifCond .eq 7, 3) := dk_153 0 7 (dk_at dksX6_go_17 0 rfl rfl)
theorem dX6_go_396 : decode cX6_go 396 = .ok (.iconst 2, 1) := dk_5 (dk_at dksX6_go_17 3 rfl rfl)
theorem dX6_go_397 : decode cX6_go 397 = .ok (.goto 4, 3) := dk_167 0 4 (dk_at dksX6_go_17 4 rfl rfl)
theorem dX6_go_400 : decode cX6_go 400 = .ok (.iconst 3, 1) := dk_6 (dk_at dksX6_go_17 7 rfl rfl)
theorem dX6_go_401 : decode cX6_go 401 = .ok (.putfield 42, 3) := dk_181 0 42 (dk_at dksX6_go_17 8 rfl rfl)
theorem dX6_go_404 : decode cX6_go 404 = .ok (.return_, 1) := dk_177 (dk_at dksX6_go_17 11 rfl rfl)
abbrev cX6_byteAt : ByteArray := prog_22_method_2_code
def yX6_byteAt : MethodName := ⟨RX6, "byteAt", "(I)I"⟩
def dkwX6_byteAt_0 : List UInt8 := [27, 42, 180, 0, 21, 162, 0, 16, 42, 180, 0, 17, 27, 51, 17, 0, 255, 126, 167, 0, 4, 3, 172]
abbrev dktX6_byteAt_0 : List UInt8 := dkwX6_byteAt_0 ++ []
theorem dksX6_byteAt_0 : cX6_byteAt.data.toList.drop 0 = dktX6_byteAt_0 := by decide +kernel
theorem dX6_byteAt_0 : decode cX6_byteAt 0 = .ok (.iload_n 1, 1) := dk_27 (dk_at dksX6_byteAt_0 0 rfl rfl)
theorem dX6_byteAt_1 : decode cX6_byteAt 1 = .ok (.aload_n 0, 1) := dk_42 (dk_at dksX6_byteAt_0 1 rfl rfl)
theorem dX6_byteAt_2 : decode cX6_byteAt 2 = .ok (.getfield 21, 3) := dk_180 0 21 (dk_at dksX6_byteAt_0 2 rfl rfl)
theorem dX6_byteAt_5 : decode cX6_byteAt 5 = .ok (.if_icmp .ge 16, 3) := dk_162 0 16 (dk_at dksX6_byteAt_0 5 rfl rfl)
theorem dX6_byteAt_8 : decode cX6_byteAt 8 = .ok (.aload_n 0, 1) := dk_42 (dk_at dksX6_byteAt_0 8 rfl rfl)
theorem dX6_byteAt_9 : decode cX6_byteAt 9 = .ok (.getfield 17, 3) := dk_180 0 17 (dk_at dksX6_byteAt_0 9 rfl rfl)
theorem dX6_byteAt_12 : decode cX6_byteAt 12 = .ok (.iload_n 1, 1) := dk_27 (dk_at dksX6_byteAt_0 12 rfl rfl)
theorem dX6_byteAt_13 : decode cX6_byteAt 13 = .ok (.baload, 1) := dk_51 (dk_at dksX6_byteAt_0 13 rfl rfl)
theorem dX6_byteAt_14 : decode cX6_byteAt 14 = .ok (.sipush 255, 3) := dk_17 0 255 (dk_at dksX6_byteAt_0 14 rfl rfl)
theorem dX6_byteAt_17 : decode cX6_byteAt 17 = .ok (.iand, 1) := dk_126 (dk_at dksX6_byteAt_0 17 rfl rfl)
theorem dX6_byteAt_18 : decode cX6_byteAt 18 = .ok (.goto 4, 3) := dk_167 0 4 (dk_at dksX6_byteAt_0 18 rfl rfl)
theorem dX6_byteAt_21 : decode cX6_byteAt 21 = .ok (.iconst 0, 1) := dk_3 (dk_at dksX6_byteAt_0 21 rfl rfl)
theorem dX6_byteAt_22 : decode cX6_byteAt 22 = .ok (.ireturn, 1) := dk_172 (dk_at dksX6_byteAt_0 22 rfl rfl)
abbrev cX6_isLetter : ByteArray := prog_22_method_4_code
def yX6_isLetter : MethodName := ⟨RX6, "isLetter", "(I)Z"⟩
def dkwX6_isLetter_0 : List UInt8 := [26, 16, 97, 161, 0, 13, 26, 16, 122, 163, 0, 7, 4, 167, 0, 4, 3, 172]
abbrev dktX6_isLetter_0 : List UInt8 := dkwX6_isLetter_0 ++ []
theorem dksX6_isLetter_0 : cX6_isLetter.data.toList.drop 0 = dktX6_isLetter_0 := by decide +kernel
theorem dX6_isLetter_0 : decode cX6_isLetter 0 = .ok (.iload_n 0, 1) := dk_26 (dk_at dksX6_isLetter_0 0 rfl rfl)
theorem dX6_isLetter_1 : decode cX6_isLetter 1 = .ok (.bipush 97, 2) := dk_16 97 (dk_at dksX6_isLetter_0 1 rfl rfl)
theorem dX6_isLetter_3 : decode cX6_isLetter 3 = .ok (.if_icmp .lt 13, 3) := dk_161 0 13 (dk_at dksX6_isLetter_0 3 rfl rfl)
theorem dX6_isLetter_6 : decode cX6_isLetter 6 = .ok (.iload_n 0, 1) := dk_26 (dk_at dksX6_isLetter_0 6 rfl rfl)
theorem dX6_isLetter_7 : decode cX6_isLetter 7 = .ok (.bipush 122, 2) := dk_16 122 (dk_at dksX6_isLetter_0 7 rfl rfl)
theorem dX6_isLetter_9 : decode cX6_isLetter 9 = .ok (.if_icmp .gt 7, 3) := dk_163 0 7 (dk_at dksX6_isLetter_0 9 rfl rfl)
theorem dX6_isLetter_12 : decode cX6_isLetter 12 = .ok (.iconst 1, 1) := dk_4 (dk_at dksX6_isLetter_0 12 rfl rfl)
theorem dX6_isLetter_13 : decode cX6_isLetter 13 = .ok (.goto 4, 3) := dk_167 0 4 (dk_at dksX6_isLetter_0 13 rfl rfl)
theorem dX6_isLetter_16 : decode cX6_isLetter 16 = .ok (.iconst 0, 1) := dk_3 (dk_at dksX6_isLetter_0 16 rfl rfl)
theorem dX6_isLetter_17 : decode cX6_isLetter 17 = .ok (.ireturn, 1) := dk_172 (dk_at dksX6_isLetter_0 17 rfl rfl)
abbrev cX6_isDigit : ByteArray := prog_22_method_3_code
def yX6_isDigit : MethodName := ⟨RX6, "isDigit", "(I)Z"⟩
def dkwX6_isDigit_0 : List UInt8 := [26, 16, 48, 161, 0, 13, 26, 16, 57, 163, 0, 7, 4, 167, 0, 4, 3, 172]
abbrev dktX6_isDigit_0 : List UInt8 := dkwX6_isDigit_0 ++ []
theorem dksX6_isDigit_0 : cX6_isDigit.data.toList.drop 0 = dktX6_isDigit_0 := by decide +kernel
theorem dX6_isDigit_0 : decode cX6_isDigit 0 = .ok (.iload_n 0, 1) := dk_26 (dk_at dksX6_isDigit_0 0 rfl rfl)
theorem dX6_isDigit_1 : decode cX6_isDigit 1 = .ok (.bipush 48, 2) := dk_16 48 (dk_at dksX6_isDigit_0 1 rfl rfl)
theorem dX6_isDigit_3 : decode cX6_isDigit 3 = .ok (.if_icmp .lt 13, 3) := dk_161 0 13 (dk_at dksX6_isDigit_0 3 rfl rfl)
theorem dX6_isDigit_6 : decode cX6_isDigit 6 = .ok (.iload_n 0, 1) := dk_26 (dk_at dksX6_isDigit_0 6 rfl rfl)
theorem dX6_isDigit_7 : decode cX6_isDigit 7 = .ok (.bipush 57, 2) := dk_16 57 (dk_at dksX6_isDigit_0 7 rfl rfl)
theorem dX6_isDigit_9 : decode cX6_isDigit 9 = .ok (.if_icmp .gt 7, 3) := dk_163 0 7 (dk_at dksX6_isDigit_0 9 rfl rfl)
theorem dX6_isDigit_12 : decode cX6_isDigit 12 = .ok (.iconst 1, 1) := dk_4 (dk_at dksX6_isDigit_0 12 rfl rfl)
theorem dX6_isDigit_13 : decode cX6_isDigit 13 = .ok (.goto 4, 3) := dk_167 0 4 (dk_at dksX6_isDigit_0 13 rfl rfl)
theorem dX6_isDigit_16 : decode cX6_isDigit 16 = .ok (.iconst 0, 1) := dk_3 (dk_at dksX6_isDigit_0 16 rfl rfl)
theorem dX6_isDigit_17 : decode cX6_isDigit 17 = .ok (.ireturn, 1) := dk_172 (dk_at dksX6_isDigit_0 17 rfl rfl)
abbrev cX6_is : ByteArray := prog_22_method_7_code
def yX6_is : MethodName := ⟨RX6, "is", "(Ljava/lang/String;)Z"⟩
def dkwX6_is_1 : List UInt8 := [172]
abbrev dktX6_is_1 : List UInt8 := dkwX6_is_1 ++ []
def dkwX6_is_0 : List UInt8 := [42, 180, 0, 42, 5, 160, 0, 18, 42, 180, 0, 11, 43, 182, 0, 74, 153, 0, 7, 4, 167, 0, 4, 3]
abbrev dktX6_is_0 : List UInt8 := dkwX6_is_0 ++ dktX6_is_1
theorem dksX6_is_0 : cX6_is.data.toList.drop 0 = dktX6_is_0 := by decide +kernel
theorem dksX6_is_1 : cX6_is.data.toList.drop 24 = dktX6_is_1 := dk_seg dksX6_is_0 24 rfl rfl
theorem dX6_is_0 : decode cX6_is 0 = .ok (.aload_n 0, 1) := dk_42 (dk_at dksX6_is_0 0 rfl rfl)
theorem dX6_is_1 : decode cX6_is 1 = .ok (.getfield 42, 3) := dk_180 0 42 (dk_at dksX6_is_0 1 rfl rfl)
theorem dX6_is_4 : decode cX6_is 4 = .ok (.iconst 2, 1) := dk_5 (dk_at dksX6_is_0 4 rfl rfl)
theorem dX6_is_5 : decode cX6_is 5 = .ok (.if_icmp .ne 18, 3) := dk_160 0 18 (dk_at dksX6_is_0 5 rfl rfl)
theorem dX6_is_8 : decode cX6_is 8 = .ok (.aload_n 0, 1) := dk_42 (dk_at dksX6_is_0 8 rfl rfl)
theorem dX6_is_9 : decode cX6_is 9 = .ok (.getfield 11, 3) := dk_180 0 11 (dk_at dksX6_is_0 9 rfl rfl)
theorem dX6_is_12 : decode cX6_is 12 = .ok (.aload_n 1, 1) := dk_43 (dk_at dksX6_is_0 12 rfl rfl)
theorem dX6_is_13 : decode cX6_is 13 = .ok (.invokevirtual 74, 3) := dk_182 0 74 (dk_at dksX6_is_0 13 rfl rfl)
theorem dX6_is_16 : decode cX6_is 16 = .ok (.ifCond .eq 7, 3) := dk_153 0 7 (dk_at dksX6_is_0 16 rfl rfl)
theorem dX6_is_19 : decode cX6_is 19 = .ok (.iconst 1, 1) := dk_4 (dk_at dksX6_is_0 19 rfl rfl)
theorem dX6_is_20 : decode cX6_is 20 = .ok (.goto 4, 3) := dk_167 0 4 (dk_at dksX6_is_0 20 rfl rfl)
theorem dX6_is_23 : decode cX6_is 23 = .ok (.iconst 0, 1) := dk_3 (dk_at dksX6_is_0 23 rfl rfl)
theorem dX6_is_24 : decode cX6_is 24 = .ok (.ireturn, 1) := dk_172 (dk_at dksX6_is_1 0 rfl rfl)
abbrev cX6_need : ByteArray := prog_22_method_6_code
def yX6_need : MethodName := ⟨RX6, "need", "(ZI)V"⟩
def dkwX6_need_1 : List UInt8 := [4, 167, 0, 4, 28, 42, 180, 0, 39, 183, 0, 71, 191, 177]
abbrev dktX6_need_1 : List UInt8 := dkwX6_need_1 ++ []
def dkwX6_need_0 : List UInt8 := [27, 154, 0, 36, 187, 0, 69, 89, 42, 180, 0, 42, 4, 159, 0, 11, 42, 180, 0, 42, 8, 160, 0, 7]
abbrev dktX6_need_0 : List UInt8 := dkwX6_need_0 ++ dktX6_need_1
theorem dksX6_need_0 : cX6_need.data.toList.drop 0 = dktX6_need_0 := by decide +kernel
theorem dksX6_need_1 : cX6_need.data.toList.drop 24 = dktX6_need_1 := dk_seg dksX6_need_0 24 rfl rfl
theorem dX6_need_0 : decode cX6_need 0 = .ok (.iload_n 1, 1) := dk_27 (dk_at dksX6_need_0 0 rfl rfl)
theorem dX6_need_1 : decode cX6_need 1 = .ok (.ifCond .ne 36, 3) := dk_154 0 36 (dk_at dksX6_need_0 1 rfl rfl)
theorem dX6_need_4 : decode cX6_need 4 = .ok (.new 69, 3) := dk_187 0 69 (dk_at dksX6_need_0 4 rfl rfl)
theorem dX6_need_7 : decode cX6_need 7 = .ok (.dup, 1) := dk_89 (dk_at dksX6_need_0 7 rfl rfl)
theorem dX6_need_8 : decode cX6_need 8 = .ok (.aload_n 0, 1) := dk_42 (dk_at dksX6_need_0 8 rfl rfl)
theorem dX6_need_9 : decode cX6_need 9 = .ok (.getfield 42, 3) := dk_180 0 42 (dk_at dksX6_need_0 9 rfl rfl)
theorem dX6_need_12 : decode cX6_need 12 = .ok (.iconst 1, 1) := dk_4 (dk_at dksX6_need_0 12 rfl rfl)
theorem dX6_need_13 : decode cX6_need 13 = .ok (.if_icmp .eq 11, 3) := dk_159 0 11 (dk_at dksX6_need_0 13 rfl rfl)
theorem dX6_need_16 : decode cX6_need 16 = .ok (.aload_n 0, 1) := dk_42 (dk_at dksX6_need_0 16 rfl rfl)
theorem dX6_need_17 : decode cX6_need 17 = .ok (.getfield 42, 3) := dk_180 0 42 (dk_at dksX6_need_0 17 rfl rfl)
theorem dX6_need_20 : decode cX6_need 20 = .ok (.iconst 5, 1) := dk_8 (dk_at dksX6_need_0 20 rfl rfl)
theorem dX6_need_21 : decode cX6_need 21 = .ok (.if_icmp .ne 7, 3) := dk_160 0 7 (dk_at dksX6_need_0 21 rfl rfl)
theorem dX6_need_24 : decode cX6_need 24 = .ok (.iconst 1, 1) := dk_4 (dk_at dksX6_need_1 0 rfl rfl)
theorem dX6_need_25 : decode cX6_need 25 = .ok (.goto 4, 3) := dk_167 0 4 (dk_at dksX6_need_1 1 rfl rfl)
theorem dX6_need_28 : decode cX6_need 28 = .ok (.iload_n 2, 1) := dk_28 (dk_at dksX6_need_1 4 rfl rfl)
theorem dX6_need_29 : decode cX6_need 29 = .ok (.aload_n 0, 1) := dk_42 (dk_at dksX6_need_1 5 rfl rfl)
theorem dX6_need_30 : decode cX6_need 30 = .ok (.getfield 39, 3) := dk_180 0 39 (dk_at dksX6_need_1 6 rfl rfl)
theorem dX6_need_33 : decode cX6_need 33 = .ok (.invokespecial 71, 3) := dk_183 0 71 (dk_at dksX6_need_1 9 rfl rfl)
theorem dX6_need_36 : decode cX6_need 36 = .ok (.athrow, 1) := dk_191 (dk_at dksX6_need_1 12 rfl rfl)
theorem dX6_need_37 : decode cX6_need 37 = .ok (.return_, 1) := dk_177 (dk_at dksX6_need_1 13 rfl rfl)
abbrev cX6_isName : ByteArray := prog_22_method_8_code
def yX6_isName : MethodName := ⟨RX6, "isName", "()Z"⟩
def dkwX6_isName_2 : List UInt8 := [3, 172]
abbrev dktX6_isName_2 : List UInt8 := dkwX6_isName_2 ++ []
def dkwX6_isName_1 : List UInt8 := [180, 0, 11, 182, 0, 84, 18, 82, 182, 0, 84, 182, 0, 65, 182, 0, 87, 156, 0, 7, 4, 167, 0, 4]
abbrev dktX6_isName_1 : List UInt8 := dkwX6_isName_1 ++ dktX6_isName_2
def dkwX6_isName_0 : List UInt8 := [42, 180, 0, 42, 5, 160, 0, 42, 18, 80, 187, 0, 58, 89, 183, 0, 60, 18, 82, 182, 0, 84, 42]
abbrev dktX6_isName_0 : List UInt8 := dkwX6_isName_0 ++ dktX6_isName_1
theorem dksX6_isName_0 : cX6_isName.data.toList.drop 0 = dktX6_isName_0 := by decide +kernel
theorem dksX6_isName_1 : cX6_isName.data.toList.drop 23 = dktX6_isName_1 := dk_seg dksX6_isName_0 23 rfl rfl
theorem dksX6_isName_2 : cX6_isName.data.toList.drop 47 = dktX6_isName_2 := dk_seg dksX6_isName_1 24 rfl rfl
theorem dX6_isName_0 : decode cX6_isName 0 = .ok (.aload_n 0, 1) := dk_42 (dk_at dksX6_isName_0 0 rfl rfl)
theorem dX6_isName_1 : decode cX6_isName 1 = .ok (.getfield 42, 3) := dk_180 0 42 (dk_at dksX6_isName_0 1 rfl rfl)
theorem dX6_isName_4 : decode cX6_isName 4 = .ok (.iconst 2, 1) := dk_5 (dk_at dksX6_isName_0 4 rfl rfl)
theorem dX6_isName_5 : decode cX6_isName 5 = .ok (.if_icmp .ne 42, 3) := dk_160 0 42 (dk_at dksX6_isName_0 5 rfl rfl)
theorem dX6_isName_8 : decode cX6_isName 8 = .ok (.ldc 80, 2) := dk_18 80 (dk_at dksX6_isName_0 8 rfl rfl)
theorem dX6_isName_10 : decode cX6_isName 10 = .ok (.new 58, 3) := dk_187 0 58 (dk_at dksX6_isName_0 10 rfl rfl)
theorem dX6_isName_13 : decode cX6_isName 13 = .ok (.dup, 1) := dk_89 (dk_at dksX6_isName_0 13 rfl rfl)
theorem dX6_isName_14 : decode cX6_isName 14 = .ok (.invokespecial 60, 3) := dk_183 0 60 (dk_at dksX6_isName_0 14 rfl rfl)
theorem dX6_isName_17 : decode cX6_isName 17 = .ok (.ldc 82, 2) := dk_18 82 (dk_at dksX6_isName_0 17 rfl rfl)
theorem dX6_isName_19 : decode cX6_isName 19 = .ok (.invokevirtual 84, 3) := dk_182 0 84 (dk_at dksX6_isName_0 19 rfl rfl)
theorem dX6_isName_22 : decode cX6_isName 22 = .ok (.aload_n 0, 1) := dk_42 (dk_at dksX6_isName_0 22 rfl rfl)
theorem dX6_isName_23 : decode cX6_isName 23 = .ok (.getfield 11, 3) := dk_180 0 11 (dk_at dksX6_isName_1 0 rfl rfl)
theorem dX6_isName_26 : decode cX6_isName 26 = .ok (.invokevirtual 84, 3) := dk_182 0 84 (dk_at dksX6_isName_1 3 rfl rfl)
theorem dX6_isName_29 : decode cX6_isName 29 = .ok (.ldc 82, 2) := dk_18 82 (dk_at dksX6_isName_1 6 rfl rfl)
theorem dX6_isName_31 : decode cX6_isName 31 = .ok (.invokevirtual 84, 3) := dk_182 0 84 (dk_at dksX6_isName_1 8 rfl rfl)
theorem dX6_isName_34 : decode cX6_isName 34 = .ok (.invokevirtual 65, 3) := dk_182 0 65 (dk_at dksX6_isName_1 11 rfl rfl)
theorem dX6_isName_37 : decode cX6_isName 37 = .ok (.invokevirtual 87, 3) := dk_182 0 87 (dk_at dksX6_isName_1 14 rfl rfl)
theorem dX6_isName_40 : decode cX6_isName 40 = .ok (.ifCond .ge 7, 3) := dk_156 0 7 (dk_at dksX6_isName_1 17 rfl rfl)
theorem dX6_isName_43 : decode cX6_isName 43 = .ok (.iconst 1, 1) := dk_4 (dk_at dksX6_isName_1 20 rfl rfl)
theorem dX6_isName_44 : decode cX6_isName 44 = .ok (.goto 4, 3) := dk_167 0 4 (dk_at dksX6_isName_1 21 rfl rfl)
theorem dX6_isName_47 : decode cX6_isName 47 = .ok (.iconst 0, 1) := dk_3 (dk_at dksX6_isName_2 0 rfl rfl)
theorem dX6_isName_48 : decode cX6_isName 48 = .ok (.ireturn, 1) := dk_172 (dk_at dksX6_isName_2 1 rfl rfl)
abbrev cX6_find : ByteArray := prog_22_method_11_code
def yX6_find : MethodName := ⟨RX6, "find", "()I"⟩
def dkwX6_find_1 : List UInt8 := [180, 0, 117, 42, 180, 0, 11, 182, 0, 74, 153, 0, 5, 27, 172, 132, 1, 1, 167, 255, 216, 2, 172]
abbrev dktX6_find_1 : List UInt8 := dkwX6_find_1 ++ []
def dkwX6_find_0 : List UInt8 := [3, 60, 27, 42, 180, 0, 28, 180, 0, 102, 182, 0, 108, 162, 0, 32, 42, 180, 0, 28, 27, 182, 0, 113]
abbrev dktX6_find_0 : List UInt8 := dkwX6_find_0 ++ dktX6_find_1
theorem dksX6_find_0 : cX6_find.data.toList.drop 0 = dktX6_find_0 := by decide +kernel
theorem dksX6_find_1 : cX6_find.data.toList.drop 24 = dktX6_find_1 := dk_seg dksX6_find_0 24 rfl rfl
theorem dX6_find_0 : decode cX6_find 0 = .ok (.iconst 0, 1) := dk_3 (dk_at dksX6_find_0 0 rfl rfl)
theorem dX6_find_1 : decode cX6_find 1 = .ok (.istore_n 1, 1) := dk_60 (dk_at dksX6_find_0 1 rfl rfl)
theorem dX6_find_2 : decode cX6_find 2 = .ok (.iload_n 1, 1) := dk_27 (dk_at dksX6_find_0 2 rfl rfl)
theorem dX6_find_3 : decode cX6_find 3 = .ok (.aload_n 0, 1) := dk_42 (dk_at dksX6_find_0 3 rfl rfl)
theorem dX6_find_4 : decode cX6_find 4 = .ok (.getfield 28, 3) := dk_180 0 28 (dk_at dksX6_find_0 4 rfl rfl)
theorem dX6_find_7 : decode cX6_find 7 = .ok (.getfield 102, 3) := dk_180 0 102 (dk_at dksX6_find_0 7 rfl rfl)
theorem dX6_find_10 : decode cX6_find 10 = .ok (.invokevirtual 108, 3) := dk_182 0 108 (dk_at dksX6_find_0 10 rfl rfl)
theorem dX6_find_13 : decode cX6_find 13 = .ok (.if_icmp .ge 32, 3) := dk_162 0 32 (dk_at dksX6_find_0 13 rfl rfl)
theorem dX6_find_16 : decode cX6_find 16 = .ok (.aload_n 0, 1) := dk_42 (dk_at dksX6_find_0 16 rfl rfl)
theorem dX6_find_17 : decode cX6_find 17 = .ok (.getfield 28, 3) := dk_180 0 28 (dk_at dksX6_find_0 17 rfl rfl)
theorem dX6_find_20 : decode cX6_find 20 = .ok (.iload_n 1, 1) := dk_27 (dk_at dksX6_find_0 20 rfl rfl)
theorem dX6_find_21 : decode cX6_find 21 = .ok (.invokevirtual 113, 3) := dk_182 0 113 (dk_at dksX6_find_0 21 rfl rfl)
theorem dX6_find_24 : decode cX6_find 24 = .ok (.getfield 117, 3) := dk_180 0 117 (dk_at dksX6_find_1 0 rfl rfl)
theorem dX6_find_27 : decode cX6_find 27 = .ok (.aload_n 0, 1) := dk_42 (dk_at dksX6_find_1 3 rfl rfl)
theorem dX6_find_28 : decode cX6_find 28 = .ok (.getfield 11, 3) := dk_180 0 11 (dk_at dksX6_find_1 4 rfl rfl)
theorem dX6_find_31 : decode cX6_find 31 = .ok (.invokevirtual 74, 3) := dk_182 0 74 (dk_at dksX6_find_1 7 rfl rfl)
theorem dX6_find_34 : decode cX6_find 34 = .ok (.ifCond .eq 5, 3) := dk_153 0 5 (dk_at dksX6_find_1 10 rfl rfl)
theorem dX6_find_37 : decode cX6_find 37 = .ok (.iload_n 1, 1) := dk_27 (dk_at dksX6_find_1 13 rfl rfl)
theorem dX6_find_38 : decode cX6_find 38 = .ok (.ireturn, 1) := dk_172 (dk_at dksX6_find_1 14 rfl rfl)
theorem dX6_find_39 : decode cX6_find 39 = .ok (.iinc 1 1, 3) := dk_132 1 1 (dk_at dksX6_find_1 15 rfl rfl)
theorem dX6_find_42 : decode cX6_find 42 = .ok (.goto (-40), 3) := dk_167 255 216 (dk_at dksX6_find_1 18 rfl rfl)
theorem dX6_find_45 : decode cX6_find 45 = .ok (.iconst (-1), 1) := dk_2 (dk_at dksX6_find_1 21 rfl rfl)
theorem dX6_find_46 : decode cX6_find 46 = .ok (.ireturn, 1) := dk_172 (dk_at dksX6_find_1 22 rfl rfl)
abbrev cX6_number : ByteArray := prog_22_method_9_code
def yX6_number : MethodName := ⟨RX6, "number", "(II)I"⟩
def dkwX6_number_1 : List UInt8 := [28, 184, 0, 95, 5, 182, 0, 91, 42, 180, 0, 55, 62, 42, 182, 0, 99, 29, 172]
abbrev dktX6_number_1 : List UInt8 := dkwX6_number_1 ++ []
def dkwX6_number_0 : List UInt8 := [42, 42, 180, 0, 42, 6, 160, 0, 7, 4, 167, 0, 4, 3, 4, 182, 0, 91, 42, 42, 180, 0, 55, 27]
abbrev dktX6_number_0 : List UInt8 := dkwX6_number_0 ++ dktX6_number_1
theorem dksX6_number_0 : cX6_number.data.toList.drop 0 = dktX6_number_0 := by decide +kernel
theorem dksX6_number_1 : cX6_number.data.toList.drop 24 = dktX6_number_1 := dk_seg dksX6_number_0 24 rfl rfl
theorem dX6_number_0 : decode cX6_number 0 = .ok (.aload_n 0, 1) := dk_42 (dk_at dksX6_number_0 0 rfl rfl)
theorem dX6_number_1 : decode cX6_number 1 = .ok (.aload_n 0, 1) := dk_42 (dk_at dksX6_number_0 1 rfl rfl)
theorem dX6_number_2 : decode cX6_number 2 = .ok (.getfield 42, 3) := dk_180 0 42 (dk_at dksX6_number_0 2 rfl rfl)
theorem dX6_number_5 : decode cX6_number 5 = .ok (.iconst 3, 1) := dk_6 (dk_at dksX6_number_0 5 rfl rfl)
theorem dX6_number_6 : decode cX6_number 6 = .ok (.if_icmp .ne 7, 3) := dk_160 0 7 (dk_at dksX6_number_0 6 rfl rfl)
theorem dX6_number_9 : decode cX6_number 9 = .ok (.iconst 1, 1) := dk_4 (dk_at dksX6_number_0 9 rfl rfl)
theorem dX6_number_10 : decode cX6_number 10 = .ok (.goto 4, 3) := dk_167 0 4 (dk_at dksX6_number_0 10 rfl rfl)
theorem dX6_number_13 : decode cX6_number 13 = .ok (.iconst 0, 1) := dk_3 (dk_at dksX6_number_0 13 rfl rfl)
theorem dX6_number_14 : decode cX6_number 14 = .ok (.iconst 1, 1) := dk_4 (dk_at dksX6_number_0 14 rfl rfl)
theorem dX6_number_15 : decode cX6_number 15 = .ok (.invokevirtual 91, 3) := dk_182 0 91 (dk_at dksX6_number_0 15 rfl rfl)
theorem dX6_number_18 : decode cX6_number 18 = .ok (.aload_n 0, 1) := dk_42 (dk_at dksX6_number_0 18 rfl rfl)
theorem dX6_number_19 : decode cX6_number 19 = .ok (.aload_n 0, 1) := dk_42 (dk_at dksX6_number_0 19 rfl rfl)
theorem dX6_number_20 : decode cX6_number 20 = .ok (.getfield 55, 3) := dk_180 0 55 (dk_at dksX6_number_0 20 rfl rfl)
theorem dX6_number_23 : decode cX6_number 23 = .ok (.iload_n 1, 1) := dk_27 (dk_at dksX6_number_0 23 rfl rfl)
theorem dX6_number_24 : decode cX6_number 24 = .ok (.iload_n 2, 1) := dk_28 (dk_at dksX6_number_1 0 rfl rfl)
theorem dX6_number_25 : decode cX6_number 25 = .ok (.invokestatic 95, 3) := dk_184 0 95 (dk_at dksX6_number_1 1 rfl rfl)
theorem dX6_number_28 : decode cX6_number 28 = .ok (.iconst 2, 1) := dk_5 (dk_at dksX6_number_1 4 rfl rfl)
theorem dX6_number_29 : decode cX6_number 29 = .ok (.invokevirtual 91, 3) := dk_182 0 91 (dk_at dksX6_number_1 5 rfl rfl)
theorem dX6_number_32 : decode cX6_number 32 = .ok (.aload_n 0, 1) := dk_42 (dk_at dksX6_number_1 8 rfl rfl)
theorem dX6_number_33 : decode cX6_number 33 = .ok (.getfield 55, 3) := dk_180 0 55 (dk_at dksX6_number_1 9 rfl rfl)
theorem dX6_number_36 : decode cX6_number 36 = .ok (.istore_n 3, 1) := dk_62 (dk_at dksX6_number_1 12 rfl rfl)
theorem dX6_number_37 : decode cX6_number 37 = .ok (.aload_n 0, 1) := dk_42 (dk_at dksX6_number_1 13 rfl rfl)
theorem dX6_number_38 : decode cX6_number 38 = .ok (.invokevirtual 99, 3) := dk_182 0 99 (dk_at dksX6_number_1 14 rfl rfl)
theorem dX6_number_41 : decode cX6_number 41 = .ok (.iload_n 3, 1) := dk_29 (dk_at dksX6_number_1 17 rfl rfl)
theorem dX6_number_42 : decode cX6_number 42 = .ok (.ireturn, 1) := dk_172 (dk_at dksX6_number_1 18 rfl rfl)
abbrev cX6_hold : ByteArray := prog_22_method_12_code
def yX6_hold : MethodName := ⟨RX6, "hold", "()I"⟩
def dkwX6_hold_1 : List UInt8 := [3, 6, 182, 0, 91, 27, 172]
abbrev dktX6_hold_1 : List UInt8 := dkwX6_hold_1 ++ []
def dkwX6_hold_0 : List UInt8 := [42, 42, 182, 0, 122, 4, 182, 0, 91, 42, 182, 0, 126, 60, 42, 27, 2, 159, 0, 7, 4, 167, 0, 4]
abbrev dktX6_hold_0 : List UInt8 := dkwX6_hold_0 ++ dktX6_hold_1
theorem dksX6_hold_0 : cX6_hold.data.toList.drop 0 = dktX6_hold_0 := by decide +kernel
theorem dksX6_hold_1 : cX6_hold.data.toList.drop 24 = dktX6_hold_1 := dk_seg dksX6_hold_0 24 rfl rfl
theorem dX6_hold_0 : decode cX6_hold 0 = .ok (.aload_n 0, 1) := dk_42 (dk_at dksX6_hold_0 0 rfl rfl)
theorem dX6_hold_1 : decode cX6_hold 1 = .ok (.aload_n 0, 1) := dk_42 (dk_at dksX6_hold_0 1 rfl rfl)
theorem dX6_hold_2 : decode cX6_hold 2 = .ok (.invokevirtual 122, 3) := dk_182 0 122 (dk_at dksX6_hold_0 2 rfl rfl)
theorem dX6_hold_5 : decode cX6_hold 5 = .ok (.iconst 1, 1) := dk_4 (dk_at dksX6_hold_0 5 rfl rfl)
theorem dX6_hold_6 : decode cX6_hold 6 = .ok (.invokevirtual 91, 3) := dk_182 0 91 (dk_at dksX6_hold_0 6 rfl rfl)
theorem dX6_hold_9 : decode cX6_hold 9 = .ok (.aload_n 0, 1) := dk_42 (dk_at dksX6_hold_0 9 rfl rfl)
theorem dX6_hold_10 : decode cX6_hold 10 = .ok (.invokevirtual 126, 3) := dk_182 0 126 (dk_at dksX6_hold_0 10 rfl rfl)
theorem dX6_hold_13 : decode cX6_hold 13 = .ok (.istore_n 1, 1) := dk_60 (dk_at dksX6_hold_0 13 rfl rfl)
theorem dX6_hold_14 : decode cX6_hold 14 = .ok (.aload_n 0, 1) := dk_42 (dk_at dksX6_hold_0 14 rfl rfl)
theorem dX6_hold_15 : decode cX6_hold 15 = .ok (.iload_n 1, 1) := dk_27 (dk_at dksX6_hold_0 15 rfl rfl)
theorem dX6_hold_16 : decode cX6_hold 16 = .ok (.iconst (-1), 1) := dk_2 (dk_at dksX6_hold_0 16 rfl rfl)
theorem dX6_hold_17 : decode cX6_hold 17 = .ok (.if_icmp .eq 7, 3) := dk_159 0 7 (dk_at dksX6_hold_0 17 rfl rfl)
theorem dX6_hold_20 : decode cX6_hold 20 = .ok (.iconst 1, 1) := dk_4 (dk_at dksX6_hold_0 20 rfl rfl)
theorem dX6_hold_21 : decode cX6_hold 21 = .ok (.goto 4, 3) := dk_167 0 4 (dk_at dksX6_hold_0 21 rfl rfl)
theorem dX6_hold_24 : decode cX6_hold 24 = .ok (.iconst 0, 1) := dk_3 (dk_at dksX6_hold_1 0 rfl rfl)
theorem dX6_hold_25 : decode cX6_hold 25 = .ok (.iconst 3, 1) := dk_6 (dk_at dksX6_hold_1 1 rfl rfl)
theorem dX6_hold_26 : decode cX6_hold 26 = .ok (.invokevirtual 91, 3) := dk_182 0 91 (dk_at dksX6_hold_1 2 rfl rfl)
theorem dX6_hold_29 : decode cX6_hold 29 = .ok (.iload_n 1, 1) := dk_27 (dk_at dksX6_hold_1 5 rfl rfl)
theorem dX6_hold_30 : decode cX6_hold 30 = .ok (.ireturn, 1) := dk_172 (dk_at dksX6_hold_1 6 rfl rfl)
abbrev cX6_one : ByteArray := prog_22_method_13_code
def yX6_one : MethodName := ⟨RX6, "one", "()I"⟩
def dkwX6_one_0 : List UInt8 := [42, 182, 0, 129, 60, 42, 182, 0, 99, 27, 172]
abbrev dktX6_one_0 : List UInt8 := dkwX6_one_0 ++ []
theorem dksX6_one_0 : cX6_one.data.toList.drop 0 = dktX6_one_0 := by decide +kernel
theorem dX6_one_0 : decode cX6_one 0 = .ok (.aload_n 0, 1) := dk_42 (dk_at dksX6_one_0 0 rfl rfl)
theorem dX6_one_1 : decode cX6_one 1 = .ok (.invokevirtual 129, 3) := dk_182 0 129 (dk_at dksX6_one_0 1 rfl rfl)
theorem dX6_one_4 : decode cX6_one 4 = .ok (.istore_n 1, 1) := dk_60 (dk_at dksX6_one_0 4 rfl rfl)
theorem dX6_one_5 : decode cX6_one 5 = .ok (.aload_n 0, 1) := dk_42 (dk_at dksX6_one_0 5 rfl rfl)
theorem dX6_one_6 : decode cX6_one 6 = .ok (.invokevirtual 99, 3) := dk_182 0 99 (dk_at dksX6_one_0 6 rfl rfl)
theorem dX6_one_9 : decode cX6_one 9 = .ok (.iload_n 1, 1) := dk_27 (dk_at dksX6_one_0 9 rfl rfl)
theorem dX6_one_10 : decode cX6_one 10 = .ok (.ireturn, 1) := dk_172 (dk_at dksX6_one_0 10 rfl rfl)
abbrev cX6_other : ByteArray := prog_22_method_14_code
def yX6_other : MethodName := ⟨RX6, "other", "(I)I"⟩
def dkwX6_other_1 : List UInt8 := [28, 172]
abbrev dktX6_other_1 : List UInt8 := dkwX6_other_1 ++ []
def dkwX6_other_0 : List UInt8 := [42, 182, 0, 129, 61, 42, 28, 27, 159, 0, 7, 4, 167, 0, 4, 3, 6, 182, 0, 91, 42, 182, 0, 99]
abbrev dktX6_other_0 : List UInt8 := dkwX6_other_0 ++ dktX6_other_1
theorem dksX6_other_0 : cX6_other.data.toList.drop 0 = dktX6_other_0 := by decide +kernel
theorem dksX6_other_1 : cX6_other.data.toList.drop 24 = dktX6_other_1 := dk_seg dksX6_other_0 24 rfl rfl
theorem dX6_other_0 : decode cX6_other 0 = .ok (.aload_n 0, 1) := dk_42 (dk_at dksX6_other_0 0 rfl rfl)
theorem dX6_other_1 : decode cX6_other 1 = .ok (.invokevirtual 129, 3) := dk_182 0 129 (dk_at dksX6_other_0 1 rfl rfl)
theorem dX6_other_4 : decode cX6_other 4 = .ok (.istore_n 2, 1) := dk_61 (dk_at dksX6_other_0 4 rfl rfl)
theorem dX6_other_5 : decode cX6_other 5 = .ok (.aload_n 0, 1) := dk_42 (dk_at dksX6_other_0 5 rfl rfl)
theorem dX6_other_6 : decode cX6_other 6 = .ok (.iload_n 2, 1) := dk_28 (dk_at dksX6_other_0 6 rfl rfl)
theorem dX6_other_7 : decode cX6_other 7 = .ok (.iload_n 1, 1) := dk_27 (dk_at dksX6_other_0 7 rfl rfl)
theorem dX6_other_8 : decode cX6_other 8 = .ok (.if_icmp .eq 7, 3) := dk_159 0 7 (dk_at dksX6_other_0 8 rfl rfl)
theorem dX6_other_11 : decode cX6_other 11 = .ok (.iconst 1, 1) := dk_4 (dk_at dksX6_other_0 11 rfl rfl)
theorem dX6_other_12 : decode cX6_other 12 = .ok (.goto 4, 3) := dk_167 0 4 (dk_at dksX6_other_0 12 rfl rfl)
theorem dX6_other_15 : decode cX6_other 15 = .ok (.iconst 0, 1) := dk_3 (dk_at dksX6_other_0 15 rfl rfl)
theorem dX6_other_16 : decode cX6_other 16 = .ok (.iconst 3, 1) := dk_6 (dk_at dksX6_other_0 16 rfl rfl)
theorem dX6_other_17 : decode cX6_other 17 = .ok (.invokevirtual 91, 3) := dk_182 0 91 (dk_at dksX6_other_0 17 rfl rfl)
theorem dX6_other_20 : decode cX6_other 20 = .ok (.aload_n 0, 1) := dk_42 (dk_at dksX6_other_0 20 rfl rfl)
theorem dX6_other_21 : decode cX6_other 21 = .ok (.invokevirtual 99, 3) := dk_182 0 99 (dk_at dksX6_other_0 21 rfl rfl)
theorem dX6_other_24 : decode cX6_other 24 = .ok (.iload_n 2, 1) := dk_28 (dk_at dksX6_other_1 0 rfl rfl)
theorem dX6_other_25 : decode cX6_other 25 = .ok (.ireturn, 1) := dk_172 (dk_at dksX6_other_1 1 rfl rfl)
abbrev cX6_end : ByteArray := prog_22_method_10_code
def yX6_end : MethodName := ⟨RX6, "end", "()V"⟩
def dkwX6_end_0 : List UInt8 := [42, 42, 180, 0, 42, 7, 160, 0, 7, 4, 167, 0, 4, 3, 4, 182, 0, 91, 42, 182, 0, 99, 177]
abbrev dktX6_end_0 : List UInt8 := dkwX6_end_0 ++ []
theorem dksX6_end_0 : cX6_end.data.toList.drop 0 = dktX6_end_0 := by decide +kernel
theorem dX6_end_0 : decode cX6_end 0 = .ok (.aload_n 0, 1) := dk_42 (dk_at dksX6_end_0 0 rfl rfl)
theorem dX6_end_1 : decode cX6_end 1 = .ok (.aload_n 0, 1) := dk_42 (dk_at dksX6_end_0 1 rfl rfl)
theorem dX6_end_2 : decode cX6_end 2 = .ok (.getfield 42, 3) := dk_180 0 42 (dk_at dksX6_end_0 2 rfl rfl)
theorem dX6_end_5 : decode cX6_end 5 = .ok (.iconst 4, 1) := dk_7 (dk_at dksX6_end_0 5 rfl rfl)
theorem dX6_end_6 : decode cX6_end 6 = .ok (.if_icmp .ne 7, 3) := dk_160 0 7 (dk_at dksX6_end_0 6 rfl rfl)
theorem dX6_end_9 : decode cX6_end 9 = .ok (.iconst 1, 1) := dk_4 (dk_at dksX6_end_0 9 rfl rfl)
theorem dX6_end_10 : decode cX6_end 10 = .ok (.goto 4, 3) := dk_167 0 4 (dk_at dksX6_end_0 10 rfl rfl)
theorem dX6_end_13 : decode cX6_end 13 = .ok (.iconst 0, 1) := dk_3 (dk_at dksX6_end_0 13 rfl rfl)
theorem dX6_end_14 : decode cX6_end 14 = .ok (.iconst 1, 1) := dk_4 (dk_at dksX6_end_0 14 rfl rfl)
theorem dX6_end_15 : decode cX6_end 15 = .ok (.invokevirtual 91, 3) := dk_182 0 91 (dk_at dksX6_end_0 15 rfl rfl)
theorem dX6_end_18 : decode cX6_end 18 = .ok (.aload_n 0, 1) := dk_42 (dk_at dksX6_end_0 18 rfl rfl)
theorem dX6_end_19 : decode cX6_end 19 = .ok (.invokevirtual 99, 3) := dk_182 0 99 (dk_at dksX6_end_0 19 rfl rfl)
theorem dX6_end_22 : decode cX6_end 22 = .ok (.return_, 1) := dk_177 (dk_at dksX6_end_0 22 rfl rfl)
theorem q141 : (Jvm.Cond.initialized "HeirsAtLaw$Reader") ∈ lw_all := lw_g (lw_at lw_m1 17 rfl) rfl
theorem q229 : (Jvm.Cond.fieldLinkNest "HeirsAtLaw$Reader" (102 : Nat) "HeirsAtLaw$Family" "persons" "Ljava/util/ArrayList;" "HeirsAtLaw") ∈ lw_tbl := lw_at lw_m1 105 rfl
theorem q571 : (Jvm.Cond.instanceMethod ({ cls := "HeirsAtLaw$Reader", name := "<init>", desc := "([BIILHeirsAtLaw$Family;)V" } : Jvm.MethodName)) ∈ lw_all := lw_g (lw_at lw_m2 207 rfl) rfl
theorem q572 : (Jvm.Cond.code ({ cls := "HeirsAtLaw$Reader", name := "<init>", desc := "([BIILHeirsAtLaw$Family;)V" } : Jvm.MethodName) prog_22_method_1_code (5 : Nat) (Option.none : Option Jvm.ClassFile.FieldType)) ∈ lw_all := lw_g (lw_at lw_m2 208 rfl) rfl
theorem q573 : (Jvm.Cond.methodLink "HeirsAtLaw$Reader" (3 : Nat) ({ cls := "java/lang/Object", name := "<init>", desc := "()V" } : Jvm.MethodName)) ∈ lw_all := lw_g (lw_at lw_m2 209 rfl) rfl
theorem q574 : (Jvm.Cond.stringRef "HeirsAtLaw$Reader" (9 : Nat) "") ∈ lw_tbl := lw_at lw_m2 210 rfl
theorem q576 : (Jvm.Cond.fieldLink "HeirsAtLaw$Reader" (17 : Nat) "HeirsAtLaw$Reader" "tape" "[B") ∈ lw_all := lw_g (lw_at lw_m2 212 rfl) rfl
theorem q577 : (Jvm.Cond.fieldLink "HeirsAtLaw$Reader" (21 : Nat) "HeirsAtLaw$Reader" "size" "I") ∈ lw_all := lw_g (lw_at lw_m2 213 rfl) rfl
theorem q578 : (Jvm.Cond.fieldLink "HeirsAtLaw$Reader" (25 : Nat) "HeirsAtLaw$Reader" "limit" "I") ∈ lw_all := lw_g (lw_at lw_m2 214 rfl) rfl
theorem q579 : (Jvm.Cond.fieldLink "HeirsAtLaw$Reader" (32 : Nat) "HeirsAtLaw$Reader" "to" "I") ∈ lw_all := lw_g (lw_at lw_m2 215 rfl) rfl
theorem q580 : (Jvm.Cond.fieldLink "HeirsAtLaw$Reader" (28 : Nat) "HeirsAtLaw$Reader" "f" "LHeirsAtLaw$Family;") ∈ lw_all := lw_g (lw_at lw_m2 216 rfl) rfl
theorem q589 : (Jvm.Cond.fieldLink "HeirsAtLaw$Reader" (42 : Nat) "HeirsAtLaw$Reader" "kind" "I") ∈ lw_all := lw_g (lw_at lw_m2 225 rfl) rfl
theorem q590 : (Jvm.Cond.fieldLink "HeirsAtLaw$Reader" (39 : Nat) "HeirsAtLaw$Reader" "from" "I") ∈ lw_all := lw_g (lw_at lw_m2 226 rfl) rfl
theorem q591 : (Jvm.Cond.fieldLink "HeirsAtLaw$Reader" (55 : Nat) "HeirsAtLaw$Reader" "number" "I") ∈ lw_all := lw_g (lw_at lw_m2 227 rfl) rfl
theorem q592 : (Jvm.Cond.fieldLink "HeirsAtLaw$Reader" (52 : Nat) "HeirsAtLaw$Reader" "sign" "I") ∈ lw_all := lw_g (lw_at lw_m2 228 rfl) rfl
theorem q595 : (Jvm.Cond.fieldLink "HeirsAtLaw$Reader" (11 : Nat) "HeirsAtLaw$Reader" "word" "Ljava/lang/String;") ∈ lw_all := lw_g (lw_at lw_m2 231 rfl) rfl
theorem q601 : (Jvm.Cond.soleField "HeirsAtLaw$Reader" "tape") ∈ lw_all := lw_g (lw_at lw_m2 237 rfl) rfl
theorem q603 : (Jvm.Cond.soleField "HeirsAtLaw$Reader" "size") ∈ lw_all := lw_g (lw_at lw_m2 239 rfl) rfl
theorem q605 : (Jvm.Cond.soleField "HeirsAtLaw$Reader" "limit") ∈ lw_all := lw_g (lw_at lw_m3 1 rfl) rfl
theorem q607 : (Jvm.Cond.soleField "HeirsAtLaw$Reader" "to") ∈ lw_all := lw_g (lw_at lw_m3 3 rfl) rfl
theorem q609 : (Jvm.Cond.soleField "HeirsAtLaw$Reader" "f") ∈ lw_all := lw_g (lw_at lw_m3 5 rfl) rfl
theorem q611 : (Jvm.Cond.soleField "HeirsAtLaw$Reader" "kind") ∈ lw_all := lw_g (lw_at lw_m3 7 rfl) rfl
theorem q613 : (Jvm.Cond.soleField "HeirsAtLaw$Reader" "from") ∈ lw_all := lw_g (lw_at lw_m3 9 rfl) rfl
theorem q615 : (Jvm.Cond.soleField "HeirsAtLaw$Reader" "number") ∈ lw_all := lw_g (lw_at lw_m3 11 rfl) rfl
theorem q617 : (Jvm.Cond.soleField "HeirsAtLaw$Reader" "sign") ∈ lw_all := lw_g (lw_at lw_m3 13 rfl) rfl
theorem q619 : (Jvm.Cond.soleField "HeirsAtLaw$Reader" "word") ∈ lw_all := lw_g (lw_at lw_m3 15 rfl) rfl
theorem q627 : (Jvm.Cond.declares ({ cls := "HeirsAtLaw$Reader", name := "go", desc := "()V" } : Jvm.MethodName)) ∈ lw_tbl := lw_at lw_m3 23 rfl
theorem q629 : (Jvm.Cond.instanceMethod ({ cls := "HeirsAtLaw$Reader", name := "go", desc := "()V" } : Jvm.MethodName)) ∈ lw_all := lw_g (lw_at lw_m3 25 rfl) rfl
theorem q630 : (Jvm.Cond.code ({ cls := "HeirsAtLaw$Reader", name := "go", desc := "()V" } : Jvm.MethodName) prog_22_method_5_code (5 : Nat) (Option.none : Option Jvm.ClassFile.FieldType)) ∈ lw_all := lw_g (lw_at lw_m3 26 rfl) rfl
theorem q631 : (Jvm.Cond.methodLink "HeirsAtLaw$Reader" (35 : Nat) ({ cls := "HeirsAtLaw$Reader", name := "byteAt", desc := "(I)I" } : Jvm.MethodName)) ∈ lw_all := lw_g (lw_at lw_m3 27 rfl) rfl
theorem q632 : (Jvm.Cond.privateMethod ({ cls := "HeirsAtLaw$Reader", name := "byteAt", desc := "(I)I" } : Jvm.MethodName)) ∈ lw_tbl := lw_at lw_m3 28 rfl
theorem q633 : (Jvm.Cond.instanceMethod ({ cls := "HeirsAtLaw$Reader", name := "byteAt", desc := "(I)I" } : Jvm.MethodName)) ∈ lw_all := lw_g (lw_at lw_m3 29 rfl) rfl
theorem q634 : (Jvm.Cond.code ({ cls := "HeirsAtLaw$Reader", name := "byteAt", desc := "(I)I" } : Jvm.MethodName) prog_22_method_2_code (2 : Nat) (Option.some Jvm.ClassFile.FieldType.int)) ∈ lw_all := lw_g (lw_at lw_m3 30 rfl) rfl
theorem q635 : (Jvm.Cond.methodLink "HeirsAtLaw$Reader" (45 : Nat) ({ cls := "HeirsAtLaw$Reader", name := "isLetter", desc := "(I)Z" } : Jvm.MethodName)) ∈ lw_all := lw_g (lw_at lw_m3 31 rfl) rfl
theorem q636 : (Jvm.Cond.static ({ cls := "HeirsAtLaw$Reader", name := "isLetter", desc := "(I)Z" } : Jvm.MethodName)) ∈ lw_all := lw_g (lw_at lw_m3 32 rfl) rfl
theorem q637 : (Jvm.Cond.code ({ cls := "HeirsAtLaw$Reader", name := "isLetter", desc := "(I)Z" } : Jvm.MethodName) prog_22_method_4_code (1 : Nat) (Option.some Jvm.ClassFile.FieldType.boolean)) ∈ lw_all := lw_g (lw_at lw_m3 33 rfl) rfl
theorem q638 : (Jvm.Cond.methodLink "HeirsAtLaw$Reader" (49 : Nat) ({ cls := "HeirsAtLaw$Reader", name := "isDigit", desc := "(I)Z" } : Jvm.MethodName)) ∈ lw_all := lw_g (lw_at lw_m3 34 rfl) rfl
theorem q639 : (Jvm.Cond.static ({ cls := "HeirsAtLaw$Reader", name := "isDigit", desc := "(I)Z" } : Jvm.MethodName)) ∈ lw_all := lw_g (lw_at lw_m3 35 rfl) rfl
theorem q640 : (Jvm.Cond.code ({ cls := "HeirsAtLaw$Reader", name := "isDigit", desc := "(I)Z" } : Jvm.MethodName) prog_22_method_3_code (1 : Nat) (Option.some Jvm.ClassFile.FieldType.boolean)) ∈ lw_all := lw_g (lw_at lw_m3 36 rfl) rfl
theorem q641 : (Jvm.Cond.classLink "HeirsAtLaw$Reader" (58 : Nat) "java/lang/StringBuilder") ∈ lw_all := lw_g (lw_at lw_m3 37 rfl) rfl
theorem q643 : (Jvm.Cond.methodLink "HeirsAtLaw$Reader" (60 : Nat) ({ cls := "java/lang/StringBuilder", name := "<init>", desc := "()V" } : Jvm.MethodName)) ∈ lw_all := lw_g (lw_at lw_m3 39 rfl) rfl
theorem q672 : (Jvm.Cond.methodLink "HeirsAtLaw$Reader" (61 : Nat) ({ cls := "java/lang/StringBuilder", name := "append", desc := "(C)Ljava/lang/StringBuilder;" } : Jvm.MethodName)) ∈ lw_all := lw_g (lw_at lw_m3 68 rfl) rfl
theorem q765 : (Jvm.Cond.methodLink "HeirsAtLaw$Reader" (65 : Nat) ({ cls := "java/lang/StringBuilder", name := "toString", desc := "()Ljava/lang/String;" } : Jvm.MethodName)) ∈ lw_all := lw_g (lw_at lw_m3 161 rfl) rfl
theorem q833 : (Jvm.Cond.declares ({ cls := "HeirsAtLaw$Reader", name := "is", desc := "(Ljava/lang/String;)Z" } : Jvm.MethodName)) ∈ lw_tbl := lw_at lw_m3 229 rfl
theorem q835 : (Jvm.Cond.instanceMethod ({ cls := "HeirsAtLaw$Reader", name := "is", desc := "(Ljava/lang/String;)Z" } : Jvm.MethodName)) ∈ lw_all := lw_g (lw_at lw_m3 231 rfl) rfl
theorem q836 : (Jvm.Cond.code ({ cls := "HeirsAtLaw$Reader", name := "is", desc := "(Ljava/lang/String;)Z" } : Jvm.MethodName) prog_22_method_7_code (2 : Nat) (Option.some Jvm.ClassFile.FieldType.boolean)) ∈ lw_all := lw_g (lw_at lw_m3 232 rfl) rfl
theorem q837 : (Jvm.Cond.methodLink "HeirsAtLaw$Reader" (74 : Nat) ({ cls := "java/lang/String", name := "equals", desc := "(Ljava/lang/Object;)Z" } : Jvm.MethodName)) ∈ lw_all := lw_g (lw_at lw_m3 233 rfl) rfl
theorem q852 : (Jvm.Cond.declares ({ cls := "HeirsAtLaw$Reader", name := "need", desc := "(ZI)V" } : Jvm.MethodName)) ∈ lw_tbl := lw_at lw_m4 8 rfl
theorem q854 : (Jvm.Cond.instanceMethod ({ cls := "HeirsAtLaw$Reader", name := "need", desc := "(ZI)V" } : Jvm.MethodName)) ∈ lw_all := lw_g (lw_at lw_m4 10 rfl) rfl
theorem q855 : (Jvm.Cond.code ({ cls := "HeirsAtLaw$Reader", name := "need", desc := "(ZI)V" } : Jvm.MethodName) prog_22_method_6_code (3 : Nat) (Option.none : Option Jvm.ClassFile.FieldType)) ∈ lw_all := lw_g (lw_at lw_m4 11 rfl) rfl
theorem q856 : (Jvm.Cond.classLink "HeirsAtLaw$Reader" (69 : Nat) "HeirsAtLaw$Fault") ∈ lw_all := lw_g (lw_at lw_m4 12 rfl) rfl
theorem q865 : (Jvm.Cond.methodLink "HeirsAtLaw$Reader" (71 : Nat) ({ cls := "HeirsAtLaw$Fault", name := "<init>", desc := "(II)V" } : Jvm.MethodName)) ∈ lw_all := lw_g (lw_at lw_m4 21 rfl) rfl
theorem q886 : (Jvm.Cond.declares ({ cls := "HeirsAtLaw$Reader", name := "isName", desc := "()Z" } : Jvm.MethodName)) ∈ lw_tbl := lw_at lw_m4 42 rfl
theorem q888 : (Jvm.Cond.instanceMethod ({ cls := "HeirsAtLaw$Reader", name := "isName", desc := "()Z" } : Jvm.MethodName)) ∈ lw_all := lw_g (lw_at lw_m4 44 rfl) rfl
theorem q889 : (Jvm.Cond.code ({ cls := "HeirsAtLaw$Reader", name := "isName", desc := "()Z" } : Jvm.MethodName) prog_22_method_8_code (1 : Nat) (Option.some Jvm.ClassFile.FieldType.boolean)) ∈ lw_all := lw_g (lw_at lw_m4 45 rfl) rfl
theorem q890 : (Jvm.Cond.stringRef "HeirsAtLaw$Reader" (80 : Nat) " person parent wed will dies widow die part give leave revoke year or and not dead orphan kin of coins age issue number ") ∈ lw_tbl := lw_at lw_m4 46 rfl
theorem q891 : (Jvm.Cond.stringRef "HeirsAtLaw$Reader" (82 : Nat) " ") ∈ lw_tbl := lw_at lw_m4 47 rfl
theorem q892 : (Jvm.Cond.methodLink "HeirsAtLaw$Reader" (84 : Nat) ({ cls := "java/lang/StringBuilder", name := "append", desc := "(Ljava/lang/String;)Ljava/lang/StringBuilder;" } : Jvm.MethodName)) ∈ lw_all := lw_g (lw_at lw_m4 48 rfl) rfl
theorem q938 : (Jvm.Cond.methodLink "HeirsAtLaw$Reader" (87 : Nat) ({ cls := "java/lang/String", name := "indexOf", desc := "(Ljava/lang/String;)I" } : Jvm.MethodName)) ∈ lw_all := lw_g (lw_at lw_m4 94 rfl) rfl
theorem q966 : (Jvm.Cond.declares ({ cls := "HeirsAtLaw$Reader", name := "find", desc := "()I" } : Jvm.MethodName)) ∈ lw_tbl := lw_at lw_m4 122 rfl
theorem q968 : (Jvm.Cond.instanceMethod ({ cls := "HeirsAtLaw$Reader", name := "find", desc := "()I" } : Jvm.MethodName)) ∈ lw_all := lw_g (lw_at lw_m4 124 rfl) rfl
theorem q969 : (Jvm.Cond.code ({ cls := "HeirsAtLaw$Reader", name := "find", desc := "()I" } : Jvm.MethodName) prog_22_method_11_code (2 : Nat) (Option.some Jvm.ClassFile.FieldType.int)) ∈ lw_all := lw_g (lw_at lw_m4 125 rfl) rfl
theorem q970 : (Jvm.Cond.methodLink "HeirsAtLaw$Reader" (108 : Nat) ({ cls := "java/util/ArrayList", name := "size", desc := "()I" } : Jvm.MethodName)) ∈ lw_all := lw_g (lw_at lw_m4 126 rfl) rfl
theorem q971 : (Jvm.Cond.methodLink "HeirsAtLaw$Reader" (113 : Nat) ({ cls := "HeirsAtLaw$Family", name := "person", desc := "(I)LHeirsAtLaw$Person;" } : Jvm.MethodName)) ∈ lw_all := lw_g (lw_at lw_m4 127 rfl) rfl
theorem q974 : (Jvm.Cond.declares ({ cls := "HeirsAtLaw$Reader", name := "number", desc := "(II)I" } : Jvm.MethodName)) ∈ lw_tbl := lw_at lw_m4 130 rfl
theorem q976 : (Jvm.Cond.instanceMethod ({ cls := "HeirsAtLaw$Reader", name := "number", desc := "(II)I" } : Jvm.MethodName)) ∈ lw_all := lw_g (lw_at lw_m4 132 rfl) rfl
theorem q977 : (Jvm.Cond.code ({ cls := "HeirsAtLaw$Reader", name := "number", desc := "(II)I" } : Jvm.MethodName) prog_22_method_9_code (4 : Nat) (Option.some Jvm.ClassFile.FieldType.int)) ∈ lw_all := lw_g (lw_at lw_m4 133 rfl) rfl
theorem q978 : (Jvm.Cond.methodLink "HeirsAtLaw$Reader" (91 : Nat) ({ cls := "HeirsAtLaw$Reader", name := "need", desc := "(ZI)V" } : Jvm.MethodName)) ∈ lw_all := lw_g (lw_at lw_m4 134 rfl) rfl
theorem q979 : (Jvm.Cond.methodLinkNest "HeirsAtLaw$Reader" (95 : Nat) ({ cls := "HeirsAtLaw", name := "isIn", desc := "(III)Z" } : Jvm.MethodName) "HeirsAtLaw") ∈ lw_tbl := lw_at lw_m4 135 rfl
theorem q982 : (Jvm.Cond.methodLink "HeirsAtLaw$Reader" (99 : Nat) ({ cls := "HeirsAtLaw$Reader", name := "go", desc := "()V" } : Jvm.MethodName)) ∈ lw_all := lw_g (lw_at lw_m4 138 rfl) rfl
theorem q990 : (Jvm.Cond.fieldLinkNest "HeirsAtLaw$Reader" (117 : Nat) "HeirsAtLaw$Person" "name" "Ljava/lang/String;" "HeirsAtLaw") ∈ lw_tbl := lw_at lw_m4 146 rfl
theorem q1097 : (Jvm.Cond.declares ({ cls := "HeirsAtLaw$Reader", name := "hold", desc := "()I" } : Jvm.MethodName)) ∈ lw_tbl := lw_at lw_m5 13 rfl
theorem q1099 : (Jvm.Cond.instanceMethod ({ cls := "HeirsAtLaw$Reader", name := "hold", desc := "()I" } : Jvm.MethodName)) ∈ lw_all := lw_g (lw_at lw_m5 15 rfl) rfl
theorem q1100 : (Jvm.Cond.code ({ cls := "HeirsAtLaw$Reader", name := "hold", desc := "()I" } : Jvm.MethodName) prog_22_method_12_code (2 : Nat) (Option.some Jvm.ClassFile.FieldType.int)) ∈ lw_all := lw_g (lw_at lw_m5 16 rfl) rfl
theorem q1101 : (Jvm.Cond.methodLink "HeirsAtLaw$Reader" (122 : Nat) ({ cls := "HeirsAtLaw$Reader", name := "isName", desc := "()Z" } : Jvm.MethodName)) ∈ lw_all := lw_g (lw_at lw_m5 17 rfl) rfl
theorem q1102 : (Jvm.Cond.methodLink "HeirsAtLaw$Reader" (126 : Nat) ({ cls := "HeirsAtLaw$Reader", name := "find", desc := "()I" } : Jvm.MethodName)) ∈ lw_all := lw_g (lw_at lw_m5 18 rfl) rfl
theorem q1132 : (Jvm.Cond.declares ({ cls := "HeirsAtLaw$Reader", name := "one", desc := "()I" } : Jvm.MethodName)) ∈ lw_tbl := lw_at lw_m5 48 rfl
theorem q1134 : (Jvm.Cond.instanceMethod ({ cls := "HeirsAtLaw$Reader", name := "one", desc := "()I" } : Jvm.MethodName)) ∈ lw_all := lw_g (lw_at lw_m5 50 rfl) rfl
theorem q1135 : (Jvm.Cond.code ({ cls := "HeirsAtLaw$Reader", name := "one", desc := "()I" } : Jvm.MethodName) prog_22_method_13_code (2 : Nat) (Option.some Jvm.ClassFile.FieldType.int)) ∈ lw_all := lw_g (lw_at lw_m5 51 rfl) rfl
theorem q1136 : (Jvm.Cond.methodLink "HeirsAtLaw$Reader" (129 : Nat) ({ cls := "HeirsAtLaw$Reader", name := "hold", desc := "()I" } : Jvm.MethodName)) ∈ lw_all := lw_g (lw_at lw_m5 52 rfl) rfl
theorem q1139 : (Jvm.Cond.declares ({ cls := "HeirsAtLaw$Reader", name := "other", desc := "(I)I" } : Jvm.MethodName)) ∈ lw_tbl := lw_at lw_m5 55 rfl
theorem q1141 : (Jvm.Cond.instanceMethod ({ cls := "HeirsAtLaw$Reader", name := "other", desc := "(I)I" } : Jvm.MethodName)) ∈ lw_all := lw_g (lw_at lw_m5 57 rfl) rfl
theorem q1142 : (Jvm.Cond.code ({ cls := "HeirsAtLaw$Reader", name := "other", desc := "(I)I" } : Jvm.MethodName) prog_22_method_14_code (3 : Nat) (Option.some Jvm.ClassFile.FieldType.int)) ∈ lw_all := lw_g (lw_at lw_m5 58 rfl) rfl
theorem q1174 : (Jvm.Cond.declares ({ cls := "HeirsAtLaw$Reader", name := "end", desc := "()V" } : Jvm.MethodName)) ∈ lw_tbl := lw_at lw_m5 90 rfl
theorem q1176 : (Jvm.Cond.instanceMethod ({ cls := "HeirsAtLaw$Reader", name := "end", desc := "()V" } : Jvm.MethodName)) ∈ lw_all := lw_g (lw_at lw_m5 92 rfl) rfl
theorem q1177 : (Jvm.Cond.code ({ cls := "HeirsAtLaw$Reader", name := "end", desc := "()V" } : Jvm.MethodName) prog_22_method_10_code (1 : Nat) (Option.none : Option Jvm.ClassFile.FieldType)) ∈ lw_all := lw_g (lw_at lw_m5 93 rfl) rfl
theorem q2713 : (Jvm.Cond.sameMethod "HeirsAtLaw$Reader" "HeirsAtLaw$Reader" "byteAt" "(I)I") ∈ lw_all := lw_g (lw_at lw_m11 189 rfl) rfl
theorem q2722 : (Jvm.Cond.sameMethod "HeirsAtLaw$Reader" "HeirsAtLaw$Reader" "need" "(ZI)V") ∈ lw_all := lw_g (lw_at lw_m11 198 rfl) rfl
theorem q2726 : (Jvm.Cond.sameMethod "HeirsAtLaw$Reader" "HeirsAtLaw$Reader" "go" "()V") ∈ lw_all := lw_g (lw_at lw_m11 202 rfl) rfl
theorem q2730 : (Jvm.Cond.sameMethod "HeirsAtLaw$Reader" "HeirsAtLaw$Reader" "isName" "()Z") ∈ lw_all := lw_g (lw_at lw_m11 206 rfl) rfl
theorem q2734 : (Jvm.Cond.sameMethod "HeirsAtLaw$Reader" "HeirsAtLaw$Reader" "find" "()I") ∈ lw_all := lw_g (lw_at lw_m11 210 rfl) rfl
theorem q2738 : (Jvm.Cond.sameMethod "HeirsAtLaw$Reader" "HeirsAtLaw$Reader" "hold" "()I") ∈ lw_all := lw_g (lw_at lw_m11 214 rfl) rfl
/-! HeirsAtLaw$FamilyReader -/
set_option maxRecDepth 100000
def RX7 : String := "HeirsAtLaw$FamilyReader"
def TX7 : u_T := fun k => match k with
  | 0 => ("HeirsAtLaw$Reader", "tape", "[B", true)
  | 1 => ("HeirsAtLaw$Reader", "size", "I", true)
  | 2 => ("HeirsAtLaw$Reader", "limit", "I", true)
  | 3 => ("HeirsAtLaw$Reader", "to", "I", false)
  | 4 => ("HeirsAtLaw$Reader", "f", "LHeirsAtLaw$Family;", true)
  | 5 => ("HeirsAtLaw$Reader", "kind", "I", false)
  | 6 => ("HeirsAtLaw$Reader", "from", "I", false)
  | 7 => ("HeirsAtLaw$Reader", "number", "I", false)
  | 8 => ("HeirsAtLaw$Reader", "sign", "I", false)
  | 9 => ("HeirsAtLaw$Reader", "word", "Ljava/lang/String;", false)
  | _ => ("HeirsAtLaw$FamilyReader", "hasWidow", "Z", false)
def tyX7 : Nat → FieldType := fun k => match k with
  | 0 => .array .byte
  | 1 => .int
  | 2 => .int
  | 3 => .int
  | 4 => .object "HeirsAtLaw$Family"
  | 5 => .int
  | 6 => .int
  | 7 => .int
  | 8 => .int
  | 9 => .object "java/lang/String"
  | _ => .boolean
abbrev wsX70 : List Cond := u_ws RX7 TX7 11
theorem nmX7 : ∀ a, a < 11 → ∀ b, b < 11 → a ≠ b → (TX7 a).2.1 ≠ (TX7 b).2.1 := by decide +kernel
theorem tyX7_ok : ∀ k, k < 11 → parseFieldDescriptor (TX7 k).2.2.1 = some (tyX7 k) := by decide +kernel
abbrev cX7_init : ByteArray := prog_8_method_1_code
def yX7_init : MethodName := ⟨RX7, "<init>", "([BI)V"⟩
def dkwX7_init_0 : List UInt8 := [42, 43, 28, 17, 3, 132, 187, 0, 3, 89, 183, 0, 5, 183, 0, 9, 177]
abbrev dktX7_init_0 : List UInt8 := dkwX7_init_0 ++ []
theorem dksX7_init_0 : cX7_init.data.toList.drop 0 = dktX7_init_0 := by decide +kernel
theorem dX7_init_0 : decode cX7_init 0 = .ok (.aload_n 0, 1) := dk_42 (dk_at dksX7_init_0 0 rfl rfl)
theorem dX7_init_1 : decode cX7_init 1 = .ok (.aload_n 1, 1) := dk_43 (dk_at dksX7_init_0 1 rfl rfl)
theorem dX7_init_2 : decode cX7_init 2 = .ok (.iload_n 2, 1) := dk_28 (dk_at dksX7_init_0 2 rfl rfl)
theorem dX7_init_3 : decode cX7_init 3 = .ok (.sipush 900, 3) := dk_17 3 132 (dk_at dksX7_init_0 3 rfl rfl)
theorem dX7_init_6 : decode cX7_init 6 = .ok (.new 3, 3) := dk_187 0 3 (dk_at dksX7_init_0 6 rfl rfl)
theorem dX7_init_9 : decode cX7_init 9 = .ok (.dup, 1) := dk_89 (dk_at dksX7_init_0 9 rfl rfl)
theorem dX7_init_10 : decode cX7_init 10 = .ok (.invokespecial 5, 3) := dk_183 0 5 (dk_at dksX7_init_0 10 rfl rfl)
theorem dX7_init_13 : decode cX7_init 13 = .ok (.invokespecial 9, 3) := dk_183 0 9 (dk_at dksX7_init_0 13 rfl rfl)
theorem dX7_init_16 : decode cX7_init 16 = .ok (.return_, 1) := dk_177 (dk_at dksX7_init_0 16 rfl rfl)
abbrev cX7_read : ByteArray := prog_8_method_2_code
def yX7_read : MethodName := ⟨RX7, "read", "()LHeirsAtLaw$Family;"⟩
def dkwX7_read_1 : List UInt8 := [180, 0, 33, 4, 96, 181, 0, 33, 167, 255, 228, 42, 180, 0, 29, 176]
abbrev dktX7_read_1 : List UInt8 := dkwX7_read_1 ++ []
def dkwX7_read_0 : List UInt8 := [42, 182, 0, 14, 42, 180, 0, 19, 153, 0, 27, 42, 182, 0, 23, 42, 182, 0, 26, 42, 180, 0, 29, 89]
abbrev dktX7_read_0 : List UInt8 := dkwX7_read_0 ++ dktX7_read_1
theorem dksX7_read_0 : cX7_read.data.toList.drop 0 = dktX7_read_0 := by decide +kernel
theorem dksX7_read_1 : cX7_read.data.toList.drop 24 = dktX7_read_1 := dk_seg dksX7_read_0 24 rfl rfl
theorem dX7_read_0 : decode cX7_read 0 = .ok (.aload_n 0, 1) := dk_42 (dk_at dksX7_read_0 0 rfl rfl)
theorem dX7_read_1 : decode cX7_read 1 = .ok (.invokevirtual 14, 3) := dk_182 0 14 (dk_at dksX7_read_0 1 rfl rfl)
theorem dX7_read_4 : decode cX7_read 4 = .ok (.aload_n 0, 1) := dk_42 (dk_at dksX7_read_0 4 rfl rfl)
theorem dX7_read_5 : decode cX7_read 5 = .ok (.getfield 19, 3) := dk_180 0 19 (dk_at dksX7_read_0 5 rfl rfl)
theorem dX7_read_8 : decode cX7_read 8 = .ok (.ifCond .eq 27, 3) := dk_153 0 27 (dk_at dksX7_read_0 8 rfl rfl)
theorem dX7_read_11 : decode cX7_read 11 = .ok (.aload_n 0, 1) := dk_42 (dk_at dksX7_read_0 11 rfl rfl)
theorem dX7_read_12 : decode cX7_read 12 = .ok (.invokevirtual 23, 3) := dk_182 0 23 (dk_at dksX7_read_0 12 rfl rfl)
theorem dX7_read_15 : decode cX7_read 15 = .ok (.aload_n 0, 1) := dk_42 (dk_at dksX7_read_0 15 rfl rfl)
theorem dX7_read_16 : decode cX7_read 16 = .ok (.invokevirtual 26, 3) := dk_182 0 26 (dk_at dksX7_read_0 16 rfl rfl)
theorem dX7_read_19 : decode cX7_read 19 = .ok (.aload_n 0, 1) := dk_42 (dk_at dksX7_read_0 19 rfl rfl)
theorem dX7_read_20 : decode cX7_read 20 = .ok (.getfield 29, 3) := dk_180 0 29 (dk_at dksX7_read_0 20 rfl rfl)
theorem dX7_read_23 : decode cX7_read 23 = .ok (.dup, 1) := dk_89 (dk_at dksX7_read_0 23 rfl rfl)
theorem dX7_read_24 : decode cX7_read 24 = .ok (.getfield 33, 3) := dk_180 0 33 (dk_at dksX7_read_1 0 rfl rfl)
theorem dX7_read_27 : decode cX7_read 27 = .ok (.iconst 1, 1) := dk_4 (dk_at dksX7_read_1 3 rfl rfl)
theorem dX7_read_28 : decode cX7_read 28 = .ok (.iadd, 1) := dk_96 (dk_at dksX7_read_1 4 rfl rfl)
theorem dX7_read_29 : decode cX7_read 29 = .ok (.putfield 33, 3) := dk_181 0 33 (dk_at dksX7_read_1 5 rfl rfl)
theorem dX7_read_32 : decode cX7_read 32 = .ok (.goto (-28), 3) := dk_167 255 228 (dk_at dksX7_read_1 8 rfl rfl)
theorem dX7_read_35 : decode cX7_read 35 = .ok (.aload_n 0, 1) := dk_42 (dk_at dksX7_read_1 11 rfl rfl)
theorem dX7_read_36 : decode cX7_read 36 = .ok (.getfield 29, 3) := dk_180 0 29 (dk_at dksX7_read_1 12 rfl rfl)
theorem dX7_read_39 : decode cX7_read 39 = .ok (.areturn, 1) := dk_176 (dk_at dksX7_read_1 15 rfl rfl)
abbrev cX7_line : ByteArray := prog_8_method_3_code
def yX7_line : MethodName := ⟨RX7, "line", "()V"⟩
def dkwX7_line_3 : List UInt8 := [182, 0, 38, 153, 0, 10, 42, 182, 0, 58, 167, 0, 7, 42, 182, 0, 60, 177]
abbrev dktX7_line_3 : List UInt8 := dkwX7_line_3 ++ []
def dkwX7_line_2 : List UInt8 := [167, 0, 39, 42, 18, 52, 182, 0, 38, 153, 0, 10, 42, 182, 0, 54, 167, 0, 23, 42, 18, 56]
abbrev dktX7_line_2 : List UInt8 := dkwX7_line_2 ++ dktX7_line_3
def dkwX7_line_1 : List UInt8 := [153, 0, 10, 42, 182, 0, 46, 167, 0, 55, 42, 18, 48, 182, 0, 38, 153, 0, 10, 42, 182, 0, 50]
abbrev dktX7_line_1 : List UInt8 := dkwX7_line_1 ++ dktX7_line_2
def dkwX7_line_0 : List UInt8 := [42, 18, 36, 182, 0, 38, 153, 0, 10, 42, 182, 0, 42, 167, 0, 71, 42, 18, 44, 182, 0, 38]
abbrev dktX7_line_0 : List UInt8 := dkwX7_line_0 ++ dktX7_line_1
theorem dksX7_line_0 : cX7_line.data.toList.drop 0 = dktX7_line_0 := by decide +kernel
theorem dksX7_line_1 : cX7_line.data.toList.drop 22 = dktX7_line_1 := dk_seg dksX7_line_0 22 rfl rfl
theorem dksX7_line_2 : cX7_line.data.toList.drop 45 = dktX7_line_2 := dk_seg dksX7_line_1 23 rfl rfl
theorem dksX7_line_3 : cX7_line.data.toList.drop 67 = dktX7_line_3 := dk_seg dksX7_line_2 22 rfl rfl
theorem dX7_line_0 : decode cX7_line 0 = .ok (.aload_n 0, 1) := dk_42 (dk_at dksX7_line_0 0 rfl rfl)
theorem dX7_line_1 : decode cX7_line 1 = .ok (.ldc 36, 2) := dk_18 36 (dk_at dksX7_line_0 1 rfl rfl)
theorem dX7_line_3 : decode cX7_line 3 = .ok (.invokevirtual 38, 3) := dk_182 0 38 (dk_at dksX7_line_0 3 rfl rfl)
theorem dX7_line_6 : decode cX7_line 6 = .ok (.ifCond .eq 10, 3) := dk_153 0 10 (dk_at dksX7_line_0 6 rfl rfl)
theorem dX7_line_9 : decode cX7_line 9 = .ok (.aload_n 0, 1) := dk_42 (dk_at dksX7_line_0 9 rfl rfl)
theorem dX7_line_10 : decode cX7_line 10 = .ok (.invokevirtual 42, 3) := dk_182 0 42 (dk_at dksX7_line_0 10 rfl rfl)
theorem dX7_line_13 : decode cX7_line 13 = .ok (.goto 71, 3) := dk_167 0 71 (dk_at dksX7_line_0 13 rfl rfl)
theorem dX7_line_16 : decode cX7_line 16 = .ok (.aload_n 0, 1) := dk_42 (dk_at dksX7_line_0 16 rfl rfl)
theorem dX7_line_17 : decode cX7_line 17 = .ok (.ldc 44, 2) := dk_18 44 (dk_at dksX7_line_0 17 rfl rfl)
theorem dX7_line_19 : decode cX7_line 19 = .ok (.invokevirtual 38, 3) := dk_182 0 38 (dk_at dksX7_line_0 19 rfl rfl)
theorem dX7_line_22 : decode cX7_line 22 = .ok (.ifCond .eq 10, 3) := dk_153 0 10 (dk_at dksX7_line_1 0 rfl rfl)
theorem dX7_line_25 : decode cX7_line 25 = .ok (.aload_n 0, 1) := dk_42 (dk_at dksX7_line_1 3 rfl rfl)
theorem dX7_line_26 : decode cX7_line 26 = .ok (.invokevirtual 46, 3) := dk_182 0 46 (dk_at dksX7_line_1 4 rfl rfl)
theorem dX7_line_29 : decode cX7_line 29 = .ok (.goto 55, 3) := dk_167 0 55 (dk_at dksX7_line_1 7 rfl rfl)
theorem dX7_line_32 : decode cX7_line 32 = .ok (.aload_n 0, 1) := dk_42 (dk_at dksX7_line_1 10 rfl rfl)
theorem dX7_line_33 : decode cX7_line 33 = .ok (.ldc 48, 2) := dk_18 48 (dk_at dksX7_line_1 11 rfl rfl)
theorem dX7_line_35 : decode cX7_line 35 = .ok (.invokevirtual 38, 3) := dk_182 0 38 (dk_at dksX7_line_1 13 rfl rfl)
theorem dX7_line_38 : decode cX7_line 38 = .ok (.ifCond .eq 10, 3) := dk_153 0 10 (dk_at dksX7_line_1 16 rfl rfl)
theorem dX7_line_41 : decode cX7_line 41 = .ok (.aload_n 0, 1) := dk_42 (dk_at dksX7_line_1 19 rfl rfl)
theorem dX7_line_42 : decode cX7_line 42 = .ok (.invokevirtual 50, 3) := dk_182 0 50 (dk_at dksX7_line_1 20 rfl rfl)
theorem dX7_line_45 : decode cX7_line 45 = .ok (.goto 39, 3) := dk_167 0 39 (dk_at dksX7_line_2 0 rfl rfl)
theorem dX7_line_48 : decode cX7_line 48 = .ok (.aload_n 0, 1) := dk_42 (dk_at dksX7_line_2 3 rfl rfl)
theorem dX7_line_49 : decode cX7_line 49 = .ok (.ldc 52, 2) := dk_18 52 (dk_at dksX7_line_2 4 rfl rfl)
theorem dX7_line_51 : decode cX7_line 51 = .ok (.invokevirtual 38, 3) := dk_182 0 38 (dk_at dksX7_line_2 6 rfl rfl)
theorem dX7_line_54 : decode cX7_line 54 = .ok (.ifCond .eq 10, 3) := dk_153 0 10 (dk_at dksX7_line_2 9 rfl rfl)
theorem dX7_line_57 : decode cX7_line 57 = .ok (.aload_n 0, 1) := dk_42 (dk_at dksX7_line_2 12 rfl rfl)
theorem dX7_line_58 : decode cX7_line 58 = .ok (.invokevirtual 54, 3) := dk_182 0 54 (dk_at dksX7_line_2 13 rfl rfl)
theorem dX7_line_61 : decode cX7_line 61 = .ok (.goto 23, 3) := dk_167 0 23 (dk_at dksX7_line_2 16 rfl rfl)
theorem dX7_line_64 : decode cX7_line 64 = .ok (.aload_n 0, 1) := dk_42 (dk_at dksX7_line_2 19 rfl rfl)
theorem dX7_line_65 : decode cX7_line 65 = .ok (.ldc 56, 2) := dk_18 56 (dk_at dksX7_line_2 20 rfl rfl)
theorem dX7_line_67 : decode cX7_line 67 = .ok (.invokevirtual 38, 3) := dk_182 0 38 (dk_at dksX7_line_3 0 rfl rfl)
theorem dX7_line_70 : decode cX7_line 70 = .ok (.ifCond .eq 10, 3) := dk_153 0 10 (dk_at dksX7_line_3 3 rfl rfl)
theorem dX7_line_73 : decode cX7_line 73 = .ok (.aload_n 0, 1) := dk_42 (dk_at dksX7_line_3 6 rfl rfl)
theorem dX7_line_74 : decode cX7_line 74 = .ok (.invokevirtual 58, 3) := dk_182 0 58 (dk_at dksX7_line_3 7 rfl rfl)
theorem dX7_line_77 : decode cX7_line 77 = .ok (.goto 7, 3) := dk_167 0 7 (dk_at dksX7_line_3 10 rfl rfl)
theorem dX7_line_80 : decode cX7_line 80 = .ok (.aload_n 0, 1) := dk_42 (dk_at dksX7_line_3 13 rfl rfl)
theorem dX7_line_81 : decode cX7_line 81 = .ok (.invokevirtual 60, 3) := dk_182 0 60 (dk_at dksX7_line_3 14 rfl rfl)
theorem dX7_line_84 : decode cX7_line 84 = .ok (.return_, 1) := dk_177 (dk_at dksX7_line_3 17 rfl rfl)
abbrev cX7_person : ByteArray := prog_8_method_5_code
def yX7_person : MethodName := ⟨RX7, "person", "()V"⟩
def dkwX7_person_4 : List UInt8 := [182, 0, 72, 183, 0, 101, 182, 0, 104, 87, 177]
abbrev dktX7_person_4 : List UInt8 := dkwX7_person_4 ++ []
def dkwX7_person_3 : List UInt8 := [16, 99, 182, 0, 72, 61, 42, 180, 0, 29, 180, 0, 78, 187, 0, 99, 89, 43, 28, 42, 3, 17, 3, 231]
abbrev dktX7_person_3 : List UInt8 := dkwX7_person_3 ++ dktX7_person_4
def dkwX7_person_2 : List UInt8 := [160, 0, 7, 4, 167, 0, 4, 3, 6, 182, 0, 64, 42, 180, 0, 95, 76, 42, 182, 0, 14, 42, 3]
abbrev dktX7_person_2 : List UInt8 := dkwX7_person_2 ++ dktX7_person_3
def dkwX7_person_1 : List UInt8 := [182, 0, 64, 42, 182, 0, 14, 42, 42, 182, 0, 88, 4, 182, 0, 64, 42, 42, 182, 0, 92, 2]
abbrev dktX7_person_1 : List UInt8 := dkwX7_person_1 ++ dktX7_person_2
def dkwX7_person_0 : List UInt8 := [42, 42, 180, 0, 29, 180, 0, 78, 182, 0, 82, 16, 12, 162, 0, 7, 4, 167, 0, 4, 3, 7]
abbrev dktX7_person_0 : List UInt8 := dkwX7_person_0 ++ dktX7_person_1
theorem dksX7_person_0 : cX7_person.data.toList.drop 0 = dktX7_person_0 := by decide +kernel
theorem dksX7_person_1 : cX7_person.data.toList.drop 22 = dktX7_person_1 := dk_seg dksX7_person_0 22 rfl rfl
theorem dksX7_person_2 : cX7_person.data.toList.drop 44 = dktX7_person_2 := dk_seg dksX7_person_1 22 rfl rfl
theorem dksX7_person_3 : cX7_person.data.toList.drop 67 = dktX7_person_3 := dk_seg dksX7_person_2 23 rfl rfl
theorem dksX7_person_4 : cX7_person.data.toList.drop 91 = dktX7_person_4 := dk_seg dksX7_person_3 24 rfl rfl
theorem dX7_person_0 : decode cX7_person 0 = .ok (.aload_n 0, 1) := dk_42 (dk_at dksX7_person_0 0 rfl rfl)
theorem dX7_person_1 : decode cX7_person 1 = .ok (.aload_n 0, 1) := dk_42 (dk_at dksX7_person_0 1 rfl rfl)
theorem dX7_person_2 : decode cX7_person 2 = .ok (.getfield 29, 3) := dk_180 0 29 (dk_at dksX7_person_0 2 rfl rfl)
theorem dX7_person_5 : decode cX7_person 5 = .ok (.getfield 78, 3) := dk_180 0 78 (dk_at dksX7_person_0 5 rfl rfl)
theorem dX7_person_8 : decode cX7_person 8 = .ok (.invokevirtual 82, 3) := dk_182 0 82 (dk_at dksX7_person_0 8 rfl rfl)
theorem dX7_person_11 : decode cX7_person 11 = .ok (.bipush 12, 2) := dk_16 12 (dk_at dksX7_person_0 11 rfl rfl)
theorem dX7_person_13 : decode cX7_person 13 = .ok (.if_icmp .ge 7, 3) := dk_162 0 7 (dk_at dksX7_person_0 13 rfl rfl)
theorem dX7_person_16 : decode cX7_person 16 = .ok (.iconst 1, 1) := dk_4 (dk_at dksX7_person_0 16 rfl rfl)
theorem dX7_person_17 : decode cX7_person 17 = .ok (.goto 4, 3) := dk_167 0 4 (dk_at dksX7_person_0 17 rfl rfl)
theorem dX7_person_20 : decode cX7_person 20 = .ok (.iconst 0, 1) := dk_3 (dk_at dksX7_person_0 20 rfl rfl)
theorem dX7_person_21 : decode cX7_person 21 = .ok (.iconst 4, 1) := dk_7 (dk_at dksX7_person_0 21 rfl rfl)
theorem dX7_person_22 : decode cX7_person 22 = .ok (.invokevirtual 64, 3) := dk_182 0 64 (dk_at dksX7_person_1 0 rfl rfl)
theorem dX7_person_25 : decode cX7_person 25 = .ok (.aload_n 0, 1) := dk_42 (dk_at dksX7_person_1 3 rfl rfl)
theorem dX7_person_26 : decode cX7_person 26 = .ok (.invokevirtual 14, 3) := dk_182 0 14 (dk_at dksX7_person_1 4 rfl rfl)
theorem dX7_person_29 : decode cX7_person 29 = .ok (.aload_n 0, 1) := dk_42 (dk_at dksX7_person_1 7 rfl rfl)
theorem dX7_person_30 : decode cX7_person 30 = .ok (.aload_n 0, 1) := dk_42 (dk_at dksX7_person_1 8 rfl rfl)
theorem dX7_person_31 : decode cX7_person 31 = .ok (.invokevirtual 88, 3) := dk_182 0 88 (dk_at dksX7_person_1 9 rfl rfl)
theorem dX7_person_34 : decode cX7_person 34 = .ok (.iconst 1, 1) := dk_4 (dk_at dksX7_person_1 12 rfl rfl)
theorem dX7_person_35 : decode cX7_person 35 = .ok (.invokevirtual 64, 3) := dk_182 0 64 (dk_at dksX7_person_1 13 rfl rfl)
theorem dX7_person_38 : decode cX7_person 38 = .ok (.aload_n 0, 1) := dk_42 (dk_at dksX7_person_1 16 rfl rfl)
theorem dX7_person_39 : decode cX7_person 39 = .ok (.aload_n 0, 1) := dk_42 (dk_at dksX7_person_1 17 rfl rfl)
theorem dX7_person_40 : decode cX7_person 40 = .ok (.invokevirtual 92, 3) := dk_182 0 92 (dk_at dksX7_person_1 18 rfl rfl)
theorem dX7_person_43 : decode cX7_person 43 = .ok (.iconst (-1), 1) := dk_2 (dk_at dksX7_person_1 21 rfl rfl)
theorem dX7_person_44 : decode cX7_person 44 = .ok (.if_icmp .ne 7, 3) := dk_160 0 7 (dk_at dksX7_person_2 0 rfl rfl)
theorem dX7_person_47 : decode cX7_person 47 = .ok (.iconst 1, 1) := dk_4 (dk_at dksX7_person_2 3 rfl rfl)
theorem dX7_person_48 : decode cX7_person 48 = .ok (.goto 4, 3) := dk_167 0 4 (dk_at dksX7_person_2 4 rfl rfl)
theorem dX7_person_51 : decode cX7_person 51 = .ok (.iconst 0, 1) := dk_3 (dk_at dksX7_person_2 7 rfl rfl)
theorem dX7_person_52 : decode cX7_person 52 = .ok (.iconst 3, 1) := dk_6 (dk_at dksX7_person_2 8 rfl rfl)
theorem dX7_person_53 : decode cX7_person 53 = .ok (.invokevirtual 64, 3) := dk_182 0 64 (dk_at dksX7_person_2 9 rfl rfl)
theorem dX7_person_56 : decode cX7_person 56 = .ok (.aload_n 0, 1) := dk_42 (dk_at dksX7_person_2 12 rfl rfl)
theorem dX7_person_57 : decode cX7_person 57 = .ok (.getfield 95, 3) := dk_180 0 95 (dk_at dksX7_person_2 13 rfl rfl)
theorem dX7_person_60 : decode cX7_person 60 = .ok (.astore_n 1, 1) := dk_76 (dk_at dksX7_person_2 16 rfl rfl)
theorem dX7_person_61 : decode cX7_person 61 = .ok (.aload_n 0, 1) := dk_42 (dk_at dksX7_person_2 17 rfl rfl)
theorem dX7_person_62 : decode cX7_person 62 = .ok (.invokevirtual 14, 3) := dk_182 0 14 (dk_at dksX7_person_2 18 rfl rfl)
theorem dX7_person_65 : decode cX7_person 65 = .ok (.aload_n 0, 1) := dk_42 (dk_at dksX7_person_2 21 rfl rfl)
theorem dX7_person_66 : decode cX7_person 66 = .ok (.iconst 0, 1) := dk_3 (dk_at dksX7_person_2 22 rfl rfl)
theorem dX7_person_67 : decode cX7_person 67 = .ok (.bipush 99, 2) := dk_16 99 (dk_at dksX7_person_3 0 rfl rfl)
theorem dX7_person_69 : decode cX7_person 69 = .ok (.invokevirtual 72, 3) := dk_182 0 72 (dk_at dksX7_person_3 2 rfl rfl)
theorem dX7_person_72 : decode cX7_person 72 = .ok (.istore_n 2, 1) := dk_61 (dk_at dksX7_person_3 5 rfl rfl)
theorem dX7_person_73 : decode cX7_person 73 = .ok (.aload_n 0, 1) := dk_42 (dk_at dksX7_person_3 6 rfl rfl)
theorem dX7_person_74 : decode cX7_person 74 = .ok (.getfield 29, 3) := dk_180 0 29 (dk_at dksX7_person_3 7 rfl rfl)
theorem dX7_person_77 : decode cX7_person 77 = .ok (.getfield 78, 3) := dk_180 0 78 (dk_at dksX7_person_3 10 rfl rfl)
theorem dX7_person_80 : decode cX7_person 80 = .ok (.new 99, 3) := dk_187 0 99 (dk_at dksX7_person_3 13 rfl rfl)
theorem dX7_person_83 : decode cX7_person 83 = .ok (.dup, 1) := dk_89 (dk_at dksX7_person_3 16 rfl rfl)
theorem dX7_person_84 : decode cX7_person 84 = .ok (.aload_n 1, 1) := dk_43 (dk_at dksX7_person_3 17 rfl rfl)
theorem dX7_person_85 : decode cX7_person 85 = .ok (.iload_n 2, 1) := dk_28 (dk_at dksX7_person_3 18 rfl rfl)
theorem dX7_person_86 : decode cX7_person 86 = .ok (.aload_n 0, 1) := dk_42 (dk_at dksX7_person_3 19 rfl rfl)
theorem dX7_person_87 : decode cX7_person 87 = .ok (.iconst 0, 1) := dk_3 (dk_at dksX7_person_3 20 rfl rfl)
theorem dX7_person_88 : decode cX7_person 88 = .ok (.sipush 999, 3) := dk_17 3 231 (dk_at dksX7_person_3 21 rfl rfl)
theorem dX7_person_91 : decode cX7_person 91 = .ok (.invokevirtual 72, 3) := dk_182 0 72 (dk_at dksX7_person_4 0 rfl rfl)
theorem dX7_person_94 : decode cX7_person 94 = .ok (.invokespecial 101, 3) := dk_183 0 101 (dk_at dksX7_person_4 3 rfl rfl)
theorem dX7_person_97 : decode cX7_person 97 = .ok (.invokevirtual 104, 3) := dk_182 0 104 (dk_at dksX7_person_4 6 rfl rfl)
theorem dX7_person_100 : decode cX7_person 100 = .ok (.pop, 1) := dk_87 (dk_at dksX7_person_4 9 rfl rfl)
theorem dX7_person_101 : decode cX7_person 101 = .ok (.return_, 1) := dk_177 (dk_at dksX7_person_4 10 rfl rfl)
abbrev cX7_parent : ByteArray := prog_8_method_6_code
def yX7_parent : MethodName := ⟨RX7, "parent", "()V"⟩
def dkwX7_parent_6 : List UInt8 := [180, 0, 29, 89, 180, 0, 131, 4, 96, 181, 0, 131, 177]
abbrev dktX7_parent_6 : List UInt8 := dkwX7_parent_6 ++ []
def dkwX7_parent_5 : List UInt8 := [181, 0, 114, 42, 180, 0, 29, 28, 182, 0, 111, 89, 180, 0, 128, 4, 27, 120, 128, 181, 0, 128, 42]
abbrev dktX7_parent_5 : List UInt8 := dkwX7_parent_5 ++ dktX7_parent_6
def dkwX7_parent_4 : List UInt8 := [182, 0, 64, 42, 182, 0, 14, 42, 180, 0, 29, 27, 182, 0, 111, 89, 180, 0, 114, 4, 28, 120, 128]
abbrev dktX7_parent_4 : List UInt8 := dkwX7_parent_4 ++ dktX7_parent_5
def dkwX7_parent_3 : List UInt8 := [42, 180, 0, 29, 27, 182, 0, 111, 180, 0, 114, 28, 184, 0, 124, 154, 0, 7, 4, 167, 0, 4, 3, 6]
abbrev dktX7_parent_3 : List UInt8 := dkwX7_parent_3 ++ dktX7_parent_4
def dkwX7_parent_2 : List UInt8 := [180, 0, 29, 28, 182, 0, 111, 180, 0, 121, 42, 180, 0, 29, 27, 182, 0, 111, 180, 0, 121, 162, 0, 25]
abbrev dktX7_parent_2 : List UInt8 := dkwX7_parent_2 ++ dktX7_parent_3
def dkwX7_parent_1 : List UInt8 := [5, 162, 0, 7, 4, 167, 0, 4, 3, 7, 182, 0, 64, 42, 182, 0, 14, 42, 182, 0, 108, 61, 42, 42]
abbrev dktX7_parent_1 : List UInt8 := dkwX7_parent_1 ++ dktX7_parent_2
def dkwX7_parent_0 : List UInt8 := [42, 182, 0, 14, 42, 182, 0, 108, 60, 42, 42, 180, 0, 29, 27, 182, 0, 111, 180, 0, 114, 184, 0, 117]
abbrev dktX7_parent_0 : List UInt8 := dkwX7_parent_0 ++ dktX7_parent_1
theorem dksX7_parent_0 : cX7_parent.data.toList.drop 0 = dktX7_parent_0 := by decide +kernel
theorem dksX7_parent_1 : cX7_parent.data.toList.drop 24 = dktX7_parent_1 := dk_seg dksX7_parent_0 24 rfl rfl
theorem dksX7_parent_2 : cX7_parent.data.toList.drop 48 = dktX7_parent_2 := dk_seg dksX7_parent_1 24 rfl rfl
theorem dksX7_parent_3 : cX7_parent.data.toList.drop 72 = dktX7_parent_3 := dk_seg dksX7_parent_2 24 rfl rfl
theorem dksX7_parent_4 : cX7_parent.data.toList.drop 96 = dktX7_parent_4 := dk_seg dksX7_parent_3 24 rfl rfl
theorem dksX7_parent_5 : cX7_parent.data.toList.drop 119 = dktX7_parent_5 := dk_seg dksX7_parent_4 23 rfl rfl
theorem dksX7_parent_6 : cX7_parent.data.toList.drop 142 = dktX7_parent_6 := dk_seg dksX7_parent_5 23 rfl rfl
theorem dX7_parent_0 : decode cX7_parent 0 = .ok (.aload_n 0, 1) := dk_42 (dk_at dksX7_parent_0 0 rfl rfl)
theorem dX7_parent_1 : decode cX7_parent 1 = .ok (.invokevirtual 14, 3) := dk_182 0 14 (dk_at dksX7_parent_0 1 rfl rfl)
theorem dX7_parent_4 : decode cX7_parent 4 = .ok (.aload_n 0, 1) := dk_42 (dk_at dksX7_parent_0 4 rfl rfl)
theorem dX7_parent_5 : decode cX7_parent 5 = .ok (.invokevirtual 108, 3) := dk_182 0 108 (dk_at dksX7_parent_0 5 rfl rfl)
theorem dX7_parent_8 : decode cX7_parent 8 = .ok (.istore_n 1, 1) := dk_60 (dk_at dksX7_parent_0 8 rfl rfl)
theorem dX7_parent_9 : decode cX7_parent 9 = .ok (.aload_n 0, 1) := dk_42 (dk_at dksX7_parent_0 9 rfl rfl)
theorem dX7_parent_10 : decode cX7_parent 10 = .ok (.aload_n 0, 1) := dk_42 (dk_at dksX7_parent_0 10 rfl rfl)
theorem dX7_parent_11 : decode cX7_parent 11 = .ok (.getfield 29, 3) := dk_180 0 29 (dk_at dksX7_parent_0 11 rfl rfl)
theorem dX7_parent_14 : decode cX7_parent 14 = .ok (.iload_n 1, 1) := dk_27 (dk_at dksX7_parent_0 14 rfl rfl)
theorem dX7_parent_15 : decode cX7_parent 15 = .ok (.invokevirtual 111, 3) := dk_182 0 111 (dk_at dksX7_parent_0 15 rfl rfl)
theorem dX7_parent_18 : decode cX7_parent 18 = .ok (.getfield 114, 3) := dk_180 0 114 (dk_at dksX7_parent_0 18 rfl rfl)
theorem dX7_parent_21 : decode cX7_parent 21 = .ok (.invokestatic 117, 3) := dk_184 0 117 (dk_at dksX7_parent_0 21 rfl rfl)
theorem dX7_parent_24 : decode cX7_parent 24 = .ok (.iconst 2, 1) := dk_5 (dk_at dksX7_parent_1 0 rfl rfl)
theorem dX7_parent_25 : decode cX7_parent 25 = .ok (.if_icmp .ge 7, 3) := dk_162 0 7 (dk_at dksX7_parent_1 1 rfl rfl)
theorem dX7_parent_28 : decode cX7_parent 28 = .ok (.iconst 1, 1) := dk_4 (dk_at dksX7_parent_1 4 rfl rfl)
theorem dX7_parent_29 : decode cX7_parent 29 = .ok (.goto 4, 3) := dk_167 0 4 (dk_at dksX7_parent_1 5 rfl rfl)
theorem dX7_parent_32 : decode cX7_parent 32 = .ok (.iconst 0, 1) := dk_3 (dk_at dksX7_parent_1 8 rfl rfl)
theorem dX7_parent_33 : decode cX7_parent 33 = .ok (.iconst 4, 1) := dk_7 (dk_at dksX7_parent_1 9 rfl rfl)
theorem dX7_parent_34 : decode cX7_parent 34 = .ok (.invokevirtual 64, 3) := dk_182 0 64 (dk_at dksX7_parent_1 10 rfl rfl)
theorem dX7_parent_37 : decode cX7_parent 37 = .ok (.aload_n 0, 1) := dk_42 (dk_at dksX7_parent_1 13 rfl rfl)
theorem dX7_parent_38 : decode cX7_parent 38 = .ok (.invokevirtual 14, 3) := dk_182 0 14 (dk_at dksX7_parent_1 14 rfl rfl)
theorem dX7_parent_41 : decode cX7_parent 41 = .ok (.aload_n 0, 1) := dk_42 (dk_at dksX7_parent_1 17 rfl rfl)
theorem dX7_parent_42 : decode cX7_parent 42 = .ok (.invokevirtual 108, 3) := dk_182 0 108 (dk_at dksX7_parent_1 18 rfl rfl)
theorem dX7_parent_45 : decode cX7_parent 45 = .ok (.istore_n 2, 1) := dk_61 (dk_at dksX7_parent_1 21 rfl rfl)
theorem dX7_parent_46 : decode cX7_parent 46 = .ok (.aload_n 0, 1) := dk_42 (dk_at dksX7_parent_1 22 rfl rfl)
theorem dX7_parent_47 : decode cX7_parent 47 = .ok (.aload_n 0, 1) := dk_42 (dk_at dksX7_parent_1 23 rfl rfl)
theorem dX7_parent_48 : decode cX7_parent 48 = .ok (.getfield 29, 3) := dk_180 0 29 (dk_at dksX7_parent_2 0 rfl rfl)
theorem dX7_parent_51 : decode cX7_parent 51 = .ok (.iload_n 2, 1) := dk_28 (dk_at dksX7_parent_2 3 rfl rfl)
theorem dX7_parent_52 : decode cX7_parent 52 = .ok (.invokevirtual 111, 3) := dk_182 0 111 (dk_at dksX7_parent_2 4 rfl rfl)
theorem dX7_parent_55 : decode cX7_parent 55 = .ok (.getfield 121, 3) := dk_180 0 121 (dk_at dksX7_parent_2 7 rfl rfl)
theorem dX7_parent_58 : decode cX7_parent 58 = .ok (.aload_n 0, 1) := dk_42 (dk_at dksX7_parent_2 10 rfl rfl)
theorem dX7_parent_59 : decode cX7_parent 59 = .ok (.getfield 29, 3) := dk_180 0 29 (dk_at dksX7_parent_2 11 rfl rfl)
theorem dX7_parent_62 : decode cX7_parent 62 = .ok (.iload_n 1, 1) := dk_27 (dk_at dksX7_parent_2 14 rfl rfl)
theorem dX7_parent_63 : decode cX7_parent 63 = .ok (.invokevirtual 111, 3) := dk_182 0 111 (dk_at dksX7_parent_2 15 rfl rfl)
theorem dX7_parent_66 : decode cX7_parent 66 = .ok (.getfield 121, 3) := dk_180 0 121 (dk_at dksX7_parent_2 18 rfl rfl)
theorem dX7_parent_69 : decode cX7_parent 69 = .ok (.if_icmp .ge 25, 3) := dk_162 0 25 (dk_at dksX7_parent_2 21 rfl rfl)
theorem dX7_parent_72 : decode cX7_parent 72 = .ok (.aload_n 0, 1) := dk_42 (dk_at dksX7_parent_3 0 rfl rfl)
theorem dX7_parent_73 : decode cX7_parent 73 = .ok (.getfield 29, 3) := dk_180 0 29 (dk_at dksX7_parent_3 1 rfl rfl)
theorem dX7_parent_76 : decode cX7_parent 76 = .ok (.iload_n 1, 1) := dk_27 (dk_at dksX7_parent_3 4 rfl rfl)
theorem dX7_parent_77 : decode cX7_parent 77 = .ok (.invokevirtual 111, 3) := dk_182 0 111 (dk_at dksX7_parent_3 5 rfl rfl)
theorem dX7_parent_80 : decode cX7_parent 80 = .ok (.getfield 114, 3) := dk_180 0 114 (dk_at dksX7_parent_3 8 rfl rfl)
theorem dX7_parent_83 : decode cX7_parent 83 = .ok (.iload_n 2, 1) := dk_28 (dk_at dksX7_parent_3 11 rfl rfl)
theorem dX7_parent_84 : decode cX7_parent 84 = .ok (.invokestatic 124, 3) := dk_184 0 124 (dk_at dksX7_parent_3 12 rfl rfl)
theorem dX7_parent_87 : decode cX7_parent 87 = .ok (.ifCond .ne 7, 3) := dk_154 0 7 (dk_at dksX7_parent_3 15 rfl rfl)
theorem dX7_parent_90 : decode cX7_parent 90 = .ok (.iconst 1, 1) := dk_4 (dk_at dksX7_parent_3 18 rfl rfl)
theorem dX7_parent_91 : decode cX7_parent 91 = .ok (.goto 4, 3) := dk_167 0 4 (dk_at dksX7_parent_3 19 rfl rfl)
theorem dX7_parent_94 : decode cX7_parent 94 = .ok (.iconst 0, 1) := dk_3 (dk_at dksX7_parent_3 22 rfl rfl)
theorem dX7_parent_95 : decode cX7_parent 95 = .ok (.iconst 3, 1) := dk_6 (dk_at dksX7_parent_3 23 rfl rfl)
theorem dX7_parent_96 : decode cX7_parent 96 = .ok (.invokevirtual 64, 3) := dk_182 0 64 (dk_at dksX7_parent_4 0 rfl rfl)
theorem dX7_parent_99 : decode cX7_parent 99 = .ok (.aload_n 0, 1) := dk_42 (dk_at dksX7_parent_4 3 rfl rfl)
theorem dX7_parent_100 : decode cX7_parent 100 = .ok (.invokevirtual 14, 3) := dk_182 0 14 (dk_at dksX7_parent_4 4 rfl rfl)
theorem dX7_parent_103 : decode cX7_parent 103 = .ok (.aload_n 0, 1) := dk_42 (dk_at dksX7_parent_4 7 rfl rfl)
theorem dX7_parent_104 : decode cX7_parent 104 = .ok (.getfield 29, 3) := dk_180 0 29 (dk_at dksX7_parent_4 8 rfl rfl)
theorem dX7_parent_107 : decode cX7_parent 107 = .ok (.iload_n 1, 1) := dk_27 (dk_at dksX7_parent_4 11 rfl rfl)
theorem dX7_parent_108 : decode cX7_parent 108 = .ok (.invokevirtual 111, 3) := dk_182 0 111 (dk_at dksX7_parent_4 12 rfl rfl)
theorem dX7_parent_111 : decode cX7_parent 111 = .ok (.dup, 1) := dk_89 (dk_at dksX7_parent_4 15 rfl rfl)
theorem dX7_parent_112 : decode cX7_parent 112 = .ok (.getfield 114, 3) := dk_180 0 114 (dk_at dksX7_parent_4 16 rfl rfl)
theorem dX7_parent_115 : decode cX7_parent 115 = .ok (.iconst 1, 1) := dk_4 (dk_at dksX7_parent_4 19 rfl rfl)
theorem dX7_parent_116 : decode cX7_parent 116 = .ok (.iload_n 2, 1) := dk_28 (dk_at dksX7_parent_4 20 rfl rfl)
theorem dX7_parent_117 : decode cX7_parent 117 = .ok (.ishl, 1) := dk_120 (dk_at dksX7_parent_4 21 rfl rfl)
theorem dX7_parent_118 : decode cX7_parent 118 = .ok (.ior, 1) := dk_128 (dk_at dksX7_parent_4 22 rfl rfl)
theorem dX7_parent_119 : decode cX7_parent 119 = .ok (.putfield 114, 3) := dk_181 0 114 (dk_at dksX7_parent_5 0 rfl rfl)
theorem dX7_parent_122 : decode cX7_parent 122 = .ok (.aload_n 0, 1) := dk_42 (dk_at dksX7_parent_5 3 rfl rfl)
theorem dX7_parent_123 : decode cX7_parent 123 = .ok (.getfield 29, 3) := dk_180 0 29 (dk_at dksX7_parent_5 4 rfl rfl)
theorem dX7_parent_126 : decode cX7_parent 126 = .ok (.iload_n 2, 1) := dk_28 (dk_at dksX7_parent_5 7 rfl rfl)
theorem dX7_parent_127 : decode cX7_parent 127 = .ok (.invokevirtual 111, 3) := dk_182 0 111 (dk_at dksX7_parent_5 8 rfl rfl)
theorem dX7_parent_130 : decode cX7_parent 130 = .ok (.dup, 1) := dk_89 (dk_at dksX7_parent_5 11 rfl rfl)
theorem dX7_parent_131 : decode cX7_parent 131 = .ok (.getfield 128, 3) := dk_180 0 128 (dk_at dksX7_parent_5 12 rfl rfl)
theorem dX7_parent_134 : decode cX7_parent 134 = .ok (.iconst 1, 1) := dk_4 (dk_at dksX7_parent_5 15 rfl rfl)
theorem dX7_parent_135 : decode cX7_parent 135 = .ok (.iload_n 1, 1) := dk_27 (dk_at dksX7_parent_5 16 rfl rfl)
theorem dX7_parent_136 : decode cX7_parent 136 = .ok (.ishl, 1) := dk_120 (dk_at dksX7_parent_5 17 rfl rfl)
theorem dX7_parent_137 : decode cX7_parent 137 = .ok (.ior, 1) := dk_128 (dk_at dksX7_parent_5 18 rfl rfl)
theorem dX7_parent_138 : decode cX7_parent 138 = .ok (.putfield 128, 3) := dk_181 0 128 (dk_at dksX7_parent_5 19 rfl rfl)
theorem dX7_parent_141 : decode cX7_parent 141 = .ok (.aload_n 0, 1) := dk_42 (dk_at dksX7_parent_5 22 rfl rfl)
theorem dX7_parent_142 : decode cX7_parent 142 = .ok (.getfield 29, 3) := dk_180 0 29 (dk_at dksX7_parent_6 0 rfl rfl)
theorem dX7_parent_145 : decode cX7_parent 145 = .ok (.dup, 1) := dk_89 (dk_at dksX7_parent_6 3 rfl rfl)
theorem dX7_parent_146 : decode cX7_parent 146 = .ok (.getfield 131, 3) := dk_180 0 131 (dk_at dksX7_parent_6 4 rfl rfl)
theorem dX7_parent_149 : decode cX7_parent 149 = .ok (.iconst 1, 1) := dk_4 (dk_at dksX7_parent_6 7 rfl rfl)
theorem dX7_parent_150 : decode cX7_parent 150 = .ok (.iadd, 1) := dk_96 (dk_at dksX7_parent_6 8 rfl rfl)
theorem dX7_parent_151 : decode cX7_parent 151 = .ok (.putfield 131, 3) := dk_181 0 131 (dk_at dksX7_parent_6 9 rfl rfl)
theorem dX7_parent_154 : decode cX7_parent 154 = .ok (.return_, 1) := dk_177 (dk_at dksX7_parent_6 12 rfl rfl)
abbrev cX7_wed : ByteArray := prog_8_method_8_code
def yX7_wed : MethodName := ⟨RX7, "wed", "()V"⟩
def dkwX7_wed_2 : List UInt8 := [181, 0, 134, 42, 180, 0, 29, 28, 182, 0, 111, 27, 181, 0, 134, 177]
abbrev dktX7_wed_2 : List UInt8 := dkwX7_wed_2 ++ []
def dkwX7_wed_1 : List UInt8 := [4, 167, 0, 4, 3, 6, 182, 0, 64, 42, 182, 0, 14, 42, 180, 0, 29, 27, 182, 0, 111, 28]
abbrev dktX7_wed_1 : List UInt8 := dkwX7_wed_1 ++ dktX7_wed_2
def dkwX7_wed_0 : List UInt8 := [42, 182, 0, 14, 42, 182, 0, 137, 60, 42, 182, 0, 14, 42, 182, 0, 137, 61, 42, 27, 28, 159, 0, 7]
abbrev dktX7_wed_0 : List UInt8 := dkwX7_wed_0 ++ dktX7_wed_1
theorem dksX7_wed_0 : cX7_wed.data.toList.drop 0 = dktX7_wed_0 := by decide +kernel
theorem dksX7_wed_1 : cX7_wed.data.toList.drop 24 = dktX7_wed_1 := dk_seg dksX7_wed_0 24 rfl rfl
theorem dksX7_wed_2 : cX7_wed.data.toList.drop 46 = dktX7_wed_2 := dk_seg dksX7_wed_1 22 rfl rfl
theorem dX7_wed_0 : decode cX7_wed 0 = .ok (.aload_n 0, 1) := dk_42 (dk_at dksX7_wed_0 0 rfl rfl)
theorem dX7_wed_1 : decode cX7_wed 1 = .ok (.invokevirtual 14, 3) := dk_182 0 14 (dk_at dksX7_wed_0 1 rfl rfl)
theorem dX7_wed_4 : decode cX7_wed 4 = .ok (.aload_n 0, 1) := dk_42 (dk_at dksX7_wed_0 4 rfl rfl)
theorem dX7_wed_5 : decode cX7_wed 5 = .ok (.invokevirtual 137, 3) := dk_182 0 137 (dk_at dksX7_wed_0 5 rfl rfl)
theorem dX7_wed_8 : decode cX7_wed 8 = .ok (.istore_n 1, 1) := dk_60 (dk_at dksX7_wed_0 8 rfl rfl)
theorem dX7_wed_9 : decode cX7_wed 9 = .ok (.aload_n 0, 1) := dk_42 (dk_at dksX7_wed_0 9 rfl rfl)
theorem dX7_wed_10 : decode cX7_wed 10 = .ok (.invokevirtual 14, 3) := dk_182 0 14 (dk_at dksX7_wed_0 10 rfl rfl)
theorem dX7_wed_13 : decode cX7_wed 13 = .ok (.aload_n 0, 1) := dk_42 (dk_at dksX7_wed_0 13 rfl rfl)
theorem dX7_wed_14 : decode cX7_wed 14 = .ok (.invokevirtual 137, 3) := dk_182 0 137 (dk_at dksX7_wed_0 14 rfl rfl)
theorem dX7_wed_17 : decode cX7_wed 17 = .ok (.istore_n 2, 1) := dk_61 (dk_at dksX7_wed_0 17 rfl rfl)
theorem dX7_wed_18 : decode cX7_wed 18 = .ok (.aload_n 0, 1) := dk_42 (dk_at dksX7_wed_0 18 rfl rfl)
theorem dX7_wed_19 : decode cX7_wed 19 = .ok (.iload_n 1, 1) := dk_27 (dk_at dksX7_wed_0 19 rfl rfl)
theorem dX7_wed_20 : decode cX7_wed 20 = .ok (.iload_n 2, 1) := dk_28 (dk_at dksX7_wed_0 20 rfl rfl)
theorem dX7_wed_21 : decode cX7_wed 21 = .ok (.if_icmp .eq 7, 3) := dk_159 0 7 (dk_at dksX7_wed_0 21 rfl rfl)
theorem dX7_wed_24 : decode cX7_wed 24 = .ok (.iconst 1, 1) := dk_4 (dk_at dksX7_wed_1 0 rfl rfl)
theorem dX7_wed_25 : decode cX7_wed 25 = .ok (.goto 4, 3) := dk_167 0 4 (dk_at dksX7_wed_1 1 rfl rfl)
theorem dX7_wed_28 : decode cX7_wed 28 = .ok (.iconst 0, 1) := dk_3 (dk_at dksX7_wed_1 4 rfl rfl)
theorem dX7_wed_29 : decode cX7_wed 29 = .ok (.iconst 3, 1) := dk_6 (dk_at dksX7_wed_1 5 rfl rfl)
theorem dX7_wed_30 : decode cX7_wed 30 = .ok (.invokevirtual 64, 3) := dk_182 0 64 (dk_at dksX7_wed_1 6 rfl rfl)
theorem dX7_wed_33 : decode cX7_wed 33 = .ok (.aload_n 0, 1) := dk_42 (dk_at dksX7_wed_1 9 rfl rfl)
theorem dX7_wed_34 : decode cX7_wed 34 = .ok (.invokevirtual 14, 3) := dk_182 0 14 (dk_at dksX7_wed_1 10 rfl rfl)
theorem dX7_wed_37 : decode cX7_wed 37 = .ok (.aload_n 0, 1) := dk_42 (dk_at dksX7_wed_1 13 rfl rfl)
theorem dX7_wed_38 : decode cX7_wed 38 = .ok (.getfield 29, 3) := dk_180 0 29 (dk_at dksX7_wed_1 14 rfl rfl)
theorem dX7_wed_41 : decode cX7_wed 41 = .ok (.iload_n 1, 1) := dk_27 (dk_at dksX7_wed_1 17 rfl rfl)
theorem dX7_wed_42 : decode cX7_wed 42 = .ok (.invokevirtual 111, 3) := dk_182 0 111 (dk_at dksX7_wed_1 18 rfl rfl)
theorem dX7_wed_45 : decode cX7_wed 45 = .ok (.iload_n 2, 1) := dk_28 (dk_at dksX7_wed_1 21 rfl rfl)
theorem dX7_wed_46 : decode cX7_wed 46 = .ok (.putfield 134, 3) := dk_181 0 134 (dk_at dksX7_wed_2 0 rfl rfl)
theorem dX7_wed_49 : decode cX7_wed 49 = .ok (.aload_n 0, 1) := dk_42 (dk_at dksX7_wed_2 3 rfl rfl)
theorem dX7_wed_50 : decode cX7_wed 50 = .ok (.getfield 29, 3) := dk_180 0 29 (dk_at dksX7_wed_2 4 rfl rfl)
theorem dX7_wed_53 : decode cX7_wed 53 = .ok (.iload_n 2, 1) := dk_28 (dk_at dksX7_wed_2 7 rfl rfl)
theorem dX7_wed_54 : decode cX7_wed 54 = .ok (.invokevirtual 111, 3) := dk_182 0 111 (dk_at dksX7_wed_2 8 rfl rfl)
theorem dX7_wed_57 : decode cX7_wed 57 = .ok (.iload_n 1, 1) := dk_27 (dk_at dksX7_wed_2 11 rfl rfl)
theorem dX7_wed_58 : decode cX7_wed 58 = .ok (.putfield 134, 3) := dk_181 0 134 (dk_at dksX7_wed_2 12 rfl rfl)
theorem dX7_wed_61 : decode cX7_wed 61 = .ok (.return_, 1) := dk_177 (dk_at dksX7_wed_2 15 rfl rfl)
abbrev cX7_single : ByteArray := prog_8_method_7_code
def yX7_single : MethodName := ⟨RX7, "single", "()I"⟩
def dkwX7_single_1 : List UInt8 := [167, 0, 4, 3, 6, 182, 0, 64, 27, 172]
abbrev dktX7_single_1 : List UInt8 := dkwX7_single_1 ++ []
def dkwX7_single_0 : List UInt8 := [42, 182, 0, 108, 60, 42, 42, 180, 0, 29, 27, 182, 0, 111, 180, 0, 134, 2, 160, 0, 7, 4]
abbrev dktX7_single_0 : List UInt8 := dkwX7_single_0 ++ dktX7_single_1
theorem dksX7_single_0 : cX7_single.data.toList.drop 0 = dktX7_single_0 := by decide +kernel
theorem dksX7_single_1 : cX7_single.data.toList.drop 22 = dktX7_single_1 := dk_seg dksX7_single_0 22 rfl rfl
theorem dX7_single_0 : decode cX7_single 0 = .ok (.aload_n 0, 1) := dk_42 (dk_at dksX7_single_0 0 rfl rfl)
theorem dX7_single_1 : decode cX7_single 1 = .ok (.invokevirtual 108, 3) := dk_182 0 108 (dk_at dksX7_single_0 1 rfl rfl)
theorem dX7_single_4 : decode cX7_single 4 = .ok (.istore_n 1, 1) := dk_60 (dk_at dksX7_single_0 4 rfl rfl)
theorem dX7_single_5 : decode cX7_single 5 = .ok (.aload_n 0, 1) := dk_42 (dk_at dksX7_single_0 5 rfl rfl)
theorem dX7_single_6 : decode cX7_single 6 = .ok (.aload_n 0, 1) := dk_42 (dk_at dksX7_single_0 6 rfl rfl)
theorem dX7_single_7 : decode cX7_single 7 = .ok (.getfield 29, 3) := dk_180 0 29 (dk_at dksX7_single_0 7 rfl rfl)
theorem dX7_single_10 : decode cX7_single 10 = .ok (.iload_n 1, 1) := dk_27 (dk_at dksX7_single_0 10 rfl rfl)
theorem dX7_single_11 : decode cX7_single 11 = .ok (.invokevirtual 111, 3) := dk_182 0 111 (dk_at dksX7_single_0 11 rfl rfl)
theorem dX7_single_14 : decode cX7_single 14 = .ok (.getfield 134, 3) := dk_180 0 134 (dk_at dksX7_single_0 14 rfl rfl)
theorem dX7_single_17 : decode cX7_single 17 = .ok (.iconst (-1), 1) := dk_2 (dk_at dksX7_single_0 17 rfl rfl)
theorem dX7_single_18 : decode cX7_single 18 = .ok (.if_icmp .ne 7, 3) := dk_160 0 7 (dk_at dksX7_single_0 18 rfl rfl)
theorem dX7_single_21 : decode cX7_single 21 = .ok (.iconst 1, 1) := dk_4 (dk_at dksX7_single_0 21 rfl rfl)
theorem dX7_single_22 : decode cX7_single 22 = .ok (.goto 4, 3) := dk_167 0 4 (dk_at dksX7_single_1 0 rfl rfl)
theorem dX7_single_25 : decode cX7_single 25 = .ok (.iconst 0, 1) := dk_3 (dk_at dksX7_single_1 3 rfl rfl)
theorem dX7_single_26 : decode cX7_single 26 = .ok (.iconst 3, 1) := dk_6 (dk_at dksX7_single_1 4 rfl rfl)
theorem dX7_single_27 : decode cX7_single 27 = .ok (.invokevirtual 64, 3) := dk_182 0 64 (dk_at dksX7_single_1 5 rfl rfl)
theorem dX7_single_30 : decode cX7_single 30 = .ok (.iload_n 1, 1) := dk_27 (dk_at dksX7_single_1 8 rfl rfl)
theorem dX7_single_31 : decode cX7_single 31 = .ok (.ireturn, 1) := dk_172 (dk_at dksX7_single_1 9 rfl rfl)
abbrev cX7_will : ByteArray := prog_8_method_9_code
def yX7_will : MethodName := ⟨RX7, "will", "()V"⟩
def dkwX7_will_3 : List UInt8 := [177]
abbrev dktX7_will_3 : List UInt8 := dkwX7_will_3 ++ []
def dkwX7_will_2 : List UInt8 := [180, 0, 140, 187, 0, 149, 89, 27, 28, 42, 4, 17, 3, 231, 182, 0, 72, 183, 0, 151, 182, 0, 104, 87]
abbrev dktX7_will_2 : List UInt8 := dkwX7_will_2 ++ dktX7_will_3
def dkwX7_will_1 : List UInt8 := [182, 0, 64, 42, 182, 0, 14, 42, 182, 0, 143, 60, 42, 27, 182, 0, 146, 61, 42, 180, 0, 29]
abbrev dktX7_will_1 : List UInt8 := dkwX7_will_1 ++ dktX7_will_2
def dkwX7_will_0 : List UInt8 := [42, 42, 180, 0, 29, 180, 0, 140, 182, 0, 82, 16, 12, 162, 0, 7, 4, 167, 0, 4, 3, 7]
abbrev dktX7_will_0 : List UInt8 := dkwX7_will_0 ++ dktX7_will_1
theorem dksX7_will_0 : cX7_will.data.toList.drop 0 = dktX7_will_0 := by decide +kernel
theorem dksX7_will_1 : cX7_will.data.toList.drop 22 = dktX7_will_1 := dk_seg dksX7_will_0 22 rfl rfl
theorem dksX7_will_2 : cX7_will.data.toList.drop 44 = dktX7_will_2 := dk_seg dksX7_will_1 22 rfl rfl
theorem dksX7_will_3 : cX7_will.data.toList.drop 68 = dktX7_will_3 := dk_seg dksX7_will_2 24 rfl rfl
theorem dX7_will_0 : decode cX7_will 0 = .ok (.aload_n 0, 1) := dk_42 (dk_at dksX7_will_0 0 rfl rfl)
theorem dX7_will_1 : decode cX7_will 1 = .ok (.aload_n 0, 1) := dk_42 (dk_at dksX7_will_0 1 rfl rfl)
theorem dX7_will_2 : decode cX7_will 2 = .ok (.getfield 29, 3) := dk_180 0 29 (dk_at dksX7_will_0 2 rfl rfl)
theorem dX7_will_5 : decode cX7_will 5 = .ok (.getfield 140, 3) := dk_180 0 140 (dk_at dksX7_will_0 5 rfl rfl)
theorem dX7_will_8 : decode cX7_will 8 = .ok (.invokevirtual 82, 3) := dk_182 0 82 (dk_at dksX7_will_0 8 rfl rfl)
theorem dX7_will_11 : decode cX7_will 11 = .ok (.bipush 12, 2) := dk_16 12 (dk_at dksX7_will_0 11 rfl rfl)
theorem dX7_will_13 : decode cX7_will 13 = .ok (.if_icmp .ge 7, 3) := dk_162 0 7 (dk_at dksX7_will_0 13 rfl rfl)
theorem dX7_will_16 : decode cX7_will 16 = .ok (.iconst 1, 1) := dk_4 (dk_at dksX7_will_0 16 rfl rfl)
theorem dX7_will_17 : decode cX7_will 17 = .ok (.goto 4, 3) := dk_167 0 4 (dk_at dksX7_will_0 17 rfl rfl)
theorem dX7_will_20 : decode cX7_will 20 = .ok (.iconst 0, 1) := dk_3 (dk_at dksX7_will_0 20 rfl rfl)
theorem dX7_will_21 : decode cX7_will 21 = .ok (.iconst 4, 1) := dk_7 (dk_at dksX7_will_0 21 rfl rfl)
theorem dX7_will_22 : decode cX7_will 22 = .ok (.invokevirtual 64, 3) := dk_182 0 64 (dk_at dksX7_will_1 0 rfl rfl)
theorem dX7_will_25 : decode cX7_will 25 = .ok (.aload_n 0, 1) := dk_42 (dk_at dksX7_will_1 3 rfl rfl)
theorem dX7_will_26 : decode cX7_will 26 = .ok (.invokevirtual 14, 3) := dk_182 0 14 (dk_at dksX7_will_1 4 rfl rfl)
theorem dX7_will_29 : decode cX7_will 29 = .ok (.aload_n 0, 1) := dk_42 (dk_at dksX7_will_1 7 rfl rfl)
theorem dX7_will_30 : decode cX7_will 30 = .ok (.invokevirtual 143, 3) := dk_182 0 143 (dk_at dksX7_will_1 8 rfl rfl)
theorem dX7_will_33 : decode cX7_will 33 = .ok (.istore_n 1, 1) := dk_60 (dk_at dksX7_will_1 11 rfl rfl)
theorem dX7_will_34 : decode cX7_will 34 = .ok (.aload_n 0, 1) := dk_42 (dk_at dksX7_will_1 12 rfl rfl)
theorem dX7_will_35 : decode cX7_will 35 = .ok (.iload_n 1, 1) := dk_27 (dk_at dksX7_will_1 13 rfl rfl)
theorem dX7_will_36 : decode cX7_will 36 = .ok (.invokevirtual 146, 3) := dk_182 0 146 (dk_at dksX7_will_1 14 rfl rfl)
theorem dX7_will_39 : decode cX7_will 39 = .ok (.istore_n 2, 1) := dk_61 (dk_at dksX7_will_1 17 rfl rfl)
theorem dX7_will_40 : decode cX7_will 40 = .ok (.aload_n 0, 1) := dk_42 (dk_at dksX7_will_1 18 rfl rfl)
theorem dX7_will_41 : decode cX7_will 41 = .ok (.getfield 29, 3) := dk_180 0 29 (dk_at dksX7_will_1 19 rfl rfl)
theorem dX7_will_44 : decode cX7_will 44 = .ok (.getfield 140, 3) := dk_180 0 140 (dk_at dksX7_will_2 0 rfl rfl)
theorem dX7_will_47 : decode cX7_will 47 = .ok (.new 149, 3) := dk_187 0 149 (dk_at dksX7_will_2 3 rfl rfl)
theorem dX7_will_50 : decode cX7_will 50 = .ok (.dup, 1) := dk_89 (dk_at dksX7_will_2 6 rfl rfl)
theorem dX7_will_51 : decode cX7_will 51 = .ok (.iload_n 1, 1) := dk_27 (dk_at dksX7_will_2 7 rfl rfl)
theorem dX7_will_52 : decode cX7_will 52 = .ok (.iload_n 2, 1) := dk_28 (dk_at dksX7_will_2 8 rfl rfl)
theorem dX7_will_53 : decode cX7_will 53 = .ok (.aload_n 0, 1) := dk_42 (dk_at dksX7_will_2 9 rfl rfl)
theorem dX7_will_54 : decode cX7_will 54 = .ok (.iconst 1, 1) := dk_4 (dk_at dksX7_will_2 10 rfl rfl)
theorem dX7_will_55 : decode cX7_will 55 = .ok (.sipush 999, 3) := dk_17 3 231 (dk_at dksX7_will_2 11 rfl rfl)
theorem dX7_will_58 : decode cX7_will 58 = .ok (.invokevirtual 72, 3) := dk_182 0 72 (dk_at dksX7_will_2 14 rfl rfl)
theorem dX7_will_61 : decode cX7_will 61 = .ok (.invokespecial 151, 3) := dk_183 0 151 (dk_at dksX7_will_2 17 rfl rfl)
theorem dX7_will_64 : decode cX7_will 64 = .ok (.invokevirtual 104, 3) := dk_182 0 104 (dk_at dksX7_will_2 20 rfl rfl)
theorem dX7_will_67 : decode cX7_will 67 = .ok (.pop, 1) := dk_87 (dk_at dksX7_will_2 23 rfl rfl)
theorem dX7_will_68 : decode cX7_will 68 = .ok (.return_, 1) := dk_177 (dk_at dksX7_will_3 0 rfl rfl)
abbrev cX7_dies : ByteArray := prog_8_method_10_code
def yX7_dies : MethodName := ⟨RX7, "dies", "()V"⟩
def dkwX7_dies_2 : List UInt8 := [42, 16, 100, 17, 0, 199, 182, 0, 72, 181, 0, 154, 177]
abbrev dktX7_dies_2 : List UInt8 := dkwX7_dies_2 ++ []
def dkwX7_dies_1 : List UInt8 := [160, 0, 7, 4, 167, 0, 4, 3, 6, 182, 0, 64, 42, 182, 0, 14, 42, 180, 0, 29, 27, 182, 0, 111]
abbrev dktX7_dies_1 : List UInt8 := dkwX7_dies_1 ++ dktX7_dies_2
def dkwX7_dies_0 : List UInt8 := [42, 182, 0, 14, 42, 182, 0, 108, 60, 42, 42, 180, 0, 29, 27, 182, 0, 111, 180, 0, 154, 2]
abbrev dktX7_dies_0 : List UInt8 := dkwX7_dies_0 ++ dktX7_dies_1
theorem dksX7_dies_0 : cX7_dies.data.toList.drop 0 = dktX7_dies_0 := by decide +kernel
theorem dksX7_dies_1 : cX7_dies.data.toList.drop 22 = dktX7_dies_1 := dk_seg dksX7_dies_0 22 rfl rfl
theorem dksX7_dies_2 : cX7_dies.data.toList.drop 46 = dktX7_dies_2 := dk_seg dksX7_dies_1 24 rfl rfl
theorem dX7_dies_0 : decode cX7_dies 0 = .ok (.aload_n 0, 1) := dk_42 (dk_at dksX7_dies_0 0 rfl rfl)
theorem dX7_dies_1 : decode cX7_dies 1 = .ok (.invokevirtual 14, 3) := dk_182 0 14 (dk_at dksX7_dies_0 1 rfl rfl)
theorem dX7_dies_4 : decode cX7_dies 4 = .ok (.aload_n 0, 1) := dk_42 (dk_at dksX7_dies_0 4 rfl rfl)
theorem dX7_dies_5 : decode cX7_dies 5 = .ok (.invokevirtual 108, 3) := dk_182 0 108 (dk_at dksX7_dies_0 5 rfl rfl)
theorem dX7_dies_8 : decode cX7_dies 8 = .ok (.istore_n 1, 1) := dk_60 (dk_at dksX7_dies_0 8 rfl rfl)
theorem dX7_dies_9 : decode cX7_dies 9 = .ok (.aload_n 0, 1) := dk_42 (dk_at dksX7_dies_0 9 rfl rfl)
theorem dX7_dies_10 : decode cX7_dies 10 = .ok (.aload_n 0, 1) := dk_42 (dk_at dksX7_dies_0 10 rfl rfl)
theorem dX7_dies_11 : decode cX7_dies 11 = .ok (.getfield 29, 3) := dk_180 0 29 (dk_at dksX7_dies_0 11 rfl rfl)
theorem dX7_dies_14 : decode cX7_dies 14 = .ok (.iload_n 1, 1) := dk_27 (dk_at dksX7_dies_0 14 rfl rfl)
theorem dX7_dies_15 : decode cX7_dies 15 = .ok (.invokevirtual 111, 3) := dk_182 0 111 (dk_at dksX7_dies_0 15 rfl rfl)
theorem dX7_dies_18 : decode cX7_dies 18 = .ok (.getfield 154, 3) := dk_180 0 154 (dk_at dksX7_dies_0 18 rfl rfl)
theorem dX7_dies_21 : decode cX7_dies 21 = .ok (.iconst (-1), 1) := dk_2 (dk_at dksX7_dies_0 21 rfl rfl)
theorem dX7_dies_22 : decode cX7_dies 22 = .ok (.if_icmp .ne 7, 3) := dk_160 0 7 (dk_at dksX7_dies_1 0 rfl rfl)
theorem dX7_dies_25 : decode cX7_dies 25 = .ok (.iconst 1, 1) := dk_4 (dk_at dksX7_dies_1 3 rfl rfl)
theorem dX7_dies_26 : decode cX7_dies 26 = .ok (.goto 4, 3) := dk_167 0 4 (dk_at dksX7_dies_1 4 rfl rfl)
theorem dX7_dies_29 : decode cX7_dies 29 = .ok (.iconst 0, 1) := dk_3 (dk_at dksX7_dies_1 7 rfl rfl)
theorem dX7_dies_30 : decode cX7_dies 30 = .ok (.iconst 3, 1) := dk_6 (dk_at dksX7_dies_1 8 rfl rfl)
theorem dX7_dies_31 : decode cX7_dies 31 = .ok (.invokevirtual 64, 3) := dk_182 0 64 (dk_at dksX7_dies_1 9 rfl rfl)
theorem dX7_dies_34 : decode cX7_dies 34 = .ok (.aload_n 0, 1) := dk_42 (dk_at dksX7_dies_1 12 rfl rfl)
theorem dX7_dies_35 : decode cX7_dies 35 = .ok (.invokevirtual 14, 3) := dk_182 0 14 (dk_at dksX7_dies_1 13 rfl rfl)
theorem dX7_dies_38 : decode cX7_dies 38 = .ok (.aload_n 0, 1) := dk_42 (dk_at dksX7_dies_1 16 rfl rfl)
theorem dX7_dies_39 : decode cX7_dies 39 = .ok (.getfield 29, 3) := dk_180 0 29 (dk_at dksX7_dies_1 17 rfl rfl)
theorem dX7_dies_42 : decode cX7_dies 42 = .ok (.iload_n 1, 1) := dk_27 (dk_at dksX7_dies_1 20 rfl rfl)
theorem dX7_dies_43 : decode cX7_dies 43 = .ok (.invokevirtual 111, 3) := dk_182 0 111 (dk_at dksX7_dies_1 21 rfl rfl)
theorem dX7_dies_46 : decode cX7_dies 46 = .ok (.aload_n 0, 1) := dk_42 (dk_at dksX7_dies_2 0 rfl rfl)
theorem dX7_dies_47 : decode cX7_dies 47 = .ok (.bipush 100, 2) := dk_16 100 (dk_at dksX7_dies_2 1 rfl rfl)
theorem dX7_dies_49 : decode cX7_dies 49 = .ok (.sipush 199, 3) := dk_17 0 199 (dk_at dksX7_dies_2 3 rfl rfl)
theorem dX7_dies_52 : decode cX7_dies 52 = .ok (.invokevirtual 72, 3) := dk_182 0 72 (dk_at dksX7_dies_2 6 rfl rfl)
theorem dX7_dies_55 : decode cX7_dies 55 = .ok (.putfield 154, 3) := dk_181 0 154 (dk_at dksX7_dies_2 9 rfl rfl)
theorem dX7_dies_58 : decode cX7_dies 58 = .ok (.return_, 1) := dk_177 (dk_at dksX7_dies_2 12 rfl rfl)
abbrev cX7_widow : ByteArray := prog_8_method_4_code
def yX7_widow : MethodName := ⟨RX7, "widow", "()V"⟩
def dkwX7_widow_2 : List UInt8 := [181, 0, 76, 177]
abbrev dktX7_widow_2 : List UInt8 := dkwX7_widow_2 ++ []
def dkwX7_widow_1 : List UInt8 := [6, 182, 0, 64, 42, 4, 181, 0, 68, 42, 182, 0, 14, 42, 180, 0, 29, 42, 3, 16, 100, 182, 0, 72]
abbrev dktX7_widow_1 : List UInt8 := dkwX7_widow_1 ++ dktX7_widow_2
def dkwX7_widow_0 : List UInt8 := [42, 42, 18, 63, 182, 0, 38, 4, 182, 0, 64, 42, 42, 180, 0, 68, 154, 0, 7, 4, 167, 0, 4, 3]
abbrev dktX7_widow_0 : List UInt8 := dkwX7_widow_0 ++ dktX7_widow_1
theorem dksX7_widow_0 : cX7_widow.data.toList.drop 0 = dktX7_widow_0 := by decide +kernel
theorem dksX7_widow_1 : cX7_widow.data.toList.drop 24 = dktX7_widow_1 := dk_seg dksX7_widow_0 24 rfl rfl
theorem dksX7_widow_2 : cX7_widow.data.toList.drop 48 = dktX7_widow_2 := dk_seg dksX7_widow_1 24 rfl rfl
theorem dX7_widow_0 : decode cX7_widow 0 = .ok (.aload_n 0, 1) := dk_42 (dk_at dksX7_widow_0 0 rfl rfl)
theorem dX7_widow_1 : decode cX7_widow 1 = .ok (.aload_n 0, 1) := dk_42 (dk_at dksX7_widow_0 1 rfl rfl)
theorem dX7_widow_2 : decode cX7_widow 2 = .ok (.ldc 63, 2) := dk_18 63 (dk_at dksX7_widow_0 2 rfl rfl)
theorem dX7_widow_4 : decode cX7_widow 4 = .ok (.invokevirtual 38, 3) := dk_182 0 38 (dk_at dksX7_widow_0 4 rfl rfl)
theorem dX7_widow_7 : decode cX7_widow 7 = .ok (.iconst 1, 1) := dk_4 (dk_at dksX7_widow_0 7 rfl rfl)
theorem dX7_widow_8 : decode cX7_widow 8 = .ok (.invokevirtual 64, 3) := dk_182 0 64 (dk_at dksX7_widow_0 8 rfl rfl)
theorem dX7_widow_11 : decode cX7_widow 11 = .ok (.aload_n 0, 1) := dk_42 (dk_at dksX7_widow_0 11 rfl rfl)
theorem dX7_widow_12 : decode cX7_widow 12 = .ok (.aload_n 0, 1) := dk_42 (dk_at dksX7_widow_0 12 rfl rfl)
theorem dX7_widow_13 : decode cX7_widow 13 = .ok (.getfield 68, 3) := dk_180 0 68 (dk_at dksX7_widow_0 13 rfl rfl)
theorem dX7_widow_16 : decode cX7_widow 16 = .ok (.ifCond .ne 7, 3) := dk_154 0 7 (dk_at dksX7_widow_0 16 rfl rfl)
theorem dX7_widow_19 : decode cX7_widow 19 = .ok (.iconst 1, 1) := dk_4 (dk_at dksX7_widow_0 19 rfl rfl)
theorem dX7_widow_20 : decode cX7_widow 20 = .ok (.goto 4, 3) := dk_167 0 4 (dk_at dksX7_widow_0 20 rfl rfl)
theorem dX7_widow_23 : decode cX7_widow 23 = .ok (.iconst 0, 1) := dk_3 (dk_at dksX7_widow_0 23 rfl rfl)
theorem dX7_widow_24 : decode cX7_widow 24 = .ok (.iconst 3, 1) := dk_6 (dk_at dksX7_widow_1 0 rfl rfl)
theorem dX7_widow_25 : decode cX7_widow 25 = .ok (.invokevirtual 64, 3) := dk_182 0 64 (dk_at dksX7_widow_1 1 rfl rfl)
theorem dX7_widow_28 : decode cX7_widow 28 = .ok (.aload_n 0, 1) := dk_42 (dk_at dksX7_widow_1 4 rfl rfl)
theorem dX7_widow_29 : decode cX7_widow 29 = .ok (.iconst 1, 1) := dk_4 (dk_at dksX7_widow_1 5 rfl rfl)
theorem dX7_widow_30 : decode cX7_widow 30 = .ok (.putfield 68, 3) := dk_181 0 68 (dk_at dksX7_widow_1 6 rfl rfl)
theorem dX7_widow_33 : decode cX7_widow 33 = .ok (.aload_n 0, 1) := dk_42 (dk_at dksX7_widow_1 9 rfl rfl)
theorem dX7_widow_34 : decode cX7_widow 34 = .ok (.invokevirtual 14, 3) := dk_182 0 14 (dk_at dksX7_widow_1 10 rfl rfl)
theorem dX7_widow_37 : decode cX7_widow 37 = .ok (.aload_n 0, 1) := dk_42 (dk_at dksX7_widow_1 13 rfl rfl)
theorem dX7_widow_38 : decode cX7_widow 38 = .ok (.getfield 29, 3) := dk_180 0 29 (dk_at dksX7_widow_1 14 rfl rfl)
theorem dX7_widow_41 : decode cX7_widow 41 = .ok (.aload_n 0, 1) := dk_42 (dk_at dksX7_widow_1 17 rfl rfl)
theorem dX7_widow_42 : decode cX7_widow 42 = .ok (.iconst 0, 1) := dk_3 (dk_at dksX7_widow_1 18 rfl rfl)
theorem dX7_widow_43 : decode cX7_widow 43 = .ok (.bipush 100, 2) := dk_16 100 (dk_at dksX7_widow_1 19 rfl rfl)
theorem dX7_widow_45 : decode cX7_widow 45 = .ok (.invokevirtual 72, 3) := dk_182 0 72 (dk_at dksX7_widow_1 21 rfl rfl)
theorem dX7_widow_48 : decode cX7_widow 48 = .ok (.putfield 76, 3) := dk_181 0 76 (dk_at dksX7_widow_2 0 rfl rfl)
theorem dX7_widow_51 : decode cX7_widow 51 = .ok (.return_, 1) := dk_177 (dk_at dksX7_widow_2 3 rfl rfl)
theorem q142 : (Jvm.Cond.initialized "HeirsAtLaw$FamilyReader") ∈ lw_all := lw_g (lw_at lw_m1 18 rfl) rfl
theorem q218 : (Jvm.Cond.fieldLinkNest "HeirsAtLaw$FamilyReader" (33 : Nat) "HeirsAtLaw$Family" "lines" "I" "HeirsAtLaw") ∈ lw_tbl := lw_at lw_m1 94 rfl
theorem q220 : (Jvm.Cond.fieldLinkNest "HeirsAtLaw$FamilyReader" (131 : Nat) "HeirsAtLaw$Family" "links" "I" "HeirsAtLaw") ∈ lw_tbl := lw_at lw_m1 96 rfl
theorem q223 : (Jvm.Cond.fieldLinkNest "HeirsAtLaw$FamilyReader" (76 : Nat) "HeirsAtLaw$Family" "widow" "I" "HeirsAtLaw") ∈ lw_tbl := lw_at lw_m1 99 rfl
theorem q227 : (Jvm.Cond.fieldLinkNest "HeirsAtLaw$FamilyReader" (78 : Nat) "HeirsAtLaw$Family" "persons" "Ljava/util/ArrayList;" "HeirsAtLaw") ∈ lw_tbl := lw_at lw_m1 103 rfl
theorem q233 : (Jvm.Cond.fieldLinkNest "HeirsAtLaw$FamilyReader" (140 : Nat) "HeirsAtLaw$Family" "wills" "Ljava/util/ArrayList;" "HeirsAtLaw") ∈ lw_tbl := lw_at lw_m1 109 rfl
theorem q564 : (Jvm.Cond.instantiable "HeirsAtLaw$FamilyReader" (11 : Nat)) ∈ lw_all := lw_g (lw_at lw_m2 200 rfl) rfl
theorem q566 : (Jvm.Cond.instanceMethod ({ cls := "HeirsAtLaw$FamilyReader", name := "<init>", desc := "([BI)V" } : Jvm.MethodName)) ∈ lw_all := lw_g (lw_at lw_m2 202 rfl) rfl
theorem q567 : (Jvm.Cond.code ({ cls := "HeirsAtLaw$FamilyReader", name := "<init>", desc := "([BI)V" } : Jvm.MethodName) prog_8_method_1_code (3 : Nat) (Option.none : Option Jvm.ClassFile.FieldType)) ∈ lw_all := lw_g (lw_at lw_m2 203 rfl) rfl
theorem q568 : (Jvm.Cond.classLink "HeirsAtLaw$FamilyReader" (3 : Nat) "HeirsAtLaw$Family") ∈ lw_all := lw_g (lw_at lw_m2 204 rfl) rfl
theorem q569 : (Jvm.Cond.methodLinkNest "HeirsAtLaw$FamilyReader" (5 : Nat) ({ cls := "HeirsAtLaw$Family", name := "<init>", desc := "()V" } : Jvm.MethodName) "HeirsAtLaw") ∈ lw_tbl := lw_at lw_m2 205 rfl
theorem q570 : (Jvm.Cond.methodLink "HeirsAtLaw$FamilyReader" (9 : Nat) ({ cls := "HeirsAtLaw$Reader", name := "<init>", desc := "([BIILHeirsAtLaw$Family;)V" } : Jvm.MethodName)) ∈ lw_all := lw_g (lw_at lw_m2 206 rfl) rfl
theorem q575 : (Jvm.Cond.fieldLink "HeirsAtLaw$FamilyReader" (68 : Nat) "HeirsAtLaw$FamilyReader" "hasWidow" "Z") ∈ lw_all := lw_g (lw_at lw_m2 211 rfl) rfl
theorem q581 : (Jvm.Cond.fieldLink "HeirsAtLaw$FamilyReader" (29 : Nat) "HeirsAtLaw$FamilyReader" "f" "LHeirsAtLaw$Family;") ∈ lw_all := lw_g (lw_at lw_m2 217 rfl) rfl
theorem q582 : (Jvm.Cond.sameField "HeirsAtLaw$FamilyReader" "HeirsAtLaw$Reader" "f" "LHeirsAtLaw$Family;") ∈ lw_all := lw_g (lw_at lw_m2 218 rfl) rfl
theorem q583 : (Jvm.Cond.fieldLink "HeirsAtLaw$FamilyReader" (19 : Nat) "HeirsAtLaw$FamilyReader" "kind" "I") ∈ lw_all := lw_g (lw_at lw_m2 219 rfl) rfl
theorem q584 : (Jvm.Cond.sameField "HeirsAtLaw$FamilyReader" "HeirsAtLaw$Reader" "kind" "I") ∈ lw_all := lw_g (lw_at lw_m2 220 rfl) rfl
theorem q596 : (Jvm.Cond.fieldLink "HeirsAtLaw$FamilyReader" (95 : Nat) "HeirsAtLaw$FamilyReader" "word" "Ljava/lang/String;") ∈ lw_all := lw_g (lw_at lw_m2 232 rfl) rfl
theorem q597 : (Jvm.Cond.sameField "HeirsAtLaw$FamilyReader" "HeirsAtLaw$Reader" "word" "Ljava/lang/String;") ∈ lw_all := lw_g (lw_at lw_m2 233 rfl) rfl
theorem q598 : (Jvm.Cond.lays "HeirsAtLaw$FamilyReader" "HeirsAtLaw$FamilyReader" "hasWidow" "Z") ∈ lw_all := lw_g (lw_at lw_m2 234 rfl) rfl
theorem q599 : (Jvm.Cond.soleField "HeirsAtLaw$FamilyReader" "hasWidow") ∈ lw_all := lw_g (lw_at lw_m2 235 rfl) rfl
theorem q600 : (Jvm.Cond.laysFinal "HeirsAtLaw$FamilyReader" "HeirsAtLaw$Reader" "tape" "[B") ∈ lw_all := lw_g (lw_at lw_m2 236 rfl) rfl
theorem q602 : (Jvm.Cond.laysFinal "HeirsAtLaw$FamilyReader" "HeirsAtLaw$Reader" "size" "I") ∈ lw_all := lw_g (lw_at lw_m2 238 rfl) rfl
theorem q604 : (Jvm.Cond.laysFinal "HeirsAtLaw$FamilyReader" "HeirsAtLaw$Reader" "limit" "I") ∈ lw_all := lw_g (lw_at lw_m3 0 rfl) rfl
theorem q606 : (Jvm.Cond.lays "HeirsAtLaw$FamilyReader" "HeirsAtLaw$Reader" "to" "I") ∈ lw_all := lw_g (lw_at lw_m3 2 rfl) rfl
theorem q608 : (Jvm.Cond.laysFinal "HeirsAtLaw$FamilyReader" "HeirsAtLaw$Reader" "f" "LHeirsAtLaw$Family;") ∈ lw_all := lw_g (lw_at lw_m3 4 rfl) rfl
theorem q610 : (Jvm.Cond.lays "HeirsAtLaw$FamilyReader" "HeirsAtLaw$Reader" "kind" "I") ∈ lw_all := lw_g (lw_at lw_m3 6 rfl) rfl
theorem q612 : (Jvm.Cond.lays "HeirsAtLaw$FamilyReader" "HeirsAtLaw$Reader" "from" "I") ∈ lw_all := lw_g (lw_at lw_m3 8 rfl) rfl
theorem q614 : (Jvm.Cond.lays "HeirsAtLaw$FamilyReader" "HeirsAtLaw$Reader" "number" "I") ∈ lw_all := lw_g (lw_at lw_m3 10 rfl) rfl
theorem q616 : (Jvm.Cond.lays "HeirsAtLaw$FamilyReader" "HeirsAtLaw$Reader" "sign" "I") ∈ lw_all := lw_g (lw_at lw_m3 12 rfl) rfl
theorem q618 : (Jvm.Cond.lays "HeirsAtLaw$FamilyReader" "HeirsAtLaw$Reader" "word" "Ljava/lang/String;") ∈ lw_all := lw_g (lw_at lw_m3 14 rfl) rfl
theorem q620 : (Jvm.Cond.superclass "HeirsAtLaw$FamilyReader" "HeirsAtLaw$Reader") ∈ lw_all := lw_g (lw_at lw_m3 16 rfl) rfl
theorem q622 : (Jvm.Cond.instanceMethod ({ cls := "HeirsAtLaw$FamilyReader", name := "read", desc := "()LHeirsAtLaw$Family;" } : Jvm.MethodName)) ∈ lw_all := lw_g (lw_at lw_m3 18 rfl) rfl
theorem q623 : (Jvm.Cond.selects "HeirsAtLaw$FamilyReader" ({ cls := "HeirsAtLaw$FamilyReader", name := "read", desc := "()LHeirsAtLaw$Family;" } : Jvm.MethodName) ({ cls := "HeirsAtLaw$FamilyReader", name := "read", desc := "()LHeirsAtLaw$Family;" } : Jvm.MethodName)) ∈ lw_all := lw_g (lw_at lw_m3 19 rfl) rfl
theorem q624 : (Jvm.Cond.code ({ cls := "HeirsAtLaw$FamilyReader", name := "read", desc := "()LHeirsAtLaw$Family;" } : Jvm.MethodName) prog_8_method_2_code (1 : Nat) (Option.some (Jvm.ClassFile.FieldType.object "HeirsAtLaw$Family"))) ∈ lw_all := lw_g (lw_at lw_m3 20 rfl) rfl
theorem q625 : (Jvm.Cond.methodLink "HeirsAtLaw$FamilyReader" (14 : Nat) ({ cls := "HeirsAtLaw$FamilyReader", name := "go", desc := "()V" } : Jvm.MethodName)) ∈ lw_all := lw_g (lw_at lw_m3 21 rfl) rfl
theorem q626 : (Jvm.Cond.sameMethod "HeirsAtLaw$FamilyReader" "HeirsAtLaw$Reader" "go" "()V") ∈ lw_all := lw_g (lw_at lw_m3 22 rfl) rfl
theorem q628 : (Jvm.Cond.selects "HeirsAtLaw$FamilyReader" ({ cls := "HeirsAtLaw$FamilyReader", name := "go", desc := "()V" } : Jvm.MethodName) ({ cls := "HeirsAtLaw$Reader", name := "go", desc := "()V" } : Jvm.MethodName)) ∈ lw_all := lw_g (lw_at lw_m3 24 rfl) rfl
theorem q826 : (Jvm.Cond.methodLink "HeirsAtLaw$FamilyReader" (23 : Nat) ({ cls := "HeirsAtLaw$FamilyReader", name := "line", desc := "()V" } : Jvm.MethodName)) ∈ lw_all := lw_g (lw_at lw_m3 222 rfl) rfl
theorem q827 : (Jvm.Cond.privateMethod ({ cls := "HeirsAtLaw$FamilyReader", name := "line", desc := "()V" } : Jvm.MethodName)) ∈ lw_tbl := lw_at lw_m3 223 rfl
theorem q828 : (Jvm.Cond.instanceMethod ({ cls := "HeirsAtLaw$FamilyReader", name := "line", desc := "()V" } : Jvm.MethodName)) ∈ lw_all := lw_g (lw_at lw_m3 224 rfl) rfl
theorem q829 : (Jvm.Cond.code ({ cls := "HeirsAtLaw$FamilyReader", name := "line", desc := "()V" } : Jvm.MethodName) prog_8_method_3_code (1 : Nat) (Option.none : Option Jvm.ClassFile.FieldType)) ∈ lw_all := lw_g (lw_at lw_m3 225 rfl) rfl
theorem q830 : (Jvm.Cond.stringRef "HeirsAtLaw$FamilyReader" (36 : Nat) "person") ∈ lw_tbl := lw_at lw_m3 226 rfl
theorem q831 : (Jvm.Cond.methodLink "HeirsAtLaw$FamilyReader" (38 : Nat) ({ cls := "HeirsAtLaw$FamilyReader", name := "is", desc := "(Ljava/lang/String;)Z" } : Jvm.MethodName)) ∈ lw_all := lw_g (lw_at lw_m3 227 rfl) rfl
theorem q832 : (Jvm.Cond.sameMethod "HeirsAtLaw$FamilyReader" "HeirsAtLaw$Reader" "is" "(Ljava/lang/String;)Z") ∈ lw_all := lw_g (lw_at lw_m3 228 rfl) rfl
theorem q834 : (Jvm.Cond.selects "HeirsAtLaw$FamilyReader" ({ cls := "HeirsAtLaw$FamilyReader", name := "is", desc := "(Ljava/lang/String;)Z" } : Jvm.MethodName) ({ cls := "HeirsAtLaw$Reader", name := "is", desc := "(Ljava/lang/String;)Z" } : Jvm.MethodName)) ∈ lw_all := lw_g (lw_at lw_m3 230 rfl) rfl
theorem q845 : (Jvm.Cond.methodLink "HeirsAtLaw$FamilyReader" (42 : Nat) ({ cls := "HeirsAtLaw$FamilyReader", name := "person", desc := "()V" } : Jvm.MethodName)) ∈ lw_all := lw_g (lw_at lw_m4 1 rfl) rfl
theorem q846 : (Jvm.Cond.privateMethod ({ cls := "HeirsAtLaw$FamilyReader", name := "person", desc := "()V" } : Jvm.MethodName)) ∈ lw_tbl := lw_at lw_m4 2 rfl
theorem q847 : (Jvm.Cond.instanceMethod ({ cls := "HeirsAtLaw$FamilyReader", name := "person", desc := "()V" } : Jvm.MethodName)) ∈ lw_all := lw_g (lw_at lw_m4 3 rfl) rfl
theorem q848 : (Jvm.Cond.code ({ cls := "HeirsAtLaw$FamilyReader", name := "person", desc := "()V" } : Jvm.MethodName) prog_8_method_5_code (3 : Nat) (Option.none : Option Jvm.ClassFile.FieldType)) ∈ lw_all := lw_g (lw_at lw_m4 4 rfl) rfl
theorem q849 : (Jvm.Cond.methodLink "HeirsAtLaw$FamilyReader" (82 : Nat) ({ cls := "java/util/ArrayList", name := "size", desc := "()I" } : Jvm.MethodName)) ∈ lw_all := lw_g (lw_at lw_m4 5 rfl) rfl
theorem q850 : (Jvm.Cond.methodLink "HeirsAtLaw$FamilyReader" (64 : Nat) ({ cls := "HeirsAtLaw$FamilyReader", name := "need", desc := "(ZI)V" } : Jvm.MethodName)) ∈ lw_all := lw_g (lw_at lw_m4 6 rfl) rfl
theorem q851 : (Jvm.Cond.sameMethod "HeirsAtLaw$FamilyReader" "HeirsAtLaw$Reader" "need" "(ZI)V") ∈ lw_all := lw_g (lw_at lw_m4 7 rfl) rfl
theorem q853 : (Jvm.Cond.selects "HeirsAtLaw$FamilyReader" ({ cls := "HeirsAtLaw$FamilyReader", name := "need", desc := "(ZI)V" } : Jvm.MethodName) ({ cls := "HeirsAtLaw$Reader", name := "need", desc := "(ZI)V" } : Jvm.MethodName)) ∈ lw_all := lw_g (lw_at lw_m4 9 rfl) rfl
theorem q884 : (Jvm.Cond.methodLink "HeirsAtLaw$FamilyReader" (88 : Nat) ({ cls := "HeirsAtLaw$FamilyReader", name := "isName", desc := "()Z" } : Jvm.MethodName)) ∈ lw_all := lw_g (lw_at lw_m4 40 rfl) rfl
theorem q885 : (Jvm.Cond.sameMethod "HeirsAtLaw$FamilyReader" "HeirsAtLaw$Reader" "isName" "()Z") ∈ lw_all := lw_g (lw_at lw_m4 41 rfl) rfl
theorem q887 : (Jvm.Cond.selects "HeirsAtLaw$FamilyReader" ({ cls := "HeirsAtLaw$FamilyReader", name := "isName", desc := "()Z" } : Jvm.MethodName) ({ cls := "HeirsAtLaw$Reader", name := "isName", desc := "()Z" } : Jvm.MethodName)) ∈ lw_all := lw_g (lw_at lw_m4 43 rfl) rfl
theorem q964 : (Jvm.Cond.methodLink "HeirsAtLaw$FamilyReader" (92 : Nat) ({ cls := "HeirsAtLaw$FamilyReader", name := "find", desc := "()I" } : Jvm.MethodName)) ∈ lw_all := lw_g (lw_at lw_m4 120 rfl) rfl
theorem q965 : (Jvm.Cond.sameMethod "HeirsAtLaw$FamilyReader" "HeirsAtLaw$Reader" "find" "()I") ∈ lw_all := lw_g (lw_at lw_m4 121 rfl) rfl
theorem q967 : (Jvm.Cond.selects "HeirsAtLaw$FamilyReader" ({ cls := "HeirsAtLaw$FamilyReader", name := "find", desc := "()I" } : Jvm.MethodName) ({ cls := "HeirsAtLaw$Reader", name := "find", desc := "()I" } : Jvm.MethodName)) ∈ lw_all := lw_g (lw_at lw_m4 123 rfl) rfl
theorem q972 : (Jvm.Cond.methodLink "HeirsAtLaw$FamilyReader" (72 : Nat) ({ cls := "HeirsAtLaw$FamilyReader", name := "number", desc := "(II)I" } : Jvm.MethodName)) ∈ lw_all := lw_g (lw_at lw_m4 128 rfl) rfl
theorem q973 : (Jvm.Cond.sameMethod "HeirsAtLaw$FamilyReader" "HeirsAtLaw$Reader" "number" "(II)I") ∈ lw_all := lw_g (lw_at lw_m4 129 rfl) rfl
theorem q975 : (Jvm.Cond.selects "HeirsAtLaw$FamilyReader" ({ cls := "HeirsAtLaw$FamilyReader", name := "number", desc := "(II)I" } : Jvm.MethodName) ({ cls := "HeirsAtLaw$Reader", name := "number", desc := "(II)I" } : Jvm.MethodName)) ∈ lw_all := lw_g (lw_at lw_m4 131 rfl) rfl
theorem q983 : (Jvm.Cond.classLink "HeirsAtLaw$FamilyReader" (99 : Nat) "HeirsAtLaw$Person") ∈ lw_all := lw_g (lw_at lw_m4 139 rfl) rfl
theorem q985 : (Jvm.Cond.methodLink "HeirsAtLaw$FamilyReader" (101 : Nat) ({ cls := "HeirsAtLaw$Person", name := "<init>", desc := "(Ljava/lang/String;II)V" } : Jvm.MethodName)) ∈ lw_all := lw_g (lw_at lw_m4 141 rfl) rfl
theorem q994 : (Jvm.Cond.fieldLinkNest "HeirsAtLaw$FamilyReader" (121 : Nat) "HeirsAtLaw$Person" "born" "I" "HeirsAtLaw") ∈ lw_tbl := lw_at lw_m4 150 rfl
theorem q1001 : (Jvm.Cond.fieldLinkNest "HeirsAtLaw$FamilyReader" (114 : Nat) "HeirsAtLaw$Person" "parents" "I" "HeirsAtLaw") ∈ lw_tbl := lw_at lw_m4 157 rfl
theorem q1005 : (Jvm.Cond.fieldLinkNest "HeirsAtLaw$FamilyReader" (128 : Nat) "HeirsAtLaw$Person" "children" "I" "HeirsAtLaw") ∈ lw_tbl := lw_at lw_m4 161 rfl
theorem q1010 : (Jvm.Cond.fieldLinkNest "HeirsAtLaw$FamilyReader" (134 : Nat) "HeirsAtLaw$Person" "spouse" "I" "HeirsAtLaw") ∈ lw_tbl := lw_at lw_m4 166 rfl
theorem q1012 : (Jvm.Cond.fieldLinkNest "HeirsAtLaw$FamilyReader" (154 : Nat) "HeirsAtLaw$Person" "dies" "I" "HeirsAtLaw") ∈ lw_tbl := lw_at lw_m4 168 rfl
theorem q1030 : (Jvm.Cond.methodLink "HeirsAtLaw$FamilyReader" (104 : Nat) ({ cls := "java/util/ArrayList", name := "add", desc := "(Ljava/lang/Object;)Z" } : Jvm.MethodName)) ∈ lw_all := lw_g (lw_at lw_m4 186 rfl) rfl
theorem q1058 : (Jvm.Cond.selects "HeirsAtLaw$FamilyReader" ({ cls := "java/lang/Object", name := "getClass", desc := "()Ljava/lang/Class;" } : Jvm.MethodName) ({ cls := "java/lang/Object", name := "getClass", desc := "()Ljava/lang/Class;" } : Jvm.MethodName)) ∈ lw_all := lw_g (lw_at lw_m4 214 rfl) rfl
theorem q1090 : (Jvm.Cond.stringRef "HeirsAtLaw$FamilyReader" (44 : Nat) "parent") ∈ lw_tbl := lw_at lw_m5 6 rfl
theorem q1091 : (Jvm.Cond.methodLink "HeirsAtLaw$FamilyReader" (46 : Nat) ({ cls := "HeirsAtLaw$FamilyReader", name := "parent", desc := "()V" } : Jvm.MethodName)) ∈ lw_all := lw_g (lw_at lw_m5 7 rfl) rfl
theorem q1092 : (Jvm.Cond.privateMethod ({ cls := "HeirsAtLaw$FamilyReader", name := "parent", desc := "()V" } : Jvm.MethodName)) ∈ lw_tbl := lw_at lw_m5 8 rfl
theorem q1093 : (Jvm.Cond.instanceMethod ({ cls := "HeirsAtLaw$FamilyReader", name := "parent", desc := "()V" } : Jvm.MethodName)) ∈ lw_all := lw_g (lw_at lw_m5 9 rfl) rfl
theorem q1094 : (Jvm.Cond.code ({ cls := "HeirsAtLaw$FamilyReader", name := "parent", desc := "()V" } : Jvm.MethodName) prog_8_method_6_code (3 : Nat) (Option.none : Option Jvm.ClassFile.FieldType)) ∈ lw_all := lw_g (lw_at lw_m5 10 rfl) rfl
theorem q1095 : (Jvm.Cond.methodLink "HeirsAtLaw$FamilyReader" (108 : Nat) ({ cls := "HeirsAtLaw$FamilyReader", name := "hold", desc := "()I" } : Jvm.MethodName)) ∈ lw_all := lw_g (lw_at lw_m5 11 rfl) rfl
theorem q1096 : (Jvm.Cond.sameMethod "HeirsAtLaw$FamilyReader" "HeirsAtLaw$Reader" "hold" "()I") ∈ lw_all := lw_g (lw_at lw_m5 12 rfl) rfl
theorem q1098 : (Jvm.Cond.selects "HeirsAtLaw$FamilyReader" ({ cls := "HeirsAtLaw$FamilyReader", name := "hold", desc := "()I" } : Jvm.MethodName) ({ cls := "HeirsAtLaw$Reader", name := "hold", desc := "()I" } : Jvm.MethodName)) ∈ lw_all := lw_g (lw_at lw_m5 14 rfl) rfl
theorem q1103 : (Jvm.Cond.methodLink "HeirsAtLaw$FamilyReader" (111 : Nat) ({ cls := "HeirsAtLaw$Family", name := "person", desc := "(I)LHeirsAtLaw$Person;" } : Jvm.MethodName)) ∈ lw_all := lw_g (lw_at lw_m5 19 rfl) rfl
theorem q1104 : (Jvm.Cond.methodLinkNest "HeirsAtLaw$FamilyReader" (117 : Nat) ({ cls := "HeirsAtLaw", name := "many", desc := "(I)I" } : Jvm.MethodName) "HeirsAtLaw") ∈ lw_tbl := lw_at lw_m5 20 rfl
theorem q1113 : (Jvm.Cond.methodLinkNest "HeirsAtLaw$FamilyReader" (124 : Nat) ({ cls := "HeirsAtLaw", name := "isOf", desc := "(II)Z" } : Jvm.MethodName) "HeirsAtLaw") ∈ lw_tbl := lw_at lw_m5 29 rfl
theorem q1116 : (Jvm.Cond.stringRef "HeirsAtLaw$FamilyReader" (48 : Nat) "wed") ∈ lw_tbl := lw_at lw_m5 32 rfl
theorem q1117 : (Jvm.Cond.methodLink "HeirsAtLaw$FamilyReader" (50 : Nat) ({ cls := "HeirsAtLaw$FamilyReader", name := "wed", desc := "()V" } : Jvm.MethodName)) ∈ lw_all := lw_g (lw_at lw_m5 33 rfl) rfl
theorem q1118 : (Jvm.Cond.privateMethod ({ cls := "HeirsAtLaw$FamilyReader", name := "wed", desc := "()V" } : Jvm.MethodName)) ∈ lw_tbl := lw_at lw_m5 34 rfl
theorem q1119 : (Jvm.Cond.instanceMethod ({ cls := "HeirsAtLaw$FamilyReader", name := "wed", desc := "()V" } : Jvm.MethodName)) ∈ lw_all := lw_g (lw_at lw_m5 35 rfl) rfl
theorem q1120 : (Jvm.Cond.code ({ cls := "HeirsAtLaw$FamilyReader", name := "wed", desc := "()V" } : Jvm.MethodName) prog_8_method_8_code (3 : Nat) (Option.none : Option Jvm.ClassFile.FieldType)) ∈ lw_all := lw_g (lw_at lw_m5 36 rfl) rfl
theorem q1121 : (Jvm.Cond.methodLink "HeirsAtLaw$FamilyReader" (137 : Nat) ({ cls := "HeirsAtLaw$FamilyReader", name := "single", desc := "()I" } : Jvm.MethodName)) ∈ lw_all := lw_g (lw_at lw_m5 37 rfl) rfl
theorem q1122 : (Jvm.Cond.privateMethod ({ cls := "HeirsAtLaw$FamilyReader", name := "single", desc := "()I" } : Jvm.MethodName)) ∈ lw_tbl := lw_at lw_m5 38 rfl
theorem q1123 : (Jvm.Cond.instanceMethod ({ cls := "HeirsAtLaw$FamilyReader", name := "single", desc := "()I" } : Jvm.MethodName)) ∈ lw_all := lw_g (lw_at lw_m5 39 rfl) rfl
theorem q1124 : (Jvm.Cond.code ({ cls := "HeirsAtLaw$FamilyReader", name := "single", desc := "()I" } : Jvm.MethodName) prog_8_method_7_code (2 : Nat) (Option.some Jvm.ClassFile.FieldType.int)) ∈ lw_all := lw_g (lw_at lw_m5 40 rfl) rfl
theorem q1125 : (Jvm.Cond.stringRef "HeirsAtLaw$FamilyReader" (52 : Nat) "will") ∈ lw_tbl := lw_at lw_m5 41 rfl
theorem q1126 : (Jvm.Cond.methodLink "HeirsAtLaw$FamilyReader" (54 : Nat) ({ cls := "HeirsAtLaw$FamilyReader", name := "will", desc := "()V" } : Jvm.MethodName)) ∈ lw_all := lw_g (lw_at lw_m5 42 rfl) rfl
theorem q1127 : (Jvm.Cond.privateMethod ({ cls := "HeirsAtLaw$FamilyReader", name := "will", desc := "()V" } : Jvm.MethodName)) ∈ lw_tbl := lw_at lw_m5 43 rfl
theorem q1128 : (Jvm.Cond.instanceMethod ({ cls := "HeirsAtLaw$FamilyReader", name := "will", desc := "()V" } : Jvm.MethodName)) ∈ lw_all := lw_g (lw_at lw_m5 44 rfl) rfl
theorem q1129 : (Jvm.Cond.code ({ cls := "HeirsAtLaw$FamilyReader", name := "will", desc := "()V" } : Jvm.MethodName) prog_8_method_9_code (3 : Nat) (Option.none : Option Jvm.ClassFile.FieldType)) ∈ lw_all := lw_g (lw_at lw_m5 45 rfl) rfl
theorem q1130 : (Jvm.Cond.methodLink "HeirsAtLaw$FamilyReader" (143 : Nat) ({ cls := "HeirsAtLaw$FamilyReader", name := "one", desc := "()I" } : Jvm.MethodName)) ∈ lw_all := lw_g (lw_at lw_m5 46 rfl) rfl
theorem q1131 : (Jvm.Cond.sameMethod "HeirsAtLaw$FamilyReader" "HeirsAtLaw$Reader" "one" "()I") ∈ lw_all := lw_g (lw_at lw_m5 47 rfl) rfl
theorem q1133 : (Jvm.Cond.selects "HeirsAtLaw$FamilyReader" ({ cls := "HeirsAtLaw$FamilyReader", name := "one", desc := "()I" } : Jvm.MethodName) ({ cls := "HeirsAtLaw$Reader", name := "one", desc := "()I" } : Jvm.MethodName)) ∈ lw_all := lw_g (lw_at lw_m5 49 rfl) rfl
theorem q1137 : (Jvm.Cond.methodLink "HeirsAtLaw$FamilyReader" (146 : Nat) ({ cls := "HeirsAtLaw$FamilyReader", name := "other", desc := "(I)I" } : Jvm.MethodName)) ∈ lw_all := lw_g (lw_at lw_m5 53 rfl) rfl
theorem q1138 : (Jvm.Cond.sameMethod "HeirsAtLaw$FamilyReader" "HeirsAtLaw$Reader" "other" "(I)I") ∈ lw_all := lw_g (lw_at lw_m5 54 rfl) rfl
theorem q1140 : (Jvm.Cond.selects "HeirsAtLaw$FamilyReader" ({ cls := "HeirsAtLaw$FamilyReader", name := "other", desc := "(I)I" } : Jvm.MethodName) ({ cls := "HeirsAtLaw$Reader", name := "other", desc := "(I)I" } : Jvm.MethodName)) ∈ lw_all := lw_g (lw_at lw_m5 56 rfl) rfl
theorem q1143 : (Jvm.Cond.classLink "HeirsAtLaw$FamilyReader" (149 : Nat) "HeirsAtLaw$Legacy") ∈ lw_all := lw_g (lw_at lw_m5 59 rfl) rfl
theorem q1145 : (Jvm.Cond.methodLink "HeirsAtLaw$FamilyReader" (151 : Nat) ({ cls := "HeirsAtLaw$Legacy", name := "<init>", desc := "(III)V" } : Jvm.MethodName)) ∈ lw_all := lw_g (lw_at lw_m5 61 rfl) rfl
theorem q1162 : (Jvm.Cond.stringRef "HeirsAtLaw$FamilyReader" (56 : Nat) "dies") ∈ lw_tbl := lw_at lw_m5 78 rfl
theorem q1163 : (Jvm.Cond.methodLink "HeirsAtLaw$FamilyReader" (58 : Nat) ({ cls := "HeirsAtLaw$FamilyReader", name := "dies", desc := "()V" } : Jvm.MethodName)) ∈ lw_all := lw_g (lw_at lw_m5 79 rfl) rfl
theorem q1164 : (Jvm.Cond.privateMethod ({ cls := "HeirsAtLaw$FamilyReader", name := "dies", desc := "()V" } : Jvm.MethodName)) ∈ lw_tbl := lw_at lw_m5 80 rfl
theorem q1165 : (Jvm.Cond.instanceMethod ({ cls := "HeirsAtLaw$FamilyReader", name := "dies", desc := "()V" } : Jvm.MethodName)) ∈ lw_all := lw_g (lw_at lw_m5 81 rfl) rfl
theorem q1166 : (Jvm.Cond.code ({ cls := "HeirsAtLaw$FamilyReader", name := "dies", desc := "()V" } : Jvm.MethodName) prog_8_method_10_code (2 : Nat) (Option.none : Option Jvm.ClassFile.FieldType)) ∈ lw_all := lw_g (lw_at lw_m5 82 rfl) rfl
theorem q1167 : (Jvm.Cond.methodLink "HeirsAtLaw$FamilyReader" (60 : Nat) ({ cls := "HeirsAtLaw$FamilyReader", name := "widow", desc := "()V" } : Jvm.MethodName)) ∈ lw_all := lw_g (lw_at lw_m5 83 rfl) rfl
theorem q1168 : (Jvm.Cond.privateMethod ({ cls := "HeirsAtLaw$FamilyReader", name := "widow", desc := "()V" } : Jvm.MethodName)) ∈ lw_tbl := lw_at lw_m5 84 rfl
theorem q1169 : (Jvm.Cond.instanceMethod ({ cls := "HeirsAtLaw$FamilyReader", name := "widow", desc := "()V" } : Jvm.MethodName)) ∈ lw_all := lw_g (lw_at lw_m5 85 rfl) rfl
theorem q1170 : (Jvm.Cond.code ({ cls := "HeirsAtLaw$FamilyReader", name := "widow", desc := "()V" } : Jvm.MethodName) prog_8_method_4_code (1 : Nat) (Option.none : Option Jvm.ClassFile.FieldType)) ∈ lw_all := lw_g (lw_at lw_m5 86 rfl) rfl
theorem q1171 : (Jvm.Cond.stringRef "HeirsAtLaw$FamilyReader" (63 : Nat) "widow") ∈ lw_tbl := lw_at lw_m5 87 rfl
theorem q1172 : (Jvm.Cond.methodLink "HeirsAtLaw$FamilyReader" (26 : Nat) ({ cls := "HeirsAtLaw$FamilyReader", name := "end", desc := "()V" } : Jvm.MethodName)) ∈ lw_all := lw_g (lw_at lw_m5 88 rfl) rfl
theorem q1173 : (Jvm.Cond.sameMethod "HeirsAtLaw$FamilyReader" "HeirsAtLaw$Reader" "end" "()V") ∈ lw_all := lw_g (lw_at lw_m5 89 rfl) rfl
theorem q1175 : (Jvm.Cond.selects "HeirsAtLaw$FamilyReader" ({ cls := "HeirsAtLaw$FamilyReader", name := "end", desc := "()V" } : Jvm.MethodName) ({ cls := "HeirsAtLaw$Reader", name := "end", desc := "()V" } : Jvm.MethodName)) ∈ lw_all := lw_g (lw_at lw_m5 91 rfl) rfl
theorem q2724 : (Jvm.Cond.selects "HeirsAtLaw$FamilyReader" ({ cls := "HeirsAtLaw$Reader", name := "need", desc := "(ZI)V" } : Jvm.MethodName) ({ cls := "HeirsAtLaw$Reader", name := "need", desc := "(ZI)V" } : Jvm.MethodName)) ∈ lw_all := lw_g (lw_at lw_m11 200 rfl) rfl
theorem q2728 : (Jvm.Cond.selects "HeirsAtLaw$FamilyReader" ({ cls := "HeirsAtLaw$Reader", name := "go", desc := "()V" } : Jvm.MethodName) ({ cls := "HeirsAtLaw$Reader", name := "go", desc := "()V" } : Jvm.MethodName)) ∈ lw_all := lw_g (lw_at lw_m11 204 rfl) rfl
theorem q2732 : (Jvm.Cond.selects "HeirsAtLaw$FamilyReader" ({ cls := "HeirsAtLaw$Reader", name := "isName", desc := "()Z" } : Jvm.MethodName) ({ cls := "HeirsAtLaw$Reader", name := "isName", desc := "()Z" } : Jvm.MethodName)) ∈ lw_all := lw_g (lw_at lw_m11 208 rfl) rfl
theorem q2736 : (Jvm.Cond.selects "HeirsAtLaw$FamilyReader" ({ cls := "HeirsAtLaw$Reader", name := "find", desc := "()I" } : Jvm.MethodName) ({ cls := "HeirsAtLaw$Reader", name := "find", desc := "()I" } : Jvm.MethodName)) ∈ lw_all := lw_g (lw_at lw_m11 212 rfl) rfl
theorem q2740 : (Jvm.Cond.selects "HeirsAtLaw$FamilyReader" ({ cls := "HeirsAtLaw$Reader", name := "hold", desc := "()I" } : Jvm.MethodName) ({ cls := "HeirsAtLaw$Reader", name := "hold", desc := "()I" } : Jvm.MethodName)) ∈ lw_all := lw_g (lw_at lw_m11 216 rfl) rfl
theorem q2760 : (Jvm.Cond.castable "HeirsAtLaw$FamilyReader" "java/lang/Object") ∈ lw_tbl := lw_at lw_m11 236 rfl
theorem in_X7 : ∀ w ∈ wsX70, w ∈ lw_all := lw_in wsX70 [600, 602, 604, 606, 608, 610, 612, 614, 616, 618, 598] (by decide +kernel) (by decide +kernel)
/-! HeirsAtLaw$Fault -/
set_option maxRecDepth 100000
def RX8 : String := "HeirsAtLaw$Fault"
def TX8 : u_T := fun k => match k with
  | 0 => ("java/lang/Throwable", "cause", "Ljava/lang/Throwable;", false)
  | 1 => ("java/lang/Throwable", "stackTrace", "[Ljava/lang/StackTraceElement;", false)
  | 2 => ("java/lang/Throwable", "suppressedExceptions", "Ljava/util/List;", false)
  | 3 => ("java/lang/Throwable", "detailMessage", "Ljava/lang/String;", false)
  | 4 => ("java/lang/Throwable", "backtrace", "Ljava/lang/Object;", false)
  | 5 => ("java/lang/Throwable", "depth", "I", false)
  | 6 => ("HeirsAtLaw$Fault", "kind", "I", true)
  | _ => ("HeirsAtLaw$Fault", "place", "I", true)
def tyX8 : Nat → FieldType := fun k => match k with
  | 0 => .object "java/lang/Throwable"
  | 1 => .array (.object "java/lang/StackTraceElement")
  | 2 => .object "java/util/List"
  | 3 => .object "java/lang/String"
  | 4 => .object "java/lang/Object"
  | 5 => .int
  | 6 => .int
  | _ => .int
abbrev wsX80 : List Cond := u_ws RX8 TX8 8
theorem nmX8 : ∀ a, a < 8 → ∀ b, b < 8 → a ≠ b → (TX8 a).2.1 ≠ (TX8 b).2.1 := by decide +kernel
theorem tyX8_ok : ∀ k, k < 8 → parseFieldDescriptor (TX8 k).2.2.1 = some (tyX8 k) := by decide +kernel
abbrev cX8_init : ByteArray := prog_9_method_1_code
def yX8_init : MethodName := ⟨RX8, "<init>", "(II)V"⟩
def dkwX8_init_0 : List UInt8 := [42, 1, 1, 3, 3, 183, 0, 1, 42, 27, 181, 0, 7, 42, 28, 181, 0, 13, 177]
abbrev dktX8_init_0 : List UInt8 := dkwX8_init_0 ++ []
theorem dksX8_init_0 : cX8_init.data.toList.drop 0 = dktX8_init_0 := by decide +kernel
theorem dX8_init_0 : decode cX8_init 0 = .ok (.aload_n 0, 1) := dk_42 (dk_at dksX8_init_0 0 rfl rfl)
theorem dX8_init_1 : decode cX8_init 1 = .ok (.aconst_null, 1) := dk_1 (dk_at dksX8_init_0 1 rfl rfl)
theorem dX8_init_2 : decode cX8_init 2 = .ok (.aconst_null, 1) := dk_1 (dk_at dksX8_init_0 2 rfl rfl)
theorem dX8_init_3 : decode cX8_init 3 = .ok (.iconst 0, 1) := dk_3 (dk_at dksX8_init_0 3 rfl rfl)
theorem dX8_init_4 : decode cX8_init 4 = .ok (.iconst 0, 1) := dk_3 (dk_at dksX8_init_0 4 rfl rfl)
theorem dX8_init_5 : decode cX8_init 5 = .ok (.invokespecial 1, 3) := dk_183 0 1 (dk_at dksX8_init_0 5 rfl rfl)
theorem dX8_init_8 : decode cX8_init 8 = .ok (.aload_n 0, 1) := dk_42 (dk_at dksX8_init_0 8 rfl rfl)
theorem dX8_init_9 : decode cX8_init 9 = .ok (.iload_n 1, 1) := dk_27 (dk_at dksX8_init_0 9 rfl rfl)
theorem dX8_init_10 : decode cX8_init 10 = .ok (.putfield 7, 3) := dk_181 0 7 (dk_at dksX8_init_0 10 rfl rfl)
theorem dX8_init_13 : decode cX8_init 13 = .ok (.aload_n 0, 1) := dk_42 (dk_at dksX8_init_0 13 rfl rfl)
theorem dX8_init_14 : decode cX8_init 14 = .ok (.iload_n 2, 1) := dk_28 (dk_at dksX8_init_0 14 rfl rfl)
theorem dX8_init_15 : decode cX8_init 15 = .ok (.putfield 13, 3) := dk_181 0 13 (dk_at dksX8_init_0 15 rfl rfl)
theorem dX8_init_18 : decode cX8_init 18 = .ok (.return_, 1) := dk_177 (dk_at dksX8_init_0 18 rfl rfl)
theorem q151 : (Jvm.Cond.initialized "HeirsAtLaw$Fault") ∈ lw_all := lw_g (lw_at lw_m1 27 rfl) rfl
theorem q421 : (Jvm.Cond.selects "HeirsAtLaw$Fault" ({ cls := "java/lang/Throwable", name := "fillInStackTrace", desc := "()Ljava/lang/Throwable;" } : Jvm.MethodName) ({ cls := "java/lang/Throwable", name := "fillInStackTrace", desc := "()Ljava/lang/Throwable;" } : Jvm.MethodName)) ∈ lw_all := lw_g (lw_at lw_m2 57 rfl) rfl
theorem q857 : (Jvm.Cond.instantiable "HeirsAtLaw$Fault" (8 : Nat)) ∈ lw_all := lw_g (lw_at lw_m4 13 rfl) rfl
theorem q858 : (Jvm.Cond.castable "HeirsAtLaw$Fault" "HeirsAtLaw$Fault") ∈ lw_tbl := lw_at lw_m4 14 rfl
theorem q859 : (Jvm.Cond.selects "HeirsAtLaw$Fault" ({ cls := "java/lang/Throwable", name := "fillInStackTrace", desc := "(I)Ljava/lang/Throwable;" } : Jvm.MethodName) ({ cls := "java/lang/Throwable", name := "fillInStackTrace", desc := "(I)Ljava/lang/Throwable;" } : Jvm.MethodName)) ∈ lw_all := lw_g (lw_at lw_m4 15 rfl) rfl
theorem q860 : (Jvm.Cond.lays "HeirsAtLaw$Fault" "java/lang/Throwable" "cause" "Ljava/lang/Throwable;") ∈ lw_all := lw_g (lw_at lw_m4 16 rfl) rfl
theorem q861 : (Jvm.Cond.lays "HeirsAtLaw$Fault" "java/lang/Throwable" "stackTrace" "[Ljava/lang/StackTraceElement;") ∈ lw_all := lw_g (lw_at lw_m4 17 rfl) rfl
theorem q862 : (Jvm.Cond.lays "HeirsAtLaw$Fault" "java/lang/Throwable" "suppressedExceptions" "Ljava/util/List;") ∈ lw_all := lw_g (lw_at lw_m4 18 rfl) rfl
theorem q863 : (Jvm.Cond.lays "HeirsAtLaw$Fault" "java/lang/Throwable" "detailMessage" "Ljava/lang/String;") ∈ lw_all := lw_g (lw_at lw_m4 19 rfl) rfl
theorem q864 : (Jvm.Cond.lays "HeirsAtLaw$Fault" "java/lang/Throwable" "backtrace" "Ljava/lang/Object;") ∈ lw_all := lw_g (lw_at lw_m4 20 rfl) rfl
theorem q866 : (Jvm.Cond.instanceMethod ({ cls := "HeirsAtLaw$Fault", name := "<init>", desc := "(II)V" } : Jvm.MethodName)) ∈ lw_all := lw_g (lw_at lw_m4 22 rfl) rfl
theorem q867 : (Jvm.Cond.code ({ cls := "HeirsAtLaw$Fault", name := "<init>", desc := "(II)V" } : Jvm.MethodName) prog_9_method_1_code (3 : Nat) (Option.none : Option Jvm.ClassFile.FieldType)) ∈ lw_all := lw_g (lw_at lw_m4 23 rfl) rfl
theorem q868 : (Jvm.Cond.methodLink "HeirsAtLaw$Fault" (1 : Nat) ({ cls := "java/lang/Exception", name := "<init>", desc := "(Ljava/lang/String;Ljava/lang/Throwable;ZZ)V" } : Jvm.MethodName)) ∈ lw_all := lw_g (lw_at lw_m4 24 rfl) rfl
theorem q874 : (Jvm.Cond.fieldLink "HeirsAtLaw$Fault" (7 : Nat) "HeirsAtLaw$Fault" "kind" "I") ∈ lw_all := lw_g (lw_at lw_m4 30 rfl) rfl
theorem q876 : (Jvm.Cond.fieldLink "HeirsAtLaw$Fault" (13 : Nat) "HeirsAtLaw$Fault" "place" "I") ∈ lw_all := lw_g (lw_at lw_m4 32 rfl) rfl
theorem q878 : (Jvm.Cond.laysFinal "HeirsAtLaw$Fault" "HeirsAtLaw$Fault" "kind" "I") ∈ lw_all := lw_g (lw_at lw_m4 34 rfl) rfl
theorem q879 : (Jvm.Cond.soleField "HeirsAtLaw$Fault" "kind") ∈ lw_all := lw_g (lw_at lw_m4 35 rfl) rfl
theorem q880 : (Jvm.Cond.laysFinal "HeirsAtLaw$Fault" "HeirsAtLaw$Fault" "place" "I") ∈ lw_all := lw_g (lw_at lw_m4 36 rfl) rfl
theorem q881 : (Jvm.Cond.soleField "HeirsAtLaw$Fault" "place") ∈ lw_all := lw_g (lw_at lw_m4 37 rfl) rfl
theorem q882 : (Jvm.Cond.lays "HeirsAtLaw$Fault" "java/lang/Throwable" "depth" "I") ∈ lw_all := lw_g (lw_at lw_m4 38 rfl) rfl
theorem q883 : (Jvm.Cond.superclass "HeirsAtLaw$Fault" "java/lang/Exception") ∈ lw_all := lw_g (lw_at lw_m4 39 rfl) rfl
theorem q1059 : (Jvm.Cond.selects "HeirsAtLaw$Fault" ({ cls := "java/lang/Object", name := "getClass", desc := "()Ljava/lang/Class;" } : Jvm.MethodName) ({ cls := "java/lang/Object", name := "getClass", desc := "()Ljava/lang/Class;" } : Jvm.MethodName)) ∈ lw_all := lw_g (lw_at lw_m4 215 rfl) rfl
theorem q2763 : (Jvm.Cond.castable "HeirsAtLaw$Fault" "java/lang/Object") ∈ lw_tbl := lw_at lw_m11 239 rfl
theorem in_X8 : ∀ w ∈ wsX80, w ∈ lw_all := lw_in wsX80 [860, 861, 862, 863, 864, 882, 878, 880] (by decide +kernel) (by decide +kernel)
/-! HeirsAtLaw$Person -/
set_option maxRecDepth 100000
def RX9 : String := "HeirsAtLaw$Person"
def TX9 : u_T := fun k => match k with
  | 0 => ("HeirsAtLaw$Person", "name", "Ljava/lang/String;", true)
  | 1 => ("HeirsAtLaw$Person", "born", "I", true)
  | 2 => ("HeirsAtLaw$Person", "coins", "I", true)
  | 3 => ("HeirsAtLaw$Person", "parents", "I", false)
  | 4 => ("HeirsAtLaw$Person", "children", "I", false)
  | 5 => ("HeirsAtLaw$Person", "spouse", "I", false)
  | _ => ("HeirsAtLaw$Person", "dies", "I", false)
def tyX9 : Nat → FieldType := fun k => match k with
  | 0 => .object "java/lang/String"
  | 1 => .int
  | 2 => .int
  | 3 => .int
  | 4 => .int
  | 5 => .int
  | _ => .int
abbrev wsX90 : List Cond := u_ws RX9 TX9 7
theorem nmX9 : ∀ a, a < 7 → ∀ b, b < 7 → a ≠ b → (TX9 a).2.1 ≠ (TX9 b).2.1 := by decide +kernel
theorem tyX9_ok : ∀ k, k < 7 → parseFieldDescriptor (TX9 k).2.2.1 = some (tyX9 k) := by decide +kernel
abbrev cX9_init : ByteArray := prog_21_method_1_code
def yX9_init : MethodName := ⟨RX9, "<init>", "(Ljava/lang/String;II)V"⟩
def dkwX9_init_1 : List UInt8 := [42, 29, 181, 0, 25, 177]
abbrev dktX9_init_1 : List UInt8 := dkwX9_init_1 ++ []
def dkwX9_init_0 : List UInt8 := [42, 183, 0, 3, 42, 2, 181, 0, 9, 42, 2, 181, 0, 15, 42, 43, 181, 0, 18, 42, 28, 181, 0, 22]
abbrev dktX9_init_0 : List UInt8 := dkwX9_init_0 ++ dktX9_init_1
theorem dksX9_init_0 : cX9_init.data.toList.drop 0 = dktX9_init_0 := by decide +kernel
theorem dksX9_init_1 : cX9_init.data.toList.drop 24 = dktX9_init_1 := dk_seg dksX9_init_0 24 rfl rfl
theorem dX9_init_0 : decode cX9_init 0 = .ok (.aload_n 0, 1) := dk_42 (dk_at dksX9_init_0 0 rfl rfl)
theorem dX9_init_1 : decode cX9_init 1 = .ok (.invokespecial 3, 3) := dk_183 0 3 (dk_at dksX9_init_0 1 rfl rfl)
theorem dX9_init_4 : decode cX9_init 4 = .ok (.aload_n 0, 1) := dk_42 (dk_at dksX9_init_0 4 rfl rfl)
theorem dX9_init_5 : decode cX9_init 5 = .ok (.iconst (-1), 1) := dk_2 (dk_at dksX9_init_0 5 rfl rfl)
theorem dX9_init_6 : decode cX9_init 6 = .ok (.putfield 9, 3) := dk_181 0 9 (dk_at dksX9_init_0 6 rfl rfl)
theorem dX9_init_9 : decode cX9_init 9 = .ok (.aload_n 0, 1) := dk_42 (dk_at dksX9_init_0 9 rfl rfl)
theorem dX9_init_10 : decode cX9_init 10 = .ok (.iconst (-1), 1) := dk_2 (dk_at dksX9_init_0 10 rfl rfl)
theorem dX9_init_11 : decode cX9_init 11 = .ok (.putfield 15, 3) := dk_181 0 15 (dk_at dksX9_init_0 11 rfl rfl)
theorem dX9_init_14 : decode cX9_init 14 = .ok (.aload_n 0, 1) := dk_42 (dk_at dksX9_init_0 14 rfl rfl)
theorem dX9_init_15 : decode cX9_init 15 = .ok (.aload_n 1, 1) := dk_43 (dk_at dksX9_init_0 15 rfl rfl)
theorem dX9_init_16 : decode cX9_init 16 = .ok (.putfield 18, 3) := dk_181 0 18 (dk_at dksX9_init_0 16 rfl rfl)
theorem dX9_init_19 : decode cX9_init 19 = .ok (.aload_n 0, 1) := dk_42 (dk_at dksX9_init_0 19 rfl rfl)
theorem dX9_init_20 : decode cX9_init 20 = .ok (.iload_n 2, 1) := dk_28 (dk_at dksX9_init_0 20 rfl rfl)
theorem dX9_init_21 : decode cX9_init 21 = .ok (.putfield 22, 3) := dk_181 0 22 (dk_at dksX9_init_0 21 rfl rfl)
theorem dX9_init_24 : decode cX9_init 24 = .ok (.aload_n 0, 1) := dk_42 (dk_at dksX9_init_1 0 rfl rfl)
theorem dX9_init_25 : decode cX9_init 25 = .ok (.iload_n 3, 1) := dk_29 (dk_at dksX9_init_1 1 rfl rfl)
theorem dX9_init_26 : decode cX9_init 26 = .ok (.putfield 25, 3) := dk_181 0 25 (dk_at dksX9_init_1 2 rfl rfl)
theorem dX9_init_29 : decode cX9_init 29 = .ok (.return_, 1) := dk_177 (dk_at dksX9_init_1 5 rfl rfl)
theorem q152 : (Jvm.Cond.initialized "HeirsAtLaw$Person") ∈ lw_all := lw_g (lw_at lw_m1 28 rfl) rfl
theorem q984 : (Jvm.Cond.instantiable "HeirsAtLaw$Person" (7 : Nat)) ∈ lw_all := lw_g (lw_at lw_m4 140 rfl) rfl
theorem q986 : (Jvm.Cond.instanceMethod ({ cls := "HeirsAtLaw$Person", name := "<init>", desc := "(Ljava/lang/String;II)V" } : Jvm.MethodName)) ∈ lw_all := lw_g (lw_at lw_m4 142 rfl) rfl
theorem q987 : (Jvm.Cond.code ({ cls := "HeirsAtLaw$Person", name := "<init>", desc := "(Ljava/lang/String;II)V" } : Jvm.MethodName) prog_21_method_1_code (4 : Nat) (Option.none : Option Jvm.ClassFile.FieldType)) ∈ lw_all := lw_g (lw_at lw_m4 143 rfl) rfl
theorem q988 : (Jvm.Cond.methodLink "HeirsAtLaw$Person" (3 : Nat) ({ cls := "java/lang/Object", name := "<init>", desc := "()V" } : Jvm.MethodName)) ∈ lw_all := lw_g (lw_at lw_m4 144 rfl) rfl
theorem q989 : (Jvm.Cond.fieldLink "HeirsAtLaw$Person" (18 : Nat) "HeirsAtLaw$Person" "name" "Ljava/lang/String;") ∈ lw_all := lw_g (lw_at lw_m4 145 rfl) rfl
theorem q992 : (Jvm.Cond.fieldLink "HeirsAtLaw$Person" (22 : Nat) "HeirsAtLaw$Person" "born" "I") ∈ lw_all := lw_g (lw_at lw_m4 148 rfl) rfl
theorem q996 : (Jvm.Cond.fieldLink "HeirsAtLaw$Person" (25 : Nat) "HeirsAtLaw$Person" "coins" "I") ∈ lw_all := lw_g (lw_at lw_m4 152 rfl) rfl
theorem q1008 : (Jvm.Cond.fieldLink "HeirsAtLaw$Person" (9 : Nat) "HeirsAtLaw$Person" "spouse" "I") ∈ lw_all := lw_g (lw_at lw_m4 164 rfl) rfl
theorem q1011 : (Jvm.Cond.fieldLink "HeirsAtLaw$Person" (15 : Nat) "HeirsAtLaw$Person" "dies" "I") ∈ lw_all := lw_g (lw_at lw_m4 167 rfl) rfl
theorem q1015 : (Jvm.Cond.laysFinal "HeirsAtLaw$Person" "HeirsAtLaw$Person" "name" "Ljava/lang/String;") ∈ lw_all := lw_g (lw_at lw_m4 171 rfl) rfl
theorem q1016 : (Jvm.Cond.soleField "HeirsAtLaw$Person" "name") ∈ lw_all := lw_g (lw_at lw_m4 172 rfl) rfl
theorem q1017 : (Jvm.Cond.laysFinal "HeirsAtLaw$Person" "HeirsAtLaw$Person" "born" "I") ∈ lw_all := lw_g (lw_at lw_m4 173 rfl) rfl
theorem q1018 : (Jvm.Cond.soleField "HeirsAtLaw$Person" "born") ∈ lw_all := lw_g (lw_at lw_m4 174 rfl) rfl
theorem q1019 : (Jvm.Cond.laysFinal "HeirsAtLaw$Person" "HeirsAtLaw$Person" "coins" "I") ∈ lw_all := lw_g (lw_at lw_m4 175 rfl) rfl
theorem q1020 : (Jvm.Cond.soleField "HeirsAtLaw$Person" "coins") ∈ lw_all := lw_g (lw_at lw_m4 176 rfl) rfl
theorem q1021 : (Jvm.Cond.lays "HeirsAtLaw$Person" "HeirsAtLaw$Person" "parents" "I") ∈ lw_all := lw_g (lw_at lw_m4 177 rfl) rfl
theorem q1022 : (Jvm.Cond.soleField "HeirsAtLaw$Person" "parents") ∈ lw_all := lw_g (lw_at lw_m4 178 rfl) rfl
theorem q1023 : (Jvm.Cond.lays "HeirsAtLaw$Person" "HeirsAtLaw$Person" "children" "I") ∈ lw_all := lw_g (lw_at lw_m4 179 rfl) rfl
theorem q1024 : (Jvm.Cond.soleField "HeirsAtLaw$Person" "children") ∈ lw_all := lw_g (lw_at lw_m4 180 rfl) rfl
theorem q1025 : (Jvm.Cond.lays "HeirsAtLaw$Person" "HeirsAtLaw$Person" "spouse" "I") ∈ lw_all := lw_g (lw_at lw_m4 181 rfl) rfl
theorem q1026 : (Jvm.Cond.soleField "HeirsAtLaw$Person" "spouse") ∈ lw_all := lw_g (lw_at lw_m4 182 rfl) rfl
theorem q1027 : (Jvm.Cond.lays "HeirsAtLaw$Person" "HeirsAtLaw$Person" "dies" "I") ∈ lw_all := lw_g (lw_at lw_m4 183 rfl) rfl
theorem q1028 : (Jvm.Cond.soleField "HeirsAtLaw$Person" "dies") ∈ lw_all := lw_g (lw_at lw_m4 184 rfl) rfl
theorem q1029 : (Jvm.Cond.superclass "HeirsAtLaw$Person" "java/lang/Object") ∈ lw_all := lw_g (lw_at lw_m4 185 rfl) rfl
theorem q1069 : (Jvm.Cond.selects "HeirsAtLaw$Person" ({ cls := "java/lang/Object", name := "getClass", desc := "()Ljava/lang/Class;" } : Jvm.MethodName) ({ cls := "java/lang/Object", name := "getClass", desc := "()Ljava/lang/Class;" } : Jvm.MethodName)) ∈ lw_all := lw_g (lw_at lw_m4 225 rfl) rfl
theorem q2764 : (Jvm.Cond.castable "HeirsAtLaw$Person" "java/lang/Object") ∈ lw_tbl := lw_at lw_m12 0 rfl
theorem in_X9 : ∀ w ∈ wsX90, w ∈ lw_all := lw_in wsX90 [1015, 1017, 1019, 1021, 1023, 1025, 1027] (by decide +kernel) (by decide +kernel)
theorem q702 : (Jvm.Cond.sameMethod "[B" "java/lang/Object" "clone" "()Ljava/lang/Object;") ∈ lw_all := lw_g (lw_at lw_m3 98 rfl) rfl
set_option maxRecDepth 100000
theorem q705 : (Jvm.Cond.selects "[B" ({ cls := "[B", name := "clone", desc := "()Ljava/lang/Object;" } : Jvm.MethodName) ({ cls := "java/lang/Object", name := "clone", desc := "()Ljava/lang/Object;" } : Jvm.MethodName)) ∈ lw_all := lw_g (lw_at lw_m3 101 rfl) rfl
theorem q706 : (Jvm.Cond.castable "[B" "java/lang/Cloneable") ∈ lw_tbl := lw_at lw_m3 102 rfl
theorem q2784 : (Jvm.Cond.castable "[B" "java/lang/Object") ∈ lw_tbl := lw_at lw_m12 20 rfl
theorem q2785 : (Jvm.Cond.castable "[I" "java/lang/Object") ∈ lw_tbl := lw_at lw_m12 21 rfl
set_option maxRecDepth 100000
theorem q2789 : (Jvm.Cond.castable "[J" "java/lang/Object") ∈ lw_tbl := lw_at lw_m12 25 rfl
set_option maxRecDepth 100000
theorem q2786 : (Jvm.Cond.castable "[LHeirsAtLaw$Estate;" "java/lang/Object") ∈ lw_tbl := lw_at lw_m12 22 rfl
set_option maxRecDepth 100000
theorem q2787 : (Jvm.Cond.castable "[LHeirsAtLaw$Kept;" "java/lang/Object") ∈ lw_tbl := lw_at lw_m12 23 rfl
set_option maxRecDepth 100000
theorem q2781 : (Jvm.Cond.sameMethod "[Ljava/lang/Object;" "java/lang/Object" "getClass" "()Ljava/lang/Class;") ∈ lw_all := lw_g (lw_at lw_m12 17 rfl) rfl
set_option maxRecDepth 100000
theorem q2782 : (Jvm.Cond.selects "[Ljava/lang/Object;" ({ cls := "java/lang/Object", name := "getClass", desc := "()Ljava/lang/Class;" } : Jvm.MethodName) ({ cls := "java/lang/Object", name := "getClass", desc := "()Ljava/lang/Class;" } : Jvm.MethodName)) ∈ lw_all := lw_g (lw_at lw_m12 18 rfl) rfl
theorem q2788 : (Jvm.Cond.castable "[Ljava/lang/Object;" "java/lang/Object") ∈ lw_tbl := lw_at lw_m12 24 rfl
theorem q2790 : (Jvm.Cond.castable "[Z" "java/lang/Object") ∈ lw_tbl := lw_at lw_m12 26 rfl
set_option maxRecDepth 100000
theorem q153 : (Jvm.Cond.initialized "java/lang/Number") ∈ lw_all := lw_g (lw_at lw_m1 29 rfl) rfl
set_option maxRecDepth 100000
theorem q149 : (Jvm.Cond.initialized "java/lang/System") ∈ lw_all := lw_g (lw_at lw_m1 25 rfl) rfl
set_option maxRecDepth 100000
theorem q712 : (Jvm.Cond.static ({ cls := "java/lang/System", name := "arraycopy", desc := "(Ljava/lang/Object;ILjava/lang/Object;II)V" } : Jvm.MethodName)) ∈ lw_all := lw_g (lw_at lw_m3 108 rfl) rfl
theorem q713 : (Jvm.Cond.native ({ cls := "java/lang/System", name := "arraycopy", desc := "(Ljava/lang/Object;ILjava/lang/Object;II)V" } : Jvm.MethodName)) ∈ lw_all := lw_g (lw_at lw_m3 109 rfl) rfl
theorem q367 : (Jvm.Cond.interfaceMethod "java/util/Iterator" "java/util/Iterator" "hasNext" "()Z") ∈ lw_tbl := lw_at lw_m2 3 rfl
set_option maxRecDepth 100000
theorem q368 : (Jvm.Cond.declares ({ cls := "java/util/Iterator", name := "hasNext", desc := "()Z" } : Jvm.MethodName)) ∈ lw_tbl := lw_at lw_m2 4 rfl
theorem q377 : (Jvm.Cond.interfaceMethod "java/util/Iterator" "java/util/Iterator" "next" "()Ljava/lang/Object;") ∈ lw_tbl := lw_at lw_m2 13 rfl
theorem q378 : (Jvm.Cond.declares ({ cls := "java/util/Iterator", name := "next", desc := "()Ljava/lang/Object;" } : Jvm.MethodName)) ∈ lw_tbl := lw_at lw_m2 14 rfl
theorem q217 : (Jvm.Cond.arrayClass Jvm.ClassFile.FieldType.byte) ∈ lw_all := lw_g (lw_at lw_m1 93 rfl) rfl
set_option maxRecDepth 100000
theorem q303 : (Jvm.Cond.arrayClass Jvm.ClassFile.FieldType.int) ∈ lw_all := lw_g (lw_at lw_m1 179 rfl) rfl
theorem q456 : (Jvm.Cond.arrayOver (Jvm.ClassFile.FieldType.object "HeirsAtLaw$Estate")) ∈ lw_tbl := lw_at lw_m2 92 rfl
theorem q459 : (Jvm.Cond.arrayOver (Jvm.ClassFile.FieldType.object "HeirsAtLaw$Kept")) ∈ lw_tbl := lw_at lw_m2 95 rfl
theorem q1086 : (Jvm.Cond.arrayOver (Jvm.ClassFile.FieldType.object "java/lang/Object")) ∈ lw_tbl := lw_at lw_m5 2 rfl
theorem q2224 : (Jvm.Cond.arrayClass Jvm.ClassFile.FieldType.long) ∈ lw_all := lw_g (lw_at lw_m9 180 rfl) rfl
theorem q2225 : (Jvm.Cond.arrayClass Jvm.ClassFile.FieldType.boolean) ∈ lw_all := lw_g (lw_at lw_m9 181 rfl) rfl
