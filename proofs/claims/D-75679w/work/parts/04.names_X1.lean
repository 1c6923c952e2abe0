/-! HeirsAtLaw -/
set_option maxRecDepth 100000
def RX1 : String := "HeirsAtLaw"
def TX1 : u_T := fun k => match k with
  | 0 => ("HeirsAtLaw", "tape", "[B", true)
  | 1 => ("HeirsAtLaw", "taped", "I", false)
  | 2 => ("HeirsAtLaw", "fault", "I", false)
  | 3 => ("HeirsAtLaw", "family", "LHeirsAtLaw$Family;", false)
  | 4 => ("HeirsAtLaw", "now", "LHeirsAtLaw$Estate;", true)
  | 5 => ("HeirsAtLaw", "trial", "LHeirsAtLaw$Estate;", true)
  | 6 => ("HeirsAtLaw", "ahead", "LHeirsAtLaw$Estate;", true)
  | 7 => ("HeirsAtLaw", "sentence", "LHeirsAtLaw$Cond;", false)
  | 8 => ("HeirsAtLaw", "before", "[LHeirsAtLaw$Estate;", true)
  | 9 => ("HeirsAtLaw", "befores", "I", false)
  | 10 => ("HeirsAtLaw", "afters", "[I", true)
  | 11 => ("HeirsAtLaw", "row", "[I", true)
  | 12 => ("HeirsAtLaw", "best", "[I", true)
  | 13 => ("HeirsAtLaw", "aftersMany", "I", false)
  | 14 => ("HeirsAtLaw", "bestMany", "I", false)
  | 15 => ("HeirsAtLaw", "bestCoins", "I", false)
  | 16 => ("HeirsAtLaw", "cleared", "I", false)
  | 17 => ("HeirsAtLaw", "ask", "I", false)
  | 18 => ("HeirsAtLaw", "tag", "Ljava/lang/String;", false)
  | 19 => ("HeirsAtLaw", "told", "[I", true)
  | _ => ("HeirsAtLaw", "kept", "[LHeirsAtLaw$Kept;", true)
def tyX1 : Nat → FieldType := fun k => match k with
  | 0 => .array .byte
  | 1 => .int
  | 2 => .int
  | 3 => .object "HeirsAtLaw$Family"
  | 4 => .object "HeirsAtLaw$Estate"
  | 5 => .object "HeirsAtLaw$Estate"
  | 6 => .object "HeirsAtLaw$Estate"
  | 7 => .object "HeirsAtLaw$Cond"
  | 8 => .array (.object "HeirsAtLaw$Estate")
  | 9 => .int
  | 10 => .array .int
  | 11 => .array .int
  | 12 => .array .int
  | 13 => .int
  | 14 => .int
  | 15 => .int
  | 16 => .int
  | 17 => .int
  | 18 => .object "java/lang/String"
  | 19 => .array .int
  | _ => .array (.object "HeirsAtLaw$Kept")
abbrev wsX10 : List Cond := u_ws RX1 TX1 21
set_option maxRecDepth 100000 in
theorem nmX1 : ∀ a, a < 21 → ∀ b, b < 21 → a ≠ b → (TX1 a).2.1 ≠ (TX1 b).2.1 := by decide +kernel
set_option maxRecDepth 100000 in
theorem tyX1_ok : ∀ k, k < 21 → parseFieldDescriptor (TX1 k).2.2.1 = some (tyX1 k) := by decide +kernel
abbrev cX1_init : ByteArray := prog_1_method_6_code
def yX1_init : MethodName := ⟨RX1, "<init>", "()V"⟩
def dkwX1_init_8 : List UInt8 := [27, 187, 0, 33, 89, 183, 0, 35, 83, 132, 1, 1, 167, 255, 234, 177]
abbrev dktX1_init_8 : List UInt8 := dkwX1_init_8 ++ []
def dkwX1_init_7 : List UInt8 := [4, 187, 0, 80, 89, 183, 0, 82, 83, 181, 0, 83, 3, 60, 27, 16, 8, 162, 0, 22, 42, 180, 0, 50]
abbrev dktX1_init_7 : List UInt8 := dkwX1_init_7 ++ dktX1_init_8
def dkwX1_init_6 : List UInt8 := [79, 89, 6, 2, 79, 181, 0, 77, 42, 5, 189, 0, 80, 89, 3, 187, 0, 80, 89, 183, 0, 82, 83, 89]
abbrev dktX1_init_6 : List UInt8 := dkwX1_init_6 ++ dktX1_init_7
def dkwX1_init_5 : List UInt8 := [181, 0, 68, 42, 18, 71, 181, 0, 73, 42, 7, 188, 10, 89, 3, 2, 79, 89, 4, 2, 79, 89, 5, 2]
abbrev dktX1_init_5 : List UInt8 := dkwX1_init_5 ++ dktX1_init_6
def dkwX1_init_4 : List UInt8 := [181, 0, 54, 42, 8, 188, 10, 181, 0, 58, 42, 8, 188, 10, 181, 0, 61, 42, 2, 181, 0, 64, 42, 2]
abbrev dktX1_init_4 : List UInt8 := dkwX1_init_4 ++ dktX1_init_5
def dkwX1_init_3 : List UInt8 := [180, 0, 29, 182, 0, 36, 181, 0, 47, 42, 16, 8, 189, 0, 33, 181, 0, 50, 42, 16, 12, 188, 10]
abbrev dktX1_init_3 : List UInt8 := dkwX1_init_3 ++ dktX1_init_4
def dkwX1_init_2 : List UInt8 := [183, 0, 35, 42, 180, 0, 29, 182, 0, 36, 181, 0, 44, 42, 187, 0, 33, 89, 183, 0, 35, 42]
abbrev dktX1_init_2 : List UInt8 := dkwX1_init_2 ++ dktX1_init_3
def dkwX1_init_1 : List UInt8 := [42, 187, 0, 33, 89, 183, 0, 35, 42, 180, 0, 29, 182, 0, 36, 181, 0, 40, 42, 187, 0, 33, 89]
abbrev dktX1_init_1 : List UInt8 := dkwX1_init_1 ++ dktX1_init_2
def dkwX1_init_0 : List UInt8 := [42, 183, 0, 19, 42, 17, 3, 172, 188, 8, 181, 0, 22, 42, 187, 0, 26, 89, 183, 0, 28, 181, 0, 29]
abbrev dktX1_init_0 : List UInt8 := dkwX1_init_0 ++ dktX1_init_1
theorem dksX1_init_0 : cX1_init.data.toList.drop 0 = dktX1_init_0 := by decide +kernel
theorem dksX1_init_1 : cX1_init.data.toList.drop 24 = dktX1_init_1 := dk_seg dksX1_init_0 24 rfl rfl
theorem dksX1_init_2 : cX1_init.data.toList.drop 47 = dktX1_init_2 := dk_seg dksX1_init_1 23 rfl rfl
theorem dksX1_init_3 : cX1_init.data.toList.drop 69 = dktX1_init_3 := dk_seg dksX1_init_2 22 rfl rfl
theorem dksX1_init_4 : cX1_init.data.toList.drop 92 = dktX1_init_4 := dk_seg dksX1_init_3 23 rfl rfl
theorem dksX1_init_5 : cX1_init.data.toList.drop 116 = dktX1_init_5 := dk_seg dksX1_init_4 24 rfl rfl
theorem dksX1_init_6 : cX1_init.data.toList.drop 140 = dktX1_init_6 := dk_seg dksX1_init_5 24 rfl rfl
theorem dksX1_init_7 : cX1_init.data.toList.drop 164 = dktX1_init_7 := dk_seg dksX1_init_6 24 rfl rfl
theorem dksX1_init_8 : cX1_init.data.toList.drop 188 = dktX1_init_8 := dk_seg dksX1_init_7 24 rfl rfl
theorem dX1_init_0 : decode cX1_init 0 = .ok (.aload_n 0, 1) := dk_42 (dk_at dksX1_init_0 0 rfl rfl)
theorem dX1_init_1 : decode cX1_init 1 = .ok (.invokespecial 19, 3) := dk_183 0 19 (dk_at dksX1_init_0 1 rfl rfl)
theorem dX1_init_4 : decode cX1_init 4 = .ok (.aload_n 0, 1) := dk_42 (dk_at dksX1_init_0 4 rfl rfl)
theorem dX1_init_5 : decode cX1_init 5 = .ok (.sipush 940, 3) := dk_17 3 172 (dk_at dksX1_init_0 5 rfl rfl)
theorem dX1_init_8 : decode cX1_init 8 = .ok (.newarray .byte, 2) := dk_188_8 (dk_at dksX1_init_0 8 rfl rfl)
theorem dX1_init_10 : decode cX1_init 10 = .ok (.putfield 22, 3) := dk_181 0 22 (dk_at dksX1_init_0 10 rfl rfl)
theorem dX1_init_13 : decode cX1_init 13 = .ok (.aload_n 0, 1) := dk_42 (dk_at dksX1_init_0 13 rfl rfl)
theorem dX1_init_14 : decode cX1_init 14 = .ok (.new 26, 3) := dk_187 0 26 (dk_at dksX1_init_0 14 rfl rfl)
theorem dX1_init_17 : decode cX1_init 17 = .ok (.dup, 1) := dk_89 (dk_at dksX1_init_0 17 rfl rfl)
theorem dX1_init_18 : decode cX1_init 18 = .ok (.invokespecial 28, 3) := dk_183 0 28 (dk_at dksX1_init_0 18 rfl rfl)
theorem dX1_init_21 : decode cX1_init 21 = .ok (.putfield 29, 3) := dk_181 0 29 (dk_at dksX1_init_0 21 rfl rfl)
theorem dX1_init_24 : decode cX1_init 24 = .ok (.aload_n 0, 1) := dk_42 (dk_at dksX1_init_1 0 rfl rfl)
theorem dX1_init_25 : decode cX1_init 25 = .ok (.new 33, 3) := dk_187 0 33 (dk_at dksX1_init_1 1 rfl rfl)
theorem dX1_init_28 : decode cX1_init 28 = .ok (.dup, 1) := dk_89 (dk_at dksX1_init_1 4 rfl rfl)
theorem dX1_init_29 : decode cX1_init 29 = .ok (.invokespecial 35, 3) := dk_183 0 35 (dk_at dksX1_init_1 5 rfl rfl)
theorem dX1_init_32 : decode cX1_init 32 = .ok (.aload_n 0, 1) := dk_42 (dk_at dksX1_init_1 8 rfl rfl)
theorem dX1_init_33 : decode cX1_init 33 = .ok (.getfield 29, 3) := dk_180 0 29 (dk_at dksX1_init_1 9 rfl rfl)
theorem dX1_init_36 : decode cX1_init 36 = .ok (.invokevirtual 36, 3) := dk_182 0 36 (dk_at dksX1_init_1 12 rfl rfl)
theorem dX1_init_39 : decode cX1_init 39 = .ok (.putfield 40, 3) := dk_181 0 40 (dk_at dksX1_init_1 15 rfl rfl)
theorem dX1_init_42 : decode cX1_init 42 = .ok (.aload_n 0, 1) := dk_42 (dk_at dksX1_init_1 18 rfl rfl)
theorem dX1_init_43 : decode cX1_init 43 = .ok (.new 33, 3) := dk_187 0 33 (dk_at dksX1_init_1 19 rfl rfl)
theorem dX1_init_46 : decode cX1_init 46 = .ok (.dup, 1) := dk_89 (dk_at dksX1_init_1 22 rfl rfl)
theorem dX1_init_47 : decode cX1_init 47 = .ok (.invokespecial 35, 3) := dk_183 0 35 (dk_at dksX1_init_2 0 rfl rfl)
theorem dX1_init_50 : decode cX1_init 50 = .ok (.aload_n 0, 1) := dk_42 (dk_at dksX1_init_2 3 rfl rfl)
theorem dX1_init_51 : decode cX1_init 51 = .ok (.getfield 29, 3) := dk_180 0 29 (dk_at dksX1_init_2 4 rfl rfl)
theorem dX1_init_54 : decode cX1_init 54 = .ok (.invokevirtual 36, 3) := dk_182 0 36 (dk_at dksX1_init_2 7 rfl rfl)
theorem dX1_init_57 : decode cX1_init 57 = .ok (.putfield 44, 3) := dk_181 0 44 (dk_at dksX1_init_2 10 rfl rfl)
theorem dX1_init_60 : decode cX1_init 60 = .ok (.aload_n 0, 1) := dk_42 (dk_at dksX1_init_2 13 rfl rfl)
theorem dX1_init_61 : decode cX1_init 61 = .ok (.new 33, 3) := dk_187 0 33 (dk_at dksX1_init_2 14 rfl rfl)
theorem dX1_init_64 : decode cX1_init 64 = .ok (.dup, 1) := dk_89 (dk_at dksX1_init_2 17 rfl rfl)
theorem dX1_init_65 : decode cX1_init 65 = .ok (.invokespecial 35, 3) := dk_183 0 35 (dk_at dksX1_init_2 18 rfl rfl)
theorem dX1_init_68 : decode cX1_init 68 = .ok (.aload_n 0, 1) := dk_42 (dk_at dksX1_init_2 21 rfl rfl)
theorem dX1_init_69 : decode cX1_init 69 = .ok (.getfield 29, 3) := dk_180 0 29 (dk_at dksX1_init_3 0 rfl rfl)
theorem dX1_init_72 : decode cX1_init 72 = .ok (.invokevirtual 36, 3) := dk_182 0 36 (dk_at dksX1_init_3 3 rfl rfl)
theorem dX1_init_75 : decode cX1_init 75 = .ok (.putfield 47, 3) := dk_181 0 47 (dk_at dksX1_init_3 6 rfl rfl)
theorem dX1_init_78 : decode cX1_init 78 = .ok (.aload_n 0, 1) := dk_42 (dk_at dksX1_init_3 9 rfl rfl)
theorem dX1_init_79 : decode cX1_init 79 = .ok (.bipush 8, 2) := dk_16 8 (dk_at dksX1_init_3 10 rfl rfl)
theorem dX1_init_81 : decode cX1_init 81 = .ok (.anewarray 33, 3) := dk_189 0 33 (dk_at dksX1_init_3 12 rfl rfl)
theorem dX1_init_84 : decode cX1_init 84 = .ok (.putfield 50, 3) := dk_181 0 50 (dk_at dksX1_init_3 15 rfl rfl)
theorem dX1_init_87 : decode cX1_init 87 = .ok (.aload_n 0, 1) := dk_42 (dk_at dksX1_init_3 18 rfl rfl)
theorem dX1_init_88 : decode cX1_init 88 = .ok (.bipush 12, 2) := dk_16 12 (dk_at dksX1_init_3 19 rfl rfl)
theorem dX1_init_90 : decode cX1_init 90 = .ok (.newarray .int, 2) := dk_188_10 (dk_at dksX1_init_3 21 rfl rfl)
theorem dX1_init_92 : decode cX1_init 92 = .ok (.putfield 54, 3) := dk_181 0 54 (dk_at dksX1_init_4 0 rfl rfl)
theorem dX1_init_95 : decode cX1_init 95 = .ok (.aload_n 0, 1) := dk_42 (dk_at dksX1_init_4 3 rfl rfl)
theorem dX1_init_96 : decode cX1_init 96 = .ok (.iconst 5, 1) := dk_8 (dk_at dksX1_init_4 4 rfl rfl)
theorem dX1_init_97 : decode cX1_init 97 = .ok (.newarray .int, 2) := dk_188_10 (dk_at dksX1_init_4 5 rfl rfl)
theorem dX1_init_99 : decode cX1_init 99 = .ok (.putfield 58, 3) := dk_181 0 58 (dk_at dksX1_init_4 7 rfl rfl)
theorem dX1_init_102 : decode cX1_init 102 = .ok (.aload_n 0, 1) := dk_42 (dk_at dksX1_init_4 10 rfl rfl)
theorem dX1_init_103 : decode cX1_init 103 = .ok (.iconst 5, 1) := dk_8 (dk_at dksX1_init_4 11 rfl rfl)
theorem dX1_init_104 : decode cX1_init 104 = .ok (.newarray .int, 2) := dk_188_10 (dk_at dksX1_init_4 12 rfl rfl)
theorem dX1_init_106 : decode cX1_init 106 = .ok (.putfield 61, 3) := dk_181 0 61 (dk_at dksX1_init_4 14 rfl rfl)
theorem dX1_init_109 : decode cX1_init 109 = .ok (.aload_n 0, 1) := dk_42 (dk_at dksX1_init_4 17 rfl rfl)
theorem dX1_init_110 : decode cX1_init 110 = .ok (.iconst (-1), 1) := dk_2 (dk_at dksX1_init_4 18 rfl rfl)
theorem dX1_init_111 : decode cX1_init 111 = .ok (.putfield 64, 3) := dk_181 0 64 (dk_at dksX1_init_4 19 rfl rfl)
theorem dX1_init_114 : decode cX1_init 114 = .ok (.aload_n 0, 1) := dk_42 (dk_at dksX1_init_4 22 rfl rfl)
theorem dX1_init_115 : decode cX1_init 115 = .ok (.iconst (-1), 1) := dk_2 (dk_at dksX1_init_4 23 rfl rfl)
theorem dX1_init_116 : decode cX1_init 116 = .ok (.putfield 68, 3) := dk_181 0 68 (dk_at dksX1_init_5 0 rfl rfl)
theorem dX1_init_119 : decode cX1_init 119 = .ok (.aload_n 0, 1) := dk_42 (dk_at dksX1_init_5 3 rfl rfl)
theorem dX1_init_120 : decode cX1_init 120 = .ok (.ldc 71, 2) := dk_18 71 (dk_at dksX1_init_5 4 rfl rfl)
theorem dX1_init_122 : decode cX1_init 122 = .ok (.putfield 73, 3) := dk_181 0 73 (dk_at dksX1_init_5 6 rfl rfl)
theorem dX1_init_125 : decode cX1_init 125 = .ok (.aload_n 0, 1) := dk_42 (dk_at dksX1_init_5 9 rfl rfl)
theorem dX1_init_126 : decode cX1_init 126 = .ok (.iconst 4, 1) := dk_7 (dk_at dksX1_init_5 10 rfl rfl)
theorem dX1_init_127 : decode cX1_init 127 = .ok (.newarray .int, 2) := dk_188_10 (dk_at dksX1_init_5 11 rfl rfl)
theorem dX1_init_129 : decode cX1_init 129 = .ok (.dup, 1) := dk_89 (dk_at dksX1_init_5 13 rfl rfl)
theorem dX1_init_130 : decode cX1_init 130 = .ok (.iconst 0, 1) := dk_3 (dk_at dksX1_init_5 14 rfl rfl)
theorem dX1_init_131 : decode cX1_init 131 = .ok (.iconst (-1), 1) := dk_2 (dk_at dksX1_init_5 15 rfl rfl)
theorem dX1_init_132 : decode cX1_init 132 = .ok (.iastore, 1) := dk_79 (dk_at dksX1_init_5 16 rfl rfl)
theorem dX1_init_133 : decode cX1_init 133 = .ok (.dup, 1) := dk_89 (dk_at dksX1_init_5 17 rfl rfl)
theorem dX1_init_134 : decode cX1_init 134 = .ok (.iconst 1, 1) := dk_4 (dk_at dksX1_init_5 18 rfl rfl)
theorem dX1_init_135 : decode cX1_init 135 = .ok (.iconst (-1), 1) := dk_2 (dk_at dksX1_init_5 19 rfl rfl)
theorem dX1_init_136 : decode cX1_init 136 = .ok (.iastore, 1) := dk_79 (dk_at dksX1_init_5 20 rfl rfl)
theorem dX1_init_137 : decode cX1_init 137 = .ok (.dup, 1) := dk_89 (dk_at dksX1_init_5 21 rfl rfl)
theorem dX1_init_138 : decode cX1_init 138 = .ok (.iconst 2, 1) := dk_5 (dk_at dksX1_init_5 22 rfl rfl)
theorem dX1_init_139 : decode cX1_init 139 = .ok (.iconst (-1), 1) := dk_2 (dk_at dksX1_init_5 23 rfl rfl)
theorem dX1_init_140 : decode cX1_init 140 = .ok (.iastore, 1) := dk_79 (dk_at dksX1_init_6 0 rfl rfl)
theorem dX1_init_141 : decode cX1_init 141 = .ok (.dup, 1) := dk_89 (dk_at dksX1_init_6 1 rfl rfl)
theorem dX1_init_142 : decode cX1_init 142 = .ok (.iconst 3, 1) := dk_6 (dk_at dksX1_init_6 2 rfl rfl)
theorem dX1_init_143 : decode cX1_init 143 = .ok (.iconst (-1), 1) := dk_2 (dk_at dksX1_init_6 3 rfl rfl)
theorem dX1_init_144 : decode cX1_init 144 = .ok (.iastore, 1) := dk_79 (dk_at dksX1_init_6 4 rfl rfl)
theorem dX1_init_145 : decode cX1_init 145 = .ok (.putfield 77, 3) := dk_181 0 77 (dk_at dksX1_init_6 5 rfl rfl)
theorem dX1_init_148 : decode cX1_init 148 = .ok (.aload_n 0, 1) := dk_42 (dk_at dksX1_init_6 8 rfl rfl)
theorem dX1_init_149 : decode cX1_init 149 = .ok (.iconst 2, 1) := dk_5 (dk_at dksX1_init_6 9 rfl rfl)
theorem dX1_init_150 : decode cX1_init 150 = .ok (.anewarray 80, 3) := dk_189 0 80 (dk_at dksX1_init_6 10 rfl rfl)
theorem dX1_init_153 : decode cX1_init 153 = .ok (.dup, 1) := dk_89 (dk_at dksX1_init_6 13 rfl rfl)
theorem dX1_init_154 : decode cX1_init 154 = .ok (.iconst 0, 1) := dk_3 (dk_at dksX1_init_6 14 rfl rfl)
theorem dX1_init_155 : decode cX1_init 155 = .ok (.new 80, 3) := dk_187 0 80 (dk_at dksX1_init_6 15 rfl rfl)
theorem dX1_init_158 : decode cX1_init 158 = .ok (.dup, 1) := dk_89 (dk_at dksX1_init_6 18 rfl rfl)
theorem dX1_init_159 : decode cX1_init 159 = .ok (.invokespecial 82, 3) := dk_183 0 82 (dk_at dksX1_init_6 19 rfl rfl)
theorem dX1_init_162 : decode cX1_init 162 = .ok (.aastore, 1) := dk_83 (dk_at dksX1_init_6 22 rfl rfl)
theorem dX1_init_163 : decode cX1_init 163 = .ok (.dup, 1) := dk_89 (dk_at dksX1_init_6 23 rfl rfl)
theorem dX1_init_164 : decode cX1_init 164 = .ok (.iconst 1, 1) := dk_4 (dk_at dksX1_init_7 0 rfl rfl)
theorem dX1_init_165 : decode cX1_init 165 = .ok (.new 80, 3) := dk_187 0 80 (dk_at dksX1_init_7 1 rfl rfl)
theorem dX1_init_168 : decode cX1_init 168 = .ok (.dup, 1) := dk_89 (dk_at dksX1_init_7 4 rfl rfl)
theorem dX1_init_169 : decode cX1_init 169 = .ok (.invokespecial 82, 3) := dk_183 0 82 (dk_at dksX1_init_7 5 rfl rfl)
theorem dX1_init_172 : decode cX1_init 172 = .ok (.aastore, 1) := dk_83 (dk_at dksX1_init_7 8 rfl rfl)
theorem dX1_init_173 : decode cX1_init 173 = .ok (.putfield 83, 3) := dk_181 0 83 (dk_at dksX1_init_7 9 rfl rfl)
theorem dX1_init_176 : decode cX1_init 176 = .ok (.iconst 0, 1) := dk_3 (dk_at dksX1_init_7 12 rfl rfl)
theorem dX1_init_177 : decode cX1_init 177 = .ok (.istore_n 1, 1) := dk_60 (dk_at dksX1_init_7 13 rfl rfl)
theorem dX1_init_178 : decode cX1_init 178 = .ok (.iload_n 1, 1) := dk_27 (dk_at dksX1_init_7 14 rfl rfl)
theorem dX1_init_179 : decode cX1_init 179 = .ok (.bipush 8, 2) := dk_16 8 (dk_at dksX1_init_7 15 rfl rfl)
theorem dX1_init_181 : decode cX1_init 181 = .ok (.if_icmp .ge 22, 3) := dk_162 0 22 (dk_at dksX1_init_7 17 rfl rfl)
theorem dX1_init_184 : decode cX1_init 184 = .ok (.aload_n 0, 1) := dk_42 (dk_at dksX1_init_7 20 rfl rfl)
theorem dX1_init_185 : decode cX1_init 185 = .ok (.getfield 50, 3) := dk_180 0 50 (dk_at dksX1_init_7 21 rfl rfl)
theorem dX1_init_188 : decode cX1_init 188 = .ok (.iload_n 1, 1) := dk_27 (dk_at dksX1_init_8 0 rfl rfl)
theorem dX1_init_189 : decode cX1_init 189 = .ok (.new 33, 3) := dk_187 0 33 (dk_at dksX1_init_8 1 rfl rfl)
theorem dX1_init_192 : decode cX1_init 192 = .ok (.dup, 1) := dk_89 (dk_at dksX1_init_8 4 rfl rfl)
theorem dX1_init_193 : decode cX1_init 193 = .ok (.invokespecial 35, 3) := dk_183 0 35 (dk_at dksX1_init_8 5 rfl rfl)
theorem dX1_init_196 : decode cX1_init 196 = .ok (.aastore, 1) := dk_83 (dk_at dksX1_init_8 8 rfl rfl)
theorem dX1_init_197 : decode cX1_init 197 = .ok (.iinc 1 1, 3) := dk_132 1 1 (dk_at dksX1_init_8 9 rfl rfl)
theorem dX1_init_200 : decode cX1_init 200 = .ok (.goto (-22), 3) := dk_167 255 234 (dk_at dksX1_init_8 12 rfl rfl)
theorem dX1_init_203 : decode cX1_init 203 = .ok (.return_, 1) := dk_177 (dk_at dksX1_init_8 15 rfl rfl)
abbrev cX1_feed : ByteArray := prog_1_method_8_code
def yX1_feed : MethodName := ⟨RX1, "feed", "(IIIII)I"⟩
def dkwX1_feed_2 : List UInt8 := [172]
abbrev dktX1_feed_2 : List UInt8 := dkwX1_feed_2 ++ []
def dkwX1_feed_1 : List UInt8 := [182, 0, 90, 42, 29, 182, 0, 90, 42, 21, 4, 182, 0, 90, 42, 21, 5, 182, 0, 90, 42, 180, 0, 87]
abbrev dktX1_feed_1 : List UInt8 := dkwX1_feed_1 ++ dktX1_feed_2
def dkwX1_feed_0 : List UInt8 := [42, 180, 0, 87, 16, 20, 96, 17, 3, 172, 164, 0, 5, 2, 172, 42, 27, 182, 0, 90, 42, 28]
abbrev dktX1_feed_0 : List UInt8 := dkwX1_feed_0 ++ dktX1_feed_1
theorem dksX1_feed_0 : cX1_feed.data.toList.drop 0 = dktX1_feed_0 := by decide +kernel
theorem dksX1_feed_1 : cX1_feed.data.toList.drop 22 = dktX1_feed_1 := dk_seg dksX1_feed_0 22 rfl rfl
theorem dksX1_feed_2 : cX1_feed.data.toList.drop 46 = dktX1_feed_2 := dk_seg dksX1_feed_1 24 rfl rfl
theorem dX1_feed_0 : decode cX1_feed 0 = .ok (.aload_n 0, 1) := dk_42 (dk_at dksX1_feed_0 0 rfl rfl)
theorem dX1_feed_1 : decode cX1_feed 1 = .ok (.getfield 87, 3) := dk_180 0 87 (dk_at dksX1_feed_0 1 rfl rfl)
theorem dX1_feed_4 : decode cX1_feed 4 = .ok (.bipush 20, 2) := dk_16 20 (dk_at dksX1_feed_0 4 rfl rfl)
theorem dX1_feed_6 : decode cX1_feed 6 = .ok (.iadd, 1) := dk_96 (dk_at dksX1_feed_0 6 rfl rfl)
theorem dX1_feed_7 : decode cX1_feed 7 = .ok (.sipush 940, 3) := dk_17 3 172 (dk_at dksX1_feed_0 7 rfl rfl)
theorem dX1_feed_10 : decode cX1_feed 10 = .ok (.if_icmp .le 5, 3) := dk_164 0 5 (dk_at dksX1_feed_0 10 rfl rfl)
theorem dX1_feed_13 : decode cX1_feed 13 = .ok (.iconst (-1), 1) := dk_2 (dk_at dksX1_feed_0 13 rfl rfl)
theorem dX1_feed_14 : decode cX1_feed 14 = .ok (.ireturn, 1) := dk_172 (dk_at dksX1_feed_0 14 rfl rfl)
theorem dX1_feed_15 : decode cX1_feed 15 = .ok (.aload_n 0, 1) := dk_42 (dk_at dksX1_feed_0 15 rfl rfl)
theorem dX1_feed_16 : decode cX1_feed 16 = .ok (.iload_n 1, 1) := dk_27 (dk_at dksX1_feed_0 16 rfl rfl)
theorem dX1_feed_17 : decode cX1_feed 17 = .ok (.invokevirtual 90, 3) := dk_182 0 90 (dk_at dksX1_feed_0 17 rfl rfl)
theorem dX1_feed_20 : decode cX1_feed 20 = .ok (.aload_n 0, 1) := dk_42 (dk_at dksX1_feed_0 20 rfl rfl)
theorem dX1_feed_21 : decode cX1_feed 21 = .ok (.iload_n 2, 1) := dk_28 (dk_at dksX1_feed_0 21 rfl rfl)
theorem dX1_feed_22 : decode cX1_feed 22 = .ok (.invokevirtual 90, 3) := dk_182 0 90 (dk_at dksX1_feed_1 0 rfl rfl)
theorem dX1_feed_25 : decode cX1_feed 25 = .ok (.aload_n 0, 1) := dk_42 (dk_at dksX1_feed_1 3 rfl rfl)
theorem dX1_feed_26 : decode cX1_feed 26 = .ok (.iload_n 3, 1) := dk_29 (dk_at dksX1_feed_1 4 rfl rfl)
theorem dX1_feed_27 : decode cX1_feed 27 = .ok (.invokevirtual 90, 3) := dk_182 0 90 (dk_at dksX1_feed_1 5 rfl rfl)
theorem dX1_feed_30 : decode cX1_feed 30 = .ok (.aload_n 0, 1) := dk_42 (dk_at dksX1_feed_1 8 rfl rfl)
theorem dX1_feed_31 : decode cX1_feed 31 = .ok (.iload 4, 2) := dk_21 4 (dk_at dksX1_feed_1 9 rfl rfl)
theorem dX1_feed_33 : decode cX1_feed 33 = .ok (.invokevirtual 90, 3) := dk_182 0 90 (dk_at dksX1_feed_1 11 rfl rfl)
theorem dX1_feed_36 : decode cX1_feed 36 = .ok (.aload_n 0, 1) := dk_42 (dk_at dksX1_feed_1 14 rfl rfl)
theorem dX1_feed_37 : decode cX1_feed 37 = .ok (.iload 5, 2) := dk_21 5 (dk_at dksX1_feed_1 15 rfl rfl)
theorem dX1_feed_39 : decode cX1_feed 39 = .ok (.invokevirtual 90, 3) := dk_182 0 90 (dk_at dksX1_feed_1 17 rfl rfl)
theorem dX1_feed_42 : decode cX1_feed 42 = .ok (.aload_n 0, 1) := dk_42 (dk_at dksX1_feed_1 20 rfl rfl)
theorem dX1_feed_43 : decode cX1_feed 43 = .ok (.getfield 87, 3) := dk_180 0 87 (dk_at dksX1_feed_1 21 rfl rfl)
theorem dX1_feed_46 : decode cX1_feed 46 = .ok (.ireturn, 1) := dk_172 (dk_at dksX1_feed_2 0 rfl rfl)
abbrev cX1_feedOne : ByteArray := prog_1_method_7_code
def yX1_feedOne : MethodName := ⟨RX1, "feedOne", "(I)V"⟩
def dkwX1_feedOne_1 : List UInt8 := [180, 0, 87, 4, 96, 181, 0, 87, 132, 2, 248, 167, 255, 226, 177]
abbrev dktX1_feedOne_1 : List UInt8 := dkwX1_feedOne_1 ++ []
def dkwX1_feedOne_0 : List UInt8 := [16, 24, 61, 28, 155, 0, 32, 42, 180, 0, 22, 42, 180, 0, 87, 27, 28, 122, 145, 84, 42, 89]
abbrev dktX1_feedOne_0 : List UInt8 := dkwX1_feedOne_0 ++ dktX1_feedOne_1
theorem dksX1_feedOne_0 : cX1_feedOne.data.toList.drop 0 = dktX1_feedOne_0 := by decide +kernel
theorem dksX1_feedOne_1 : cX1_feedOne.data.toList.drop 22 = dktX1_feedOne_1 := dk_seg dksX1_feedOne_0 22 rfl rfl
theorem dX1_feedOne_0 : decode cX1_feedOne 0 = .ok (.bipush 24, 2) := dk_16 24 (dk_at dksX1_feedOne_0 0 rfl rfl)
theorem dX1_feedOne_2 : decode cX1_feedOne 2 = .ok (.istore_n 2, 1) := dk_61 (dk_at dksX1_feedOne_0 2 rfl rfl)
theorem dX1_feedOne_3 : decode cX1_feedOne 3 = .ok (.iload_n 2, 1) := dk_28 (dk_at dksX1_feedOne_0 3 rfl rfl)
theorem dX1_feedOne_4 : decode cX1_feedOne 4 = .ok (.ifCond .lt 32, 3) := dk_155 0 32 (dk_at dksX1_feedOne_0 4 rfl rfl)
theorem dX1_feedOne_7 : decode cX1_feedOne 7 = .ok (.aload_n 0, 1) := dk_42 (dk_at dksX1_feedOne_0 7 rfl rfl)
theorem dX1_feedOne_8 : decode cX1_feedOne 8 = .ok (.getfield 22, 3) := dk_180 0 22 (dk_at dksX1_feedOne_0 8 rfl rfl)
theorem dX1_feedOne_11 : decode cX1_feedOne 11 = .ok (.aload_n 0, 1) := dk_42 (dk_at dksX1_feedOne_0 11 rfl rfl)
theorem dX1_feedOne_12 : decode cX1_feedOne 12 = .ok (.getfield 87, 3) := dk_180 0 87 (dk_at dksX1_feedOne_0 12 rfl rfl)
theorem dX1_feedOne_15 : decode cX1_feedOne 15 = .ok (.iload_n 1, 1) := dk_27 (dk_at dksX1_feedOne_0 15 rfl rfl)
theorem dX1_feedOne_16 : decode cX1_feedOne 16 = .ok (.iload_n 2, 1) := dk_28 (dk_at dksX1_feedOne_0 16 rfl rfl)
theorem dX1_feedOne_17 : decode cX1_feedOne 17 = .ok (.ishr, 1) := dk_122 (dk_at dksX1_feedOne_0 17 rfl rfl)
theorem dX1_feedOne_18 : decode cX1_feedOne 18 = .ok (.i2b, 1) := dk_145 (dk_at dksX1_feedOne_0 18 rfl rfl)
theorem dX1_feedOne_19 : decode cX1_feedOne 19 = .ok (.bastore, 1) := dk_84 (dk_at dksX1_feedOne_0 19 rfl rfl)
theorem dX1_feedOne_20 : decode cX1_feedOne 20 = .ok (.aload_n 0, 1) := dk_42 (dk_at dksX1_feedOne_0 20 rfl rfl)
theorem dX1_feedOne_21 : decode cX1_feedOne 21 = .ok (.dup, 1) := dk_89 (dk_at dksX1_feedOne_0 21 rfl rfl)
theorem dX1_feedOne_22 : decode cX1_feedOne 22 = .ok (.getfield 87, 3) := dk_180 0 87 (dk_at dksX1_feedOne_1 0 rfl rfl)
theorem dX1_feedOne_25 : decode cX1_feedOne 25 = .ok (.iconst 1, 1) := dk_4 (dk_at dksX1_feedOne_1 3 rfl rfl)
theorem dX1_feedOne_26 : decode cX1_feedOne 26 = .ok (.iadd, 1) := dk_96 (dk_at dksX1_feedOne_1 4 rfl rfl)
theorem dX1_feedOne_27 : decode cX1_feedOne 27 = .ok (.putfield 87, 3) := dk_181 0 87 (dk_at dksX1_feedOne_1 5 rfl rfl)
theorem dX1_feedOne_30 : decode cX1_feedOne 30 = .ok (.iinc 2 (-8), 3) := dk_132 2 248 (dk_at dksX1_feedOne_1 8 rfl rfl)
theorem dX1_feedOne_33 : decode cX1_feedOne 33 = .ok (.goto (-30), 3) := dk_167 255 226 (dk_at dksX1_feedOne_1 11 rfl rfl)
theorem dX1_feedOne_36 : decode cX1_feedOne 36 = .ok (.return_, 1) := dk_177 (dk_at dksX1_feedOne_1 14 rfl rfl)
abbrev cX1_end : ByteArray := prog_1_method_9_code
def yX1_end : MethodName := ⟨RX1, "end", "(I)Z"⟩
def dkwX1_end_0 : List UInt8 := [27, 155, 0, 11, 27, 42, 180, 0, 87, 164, 0, 5, 3, 172, 42, 27, 181, 0, 87, 4, 172]
abbrev dktX1_end_0 : List UInt8 := dkwX1_end_0 ++ []
theorem dksX1_end_0 : cX1_end.data.toList.drop 0 = dktX1_end_0 := by decide +kernel
theorem dX1_end_0 : decode cX1_end 0 = .ok (.iload_n 1, 1) := dk_27 (dk_at dksX1_end_0 0 rfl rfl)
theorem dX1_end_1 : decode cX1_end 1 = .ok (.ifCond .lt 11, 3) := dk_155 0 11 (dk_at dksX1_end_0 1 rfl rfl)
theorem dX1_end_4 : decode cX1_end 4 = .ok (.iload_n 1, 1) := dk_27 (dk_at dksX1_end_0 4 rfl rfl)
theorem dX1_end_5 : decode cX1_end 5 = .ok (.aload_n 0, 1) := dk_42 (dk_at dksX1_end_0 5 rfl rfl)
theorem dX1_end_6 : decode cX1_end 6 = .ok (.getfield 87, 3) := dk_180 0 87 (dk_at dksX1_end_0 6 rfl rfl)
theorem dX1_end_9 : decode cX1_end 9 = .ok (.if_icmp .le 5, 3) := dk_164 0 5 (dk_at dksX1_end_0 9 rfl rfl)
theorem dX1_end_12 : decode cX1_end 12 = .ok (.iconst 0, 1) := dk_3 (dk_at dksX1_end_0 12 rfl rfl)
theorem dX1_end_13 : decode cX1_end 13 = .ok (.ireturn, 1) := dk_172 (dk_at dksX1_end_0 13 rfl rfl)
theorem dX1_end_14 : decode cX1_end 14 = .ok (.aload_n 0, 1) := dk_42 (dk_at dksX1_end_0 14 rfl rfl)
theorem dX1_end_15 : decode cX1_end 15 = .ok (.iload_n 1, 1) := dk_27 (dk_at dksX1_end_0 15 rfl rfl)
theorem dX1_end_16 : decode cX1_end 16 = .ok (.putfield 87, 3) := dk_181 0 87 (dk_at dksX1_end_0 16 rfl rfl)
theorem dX1_end_19 : decode cX1_end 19 = .ok (.iconst 1, 1) := dk_4 (dk_at dksX1_end_0 19 rfl rfl)
theorem dX1_end_20 : decode cX1_end 20 = .ok (.ireturn, 1) := dk_172 (dk_at dksX1_end_0 20 rfl rfl)
abbrev cX1_family : ByteArray := prog_1_method_12_code
def yX1_family : MethodName := ⟨RX1, "family", "()I"⟩
def dkwX1_family_3 : List UInt8 := [180, 0, 125, 100, 172]
abbrev dktX1_family_3 : List UInt8 := dkwX1_family_3 ++ []
def dkwX1_family_2 : List UInt8 := [3, 181, 0, 114, 42, 180, 0, 29, 180, 0, 117, 172, 77, 42, 44, 180, 0, 122, 181, 0, 98, 2, 44]
abbrev dktX1_family_2 : List UInt8 := dkwX1_family_2 ++ dktX1_family_3
def dkwX1_family_1 : List UInt8 := [182, 0, 106, 181, 0, 29, 42, 180, 0, 40, 42, 180, 0, 29, 182, 0, 36, 87, 42, 1, 181, 0, 110, 42]
abbrev dktX1_family_1 : List UInt8 := dkwX1_family_1 ++ dktX1_family_2
def dkwX1_family_0 : List UInt8 := [42, 182, 0, 94, 60, 42, 3, 181, 0, 98, 42, 187, 0, 101, 89, 42, 180, 0, 22, 27, 183, 0, 103]
abbrev dktX1_family_0 : List UInt8 := dkwX1_family_0 ++ dktX1_family_1
theorem dksX1_family_0 : cX1_family.data.toList.drop 0 = dktX1_family_0 := by decide +kernel
theorem dksX1_family_1 : cX1_family.data.toList.drop 23 = dktX1_family_1 := dk_seg dksX1_family_0 23 rfl rfl
theorem dksX1_family_2 : cX1_family.data.toList.drop 47 = dktX1_family_2 := dk_seg dksX1_family_1 24 rfl rfl
theorem dksX1_family_3 : cX1_family.data.toList.drop 70 = dktX1_family_3 := dk_seg dksX1_family_2 23 rfl rfl
theorem dX1_family_0 : decode cX1_family 0 = .ok (.aload_n 0, 1) := dk_42 (dk_at dksX1_family_0 0 rfl rfl)
theorem dX1_family_1 : decode cX1_family 1 = .ok (.invokevirtual 94, 3) := dk_182 0 94 (dk_at dksX1_family_0 1 rfl rfl)
theorem dX1_family_4 : decode cX1_family 4 = .ok (.istore_n 1, 1) := dk_60 (dk_at dksX1_family_0 4 rfl rfl)
theorem dX1_family_5 : decode cX1_family 5 = .ok (.aload_n 0, 1) := dk_42 (dk_at dksX1_family_0 5 rfl rfl)
theorem dX1_family_6 : decode cX1_family 6 = .ok (.iconst 0, 1) := dk_3 (dk_at dksX1_family_0 6 rfl rfl)
theorem dX1_family_7 : decode cX1_family 7 = .ok (.putfield 98, 3) := dk_181 0 98 (dk_at dksX1_family_0 7 rfl rfl)
theorem dX1_family_10 : decode cX1_family 10 = .ok (.aload_n 0, 1) := dk_42 (dk_at dksX1_family_0 10 rfl rfl)
theorem dX1_family_11 : decode cX1_family 11 = .ok (.new 101, 3) := dk_187 0 101 (dk_at dksX1_family_0 11 rfl rfl)
theorem dX1_family_14 : decode cX1_family 14 = .ok (.dup, 1) := dk_89 (dk_at dksX1_family_0 14 rfl rfl)
theorem dX1_family_15 : decode cX1_family 15 = .ok (.aload_n 0, 1) := dk_42 (dk_at dksX1_family_0 15 rfl rfl)
theorem dX1_family_16 : decode cX1_family 16 = .ok (.getfield 22, 3) := dk_180 0 22 (dk_at dksX1_family_0 16 rfl rfl)
theorem dX1_family_19 : decode cX1_family 19 = .ok (.iload_n 1, 1) := dk_27 (dk_at dksX1_family_0 19 rfl rfl)
theorem dX1_family_20 : decode cX1_family 20 = .ok (.invokespecial 103, 3) := dk_183 0 103 (dk_at dksX1_family_0 20 rfl rfl)
theorem dX1_family_23 : decode cX1_family 23 = .ok (.invokevirtual 106, 3) := dk_182 0 106 (dk_at dksX1_family_1 0 rfl rfl)
theorem dX1_family_26 : decode cX1_family 26 = .ok (.putfield 29, 3) := dk_181 0 29 (dk_at dksX1_family_1 3 rfl rfl)
theorem dX1_family_29 : decode cX1_family 29 = .ok (.aload_n 0, 1) := dk_42 (dk_at dksX1_family_1 6 rfl rfl)
theorem dX1_family_30 : decode cX1_family 30 = .ok (.getfield 40, 3) := dk_180 0 40 (dk_at dksX1_family_1 7 rfl rfl)
theorem dX1_family_33 : decode cX1_family 33 = .ok (.aload_n 0, 1) := dk_42 (dk_at dksX1_family_1 10 rfl rfl)
theorem dX1_family_34 : decode cX1_family 34 = .ok (.getfield 29, 3) := dk_180 0 29 (dk_at dksX1_family_1 11 rfl rfl)
theorem dX1_family_37 : decode cX1_family 37 = .ok (.invokevirtual 36, 3) := dk_182 0 36 (dk_at dksX1_family_1 14 rfl rfl)
theorem dX1_family_40 : decode cX1_family 40 = .ok (.pop, 1) := dk_87 (dk_at dksX1_family_1 17 rfl rfl)
theorem dX1_family_41 : decode cX1_family 41 = .ok (.aload_n 0, 1) := dk_42 (dk_at dksX1_family_1 18 rfl rfl)
theorem dX1_family_42 : decode cX1_family 42 = .ok (.aconst_null, 1) := dk_1 (dk_at dksX1_family_1 19 rfl rfl)
theorem dX1_family_43 : decode cX1_family 43 = .ok (.putfield 110, 3) := dk_181 0 110 (dk_at dksX1_family_1 20 rfl rfl)
theorem dX1_family_46 : decode cX1_family 46 = .ok (.aload_n 0, 1) := dk_42 (dk_at dksX1_family_1 23 rfl rfl)
theorem dX1_family_47 : decode cX1_family 47 = .ok (.iconst 0, 1) := dk_3 (dk_at dksX1_family_2 0 rfl rfl)
theorem dX1_family_48 : decode cX1_family 48 = .ok (.putfield 114, 3) := dk_181 0 114 (dk_at dksX1_family_2 1 rfl rfl)
theorem dX1_family_51 : decode cX1_family 51 = .ok (.aload_n 0, 1) := dk_42 (dk_at dksX1_family_2 4 rfl rfl)
theorem dX1_family_52 : decode cX1_family 52 = .ok (.getfield 29, 3) := dk_180 0 29 (dk_at dksX1_family_2 5 rfl rfl)
theorem dX1_family_55 : decode cX1_family 55 = .ok (.getfield 117, 3) := dk_180 0 117 (dk_at dksX1_family_2 8 rfl rfl)
theorem dX1_family_58 : decode cX1_family 58 = .ok (.ireturn, 1) := dk_172 (dk_at dksX1_family_2 11 rfl rfl)
theorem dX1_family_59 : decode cX1_family 59 = .ok (.astore_n 2, 1) := dk_77 (dk_at dksX1_family_2 12 rfl rfl)
theorem dX1_family_60 : decode cX1_family 60 = .ok (.aload_n 0, 1) := dk_42 (dk_at dksX1_family_2 13 rfl rfl)
theorem dX1_family_61 : decode cX1_family 61 = .ok (.aload_n 2, 1) := dk_44 (dk_at dksX1_family_2 14 rfl rfl)
theorem dX1_family_62 : decode cX1_family 62 = .ok (.getfield 122, 3) := dk_180 0 122 (dk_at dksX1_family_2 15 rfl rfl)
theorem dX1_family_65 : decode cX1_family 65 = .ok (.putfield 98, 3) := dk_181 0 98 (dk_at dksX1_family_2 18 rfl rfl)
theorem dX1_family_68 : decode cX1_family 68 = .ok (.iconst (-1), 1) := dk_2 (dk_at dksX1_family_2 21 rfl rfl)
theorem dX1_family_69 : decode cX1_family 69 = .ok (.aload_n 2, 1) := dk_44 (dk_at dksX1_family_2 22 rfl rfl)
theorem dX1_family_70 : decode cX1_family 70 = .ok (.getfield 125, 3) := dk_180 0 125 (dk_at dksX1_family_3 0 rfl rfl)
theorem dX1_family_73 : decode cX1_family 73 = .ok (.isub, 1) := dk_100 (dk_at dksX1_family_3 3 rfl rfl)
theorem dX1_family_74 : decode cX1_family 74 = .ok (.ireturn, 1) := dk_172 (dk_at dksX1_family_3 4 rfl rfl)
abbrev cX1_takeAll : ByteArray := prog_1_method_10_code
def yX1_takeAll : MethodName := ⟨RX1, "takeAll", "()I"⟩
def dkwX1_takeAll_0 : List UInt8 := [42, 180, 0, 87, 60, 42, 3, 181, 0, 87, 27, 172]
abbrev dktX1_takeAll_0 : List UInt8 := dkwX1_takeAll_0 ++ []
theorem dksX1_takeAll_0 : cX1_takeAll.data.toList.drop 0 = dktX1_takeAll_0 := by decide +kernel
theorem dX1_takeAll_0 : decode cX1_takeAll 0 = .ok (.aload_n 0, 1) := dk_42 (dk_at dksX1_takeAll_0 0 rfl rfl)
theorem dX1_takeAll_1 : decode cX1_takeAll 1 = .ok (.getfield 87, 3) := dk_180 0 87 (dk_at dksX1_takeAll_0 1 rfl rfl)
theorem dX1_takeAll_4 : decode cX1_takeAll 4 = .ok (.istore_n 1, 1) := dk_60 (dk_at dksX1_takeAll_0 4 rfl rfl)
theorem dX1_takeAll_5 : decode cX1_takeAll 5 = .ok (.aload_n 0, 1) := dk_42 (dk_at dksX1_takeAll_0 5 rfl rfl)
theorem dX1_takeAll_6 : decode cX1_takeAll 6 = .ok (.iconst 0, 1) := dk_3 (dk_at dksX1_takeAll_0 6 rfl rfl)
theorem dX1_takeAll_7 : decode cX1_takeAll 7 = .ok (.putfield 87, 3) := dk_181 0 87 (dk_at dksX1_takeAll_0 7 rfl rfl)
theorem dX1_takeAll_10 : decode cX1_takeAll 10 = .ok (.iload_n 1, 1) := dk_27 (dk_at dksX1_takeAll_0 10 rfl rfl)
theorem dX1_takeAll_11 : decode cX1_takeAll 11 = .ok (.ireturn, 1) := dk_172 (dk_at dksX1_takeAll_0 11 rfl rfl)
abbrev cX1_isIn : ByteArray := prog_1_method_1_code
def yX1_isIn : MethodName := ⟨RX1, "isIn", "(III)Z"⟩
def dkwX1_isIn_0 : List UInt8 := [26, 27, 161, 0, 12, 26, 28, 163, 0, 7, 4, 167, 0, 4, 3, 172]
abbrev dktX1_isIn_0 : List UInt8 := dkwX1_isIn_0 ++ []
theorem dksX1_isIn_0 : cX1_isIn.data.toList.drop 0 = dktX1_isIn_0 := by decide +kernel
theorem dX1_isIn_0 : decode cX1_isIn 0 = .ok (.iload_n 0, 1) := dk_26 (dk_at dksX1_isIn_0 0 rfl rfl)
theorem dX1_isIn_1 : decode cX1_isIn 1 = .ok (.iload_n 1, 1) := dk_27 (dk_at dksX1_isIn_0 1 rfl rfl)
theorem dX1_isIn_2 : decode cX1_isIn 2 = .ok (.if_icmp .lt 12, 3) := dk_161 0 12 (dk_at dksX1_isIn_0 2 rfl rfl)
theorem dX1_isIn_5 : decode cX1_isIn 5 = .ok (.iload_n 0, 1) := dk_26 (dk_at dksX1_isIn_0 5 rfl rfl)
theorem dX1_isIn_6 : decode cX1_isIn 6 = .ok (.iload_n 2, 1) := dk_28 (dk_at dksX1_isIn_0 6 rfl rfl)
theorem dX1_isIn_7 : decode cX1_isIn 7 = .ok (.if_icmp .gt 7, 3) := dk_163 0 7 (dk_at dksX1_isIn_0 7 rfl rfl)
theorem dX1_isIn_10 : decode cX1_isIn 10 = .ok (.iconst 1, 1) := dk_4 (dk_at dksX1_isIn_0 10 rfl rfl)
theorem dX1_isIn_11 : decode cX1_isIn 11 = .ok (.goto 4, 3) := dk_167 0 4 (dk_at dksX1_isIn_0 11 rfl rfl)
theorem dX1_isIn_14 : decode cX1_isIn 14 = .ok (.iconst 0, 1) := dk_3 (dk_at dksX1_isIn_0 14 rfl rfl)
theorem dX1_isIn_15 : decode cX1_isIn 15 = .ok (.ireturn, 1) := dk_172 (dk_at dksX1_isIn_0 15 rfl rfl)
abbrev cX1_many : ByteArray := prog_1_method_3_code
def yX1_many : MethodName := ⟨RX1, "many", "(I)I"⟩
theorem dX1_many_0 : decode cX1_many 0 = .ok (.iload_n 0, 1) := by decide +kernel
theorem dX1_many_1 : decode cX1_many 1 = .ok (.invokestatic 1, 3) := by decide +kernel
theorem dX1_many_4 : decode cX1_many 4 = .ok (.ireturn, 1) := by decide +kernel
abbrev cX1_isOf : ByteArray := prog_1_method_2_code
def yX1_isOf : MethodName := ⟨RX1, "isOf", "(II)Z"⟩
def dkwX1_isOf_0 : List UInt8 := [26, 27, 122, 4, 126, 4, 160, 0, 7, 4, 167, 0, 4, 3, 172]
abbrev dktX1_isOf_0 : List UInt8 := dkwX1_isOf_0 ++ []
theorem dksX1_isOf_0 : cX1_isOf.data.toList.drop 0 = dktX1_isOf_0 := by decide +kernel
theorem dX1_isOf_0 : decode cX1_isOf 0 = .ok (.iload_n 0, 1) := dk_26 (dk_at dksX1_isOf_0 0 rfl rfl)
theorem dX1_isOf_1 : decode cX1_isOf 1 = .ok (.iload_n 1, 1) := dk_27 (dk_at dksX1_isOf_0 1 rfl rfl)
theorem dX1_isOf_2 : decode cX1_isOf 2 = .ok (.ishr, 1) := dk_122 (dk_at dksX1_isOf_0 2 rfl rfl)
theorem dX1_isOf_3 : decode cX1_isOf 3 = .ok (.iconst 1, 1) := dk_4 (dk_at dksX1_isOf_0 3 rfl rfl)
theorem dX1_isOf_4 : decode cX1_isOf 4 = .ok (.iand, 1) := dk_126 (dk_at dksX1_isOf_0 4 rfl rfl)
theorem dX1_isOf_5 : decode cX1_isOf 5 = .ok (.iconst 1, 1) := dk_4 (dk_at dksX1_isOf_0 5 rfl rfl)
theorem dX1_isOf_6 : decode cX1_isOf 6 = .ok (.if_icmp .ne 7, 3) := dk_160 0 7 (dk_at dksX1_isOf_0 6 rfl rfl)
theorem dX1_isOf_9 : decode cX1_isOf 9 = .ok (.iconst 1, 1) := dk_4 (dk_at dksX1_isOf_0 9 rfl rfl)
theorem dX1_isOf_10 : decode cX1_isOf 10 = .ok (.goto 4, 3) := dk_167 0 4 (dk_at dksX1_isOf_0 10 rfl rfl)
theorem dX1_isOf_13 : decode cX1_isOf 13 = .ok (.iconst 0, 1) := dk_3 (dk_at dksX1_isOf_0 13 rfl rfl)
theorem dX1_isOf_14 : decode cX1_isOf 14 = .ok (.ireturn, 1) := dk_172 (dk_at dksX1_isOf_0 14 rfl rfl)
abbrev cX1_fault : ByteArray := prog_1_method_13_code
def yX1_fault : MethodName := ⟨RX1, "fault", "()I"⟩
theorem dX1_fault_0 : decode cX1_fault 0 = .ok (.aload_n 0, 1) := by decide +kernel
theorem dX1_fault_1 : decode cX1_fault 1 = .ok (.getfield 98, 3) := by decide +kernel
theorem dX1_fault_4 : decode cX1_fault 4 = .ok (.ireturn, 1) := by decide +kernel
abbrev cX1_legacy : ByteArray := prog_1_method_19_code
def yX1_legacy : MethodName := ⟨RX1, "legacy", "(II)I"⟩
def dkwX1_legacy_3 : List UInt8 := [180, 0, 195, 27, 46, 172, 2, 172]
abbrev dktX1_legacy_3 : List UInt8 := dkwX1_legacy_3 ++ []
def dkwX1_legacy_2 : List UInt8 := [42, 180, 0, 40, 180, 0, 189, 27, 46, 172, 42, 180, 0, 40, 180, 0, 192, 27, 46, 172, 42, 180, 0, 40]
abbrev dktX1_legacy_2 : List UInt8 := dkwX1_legacy_2 ++ dktX1_legacy_3
def dkwX1_legacy_1 : List UInt8 := [170, 0, 0, 0, 0, 0, 0, 58, 0, 0, 0, 0, 0, 0, 0, 2, 0, 0, 0, 28, 0, 0, 0, 38, 0, 0, 0, 48]
abbrev dktX1_legacy_1 : List UInt8 := dkwX1_legacy_1 ++ dktX1_legacy_2
def dkwX1_legacy_0 : List UInt8 := [27, 3, 42, 180, 0, 40, 180, 0, 186, 4, 100, 184, 0, 146, 154, 0, 5, 2, 172, 28]
abbrev dktX1_legacy_0 : List UInt8 := dkwX1_legacy_0 ++ dktX1_legacy_1
theorem dksX1_legacy_0 : cX1_legacy.data.toList.drop 0 = dktX1_legacy_0 := by decide +kernel
theorem dksX1_legacy_1 : cX1_legacy.data.toList.drop 20 = dktX1_legacy_1 := dk_seg dksX1_legacy_0 20 rfl rfl
theorem dksX1_legacy_2 : cX1_legacy.data.toList.drop 48 = dktX1_legacy_2 := dk_seg dksX1_legacy_1 28 rfl rfl
theorem dksX1_legacy_3 : cX1_legacy.data.toList.drop 72 = dktX1_legacy_3 := dk_seg dksX1_legacy_2 24 rfl rfl
theorem dX1_legacy_0 : decode cX1_legacy 0 = .ok (.iload_n 1, 1) := dk_27 (dk_at dksX1_legacy_0 0 rfl rfl)
theorem dX1_legacy_1 : decode cX1_legacy 1 = .ok (.iconst 0, 1) := dk_3 (dk_at dksX1_legacy_0 1 rfl rfl)
theorem dX1_legacy_2 : decode cX1_legacy 2 = .ok (.aload_n 0, 1) := dk_42 (dk_at dksX1_legacy_0 2 rfl rfl)
theorem dX1_legacy_3 : decode cX1_legacy 3 = .ok (.getfield 40, 3) := dk_180 0 40 (dk_at dksX1_legacy_0 3 rfl rfl)
theorem dX1_legacy_6 : decode cX1_legacy 6 = .ok (.getfield 186, 3) := dk_180 0 186 (dk_at dksX1_legacy_0 6 rfl rfl)
theorem dX1_legacy_9 : decode cX1_legacy 9 = .ok (.iconst 1, 1) := dk_4 (dk_at dksX1_legacy_0 9 rfl rfl)
theorem dX1_legacy_10 : decode cX1_legacy 10 = .ok (.isub, 1) := dk_100 (dk_at dksX1_legacy_0 10 rfl rfl)
theorem dX1_legacy_11 : decode cX1_legacy 11 = .ok (.invokestatic 146, 3) := dk_184 0 146 (dk_at dksX1_legacy_0 11 rfl rfl)
theorem dX1_legacy_14 : decode cX1_legacy 14 = .ok (.ifCond .ne 5, 3) := dk_154 0 5 (dk_at dksX1_legacy_0 14 rfl rfl)
theorem dX1_legacy_17 : decode cX1_legacy 17 = .ok (.iconst (-1), 1) := dk_2 (dk_at dksX1_legacy_0 17 rfl rfl)
theorem dX1_legacy_18 : decode cX1_legacy 18 = .ok (.ireturn, 1) := dk_172 (dk_at dksX1_legacy_0 18 rfl rfl)
theorem dX1_legacy_19 : decode cX1_legacy 19 = .ok (.iload_n 2, 1) := dk_28 (dk_at dksX1_legacy_0 19 rfl rfl)
theorem dX1_legacy_20 : decode cX1_legacy 20 = .ok (.tableswitch 58 0 2 #[28, 38, 48], 28) := by decide +kernel
theorem dX1_legacy_48 : decode cX1_legacy 48 = .ok (.aload_n 0, 1) := dk_42 (dk_at dksX1_legacy_2 0 rfl rfl)
theorem dX1_legacy_49 : decode cX1_legacy 49 = .ok (.getfield 40, 3) := dk_180 0 40 (dk_at dksX1_legacy_2 1 rfl rfl)
theorem dX1_legacy_52 : decode cX1_legacy 52 = .ok (.getfield 189, 3) := dk_180 0 189 (dk_at dksX1_legacy_2 4 rfl rfl)
theorem dX1_legacy_55 : decode cX1_legacy 55 = .ok (.iload_n 1, 1) := dk_27 (dk_at dksX1_legacy_2 7 rfl rfl)
theorem dX1_legacy_56 : decode cX1_legacy 56 = .ok (.iaload, 1) := dk_46 (dk_at dksX1_legacy_2 8 rfl rfl)
theorem dX1_legacy_57 : decode cX1_legacy 57 = .ok (.ireturn, 1) := dk_172 (dk_at dksX1_legacy_2 9 rfl rfl)
theorem dX1_legacy_58 : decode cX1_legacy 58 = .ok (.aload_n 0, 1) := dk_42 (dk_at dksX1_legacy_2 10 rfl rfl)
theorem dX1_legacy_59 : decode cX1_legacy 59 = .ok (.getfield 40, 3) := dk_180 0 40 (dk_at dksX1_legacy_2 11 rfl rfl)
theorem dX1_legacy_62 : decode cX1_legacy 62 = .ok (.getfield 192, 3) := dk_180 0 192 (dk_at dksX1_legacy_2 14 rfl rfl)
theorem dX1_legacy_65 : decode cX1_legacy 65 = .ok (.iload_n 1, 1) := dk_27 (dk_at dksX1_legacy_2 17 rfl rfl)
theorem dX1_legacy_66 : decode cX1_legacy 66 = .ok (.iaload, 1) := dk_46 (dk_at dksX1_legacy_2 18 rfl rfl)
theorem dX1_legacy_67 : decode cX1_legacy 67 = .ok (.ireturn, 1) := dk_172 (dk_at dksX1_legacy_2 19 rfl rfl)
theorem dX1_legacy_68 : decode cX1_legacy 68 = .ok (.aload_n 0, 1) := dk_42 (dk_at dksX1_legacy_2 20 rfl rfl)
theorem dX1_legacy_69 : decode cX1_legacy 69 = .ok (.getfield 40, 3) := dk_180 0 40 (dk_at dksX1_legacy_2 21 rfl rfl)
theorem dX1_legacy_72 : decode cX1_legacy 72 = .ok (.getfield 195, 3) := dk_180 0 195 (dk_at dksX1_legacy_3 0 rfl rfl)
theorem dX1_legacy_75 : decode cX1_legacy 75 = .ok (.iload_n 1, 1) := dk_27 (dk_at dksX1_legacy_3 3 rfl rfl)
theorem dX1_legacy_76 : decode cX1_legacy 76 = .ok (.iaload, 1) := dk_46 (dk_at dksX1_legacy_3 4 rfl rfl)
theorem dX1_legacy_77 : decode cX1_legacy 77 = .ok (.ireturn, 1) := dk_172 (dk_at dksX1_legacy_3 5 rfl rfl)
theorem dX1_legacy_78 : decode cX1_legacy 78 = .ok (.iconst (-1), 1) := dk_2 (dk_at dksX1_legacy_3 6 rfl rfl)
theorem dX1_legacy_79 : decode cX1_legacy 79 = .ok (.ireturn, 1) := dk_172 (dk_at dksX1_legacy_3 7 rfl rfl)
abbrev cX1_degree : ByteArray := prog_1_method_20_code
def yX1_degree : MethodName := ⟨RX1, "degree", "(II)I"⟩
def dkwX1_degree_1 : List UInt8 := [182, 0, 198, 167, 0, 4, 2, 172]
abbrev dktX1_degree_1 : List UInt8 := dkwX1_degree_1 ++ []
def dkwX1_degree_0 : List UInt8 := [42, 27, 182, 0, 132, 153, 0, 23, 42, 28, 182, 0, 132, 153, 0, 15, 42, 180, 0, 29, 27, 28]
abbrev dktX1_degree_0 : List UInt8 := dkwX1_degree_0 ++ dktX1_degree_1
theorem dksX1_degree_0 : cX1_degree.data.toList.drop 0 = dktX1_degree_0 := by decide +kernel
theorem dksX1_degree_1 : cX1_degree.data.toList.drop 22 = dktX1_degree_1 := dk_seg dksX1_degree_0 22 rfl rfl
theorem dX1_degree_0 : decode cX1_degree 0 = .ok (.aload_n 0, 1) := dk_42 (dk_at dksX1_degree_0 0 rfl rfl)
theorem dX1_degree_1 : decode cX1_degree 1 = .ok (.iload_n 1, 1) := dk_27 (dk_at dksX1_degree_0 1 rfl rfl)
theorem dX1_degree_2 : decode cX1_degree 2 = .ok (.invokevirtual 132, 3) := dk_182 0 132 (dk_at dksX1_degree_0 2 rfl rfl)
theorem dX1_degree_5 : decode cX1_degree 5 = .ok (.ifCond .eq 23, 3) := dk_153 0 23 (dk_at dksX1_degree_0 5 rfl rfl)
theorem dX1_degree_8 : decode cX1_degree 8 = .ok (.aload_n 0, 1) := dk_42 (dk_at dksX1_degree_0 8 rfl rfl)
theorem dX1_degree_9 : decode cX1_degree 9 = .ok (.iload_n 2, 1) := dk_28 (dk_at dksX1_degree_0 9 rfl rfl)
theorem dX1_degree_10 : decode cX1_degree 10 = .ok (.invokevirtual 132, 3) := dk_182 0 132 (dk_at dksX1_degree_0 10 rfl rfl)
theorem dX1_degree_13 : decode cX1_degree 13 = .ok (.ifCond .eq 15, 3) := dk_153 0 15 (dk_at dksX1_degree_0 13 rfl rfl)
theorem dX1_degree_16 : decode cX1_degree 16 = .ok (.aload_n 0, 1) := dk_42 (dk_at dksX1_degree_0 16 rfl rfl)
theorem dX1_degree_17 : decode cX1_degree 17 = .ok (.getfield 29, 3) := dk_180 0 29 (dk_at dksX1_degree_0 17 rfl rfl)
theorem dX1_degree_20 : decode cX1_degree 20 = .ok (.iload_n 1, 1) := dk_27 (dk_at dksX1_degree_0 20 rfl rfl)
theorem dX1_degree_21 : decode cX1_degree 21 = .ok (.iload_n 2, 1) := dk_28 (dk_at dksX1_degree_0 21 rfl rfl)
theorem dX1_degree_22 : decode cX1_degree 22 = .ok (.invokevirtual 198, 3) := dk_182 0 198 (dk_at dksX1_degree_1 0 rfl rfl)
theorem dX1_degree_25 : decode cX1_degree 25 = .ok (.goto 4, 3) := dk_167 0 4 (dk_at dksX1_degree_1 3 rfl rfl)
theorem dX1_degree_28 : decode cX1_degree 28 = .ok (.iconst (-1), 1) := dk_2 (dk_at dksX1_degree_1 6 rfl rfl)
theorem dX1_degree_29 : decode cX1_degree 29 = .ok (.ireturn, 1) := dk_172 (dk_at dksX1_degree_1 7 rfl rfl)
abbrev cX1_isPerson : ByteArray := prog_1_method_14_code
def yX1_isPerson : MethodName := ⟨RX1, "isPerson", "(I)Z"⟩
def dkwX1_isPerson_0 : List UInt8 := [42, 180, 0, 29, 27, 182, 0, 128, 172]
abbrev dktX1_isPerson_0 : List UInt8 := dkwX1_isPerson_0 ++ []
theorem dksX1_isPerson_0 : cX1_isPerson.data.toList.drop 0 = dktX1_isPerson_0 := by decide +kernel
theorem dX1_isPerson_0 : decode cX1_isPerson 0 = .ok (.aload_n 0, 1) := dk_42 (dk_at dksX1_isPerson_0 0 rfl rfl)
theorem dX1_isPerson_1 : decode cX1_isPerson 1 = .ok (.getfield 29, 3) := dk_180 0 29 (dk_at dksX1_isPerson_0 1 rfl rfl)
theorem dX1_isPerson_4 : decode cX1_isPerson 4 = .ok (.iload_n 1, 1) := dk_27 (dk_at dksX1_isPerson_0 4 rfl rfl)
theorem dX1_isPerson_5 : decode cX1_isPerson 5 = .ok (.invokevirtual 128, 3) := dk_182 0 128 (dk_at dksX1_isPerson_0 5 rfl rfl)
theorem dX1_isPerson_8 : decode cX1_isPerson 8 = .ok (.ireturn, 1) := dk_172 (dk_at dksX1_isPerson_0 8 rfl rfl)
abbrev cX1_now : ByteArray := prog_1_method_22_code
def yX1_now : MethodName := ⟨RX1, "now", "(I)I"⟩
def dkwX1_now_4 : List UInt8 := [180, 0, 40, 180, 0, 221, 172, 2, 172]
abbrev dktX1_now_4 : List UInt8 := dkwX1_now_4 ++ []
def dkwX1_now_3 : List UInt8 := [180, 0, 40, 180, 0, 215, 172, 42, 180, 0, 40, 180, 0, 186, 172, 42, 180, 0, 40, 182, 0, 218, 172, 42]
abbrev dktX1_now_3 : List UInt8 := dkwX1_now_3 ++ dktX1_now_4
def dkwX1_now_2 : List UInt8 := [42, 180, 0, 40, 180, 0, 206, 172, 42, 180, 0, 40, 180, 0, 209, 172, 42, 182, 0, 212, 172, 42]
abbrev dktX1_now_2 : List UInt8 := dkwX1_now_2 ++ dktX1_now_3
def dkwX1_now_1 : List UInt8 := [170, 0, 0, 0, 0, 0, 96, 0, 0, 0, 0, 0, 0, 0, 6, 0, 0, 0, 43, 0, 0, 0, 51, 0, 0, 0, 59, 0, 0, 0, 64, 0, 0, 0, 72, 0, 0, 0, 80, 0, 0, 0, 88]
abbrev dktX1_now_1 : List UInt8 := dkwX1_now_1 ++ dktX1_now_2
def dkwX1_now_0 : List UInt8 := [27]
abbrev dktX1_now_0 : List UInt8 := dkwX1_now_0 ++ dktX1_now_1
theorem dksX1_now_0 : cX1_now.data.toList.drop 0 = dktX1_now_0 := by decide +kernel
theorem dksX1_now_1 : cX1_now.data.toList.drop 1 = dktX1_now_1 := dk_seg dksX1_now_0 1 rfl rfl
theorem dksX1_now_2 : cX1_now.data.toList.drop 44 = dktX1_now_2 := dk_seg dksX1_now_1 43 rfl rfl
theorem dksX1_now_3 : cX1_now.data.toList.drop 66 = dktX1_now_3 := dk_seg dksX1_now_2 22 rfl rfl
theorem dksX1_now_4 : cX1_now.data.toList.drop 90 = dktX1_now_4 := dk_seg dksX1_now_3 24 rfl rfl
theorem dX1_now_0 : decode cX1_now 0 = .ok (.iload_n 1, 1) := dk_27 (dk_at dksX1_now_0 0 rfl rfl)
theorem dX1_now_1 : decode cX1_now 1 = .ok (.tableswitch 96 0 6 #[43, 51, 59, 64, 72, 80, 88], 43) := by decide +kernel
theorem dX1_now_44 : decode cX1_now 44 = .ok (.aload_n 0, 1) := dk_42 (dk_at dksX1_now_2 0 rfl rfl)
theorem dX1_now_45 : decode cX1_now 45 = .ok (.getfield 40, 3) := dk_180 0 40 (dk_at dksX1_now_2 1 rfl rfl)
theorem dX1_now_48 : decode cX1_now 48 = .ok (.getfield 206, 3) := dk_180 0 206 (dk_at dksX1_now_2 4 rfl rfl)
theorem dX1_now_51 : decode cX1_now 51 = .ok (.ireturn, 1) := dk_172 (dk_at dksX1_now_2 7 rfl rfl)
theorem dX1_now_52 : decode cX1_now 52 = .ok (.aload_n 0, 1) := dk_42 (dk_at dksX1_now_2 8 rfl rfl)
theorem dX1_now_53 : decode cX1_now 53 = .ok (.getfield 40, 3) := dk_180 0 40 (dk_at dksX1_now_2 9 rfl rfl)
theorem dX1_now_56 : decode cX1_now 56 = .ok (.getfield 209, 3) := dk_180 0 209 (dk_at dksX1_now_2 12 rfl rfl)
theorem dX1_now_59 : decode cX1_now 59 = .ok (.ireturn, 1) := dk_172 (dk_at dksX1_now_2 15 rfl rfl)
theorem dX1_now_60 : decode cX1_now 60 = .ok (.aload_n 0, 1) := dk_42 (dk_at dksX1_now_2 16 rfl rfl)
theorem dX1_now_61 : decode cX1_now 61 = .ok (.invokevirtual 212, 3) := dk_182 0 212 (dk_at dksX1_now_2 17 rfl rfl)
theorem dX1_now_64 : decode cX1_now 64 = .ok (.ireturn, 1) := dk_172 (dk_at dksX1_now_2 20 rfl rfl)
theorem dX1_now_65 : decode cX1_now 65 = .ok (.aload_n 0, 1) := dk_42 (dk_at dksX1_now_2 21 rfl rfl)
theorem dX1_now_66 : decode cX1_now 66 = .ok (.getfield 40, 3) := dk_180 0 40 (dk_at dksX1_now_3 0 rfl rfl)
theorem dX1_now_69 : decode cX1_now 69 = .ok (.getfield 215, 3) := dk_180 0 215 (dk_at dksX1_now_3 3 rfl rfl)
theorem dX1_now_72 : decode cX1_now 72 = .ok (.ireturn, 1) := dk_172 (dk_at dksX1_now_3 6 rfl rfl)
theorem dX1_now_73 : decode cX1_now 73 = .ok (.aload_n 0, 1) := dk_42 (dk_at dksX1_now_3 7 rfl rfl)
theorem dX1_now_74 : decode cX1_now 74 = .ok (.getfield 40, 3) := dk_180 0 40 (dk_at dksX1_now_3 8 rfl rfl)
theorem dX1_now_77 : decode cX1_now 77 = .ok (.getfield 186, 3) := dk_180 0 186 (dk_at dksX1_now_3 11 rfl rfl)
theorem dX1_now_80 : decode cX1_now 80 = .ok (.ireturn, 1) := dk_172 (dk_at dksX1_now_3 14 rfl rfl)
theorem dX1_now_81 : decode cX1_now 81 = .ok (.aload_n 0, 1) := dk_42 (dk_at dksX1_now_3 15 rfl rfl)
theorem dX1_now_82 : decode cX1_now 82 = .ok (.getfield 40, 3) := dk_180 0 40 (dk_at dksX1_now_3 16 rfl rfl)
theorem dX1_now_85 : decode cX1_now 85 = .ok (.invokevirtual 218, 3) := dk_182 0 218 (dk_at dksX1_now_3 19 rfl rfl)
theorem dX1_now_88 : decode cX1_now 88 = .ok (.ireturn, 1) := dk_172 (dk_at dksX1_now_3 22 rfl rfl)
theorem dX1_now_89 : decode cX1_now 89 = .ok (.aload_n 0, 1) := dk_42 (dk_at dksX1_now_3 23 rfl rfl)
theorem dX1_now_90 : decode cX1_now 90 = .ok (.getfield 40, 3) := dk_180 0 40 (dk_at dksX1_now_4 0 rfl rfl)
theorem dX1_now_93 : decode cX1_now 93 = .ok (.getfield 221, 3) := dk_180 0 221 (dk_at dksX1_now_4 3 rfl rfl)
theorem dX1_now_96 : decode cX1_now 96 = .ok (.ireturn, 1) := dk_172 (dk_at dksX1_now_4 6 rfl rfl)
theorem dX1_now_97 : decode cX1_now 97 = .ok (.iconst (-1), 1) := dk_2 (dk_at dksX1_now_4 7 rfl rfl)
theorem dX1_now_98 : decode cX1_now 98 = .ok (.ireturn, 1) := dk_172 (dk_at dksX1_now_4 8 rfl rfl)
abbrev cX1_wedOnes : ByteArray := prog_1_method_21_code
def yX1_wedOnes : MethodName := ⟨RX1, "wedOnes", "()I"⟩
def dkwX1_wedOnes_1 : List UInt8 := [4, 28, 120, 128, 60, 132, 2, 1, 167, 255, 228, 27, 172]
abbrev dktX1_wedOnes_1 : List UInt8 := dkwX1_wedOnes_1 ++ []
def dkwX1_wedOnes_0 : List UInt8 := [3, 60, 3, 61, 28, 42, 182, 0, 201, 162, 0, 26, 42, 180, 0, 40, 28, 182, 0, 203, 153, 0, 9, 27]
abbrev dktX1_wedOnes_0 : List UInt8 := dkwX1_wedOnes_0 ++ dktX1_wedOnes_1
theorem dksX1_wedOnes_0 : cX1_wedOnes.data.toList.drop 0 = dktX1_wedOnes_0 := by decide +kernel
theorem dksX1_wedOnes_1 : cX1_wedOnes.data.toList.drop 24 = dktX1_wedOnes_1 := dk_seg dksX1_wedOnes_0 24 rfl rfl
theorem dX1_wedOnes_0 : decode cX1_wedOnes 0 = .ok (.iconst 0, 1) := dk_3 (dk_at dksX1_wedOnes_0 0 rfl rfl)
theorem dX1_wedOnes_1 : decode cX1_wedOnes 1 = .ok (.istore_n 1, 1) := dk_60 (dk_at dksX1_wedOnes_0 1 rfl rfl)
theorem dX1_wedOnes_2 : decode cX1_wedOnes 2 = .ok (.iconst 0, 1) := dk_3 (dk_at dksX1_wedOnes_0 2 rfl rfl)
theorem dX1_wedOnes_3 : decode cX1_wedOnes 3 = .ok (.istore_n 2, 1) := dk_61 (dk_at dksX1_wedOnes_0 3 rfl rfl)
theorem dX1_wedOnes_4 : decode cX1_wedOnes 4 = .ok (.iload_n 2, 1) := dk_28 (dk_at dksX1_wedOnes_0 4 rfl rfl)
theorem dX1_wedOnes_5 : decode cX1_wedOnes 5 = .ok (.aload_n 0, 1) := dk_42 (dk_at dksX1_wedOnes_0 5 rfl rfl)
theorem dX1_wedOnes_6 : decode cX1_wedOnes 6 = .ok (.invokevirtual 201, 3) := dk_182 0 201 (dk_at dksX1_wedOnes_0 6 rfl rfl)
theorem dX1_wedOnes_9 : decode cX1_wedOnes 9 = .ok (.if_icmp .ge 26, 3) := dk_162 0 26 (dk_at dksX1_wedOnes_0 9 rfl rfl)
theorem dX1_wedOnes_12 : decode cX1_wedOnes 12 = .ok (.aload_n 0, 1) := dk_42 (dk_at dksX1_wedOnes_0 12 rfl rfl)
theorem dX1_wedOnes_13 : decode cX1_wedOnes 13 = .ok (.getfield 40, 3) := dk_180 0 40 (dk_at dksX1_wedOnes_0 13 rfl rfl)
theorem dX1_wedOnes_16 : decode cX1_wedOnes 16 = .ok (.iload_n 2, 1) := dk_28 (dk_at dksX1_wedOnes_0 16 rfl rfl)
theorem dX1_wedOnes_17 : decode cX1_wedOnes 17 = .ok (.invokevirtual 203, 3) := dk_182 0 203 (dk_at dksX1_wedOnes_0 17 rfl rfl)
theorem dX1_wedOnes_20 : decode cX1_wedOnes 20 = .ok (.ifCond .eq 9, 3) := dk_153 0 9 (dk_at dksX1_wedOnes_0 20 rfl rfl)
theorem dX1_wedOnes_23 : decode cX1_wedOnes 23 = .ok (.iload_n 1, 1) := dk_27 (dk_at dksX1_wedOnes_0 23 rfl rfl)
theorem dX1_wedOnes_24 : decode cX1_wedOnes 24 = .ok (.iconst 1, 1) := dk_4 (dk_at dksX1_wedOnes_1 0 rfl rfl)
theorem dX1_wedOnes_25 : decode cX1_wedOnes 25 = .ok (.iload_n 2, 1) := dk_28 (dk_at dksX1_wedOnes_1 1 rfl rfl)
theorem dX1_wedOnes_26 : decode cX1_wedOnes 26 = .ok (.ishl, 1) := dk_120 (dk_at dksX1_wedOnes_1 2 rfl rfl)
theorem dX1_wedOnes_27 : decode cX1_wedOnes 27 = .ok (.ior, 1) := dk_128 (dk_at dksX1_wedOnes_1 3 rfl rfl)
theorem dX1_wedOnes_28 : decode cX1_wedOnes 28 = .ok (.istore_n 1, 1) := dk_60 (dk_at dksX1_wedOnes_1 4 rfl rfl)
theorem dX1_wedOnes_29 : decode cX1_wedOnes 29 = .ok (.iinc 2 1, 3) := dk_132 2 1 (dk_at dksX1_wedOnes_1 5 rfl rfl)
theorem dX1_wedOnes_32 : decode cX1_wedOnes 32 = .ok (.goto (-28), 3) := dk_167 255 228 (dk_at dksX1_wedOnes_1 8 rfl rfl)
theorem dX1_wedOnes_35 : decode cX1_wedOnes 35 = .ok (.iload_n 1, 1) := dk_27 (dk_at dksX1_wedOnes_1 11 rfl rfl)
theorem dX1_wedOnes_36 : decode cX1_wedOnes 36 = .ok (.ireturn, 1) := dk_172 (dk_at dksX1_wedOnes_1 12 rfl rfl)
abbrev cX1_persons : ByteArray := prog_1_method_16_code
def yX1_persons : MethodName := ⟨RX1, "persons", "()I"⟩
def dkwX1_persons_0 : List UInt8 := [42, 180, 0, 29, 180, 0, 133, 182, 0, 137, 172]
abbrev dktX1_persons_0 : List UInt8 := dkwX1_persons_0 ++ []
theorem dksX1_persons_0 : cX1_persons.data.toList.drop 0 = dktX1_persons_0 := by decide +kernel
theorem dX1_persons_0 : decode cX1_persons 0 = .ok (.aload_n 0, 1) := dk_42 (dk_at dksX1_persons_0 0 rfl rfl)
theorem dX1_persons_1 : decode cX1_persons 1 = .ok (.getfield 29, 3) := dk_180 0 29 (dk_at dksX1_persons_0 1 rfl rfl)
theorem dX1_persons_4 : decode cX1_persons 4 = .ok (.getfield 133, 3) := dk_180 0 133 (dk_at dksX1_persons_0 4 rfl rfl)
theorem dX1_persons_7 : decode cX1_persons 7 = .ok (.invokevirtual 137, 3) := dk_182 0 137 (dk_at dksX1_persons_0 7 rfl rfl)
theorem dX1_persons_10 : decode cX1_persons 10 = .ok (.ireturn, 1) := dk_172 (dk_at dksX1_persons_0 10 rfl rfl)
abbrev cX1_die : ByteArray := prog_1_method_25_code
def yX1_die : MethodName := ⟨RX1, "die", "(I)I"⟩
def dkwX1_die_1 : List UInt8 := [172]
abbrev dktX1_die_1 : List UInt8 := dkwX1_die_1 ++ []
def dkwX1_die_0 : List UInt8 := [42, 27, 182, 0, 132, 153, 0, 18, 42, 187, 0, 237, 89, 27, 183, 0, 239, 182, 0, 241, 167, 0, 4, 2]
abbrev dktX1_die_0 : List UInt8 := dkwX1_die_0 ++ dktX1_die_1
theorem dksX1_die_0 : cX1_die.data.toList.drop 0 = dktX1_die_0 := by decide +kernel
theorem dksX1_die_1 : cX1_die.data.toList.drop 24 = dktX1_die_1 := dk_seg dksX1_die_0 24 rfl rfl
theorem dX1_die_0 : decode cX1_die 0 = .ok (.aload_n 0, 1) := dk_42 (dk_at dksX1_die_0 0 rfl rfl)
theorem dX1_die_1 : decode cX1_die 1 = .ok (.iload_n 1, 1) := dk_27 (dk_at dksX1_die_0 1 rfl rfl)
theorem dX1_die_2 : decode cX1_die 2 = .ok (.invokevirtual 132, 3) := dk_182 0 132 (dk_at dksX1_die_0 2 rfl rfl)
theorem dX1_die_5 : decode cX1_die 5 = .ok (.ifCond .eq 18, 3) := dk_153 0 18 (dk_at dksX1_die_0 5 rfl rfl)
theorem dX1_die_8 : decode cX1_die 8 = .ok (.aload_n 0, 1) := dk_42 (dk_at dksX1_die_0 8 rfl rfl)
theorem dX1_die_9 : decode cX1_die 9 = .ok (.new 237, 3) := dk_187 0 237 (dk_at dksX1_die_0 9 rfl rfl)
theorem dX1_die_12 : decode cX1_die 12 = .ok (.dup, 1) := dk_89 (dk_at dksX1_die_0 12 rfl rfl)
theorem dX1_die_13 : decode cX1_die 13 = .ok (.iload_n 1, 1) := dk_27 (dk_at dksX1_die_0 13 rfl rfl)
theorem dX1_die_14 : decode cX1_die 14 = .ok (.invokespecial 239, 3) := dk_183 0 239 (dk_at dksX1_die_0 14 rfl rfl)
theorem dX1_die_17 : decode cX1_die 17 = .ok (.invokevirtual 241, 3) := dk_182 0 241 (dk_at dksX1_die_0 17 rfl rfl)
theorem dX1_die_20 : decode cX1_die 20 = .ok (.goto 4, 3) := dk_167 0 4 (dk_at dksX1_die_0 20 rfl rfl)
theorem dX1_die_23 : decode cX1_die 23 = .ok (.iconst (-1), 1) := dk_2 (dk_at dksX1_die_0 23 rfl rfl)
theorem dX1_die_24 : decode cX1_die 24 = .ok (.ireturn, 1) := dk_172 (dk_at dksX1_die_1 0 rfl rfl)
abbrev cX1_doIt : ByteArray := prog_1_method_24_code
def yX1_doIt : MethodName := ⟨RX1, "doIt", "(LHeirsAtLaw$Act;)I"⟩
def dkwX1_doIt_1 : List UInt8 := [172, 42, 182, 0, 234, 42, 180, 0, 40, 42, 180, 0, 44, 182, 0, 224, 87, 3, 172]
abbrev dktX1_doIt_1 : List UInt8 := dkwX1_doIt_1 ++ []
def dkwX1_doIt_0 : List UInt8 := [43, 42, 180, 0, 44, 42, 180, 0, 40, 182, 0, 224, 182, 0, 228, 61, 28, 153, 0, 8, 28, 16, 10, 112]
abbrev dktX1_doIt_0 : List UInt8 := dkwX1_doIt_0 ++ dktX1_doIt_1
theorem dksX1_doIt_0 : cX1_doIt.data.toList.drop 0 = dktX1_doIt_0 := by decide +kernel
theorem dksX1_doIt_1 : cX1_doIt.data.toList.drop 24 = dktX1_doIt_1 := dk_seg dksX1_doIt_0 24 rfl rfl
theorem dX1_doIt_0 : decode cX1_doIt 0 = .ok (.aload_n 1, 1) := dk_43 (dk_at dksX1_doIt_0 0 rfl rfl)
theorem dX1_doIt_1 : decode cX1_doIt 1 = .ok (.aload_n 0, 1) := dk_42 (dk_at dksX1_doIt_0 1 rfl rfl)
theorem dX1_doIt_2 : decode cX1_doIt 2 = .ok (.getfield 44, 3) := dk_180 0 44 (dk_at dksX1_doIt_0 2 rfl rfl)
theorem dX1_doIt_5 : decode cX1_doIt 5 = .ok (.aload_n 0, 1) := dk_42 (dk_at dksX1_doIt_0 5 rfl rfl)
theorem dX1_doIt_6 : decode cX1_doIt 6 = .ok (.getfield 40, 3) := dk_180 0 40 (dk_at dksX1_doIt_0 6 rfl rfl)
theorem dX1_doIt_9 : decode cX1_doIt 9 = .ok (.invokevirtual 224, 3) := dk_182 0 224 (dk_at dksX1_doIt_0 9 rfl rfl)
theorem dX1_doIt_12 : decode cX1_doIt 12 = .ok (.invokevirtual 228, 3) := dk_182 0 228 (dk_at dksX1_doIt_0 12 rfl rfl)
theorem dX1_doIt_15 : decode cX1_doIt 15 = .ok (.istore_n 2, 1) := dk_61 (dk_at dksX1_doIt_0 15 rfl rfl)
theorem dX1_doIt_16 : decode cX1_doIt 16 = .ok (.iload_n 2, 1) := dk_28 (dk_at dksX1_doIt_0 16 rfl rfl)
theorem dX1_doIt_17 : decode cX1_doIt 17 = .ok (.ifCond .eq 8, 3) := dk_153 0 8 (dk_at dksX1_doIt_0 17 rfl rfl)
theorem dX1_doIt_20 : decode cX1_doIt 20 = .ok (.iload_n 2, 1) := dk_28 (dk_at dksX1_doIt_0 20 rfl rfl)
theorem dX1_doIt_21 : decode cX1_doIt 21 = .ok (.bipush 10, 2) := dk_16 10 (dk_at dksX1_doIt_0 21 rfl rfl)
theorem dX1_doIt_23 : decode cX1_doIt 23 = .ok (.irem, 1) := dk_112 (dk_at dksX1_doIt_0 23 rfl rfl)
theorem dX1_doIt_24 : decode cX1_doIt 24 = .ok (.ireturn, 1) := dk_172 (dk_at dksX1_doIt_1 0 rfl rfl)
theorem dX1_doIt_25 : decode cX1_doIt 25 = .ok (.aload_n 0, 1) := dk_42 (dk_at dksX1_doIt_1 1 rfl rfl)
theorem dX1_doIt_26 : decode cX1_doIt 26 = .ok (.invokevirtual 234, 3) := dk_182 0 234 (dk_at dksX1_doIt_1 2 rfl rfl)
theorem dX1_doIt_29 : decode cX1_doIt 29 = .ok (.aload_n 0, 1) := dk_42 (dk_at dksX1_doIt_1 5 rfl rfl)
theorem dX1_doIt_30 : decode cX1_doIt 30 = .ok (.getfield 40, 3) := dk_180 0 40 (dk_at dksX1_doIt_1 6 rfl rfl)
theorem dX1_doIt_33 : decode cX1_doIt 33 = .ok (.aload_n 0, 1) := dk_42 (dk_at dksX1_doIt_1 9 rfl rfl)
theorem dX1_doIt_34 : decode cX1_doIt 34 = .ok (.getfield 44, 3) := dk_180 0 44 (dk_at dksX1_doIt_1 10 rfl rfl)
theorem dX1_doIt_37 : decode cX1_doIt 37 = .ok (.invokevirtual 224, 3) := dk_182 0 224 (dk_at dksX1_doIt_1 13 rfl rfl)
theorem dX1_doIt_40 : decode cX1_doIt 40 = .ok (.pop, 1) := dk_87 (dk_at dksX1_doIt_1 16 rfl rfl)
theorem dX1_doIt_41 : decode cX1_doIt 41 = .ok (.iconst 0, 1) := dk_3 (dk_at dksX1_doIt_1 17 rfl rfl)
theorem dX1_doIt_42 : decode cX1_doIt 42 = .ok (.ireturn, 1) := dk_172 (dk_at dksX1_doIt_1 18 rfl rfl)
abbrev cX1_snap : ByteArray := prog_1_method_23_code
def yX1_snap : MethodName := ⟨RX1, "snap", "()V"⟩
def dkwX1_snap_3 : List UInt8 := [180, 0, 40, 182, 0, 224, 87, 42, 89, 180, 0, 114, 4, 96, 181, 0, 114, 177]
abbrev dktX1_snap_3 : List UInt8 := dkwX1_snap_3 ++ []
def dkwX1_snap_2 : List UInt8 := [16, 7, 43, 83, 42, 89, 180, 0, 114, 4, 100, 181, 0, 114, 42, 180, 0, 50, 42, 180, 0, 114, 50, 42]
abbrev dktX1_snap_2 : List UInt8 := dkwX1_snap_2 ++ dktX1_snap_3
def dkwX1_snap_1 : List UInt8 := [42, 180, 0, 50, 28, 4, 100, 42, 180, 0, 50, 28, 50, 83, 132, 2, 1, 167, 255, 233, 42, 180, 0, 50]
abbrev dktX1_snap_1 : List UInt8 := dkwX1_snap_1 ++ dktX1_snap_2
def dkwX1_snap_0 : List UInt8 := [42, 180, 0, 114, 16, 8, 160, 0, 56, 42, 180, 0, 50, 3, 50, 76, 4, 61, 28, 16, 8, 162, 0, 23]
abbrev dktX1_snap_0 : List UInt8 := dkwX1_snap_0 ++ dktX1_snap_1
theorem dksX1_snap_0 : cX1_snap.data.toList.drop 0 = dktX1_snap_0 := by decide +kernel
theorem dksX1_snap_1 : cX1_snap.data.toList.drop 24 = dktX1_snap_1 := dk_seg dksX1_snap_0 24 rfl rfl
theorem dksX1_snap_2 : cX1_snap.data.toList.drop 48 = dktX1_snap_2 := dk_seg dksX1_snap_1 24 rfl rfl
theorem dksX1_snap_3 : cX1_snap.data.toList.drop 72 = dktX1_snap_3 := dk_seg dksX1_snap_2 24 rfl rfl
theorem dX1_snap_0 : decode cX1_snap 0 = .ok (.aload_n 0, 1) := dk_42 (dk_at dksX1_snap_0 0 rfl rfl)
theorem dX1_snap_1 : decode cX1_snap 1 = .ok (.getfield 114, 3) := dk_180 0 114 (dk_at dksX1_snap_0 1 rfl rfl)
theorem dX1_snap_4 : decode cX1_snap 4 = .ok (.bipush 8, 2) := dk_16 8 (dk_at dksX1_snap_0 4 rfl rfl)
theorem dX1_snap_6 : decode cX1_snap 6 = .ok (.if_icmp .ne 56, 3) := dk_160 0 56 (dk_at dksX1_snap_0 6 rfl rfl)
theorem dX1_snap_9 : decode cX1_snap 9 = .ok (.aload_n 0, 1) := dk_42 (dk_at dksX1_snap_0 9 rfl rfl)
theorem dX1_snap_10 : decode cX1_snap 10 = .ok (.getfield 50, 3) := dk_180 0 50 (dk_at dksX1_snap_0 10 rfl rfl)
theorem dX1_snap_13 : decode cX1_snap 13 = .ok (.iconst 0, 1) := dk_3 (dk_at dksX1_snap_0 13 rfl rfl)
theorem dX1_snap_14 : decode cX1_snap 14 = .ok (.aaload, 1) := dk_50 (dk_at dksX1_snap_0 14 rfl rfl)
theorem dX1_snap_15 : decode cX1_snap 15 = .ok (.astore_n 1, 1) := dk_76 (dk_at dksX1_snap_0 15 rfl rfl)
theorem dX1_snap_16 : decode cX1_snap 16 = .ok (.iconst 1, 1) := dk_4 (dk_at dksX1_snap_0 16 rfl rfl)
theorem dX1_snap_17 : decode cX1_snap 17 = .ok (.istore_n 2, 1) := dk_61 (dk_at dksX1_snap_0 17 rfl rfl)
theorem dX1_snap_18 : decode cX1_snap 18 = .ok (.iload_n 2, 1) := dk_28 (dk_at dksX1_snap_0 18 rfl rfl)
theorem dX1_snap_19 : decode cX1_snap 19 = .ok (.bipush 8, 2) := dk_16 8 (dk_at dksX1_snap_0 19 rfl rfl)
theorem dX1_snap_21 : decode cX1_snap 21 = .ok (.if_icmp .ge 23, 3) := dk_162 0 23 (dk_at dksX1_snap_0 21 rfl rfl)
theorem dX1_snap_24 : decode cX1_snap 24 = .ok (.aload_n 0, 1) := dk_42 (dk_at dksX1_snap_1 0 rfl rfl)
theorem dX1_snap_25 : decode cX1_snap 25 = .ok (.getfield 50, 3) := dk_180 0 50 (dk_at dksX1_snap_1 1 rfl rfl)
theorem dX1_snap_28 : decode cX1_snap 28 = .ok (.iload_n 2, 1) := dk_28 (dk_at dksX1_snap_1 4 rfl rfl)
theorem dX1_snap_29 : decode cX1_snap 29 = .ok (.iconst 1, 1) := dk_4 (dk_at dksX1_snap_1 5 rfl rfl)
theorem dX1_snap_30 : decode cX1_snap 30 = .ok (.isub, 1) := dk_100 (dk_at dksX1_snap_1 6 rfl rfl)
theorem dX1_snap_31 : decode cX1_snap 31 = .ok (.aload_n 0, 1) := dk_42 (dk_at dksX1_snap_1 7 rfl rfl)
theorem dX1_snap_32 : decode cX1_snap 32 = .ok (.getfield 50, 3) := dk_180 0 50 (dk_at dksX1_snap_1 8 rfl rfl)
theorem dX1_snap_35 : decode cX1_snap 35 = .ok (.iload_n 2, 1) := dk_28 (dk_at dksX1_snap_1 11 rfl rfl)
theorem dX1_snap_36 : decode cX1_snap 36 = .ok (.aaload, 1) := dk_50 (dk_at dksX1_snap_1 12 rfl rfl)
theorem dX1_snap_37 : decode cX1_snap 37 = .ok (.aastore, 1) := dk_83 (dk_at dksX1_snap_1 13 rfl rfl)
theorem dX1_snap_38 : decode cX1_snap 38 = .ok (.iinc 2 1, 3) := dk_132 2 1 (dk_at dksX1_snap_1 14 rfl rfl)
theorem dX1_snap_41 : decode cX1_snap 41 = .ok (.goto (-23), 3) := dk_167 255 233 (dk_at dksX1_snap_1 17 rfl rfl)
theorem dX1_snap_44 : decode cX1_snap 44 = .ok (.aload_n 0, 1) := dk_42 (dk_at dksX1_snap_1 20 rfl rfl)
theorem dX1_snap_45 : decode cX1_snap 45 = .ok (.getfield 50, 3) := dk_180 0 50 (dk_at dksX1_snap_1 21 rfl rfl)
theorem dX1_snap_48 : decode cX1_snap 48 = .ok (.bipush 7, 2) := dk_16 7 (dk_at dksX1_snap_2 0 rfl rfl)
theorem dX1_snap_50 : decode cX1_snap 50 = .ok (.aload_n 1, 1) := dk_43 (dk_at dksX1_snap_2 2 rfl rfl)
theorem dX1_snap_51 : decode cX1_snap 51 = .ok (.aastore, 1) := dk_83 (dk_at dksX1_snap_2 3 rfl rfl)
theorem dX1_snap_52 : decode cX1_snap 52 = .ok (.aload_n 0, 1) := dk_42 (dk_at dksX1_snap_2 4 rfl rfl)
theorem dX1_snap_53 : decode cX1_snap 53 = .ok (.dup, 1) := dk_89 (dk_at dksX1_snap_2 5 rfl rfl)
theorem dX1_snap_54 : decode cX1_snap 54 = .ok (.getfield 114, 3) := dk_180 0 114 (dk_at dksX1_snap_2 6 rfl rfl)
theorem dX1_snap_57 : decode cX1_snap 57 = .ok (.iconst 1, 1) := dk_4 (dk_at dksX1_snap_2 9 rfl rfl)
theorem dX1_snap_58 : decode cX1_snap 58 = .ok (.isub, 1) := dk_100 (dk_at dksX1_snap_2 10 rfl rfl)
theorem dX1_snap_59 : decode cX1_snap 59 = .ok (.putfield 114, 3) := dk_181 0 114 (dk_at dksX1_snap_2 11 rfl rfl)
theorem dX1_snap_62 : decode cX1_snap 62 = .ok (.aload_n 0, 1) := dk_42 (dk_at dksX1_snap_2 14 rfl rfl)
theorem dX1_snap_63 : decode cX1_snap 63 = .ok (.getfield 50, 3) := dk_180 0 50 (dk_at dksX1_snap_2 15 rfl rfl)
theorem dX1_snap_66 : decode cX1_snap 66 = .ok (.aload_n 0, 1) := dk_42 (dk_at dksX1_snap_2 18 rfl rfl)
theorem dX1_snap_67 : decode cX1_snap 67 = .ok (.getfield 114, 3) := dk_180 0 114 (dk_at dksX1_snap_2 19 rfl rfl)
theorem dX1_snap_70 : decode cX1_snap 70 = .ok (.aaload, 1) := dk_50 (dk_at dksX1_snap_2 22 rfl rfl)
theorem dX1_snap_71 : decode cX1_snap 71 = .ok (.aload_n 0, 1) := dk_42 (dk_at dksX1_snap_2 23 rfl rfl)
theorem dX1_snap_72 : decode cX1_snap 72 = .ok (.getfield 40, 3) := dk_180 0 40 (dk_at dksX1_snap_3 0 rfl rfl)
theorem dX1_snap_75 : decode cX1_snap 75 = .ok (.invokevirtual 224, 3) := dk_182 0 224 (dk_at dksX1_snap_3 3 rfl rfl)
theorem dX1_snap_78 : decode cX1_snap 78 = .ok (.pop, 1) := dk_87 (dk_at dksX1_snap_3 6 rfl rfl)
theorem dX1_snap_79 : decode cX1_snap 79 = .ok (.aload_n 0, 1) := dk_42 (dk_at dksX1_snap_3 7 rfl rfl)
theorem dX1_snap_80 : decode cX1_snap 80 = .ok (.dup, 1) := dk_89 (dk_at dksX1_snap_3 8 rfl rfl)
theorem dX1_snap_81 : decode cX1_snap 81 = .ok (.getfield 114, 3) := dk_180 0 114 (dk_at dksX1_snap_3 9 rfl rfl)
theorem dX1_snap_84 : decode cX1_snap 84 = .ok (.iconst 1, 1) := dk_4 (dk_at dksX1_snap_3 12 rfl rfl)
theorem dX1_snap_85 : decode cX1_snap 85 = .ok (.iadd, 1) := dk_96 (dk_at dksX1_snap_3 13 rfl rfl)
theorem dX1_snap_86 : decode cX1_snap 86 = .ok (.putfield 114, 3) := dk_181 0 114 (dk_at dksX1_snap_3 14 rfl rfl)
theorem dX1_snap_89 : decode cX1_snap 89 = .ok (.return_, 1) := dk_177 (dk_at dksX1_snap_3 17 rfl rfl)
abbrev cX1_wed : ByteArray := prog_1_method_26_code
def yX1_wed : MethodName := ⟨RX1, "wed", "(II)I"⟩
def dkwX1_wed_1 : List UInt8 := [167, 0, 4, 2, 172]
abbrev dktX1_wed_1 : List UInt8 := dkwX1_wed_1 ++ []
def dkwX1_wed_0 : List UInt8 := [42, 27, 28, 182, 0, 245, 153, 0, 19, 42, 187, 0, 249, 89, 27, 28, 183, 0, 251, 182, 0, 241]
abbrev dktX1_wed_0 : List UInt8 := dkwX1_wed_0 ++ dktX1_wed_1
theorem dksX1_wed_0 : cX1_wed.data.toList.drop 0 = dktX1_wed_0 := by decide +kernel
theorem dksX1_wed_1 : cX1_wed.data.toList.drop 22 = dktX1_wed_1 := dk_seg dksX1_wed_0 22 rfl rfl
theorem dX1_wed_0 : decode cX1_wed 0 = .ok (.aload_n 0, 1) := dk_42 (dk_at dksX1_wed_0 0 rfl rfl)
theorem dX1_wed_1 : decode cX1_wed 1 = .ok (.iload_n 1, 1) := dk_27 (dk_at dksX1_wed_0 1 rfl rfl)
theorem dX1_wed_2 : decode cX1_wed 2 = .ok (.iload_n 2, 1) := dk_28 (dk_at dksX1_wed_0 2 rfl rfl)
theorem dX1_wed_3 : decode cX1_wed 3 = .ok (.invokevirtual 245, 3) := dk_182 0 245 (dk_at dksX1_wed_0 3 rfl rfl)
theorem dX1_wed_6 : decode cX1_wed 6 = .ok (.ifCond .eq 19, 3) := dk_153 0 19 (dk_at dksX1_wed_0 6 rfl rfl)
theorem dX1_wed_9 : decode cX1_wed 9 = .ok (.aload_n 0, 1) := dk_42 (dk_at dksX1_wed_0 9 rfl rfl)
theorem dX1_wed_10 : decode cX1_wed 10 = .ok (.new 249, 3) := dk_187 0 249 (dk_at dksX1_wed_0 10 rfl rfl)
theorem dX1_wed_13 : decode cX1_wed 13 = .ok (.dup, 1) := dk_89 (dk_at dksX1_wed_0 13 rfl rfl)
theorem dX1_wed_14 : decode cX1_wed 14 = .ok (.iload_n 1, 1) := dk_27 (dk_at dksX1_wed_0 14 rfl rfl)
theorem dX1_wed_15 : decode cX1_wed 15 = .ok (.iload_n 2, 1) := dk_28 (dk_at dksX1_wed_0 15 rfl rfl)
theorem dX1_wed_16 : decode cX1_wed 16 = .ok (.invokespecial 251, 3) := dk_183 0 251 (dk_at dksX1_wed_0 16 rfl rfl)
theorem dX1_wed_19 : decode cX1_wed 19 = .ok (.invokevirtual 241, 3) := dk_182 0 241 (dk_at dksX1_wed_0 19 rfl rfl)
theorem dX1_wed_22 : decode cX1_wed 22 = .ok (.goto 4, 3) := dk_167 0 4 (dk_at dksX1_wed_1 0 rfl rfl)
theorem dX1_wed_25 : decode cX1_wed 25 = .ok (.iconst (-1), 1) := dk_2 (dk_at dksX1_wed_1 3 rfl rfl)
theorem dX1_wed_26 : decode cX1_wed 26 = .ok (.ireturn, 1) := dk_172 (dk_at dksX1_wed_1 4 rfl rfl)
abbrev cX1_areTwo : ByteArray := prog_1_method_15_code
def yX1_areTwo : MethodName := ⟨RX1, "areTwo", "(II)Z"⟩
def dkwX1_areTwo_1 : List UInt8 := [167, 0, 4, 3, 172]
abbrev dktX1_areTwo_1 : List UInt8 := dkwX1_areTwo_1 ++ []
def dkwX1_areTwo_0 : List UInt8 := [42, 27, 182, 0, 132, 153, 0, 20, 42, 28, 182, 0, 132, 153, 0, 12, 27, 28, 159, 0, 7, 4]
abbrev dktX1_areTwo_0 : List UInt8 := dkwX1_areTwo_0 ++ dktX1_areTwo_1
theorem dksX1_areTwo_0 : cX1_areTwo.data.toList.drop 0 = dktX1_areTwo_0 := by decide +kernel
theorem dksX1_areTwo_1 : cX1_areTwo.data.toList.drop 22 = dktX1_areTwo_1 := dk_seg dksX1_areTwo_0 22 rfl rfl
theorem dX1_areTwo_0 : decode cX1_areTwo 0 = .ok (.aload_n 0, 1) := dk_42 (dk_at dksX1_areTwo_0 0 rfl rfl)
theorem dX1_areTwo_1 : decode cX1_areTwo 1 = .ok (.iload_n 1, 1) := dk_27 (dk_at dksX1_areTwo_0 1 rfl rfl)
theorem dX1_areTwo_2 : decode cX1_areTwo 2 = .ok (.invokevirtual 132, 3) := dk_182 0 132 (dk_at dksX1_areTwo_0 2 rfl rfl)
theorem dX1_areTwo_5 : decode cX1_areTwo 5 = .ok (.ifCond .eq 20, 3) := dk_153 0 20 (dk_at dksX1_areTwo_0 5 rfl rfl)
theorem dX1_areTwo_8 : decode cX1_areTwo 8 = .ok (.aload_n 0, 1) := dk_42 (dk_at dksX1_areTwo_0 8 rfl rfl)
theorem dX1_areTwo_9 : decode cX1_areTwo 9 = .ok (.iload_n 2, 1) := dk_28 (dk_at dksX1_areTwo_0 9 rfl rfl)
theorem dX1_areTwo_10 : decode cX1_areTwo 10 = .ok (.invokevirtual 132, 3) := dk_182 0 132 (dk_at dksX1_areTwo_0 10 rfl rfl)
theorem dX1_areTwo_13 : decode cX1_areTwo 13 = .ok (.ifCond .eq 12, 3) := dk_153 0 12 (dk_at dksX1_areTwo_0 13 rfl rfl)
theorem dX1_areTwo_16 : decode cX1_areTwo 16 = .ok (.iload_n 1, 1) := dk_27 (dk_at dksX1_areTwo_0 16 rfl rfl)
theorem dX1_areTwo_17 : decode cX1_areTwo 17 = .ok (.iload_n 2, 1) := dk_28 (dk_at dksX1_areTwo_0 17 rfl rfl)
theorem dX1_areTwo_18 : decode cX1_areTwo 18 = .ok (.if_icmp .eq 7, 3) := dk_159 0 7 (dk_at dksX1_areTwo_0 18 rfl rfl)
theorem dX1_areTwo_21 : decode cX1_areTwo 21 = .ok (.iconst 1, 1) := dk_4 (dk_at dksX1_areTwo_0 21 rfl rfl)
theorem dX1_areTwo_22 : decode cX1_areTwo 22 = .ok (.goto 4, 3) := dk_167 0 4 (dk_at dksX1_areTwo_1 0 rfl rfl)
theorem dX1_areTwo_25 : decode cX1_areTwo 25 = .ok (.iconst 0, 1) := dk_3 (dk_at dksX1_areTwo_1 3 rfl rfl)
theorem dX1_areTwo_26 : decode cX1_areTwo 26 = .ok (.ireturn, 1) := dk_172 (dk_at dksX1_areTwo_1 4 rfl rfl)
abbrev cX1_part : ByteArray := prog_1_method_27_code
def yX1_part : MethodName := ⟨RX1, "part", "(I)I"⟩
def dkwX1_part_1 : List UInt8 := [172]
abbrev dktX1_part_1 : List UInt8 := dkwX1_part_1 ++ []
def dkwX1_part_0 : List UInt8 := [42, 27, 182, 0, 132, 153, 0, 18, 42, 187, 0, 254, 89, 27, 183, 1, 0, 182, 0, 241, 167, 0, 4, 2]
abbrev dktX1_part_0 : List UInt8 := dkwX1_part_0 ++ dktX1_part_1
theorem dksX1_part_0 : cX1_part.data.toList.drop 0 = dktX1_part_0 := by decide +kernel
theorem dksX1_part_1 : cX1_part.data.toList.drop 24 = dktX1_part_1 := dk_seg dksX1_part_0 24 rfl rfl
theorem dX1_part_0 : decode cX1_part 0 = .ok (.aload_n 0, 1) := dk_42 (dk_at dksX1_part_0 0 rfl rfl)
theorem dX1_part_1 : decode cX1_part 1 = .ok (.iload_n 1, 1) := dk_27 (dk_at dksX1_part_0 1 rfl rfl)
theorem dX1_part_2 : decode cX1_part 2 = .ok (.invokevirtual 132, 3) := dk_182 0 132 (dk_at dksX1_part_0 2 rfl rfl)
theorem dX1_part_5 : decode cX1_part 5 = .ok (.ifCond .eq 18, 3) := dk_153 0 18 (dk_at dksX1_part_0 5 rfl rfl)
theorem dX1_part_8 : decode cX1_part 8 = .ok (.aload_n 0, 1) := dk_42 (dk_at dksX1_part_0 8 rfl rfl)
theorem dX1_part_9 : decode cX1_part 9 = .ok (.new 254, 3) := dk_187 0 254 (dk_at dksX1_part_0 9 rfl rfl)
theorem dX1_part_12 : decode cX1_part 12 = .ok (.dup, 1) := dk_89 (dk_at dksX1_part_0 12 rfl rfl)
theorem dX1_part_13 : decode cX1_part 13 = .ok (.iload_n 1, 1) := dk_27 (dk_at dksX1_part_0 13 rfl rfl)
theorem dX1_part_14 : decode cX1_part 14 = .ok (.invokespecial 256, 3) := dk_183 1 0 (dk_at dksX1_part_0 14 rfl rfl)
theorem dX1_part_17 : decode cX1_part 17 = .ok (.invokevirtual 241, 3) := dk_182 0 241 (dk_at dksX1_part_0 17 rfl rfl)
theorem dX1_part_20 : decode cX1_part 20 = .ok (.goto 4, 3) := dk_167 0 4 (dk_at dksX1_part_0 20 rfl rfl)
theorem dX1_part_23 : decode cX1_part 23 = .ok (.iconst (-1), 1) := dk_2 (dk_at dksX1_part_0 23 rfl rfl)
theorem dX1_part_24 : decode cX1_part 24 = .ok (.ireturn, 1) := dk_172 (dk_at dksX1_part_1 0 rfl rfl)
abbrev cX1_give : ByteArray := prog_1_method_28_code
def yX1_give : MethodName := ⟨RX1, "give", "(III)I"⟩
def dkwX1_give_1 : List UInt8 := [89, 27, 28, 29, 183, 1, 3, 182, 0, 241, 167, 0, 4, 2, 172]
abbrev dktX1_give_1 : List UInt8 := dkwX1_give_1 ++ []
def dkwX1_give_0 : List UInt8 := [42, 27, 28, 182, 0, 245, 153, 0, 31, 29, 4, 17, 3, 231, 184, 0, 146, 153, 0, 20, 42, 187, 1, 1]
abbrev dktX1_give_0 : List UInt8 := dkwX1_give_0 ++ dktX1_give_1
theorem dksX1_give_0 : cX1_give.data.toList.drop 0 = dktX1_give_0 := by decide +kernel
theorem dksX1_give_1 : cX1_give.data.toList.drop 24 = dktX1_give_1 := dk_seg dksX1_give_0 24 rfl rfl
theorem dX1_give_0 : decode cX1_give 0 = .ok (.aload_n 0, 1) := dk_42 (dk_at dksX1_give_0 0 rfl rfl)
theorem dX1_give_1 : decode cX1_give 1 = .ok (.iload_n 1, 1) := dk_27 (dk_at dksX1_give_0 1 rfl rfl)
theorem dX1_give_2 : decode cX1_give 2 = .ok (.iload_n 2, 1) := dk_28 (dk_at dksX1_give_0 2 rfl rfl)
theorem dX1_give_3 : decode cX1_give 3 = .ok (.invokevirtual 245, 3) := dk_182 0 245 (dk_at dksX1_give_0 3 rfl rfl)
theorem dX1_give_6 : decode cX1_give 6 = .ok (.ifCond .eq 31, 3) := dk_153 0 31 (dk_at dksX1_give_0 6 rfl rfl)
theorem dX1_give_9 : decode cX1_give 9 = .ok (.iload_n 3, 1) := dk_29 (dk_at dksX1_give_0 9 rfl rfl)
theorem dX1_give_10 : decode cX1_give 10 = .ok (.iconst 1, 1) := dk_4 (dk_at dksX1_give_0 10 rfl rfl)
theorem dX1_give_11 : decode cX1_give 11 = .ok (.sipush 999, 3) := dk_17 3 231 (dk_at dksX1_give_0 11 rfl rfl)
theorem dX1_give_14 : decode cX1_give 14 = .ok (.invokestatic 146, 3) := dk_184 0 146 (dk_at dksX1_give_0 14 rfl rfl)
theorem dX1_give_17 : decode cX1_give 17 = .ok (.ifCond .eq 20, 3) := dk_153 0 20 (dk_at dksX1_give_0 17 rfl rfl)
theorem dX1_give_20 : decode cX1_give 20 = .ok (.aload_n 0, 1) := dk_42 (dk_at dksX1_give_0 20 rfl rfl)
theorem dX1_give_21 : decode cX1_give 21 = .ok (.new 257, 3) := dk_187 1 1 (dk_at dksX1_give_0 21 rfl rfl)
theorem dX1_give_24 : decode cX1_give 24 = .ok (.dup, 1) := dk_89 (dk_at dksX1_give_1 0 rfl rfl)
theorem dX1_give_25 : decode cX1_give 25 = .ok (.iload_n 1, 1) := dk_27 (dk_at dksX1_give_1 1 rfl rfl)
theorem dX1_give_26 : decode cX1_give 26 = .ok (.iload_n 2, 1) := dk_28 (dk_at dksX1_give_1 2 rfl rfl)
theorem dX1_give_27 : decode cX1_give 27 = .ok (.iload_n 3, 1) := dk_29 (dk_at dksX1_give_1 3 rfl rfl)
theorem dX1_give_28 : decode cX1_give 28 = .ok (.invokespecial 259, 3) := dk_183 1 3 (dk_at dksX1_give_1 4 rfl rfl)
theorem dX1_give_31 : decode cX1_give 31 = .ok (.invokevirtual 241, 3) := dk_182 0 241 (dk_at dksX1_give_1 7 rfl rfl)
theorem dX1_give_34 : decode cX1_give 34 = .ok (.goto 4, 3) := dk_167 0 4 (dk_at dksX1_give_1 10 rfl rfl)
theorem dX1_give_37 : decode cX1_give 37 = .ok (.iconst (-1), 1) := dk_2 (dk_at dksX1_give_1 13 rfl rfl)
theorem dX1_give_38 : decode cX1_give 38 = .ok (.ireturn, 1) := dk_172 (dk_at dksX1_give_1 14 rfl rfl)
abbrev cX1_leave : ByteArray := prog_1_method_29_code
def yX1_leave : MethodName := ⟨RX1, "leave", "(III)I"⟩
def dkwX1_leave_1 : List UInt8 := [89, 27, 28, 29, 183, 1, 8, 182, 0, 241, 167, 0, 4, 2, 172]
abbrev dktX1_leave_1 : List UInt8 := dkwX1_leave_1 ++ []
def dkwX1_leave_0 : List UInt8 := [42, 27, 28, 182, 0, 245, 153, 0, 31, 29, 4, 17, 3, 231, 184, 0, 146, 153, 0, 20, 42, 187, 1, 6]
abbrev dktX1_leave_0 : List UInt8 := dkwX1_leave_0 ++ dktX1_leave_1
theorem dksX1_leave_0 : cX1_leave.data.toList.drop 0 = dktX1_leave_0 := by decide +kernel
theorem dksX1_leave_1 : cX1_leave.data.toList.drop 24 = dktX1_leave_1 := dk_seg dksX1_leave_0 24 rfl rfl
theorem dX1_leave_0 : decode cX1_leave 0 = .ok (.aload_n 0, 1) := dk_42 (dk_at dksX1_leave_0 0 rfl rfl)
theorem dX1_leave_1 : decode cX1_leave 1 = .ok (.iload_n 1, 1) := dk_27 (dk_at dksX1_leave_0 1 rfl rfl)
theorem dX1_leave_2 : decode cX1_leave 2 = .ok (.iload_n 2, 1) := dk_28 (dk_at dksX1_leave_0 2 rfl rfl)
theorem dX1_leave_3 : decode cX1_leave 3 = .ok (.invokevirtual 245, 3) := dk_182 0 245 (dk_at dksX1_leave_0 3 rfl rfl)
theorem dX1_leave_6 : decode cX1_leave 6 = .ok (.ifCond .eq 31, 3) := dk_153 0 31 (dk_at dksX1_leave_0 6 rfl rfl)
theorem dX1_leave_9 : decode cX1_leave 9 = .ok (.iload_n 3, 1) := dk_29 (dk_at dksX1_leave_0 9 rfl rfl)
theorem dX1_leave_10 : decode cX1_leave 10 = .ok (.iconst 1, 1) := dk_4 (dk_at dksX1_leave_0 10 rfl rfl)
theorem dX1_leave_11 : decode cX1_leave 11 = .ok (.sipush 999, 3) := dk_17 3 231 (dk_at dksX1_leave_0 11 rfl rfl)
theorem dX1_leave_14 : decode cX1_leave 14 = .ok (.invokestatic 146, 3) := dk_184 0 146 (dk_at dksX1_leave_0 14 rfl rfl)
theorem dX1_leave_17 : decode cX1_leave 17 = .ok (.ifCond .eq 20, 3) := dk_153 0 20 (dk_at dksX1_leave_0 17 rfl rfl)
theorem dX1_leave_20 : decode cX1_leave 20 = .ok (.aload_n 0, 1) := dk_42 (dk_at dksX1_leave_0 20 rfl rfl)
theorem dX1_leave_21 : decode cX1_leave 21 = .ok (.new 262, 3) := dk_187 1 6 (dk_at dksX1_leave_0 21 rfl rfl)
theorem dX1_leave_24 : decode cX1_leave 24 = .ok (.dup, 1) := dk_89 (dk_at dksX1_leave_1 0 rfl rfl)
theorem dX1_leave_25 : decode cX1_leave 25 = .ok (.iload_n 1, 1) := dk_27 (dk_at dksX1_leave_1 1 rfl rfl)
theorem dX1_leave_26 : decode cX1_leave 26 = .ok (.iload_n 2, 1) := dk_28 (dk_at dksX1_leave_1 2 rfl rfl)
theorem dX1_leave_27 : decode cX1_leave 27 = .ok (.iload_n 3, 1) := dk_29 (dk_at dksX1_leave_1 3 rfl rfl)
theorem dX1_leave_28 : decode cX1_leave 28 = .ok (.invokespecial 264, 3) := dk_183 1 8 (dk_at dksX1_leave_1 4 rfl rfl)
theorem dX1_leave_31 : decode cX1_leave 31 = .ok (.invokevirtual 241, 3) := dk_182 0 241 (dk_at dksX1_leave_1 7 rfl rfl)
theorem dX1_leave_34 : decode cX1_leave 34 = .ok (.goto 4, 3) := dk_167 0 4 (dk_at dksX1_leave_1 10 rfl rfl)
theorem dX1_leave_37 : decode cX1_leave 37 = .ok (.iconst (-1), 1) := dk_2 (dk_at dksX1_leave_1 13 rfl rfl)
theorem dX1_leave_38 : decode cX1_leave 38 = .ok (.ireturn, 1) := dk_172 (dk_at dksX1_leave_1 14 rfl rfl)
abbrev cX1_revoke : ByteArray := prog_1_method_30_code
def yX1_revoke : MethodName := ⟨RX1, "revoke", "(I)I"⟩
def dkwX1_revoke_1 : List UInt8 := [172]
abbrev dktX1_revoke_1 : List UInt8 := dkwX1_revoke_1 ++ []
def dkwX1_revoke_0 : List UInt8 := [42, 27, 182, 0, 132, 153, 0, 18, 42, 187, 1, 9, 89, 27, 183, 1, 11, 182, 0, 241, 167, 0, 4, 2]
abbrev dktX1_revoke_0 : List UInt8 := dkwX1_revoke_0 ++ dktX1_revoke_1
theorem dksX1_revoke_0 : cX1_revoke.data.toList.drop 0 = dktX1_revoke_0 := by decide +kernel
theorem dksX1_revoke_1 : cX1_revoke.data.toList.drop 24 = dktX1_revoke_1 := dk_seg dksX1_revoke_0 24 rfl rfl
theorem dX1_revoke_0 : decode cX1_revoke 0 = .ok (.aload_n 0, 1) := dk_42 (dk_at dksX1_revoke_0 0 rfl rfl)
theorem dX1_revoke_1 : decode cX1_revoke 1 = .ok (.iload_n 1, 1) := dk_27 (dk_at dksX1_revoke_0 1 rfl rfl)
theorem dX1_revoke_2 : decode cX1_revoke 2 = .ok (.invokevirtual 132, 3) := dk_182 0 132 (dk_at dksX1_revoke_0 2 rfl rfl)
theorem dX1_revoke_5 : decode cX1_revoke 5 = .ok (.ifCond .eq 18, 3) := dk_153 0 18 (dk_at dksX1_revoke_0 5 rfl rfl)
theorem dX1_revoke_8 : decode cX1_revoke 8 = .ok (.aload_n 0, 1) := dk_42 (dk_at dksX1_revoke_0 8 rfl rfl)
theorem dX1_revoke_9 : decode cX1_revoke 9 = .ok (.new 265, 3) := dk_187 1 9 (dk_at dksX1_revoke_0 9 rfl rfl)
theorem dX1_revoke_12 : decode cX1_revoke 12 = .ok (.dup, 1) := dk_89 (dk_at dksX1_revoke_0 12 rfl rfl)
theorem dX1_revoke_13 : decode cX1_revoke 13 = .ok (.iload_n 1, 1) := dk_27 (dk_at dksX1_revoke_0 13 rfl rfl)
theorem dX1_revoke_14 : decode cX1_revoke 14 = .ok (.invokespecial 267, 3) := dk_183 1 11 (dk_at dksX1_revoke_0 14 rfl rfl)
theorem dX1_revoke_17 : decode cX1_revoke 17 = .ok (.invokevirtual 241, 3) := dk_182 0 241 (dk_at dksX1_revoke_0 17 rfl rfl)
theorem dX1_revoke_20 : decode cX1_revoke 20 = .ok (.goto 4, 3) := dk_167 0 4 (dk_at dksX1_revoke_0 20 rfl rfl)
theorem dX1_revoke_23 : decode cX1_revoke 23 = .ok (.iconst (-1), 1) := dk_2 (dk_at dksX1_revoke_0 23 rfl rfl)
theorem dX1_revoke_24 : decode cX1_revoke 24 = .ok (.ireturn, 1) := dk_172 (dk_at dksX1_revoke_1 0 rfl rfl)
abbrev cX1_years : ByteArray := prog_1_method_31_code
def yX1_years : MethodName := ⟨RX1, "years", "(I)I"⟩
def dkwX1_years_1 : List UInt8 := [42, 182, 0, 234, 42, 180, 0, 40, 27, 182, 1, 16, 172]
abbrev dktX1_years_1 : List UInt8 := dkwX1_years_1 ++ []
def dkwX1_years_0 : List UInt8 := [27, 4, 16, 60, 184, 0, 146, 154, 0, 5, 2, 172, 42, 180, 0, 40, 182, 1, 12, 153, 0, 5, 3, 172]
abbrev dktX1_years_0 : List UInt8 := dkwX1_years_0 ++ dktX1_years_1
theorem dksX1_years_0 : cX1_years.data.toList.drop 0 = dktX1_years_0 := by decide +kernel
theorem dksX1_years_1 : cX1_years.data.toList.drop 24 = dktX1_years_1 := dk_seg dksX1_years_0 24 rfl rfl
theorem dX1_years_0 : decode cX1_years 0 = .ok (.iload_n 1, 1) := dk_27 (dk_at dksX1_years_0 0 rfl rfl)
theorem dX1_years_1 : decode cX1_years 1 = .ok (.iconst 1, 1) := dk_4 (dk_at dksX1_years_0 1 rfl rfl)
theorem dX1_years_2 : decode cX1_years 2 = .ok (.bipush 60, 2) := dk_16 60 (dk_at dksX1_years_0 2 rfl rfl)
theorem dX1_years_4 : decode cX1_years 4 = .ok (.invokestatic 146, 3) := dk_184 0 146 (dk_at dksX1_years_0 4 rfl rfl)
theorem dX1_years_7 : decode cX1_years 7 = .ok (.ifCond .ne 5, 3) := dk_154 0 5 (dk_at dksX1_years_0 7 rfl rfl)
theorem dX1_years_10 : decode cX1_years 10 = .ok (.iconst (-1), 1) := dk_2 (dk_at dksX1_years_0 10 rfl rfl)
theorem dX1_years_11 : decode cX1_years 11 = .ok (.ireturn, 1) := dk_172 (dk_at dksX1_years_0 11 rfl rfl)
theorem dX1_years_12 : decode cX1_years 12 = .ok (.aload_n 0, 1) := dk_42 (dk_at dksX1_years_0 12 rfl rfl)
theorem dX1_years_13 : decode cX1_years 13 = .ok (.getfield 40, 3) := dk_180 0 40 (dk_at dksX1_years_0 13 rfl rfl)
theorem dX1_years_16 : decode cX1_years 16 = .ok (.invokevirtual 268, 3) := dk_182 1 12 (dk_at dksX1_years_0 16 rfl rfl)
theorem dX1_years_19 : decode cX1_years 19 = .ok (.ifCond .eq 5, 3) := dk_153 0 5 (dk_at dksX1_years_0 19 rfl rfl)
theorem dX1_years_22 : decode cX1_years 22 = .ok (.iconst 0, 1) := dk_3 (dk_at dksX1_years_0 22 rfl rfl)
theorem dX1_years_23 : decode cX1_years 23 = .ok (.ireturn, 1) := dk_172 (dk_at dksX1_years_0 23 rfl rfl)
theorem dX1_years_24 : decode cX1_years 24 = .ok (.aload_n 0, 1) := dk_42 (dk_at dksX1_years_1 0 rfl rfl)
theorem dX1_years_25 : decode cX1_years 25 = .ok (.invokevirtual 234, 3) := dk_182 0 234 (dk_at dksX1_years_1 1 rfl rfl)
theorem dX1_years_28 : decode cX1_years 28 = .ok (.aload_n 0, 1) := dk_42 (dk_at dksX1_years_1 4 rfl rfl)
theorem dX1_years_29 : decode cX1_years 29 = .ok (.getfield 40, 3) := dk_180 0 40 (dk_at dksX1_years_1 5 rfl rfl)
theorem dX1_years_32 : decode cX1_years 32 = .ok (.iload_n 1, 1) := dk_27 (dk_at dksX1_years_1 8 rfl rfl)
theorem dX1_years_33 : decode cX1_years 33 = .ok (.invokevirtual 272, 3) := dk_182 1 16 (dk_at dksX1_years_1 9 rfl rfl)
theorem dX1_years_36 : decode cX1_years 36 = .ok (.ireturn, 1) := dk_172 (dk_at dksX1_years_1 12 rfl rfl)
abbrev cX1_undo : ByteArray := prog_1_method_32_code
def yX1_undo : MethodName := ⟨RX1, "undo", "()I"⟩
def dkwX1_undo_1 : List UInt8 := [180, 0, 50, 42, 180, 0, 114, 50, 182, 0, 224, 87, 42, 180, 0, 114, 172]
abbrev dktX1_undo_1 : List UInt8 := dkwX1_undo_1 ++ []
def dkwX1_undo_0 : List UInt8 := [42, 180, 0, 114, 154, 0, 5, 2, 172, 42, 89, 180, 0, 114, 4, 100, 181, 0, 114, 42, 180, 0, 40, 42]
abbrev dktX1_undo_0 : List UInt8 := dkwX1_undo_0 ++ dktX1_undo_1
theorem dksX1_undo_0 : cX1_undo.data.toList.drop 0 = dktX1_undo_0 := by decide +kernel
theorem dksX1_undo_1 : cX1_undo.data.toList.drop 24 = dktX1_undo_1 := dk_seg dksX1_undo_0 24 rfl rfl
theorem dX1_undo_0 : decode cX1_undo 0 = .ok (.aload_n 0, 1) := dk_42 (dk_at dksX1_undo_0 0 rfl rfl)
theorem dX1_undo_1 : decode cX1_undo 1 = .ok (.getfield 114, 3) := dk_180 0 114 (dk_at dksX1_undo_0 1 rfl rfl)
theorem dX1_undo_4 : decode cX1_undo 4 = .ok (.ifCond .ne 5, 3) := dk_154 0 5 (dk_at dksX1_undo_0 4 rfl rfl)
theorem dX1_undo_7 : decode cX1_undo 7 = .ok (.iconst (-1), 1) := dk_2 (dk_at dksX1_undo_0 7 rfl rfl)
theorem dX1_undo_8 : decode cX1_undo 8 = .ok (.ireturn, 1) := dk_172 (dk_at dksX1_undo_0 8 rfl rfl)
theorem dX1_undo_9 : decode cX1_undo 9 = .ok (.aload_n 0, 1) := dk_42 (dk_at dksX1_undo_0 9 rfl rfl)
theorem dX1_undo_10 : decode cX1_undo 10 = .ok (.dup, 1) := dk_89 (dk_at dksX1_undo_0 10 rfl rfl)
theorem dX1_undo_11 : decode cX1_undo 11 = .ok (.getfield 114, 3) := dk_180 0 114 (dk_at dksX1_undo_0 11 rfl rfl)
theorem dX1_undo_14 : decode cX1_undo 14 = .ok (.iconst 1, 1) := dk_4 (dk_at dksX1_undo_0 14 rfl rfl)
theorem dX1_undo_15 : decode cX1_undo 15 = .ok (.isub, 1) := dk_100 (dk_at dksX1_undo_0 15 rfl rfl)
theorem dX1_undo_16 : decode cX1_undo 16 = .ok (.putfield 114, 3) := dk_181 0 114 (dk_at dksX1_undo_0 16 rfl rfl)
theorem dX1_undo_19 : decode cX1_undo 19 = .ok (.aload_n 0, 1) := dk_42 (dk_at dksX1_undo_0 19 rfl rfl)
theorem dX1_undo_20 : decode cX1_undo 20 = .ok (.getfield 40, 3) := dk_180 0 40 (dk_at dksX1_undo_0 20 rfl rfl)
theorem dX1_undo_23 : decode cX1_undo 23 = .ok (.aload_n 0, 1) := dk_42 (dk_at dksX1_undo_0 23 rfl rfl)
theorem dX1_undo_24 : decode cX1_undo 24 = .ok (.getfield 50, 3) := dk_180 0 50 (dk_at dksX1_undo_1 0 rfl rfl)
theorem dX1_undo_27 : decode cX1_undo 27 = .ok (.aload_n 0, 1) := dk_42 (dk_at dksX1_undo_1 3 rfl rfl)
theorem dX1_undo_28 : decode cX1_undo 28 = .ok (.getfield 114, 3) := dk_180 0 114 (dk_at dksX1_undo_1 4 rfl rfl)
theorem dX1_undo_31 : decode cX1_undo 31 = .ok (.aaload, 1) := dk_50 (dk_at dksX1_undo_1 7 rfl rfl)
theorem dX1_undo_32 : decode cX1_undo 32 = .ok (.invokevirtual 224, 3) := dk_182 0 224 (dk_at dksX1_undo_1 8 rfl rfl)
theorem dX1_undo_35 : decode cX1_undo 35 = .ok (.pop, 1) := dk_87 (dk_at dksX1_undo_1 11 rfl rfl)
theorem dX1_undo_36 : decode cX1_undo 36 = .ok (.aload_n 0, 1) := dk_42 (dk_at dksX1_undo_1 12 rfl rfl)
theorem dX1_undo_37 : decode cX1_undo 37 = .ok (.getfield 114, 3) := dk_180 0 114 (dk_at dksX1_undo_1 13 rfl rfl)
theorem dX1_undo_40 : decode cX1_undo 40 = .ok (.ireturn, 1) := dk_172 (dk_at dksX1_undo_1 16 rfl rfl)
abbrev cX1_gets : ByteArray := prog_1_method_34_code
def yX1_gets : MethodName := ⟨RX1, "gets", "(II)I"⟩
def dkwX1_gets_1 : List UInt8 := [182, 0, 201, 184, 0, 146, 153, 0, 12, 42, 27, 28, 182, 1, 22, 167, 0, 4, 2, 172]
abbrev dktX1_gets_1 : List UInt8 := dkwX1_gets_1 ++ []
def dkwX1_gets_0 : List UInt8 := [42, 27, 182, 0, 132, 153, 0, 35, 42, 180, 0, 40, 27, 182, 0, 165, 153, 0, 24, 28, 3, 42]
abbrev dktX1_gets_0 : List UInt8 := dkwX1_gets_0 ++ dktX1_gets_1
theorem dksX1_gets_0 : cX1_gets.data.toList.drop 0 = dktX1_gets_0 := by decide +kernel
theorem dksX1_gets_1 : cX1_gets.data.toList.drop 22 = dktX1_gets_1 := dk_seg dksX1_gets_0 22 rfl rfl
theorem dX1_gets_0 : decode cX1_gets 0 = .ok (.aload_n 0, 1) := dk_42 (dk_at dksX1_gets_0 0 rfl rfl)
theorem dX1_gets_1 : decode cX1_gets 1 = .ok (.iload_n 1, 1) := dk_27 (dk_at dksX1_gets_0 1 rfl rfl)
theorem dX1_gets_2 : decode cX1_gets 2 = .ok (.invokevirtual 132, 3) := dk_182 0 132 (dk_at dksX1_gets_0 2 rfl rfl)
theorem dX1_gets_5 : decode cX1_gets 5 = .ok (.ifCond .eq 35, 3) := dk_153 0 35 (dk_at dksX1_gets_0 5 rfl rfl)
theorem dX1_gets_8 : decode cX1_gets 8 = .ok (.aload_n 0, 1) := dk_42 (dk_at dksX1_gets_0 8 rfl rfl)
theorem dX1_gets_9 : decode cX1_gets 9 = .ok (.getfield 40, 3) := dk_180 0 40 (dk_at dksX1_gets_0 9 rfl rfl)
theorem dX1_gets_12 : decode cX1_gets 12 = .ok (.iload_n 1, 1) := dk_27 (dk_at dksX1_gets_0 12 rfl rfl)
theorem dX1_gets_13 : decode cX1_gets 13 = .ok (.invokevirtual 165, 3) := dk_182 0 165 (dk_at dksX1_gets_0 13 rfl rfl)
theorem dX1_gets_16 : decode cX1_gets 16 = .ok (.ifCond .eq 24, 3) := dk_153 0 24 (dk_at dksX1_gets_0 16 rfl rfl)
theorem dX1_gets_19 : decode cX1_gets 19 = .ok (.iload_n 2, 1) := dk_28 (dk_at dksX1_gets_0 19 rfl rfl)
theorem dX1_gets_20 : decode cX1_gets 20 = .ok (.iconst 0, 1) := dk_3 (dk_at dksX1_gets_0 20 rfl rfl)
theorem dX1_gets_21 : decode cX1_gets 21 = .ok (.aload_n 0, 1) := dk_42 (dk_at dksX1_gets_0 21 rfl rfl)
theorem dX1_gets_22 : decode cX1_gets 22 = .ok (.invokevirtual 201, 3) := dk_182 0 201 (dk_at dksX1_gets_1 0 rfl rfl)
theorem dX1_gets_25 : decode cX1_gets 25 = .ok (.invokestatic 146, 3) := dk_184 0 146 (dk_at dksX1_gets_1 3 rfl rfl)
theorem dX1_gets_28 : decode cX1_gets 28 = .ok (.ifCond .eq 12, 3) := dk_153 0 12 (dk_at dksX1_gets_1 6 rfl rfl)
theorem dX1_gets_31 : decode cX1_gets 31 = .ok (.aload_n 0, 1) := dk_42 (dk_at dksX1_gets_1 9 rfl rfl)
theorem dX1_gets_32 : decode cX1_gets 32 = .ok (.iload_n 1, 1) := dk_27 (dk_at dksX1_gets_1 10 rfl rfl)
theorem dX1_gets_33 : decode cX1_gets 33 = .ok (.iload_n 2, 1) := dk_28 (dk_at dksX1_gets_1 11 rfl rfl)
theorem dX1_gets_34 : decode cX1_gets 34 = .ok (.invokevirtual 278, 3) := dk_182 1 22 (dk_at dksX1_gets_1 12 rfl rfl)
theorem dX1_gets_37 : decode cX1_gets 37 = .ok (.goto 4, 3) := dk_167 0 4 (dk_at dksX1_gets_1 15 rfl rfl)
theorem dX1_gets_40 : decode cX1_gets 40 = .ok (.iconst (-1), 1) := dk_2 (dk_at dksX1_gets_1 18 rfl rfl)
theorem dX1_gets_41 : decode cX1_gets 41 = .ok (.ireturn, 1) := dk_172 (dk_at dksX1_gets_1 19 rfl rfl)
abbrev cX1_getsBy : ByteArray := prog_1_method_33_code
def yX1_getsBy : MethodName := ⟨RX1, "getsBy", "(II)I"⟩
def dkwX1_getsBy_2 : List UInt8 := [167, 0, 22, 42, 180, 0, 44, 180, 0, 162, 28, 46, 42, 180, 0, 40, 180, 0, 162, 28, 46, 100, 172]
abbrev dktX1_getsBy_2 : List UInt8 := dkwX1_getsBy_2 ++ []
def dkwX1_getsBy_1 : List UInt8 := [28, 42, 182, 0, 201, 160, 0, 21, 42, 180, 0, 44, 180, 0, 215, 42, 180, 0, 40, 180, 0, 215, 100]
abbrev dktX1_getsBy_1 : List UInt8 := dkwX1_getsBy_1 ++ dktX1_getsBy_2
def dkwX1_getsBy_0 : List UInt8 := [42, 180, 0, 44, 42, 180, 0, 40, 182, 0, 224, 27, 182, 1, 19, 27, 28, 160, 0, 7, 2, 167, 0, 48]
abbrev dktX1_getsBy_0 : List UInt8 := dkwX1_getsBy_0 ++ dktX1_getsBy_1
theorem dksX1_getsBy_0 : cX1_getsBy.data.toList.drop 0 = dktX1_getsBy_0 := by decide +kernel
theorem dksX1_getsBy_1 : cX1_getsBy.data.toList.drop 24 = dktX1_getsBy_1 := dk_seg dksX1_getsBy_0 24 rfl rfl
theorem dksX1_getsBy_2 : cX1_getsBy.data.toList.drop 47 = dktX1_getsBy_2 := dk_seg dksX1_getsBy_1 23 rfl rfl
theorem dX1_getsBy_0 : decode cX1_getsBy 0 = .ok (.aload_n 0, 1) := dk_42 (dk_at dksX1_getsBy_0 0 rfl rfl)
theorem dX1_getsBy_1 : decode cX1_getsBy 1 = .ok (.getfield 44, 3) := dk_180 0 44 (dk_at dksX1_getsBy_0 1 rfl rfl)
theorem dX1_getsBy_4 : decode cX1_getsBy 4 = .ok (.aload_n 0, 1) := dk_42 (dk_at dksX1_getsBy_0 4 rfl rfl)
theorem dX1_getsBy_5 : decode cX1_getsBy 5 = .ok (.getfield 40, 3) := dk_180 0 40 (dk_at dksX1_getsBy_0 5 rfl rfl)
theorem dX1_getsBy_8 : decode cX1_getsBy 8 = .ok (.invokevirtual 224, 3) := dk_182 0 224 (dk_at dksX1_getsBy_0 8 rfl rfl)
theorem dX1_getsBy_11 : decode cX1_getsBy 11 = .ok (.iload_n 1, 1) := dk_27 (dk_at dksX1_getsBy_0 11 rfl rfl)
theorem dX1_getsBy_12 : decode cX1_getsBy 12 = .ok (.invokevirtual 275, 3) := dk_182 1 19 (dk_at dksX1_getsBy_0 12 rfl rfl)
theorem dX1_getsBy_15 : decode cX1_getsBy 15 = .ok (.iload_n 1, 1) := dk_27 (dk_at dksX1_getsBy_0 15 rfl rfl)
theorem dX1_getsBy_16 : decode cX1_getsBy 16 = .ok (.iload_n 2, 1) := dk_28 (dk_at dksX1_getsBy_0 16 rfl rfl)
theorem dX1_getsBy_17 : decode cX1_getsBy 17 = .ok (.if_icmp .ne 7, 3) := dk_160 0 7 (dk_at dksX1_getsBy_0 17 rfl rfl)
theorem dX1_getsBy_20 : decode cX1_getsBy 20 = .ok (.iconst (-1), 1) := dk_2 (dk_at dksX1_getsBy_0 20 rfl rfl)
theorem dX1_getsBy_21 : decode cX1_getsBy 21 = .ok (.goto 48, 3) := dk_167 0 48 (dk_at dksX1_getsBy_0 21 rfl rfl)
theorem dX1_getsBy_24 : decode cX1_getsBy 24 = .ok (.iload_n 2, 1) := dk_28 (dk_at dksX1_getsBy_1 0 rfl rfl)
theorem dX1_getsBy_25 : decode cX1_getsBy 25 = .ok (.aload_n 0, 1) := dk_42 (dk_at dksX1_getsBy_1 1 rfl rfl)
theorem dX1_getsBy_26 : decode cX1_getsBy 26 = .ok (.invokevirtual 201, 3) := dk_182 0 201 (dk_at dksX1_getsBy_1 2 rfl rfl)
theorem dX1_getsBy_29 : decode cX1_getsBy 29 = .ok (.if_icmp .ne 21, 3) := dk_160 0 21 (dk_at dksX1_getsBy_1 5 rfl rfl)
theorem dX1_getsBy_32 : decode cX1_getsBy 32 = .ok (.aload_n 0, 1) := dk_42 (dk_at dksX1_getsBy_1 8 rfl rfl)
theorem dX1_getsBy_33 : decode cX1_getsBy 33 = .ok (.getfield 44, 3) := dk_180 0 44 (dk_at dksX1_getsBy_1 9 rfl rfl)
theorem dX1_getsBy_36 : decode cX1_getsBy 36 = .ok (.getfield 215, 3) := dk_180 0 215 (dk_at dksX1_getsBy_1 12 rfl rfl)
theorem dX1_getsBy_39 : decode cX1_getsBy 39 = .ok (.aload_n 0, 1) := dk_42 (dk_at dksX1_getsBy_1 15 rfl rfl)
theorem dX1_getsBy_40 : decode cX1_getsBy 40 = .ok (.getfield 40, 3) := dk_180 0 40 (dk_at dksX1_getsBy_1 16 rfl rfl)
theorem dX1_getsBy_43 : decode cX1_getsBy 43 = .ok (.getfield 215, 3) := dk_180 0 215 (dk_at dksX1_getsBy_1 19 rfl rfl)
theorem dX1_getsBy_46 : decode cX1_getsBy 46 = .ok (.isub, 1) := dk_100 (dk_at dksX1_getsBy_1 22 rfl rfl)
theorem dX1_getsBy_47 : decode cX1_getsBy 47 = .ok (.goto 22, 3) := dk_167 0 22 (dk_at dksX1_getsBy_2 0 rfl rfl)
theorem dX1_getsBy_50 : decode cX1_getsBy 50 = .ok (.aload_n 0, 1) := dk_42 (dk_at dksX1_getsBy_2 3 rfl rfl)
theorem dX1_getsBy_51 : decode cX1_getsBy 51 = .ok (.getfield 44, 3) := dk_180 0 44 (dk_at dksX1_getsBy_2 4 rfl rfl)
theorem dX1_getsBy_54 : decode cX1_getsBy 54 = .ok (.getfield 162, 3) := dk_180 0 162 (dk_at dksX1_getsBy_2 7 rfl rfl)
theorem dX1_getsBy_57 : decode cX1_getsBy 57 = .ok (.iload_n 2, 1) := dk_28 (dk_at dksX1_getsBy_2 10 rfl rfl)
theorem dX1_getsBy_58 : decode cX1_getsBy 58 = .ok (.iaload, 1) := dk_46 (dk_at dksX1_getsBy_2 11 rfl rfl)
theorem dX1_getsBy_59 : decode cX1_getsBy 59 = .ok (.aload_n 0, 1) := dk_42 (dk_at dksX1_getsBy_2 12 rfl rfl)
theorem dX1_getsBy_60 : decode cX1_getsBy 60 = .ok (.getfield 40, 3) := dk_180 0 40 (dk_at dksX1_getsBy_2 13 rfl rfl)
theorem dX1_getsBy_63 : decode cX1_getsBy 63 = .ok (.getfield 162, 3) := dk_180 0 162 (dk_at dksX1_getsBy_2 16 rfl rfl)
theorem dX1_getsBy_66 : decode cX1_getsBy 66 = .ok (.iload_n 2, 1) := dk_28 (dk_at dksX1_getsBy_2 19 rfl rfl)
theorem dX1_getsBy_67 : decode cX1_getsBy 67 = .ok (.iaload, 1) := dk_46 (dk_at dksX1_getsBy_2 20 rfl rfl)
theorem dX1_getsBy_68 : decode cX1_getsBy 68 = .ok (.isub, 1) := dk_100 (dk_at dksX1_getsBy_2 21 rfl rfl)
theorem dX1_getsBy_69 : decode cX1_getsBy 69 = .ok (.ireturn, 1) := dk_172 (dk_at dksX1_getsBy_2 22 rfl rfl)
abbrev cX1_after : ByteArray := prog_1_method_36_code
def yX1_after : MethodName := ⟨RX1, "after", "()I"⟩
def dkwX1_after_3 : List UInt8 := [3, 42, 180, 0, 54, 3, 16, 12, 184, 1, 37, 42, 180, 0, 44, 180, 0, 215, 172]
abbrev dktX1_after_3 : List UInt8 := dkwX1_after_3 ++ []
def dkwX1_after_2 : List UInt8 := [182, 1, 19, 132, 2, 1, 167, 255, 236, 42, 42, 182, 0, 201, 181, 1, 34, 42, 180, 0, 44, 180, 0, 162]
abbrev dktX1_after_2 : List UInt8 := dkwX1_after_2 ++ dktX1_after_3
def dkwX1_after_1 : List UInt8 := [180, 0, 40, 182, 0, 224, 87, 3, 61, 28, 27, 162, 0, 21, 42, 180, 0, 44, 42, 28, 182, 1, 25]
abbrev dktX1_after_1 : List UInt8 := dkwX1_after_1 ++ dktX1_after_2
def dkwX1_after_0 : List UInt8 := [42, 182, 0, 94, 60, 42, 27, 16, 6, 182, 1, 31, 2, 160, 0, 5, 2, 172, 42, 180, 0, 44, 42]
abbrev dktX1_after_0 : List UInt8 := dkwX1_after_0 ++ dktX1_after_1
theorem dksX1_after_0 : cX1_after.data.toList.drop 0 = dktX1_after_0 := by decide +kernel
theorem dksX1_after_1 : cX1_after.data.toList.drop 23 = dktX1_after_1 := dk_seg dksX1_after_0 23 rfl rfl
theorem dksX1_after_2 : cX1_after.data.toList.drop 46 = dktX1_after_2 := dk_seg dksX1_after_1 23 rfl rfl
theorem dksX1_after_3 : cX1_after.data.toList.drop 70 = dktX1_after_3 := dk_seg dksX1_after_2 24 rfl rfl
theorem dX1_after_0 : decode cX1_after 0 = .ok (.aload_n 0, 1) := dk_42 (dk_at dksX1_after_0 0 rfl rfl)
theorem dX1_after_1 : decode cX1_after 1 = .ok (.invokevirtual 94, 3) := dk_182 0 94 (dk_at dksX1_after_0 1 rfl rfl)
theorem dX1_after_4 : decode cX1_after 4 = .ok (.istore_n 1, 1) := dk_60 (dk_at dksX1_after_0 4 rfl rfl)
theorem dX1_after_5 : decode cX1_after 5 = .ok (.aload_n 0, 1) := dk_42 (dk_at dksX1_after_0 5 rfl rfl)
theorem dX1_after_6 : decode cX1_after 6 = .ok (.iload_n 1, 1) := dk_27 (dk_at dksX1_after_0 6 rfl rfl)
theorem dX1_after_7 : decode cX1_after 7 = .ok (.bipush 6, 2) := dk_16 6 (dk_at dksX1_after_0 7 rfl rfl)
theorem dX1_after_9 : decode cX1_after 9 = .ok (.invokevirtual 287, 3) := dk_182 1 31 (dk_at dksX1_after_0 9 rfl rfl)
theorem dX1_after_12 : decode cX1_after 12 = .ok (.iconst (-1), 1) := dk_2 (dk_at dksX1_after_0 12 rfl rfl)
theorem dX1_after_13 : decode cX1_after 13 = .ok (.if_icmp .ne 5, 3) := dk_160 0 5 (dk_at dksX1_after_0 13 rfl rfl)
theorem dX1_after_16 : decode cX1_after 16 = .ok (.iconst (-1), 1) := dk_2 (dk_at dksX1_after_0 16 rfl rfl)
theorem dX1_after_17 : decode cX1_after 17 = .ok (.ireturn, 1) := dk_172 (dk_at dksX1_after_0 17 rfl rfl)
theorem dX1_after_18 : decode cX1_after 18 = .ok (.aload_n 0, 1) := dk_42 (dk_at dksX1_after_0 18 rfl rfl)
theorem dX1_after_19 : decode cX1_after 19 = .ok (.getfield 44, 3) := dk_180 0 44 (dk_at dksX1_after_0 19 rfl rfl)
theorem dX1_after_22 : decode cX1_after 22 = .ok (.aload_n 0, 1) := dk_42 (dk_at dksX1_after_0 22 rfl rfl)
theorem dX1_after_23 : decode cX1_after 23 = .ok (.getfield 40, 3) := dk_180 0 40 (dk_at dksX1_after_1 0 rfl rfl)
theorem dX1_after_26 : decode cX1_after 26 = .ok (.invokevirtual 224, 3) := dk_182 0 224 (dk_at dksX1_after_1 3 rfl rfl)
theorem dX1_after_29 : decode cX1_after 29 = .ok (.pop, 1) := dk_87 (dk_at dksX1_after_1 6 rfl rfl)
theorem dX1_after_30 : decode cX1_after 30 = .ok (.iconst 0, 1) := dk_3 (dk_at dksX1_after_1 7 rfl rfl)
theorem dX1_after_31 : decode cX1_after 31 = .ok (.istore_n 2, 1) := dk_61 (dk_at dksX1_after_1 8 rfl rfl)
theorem dX1_after_32 : decode cX1_after 32 = .ok (.iload_n 2, 1) := dk_28 (dk_at dksX1_after_1 9 rfl rfl)
theorem dX1_after_33 : decode cX1_after 33 = .ok (.iload_n 1, 1) := dk_27 (dk_at dksX1_after_1 10 rfl rfl)
theorem dX1_after_34 : decode cX1_after 34 = .ok (.if_icmp .ge 21, 3) := dk_162 0 21 (dk_at dksX1_after_1 11 rfl rfl)
theorem dX1_after_37 : decode cX1_after 37 = .ok (.aload_n 0, 1) := dk_42 (dk_at dksX1_after_1 14 rfl rfl)
theorem dX1_after_38 : decode cX1_after 38 = .ok (.getfield 44, 3) := dk_180 0 44 (dk_at dksX1_after_1 15 rfl rfl)
theorem dX1_after_41 : decode cX1_after 41 = .ok (.aload_n 0, 1) := dk_42 (dk_at dksX1_after_1 18 rfl rfl)
theorem dX1_after_42 : decode cX1_after 42 = .ok (.iload_n 2, 1) := dk_28 (dk_at dksX1_after_1 19 rfl rfl)
theorem dX1_after_43 : decode cX1_after 43 = .ok (.invokevirtual 281, 3) := dk_182 1 25 (dk_at dksX1_after_1 20 rfl rfl)
theorem dX1_after_46 : decode cX1_after 46 = .ok (.invokevirtual 275, 3) := dk_182 1 19 (dk_at dksX1_after_2 0 rfl rfl)
theorem dX1_after_49 : decode cX1_after 49 = .ok (.iinc 2 1, 3) := dk_132 2 1 (dk_at dksX1_after_2 3 rfl rfl)
theorem dX1_after_52 : decode cX1_after 52 = .ok (.goto (-20), 3) := dk_167 255 236 (dk_at dksX1_after_2 6 rfl rfl)
theorem dX1_after_55 : decode cX1_after 55 = .ok (.aload_n 0, 1) := dk_42 (dk_at dksX1_after_2 9 rfl rfl)
theorem dX1_after_56 : decode cX1_after 56 = .ok (.aload_n 0, 1) := dk_42 (dk_at dksX1_after_2 10 rfl rfl)
theorem dX1_after_57 : decode cX1_after 57 = .ok (.invokevirtual 201, 3) := dk_182 0 201 (dk_at dksX1_after_2 11 rfl rfl)
theorem dX1_after_60 : decode cX1_after 60 = .ok (.putfield 290, 3) := dk_181 1 34 (dk_at dksX1_after_2 14 rfl rfl)
theorem dX1_after_63 : decode cX1_after 63 = .ok (.aload_n 0, 1) := dk_42 (dk_at dksX1_after_2 17 rfl rfl)
theorem dX1_after_64 : decode cX1_after 64 = .ok (.getfield 44, 3) := dk_180 0 44 (dk_at dksX1_after_2 18 rfl rfl)
theorem dX1_after_67 : decode cX1_after 67 = .ok (.getfield 162, 3) := dk_180 0 162 (dk_at dksX1_after_2 21 rfl rfl)
theorem dX1_after_70 : decode cX1_after 70 = .ok (.iconst 0, 1) := dk_3 (dk_at dksX1_after_3 0 rfl rfl)
theorem dX1_after_71 : decode cX1_after 71 = .ok (.aload_n 0, 1) := dk_42 (dk_at dksX1_after_3 1 rfl rfl)
theorem dX1_after_72 : decode cX1_after 72 = .ok (.getfield 54, 3) := dk_180 0 54 (dk_at dksX1_after_3 2 rfl rfl)
theorem dX1_after_75 : decode cX1_after 75 = .ok (.iconst 0, 1) := dk_3 (dk_at dksX1_after_3 5 rfl rfl)
theorem dX1_after_76 : decode cX1_after 76 = .ok (.bipush 12, 2) := dk_16 12 (dk_at dksX1_after_3 6 rfl rfl)
theorem dX1_after_78 : decode cX1_after 78 = .ok (.invokestatic 293, 3) := dk_184 1 37 (dk_at dksX1_after_3 8 rfl rfl)
theorem dX1_after_81 : decode cX1_after 81 = .ok (.aload_n 0, 1) := dk_42 (dk_at dksX1_after_3 11 rfl rfl)
theorem dX1_after_82 : decode cX1_after 82 = .ok (.getfield 44, 3) := dk_180 0 44 (dk_at dksX1_after_3 12 rfl rfl)
theorem dX1_after_85 : decode cX1_after 85 = .ok (.getfield 215, 3) := dk_180 0 215 (dk_at dksX1_after_3 15 rfl rfl)
theorem dX1_after_88 : decode cX1_after 88 = .ok (.ireturn, 1) := dk_172 (dk_at dksX1_after_3 18 rfl rfl)
abbrev cX1_onTapeAll : ByteArray := prog_1_method_35_code
def yX1_onTapeAll : MethodName := ⟨RX1, "onTapeAll", "(II)I"⟩
def dkwX1_onTapeAll_3 : List UInt8 := [182, 1, 25, 120, 128, 62, 132, 4, 1, 167, 255, 192, 29, 172]
abbrev dktX1_onTapeAll_3 : List UInt8 := dkwX1_onTapeAll_3 ++ []
def dkwX1_onTapeAll_2 : List UInt8 := [153, 0, 16, 29, 42, 21, 4, 182, 1, 25, 184, 1, 28, 153, 0, 5, 2, 172, 29, 4, 42, 21, 4]
abbrev dktX1_onTapeAll_2 : List UInt8 := dkwX1_onTapeAll_2 ++ dktX1_onTapeAll_3
def dkwX1_onTapeAll_1 : List UInt8 := [21, 4, 182, 1, 25, 182, 0, 132, 153, 0, 32, 42, 180, 0, 40, 42, 21, 4, 182, 1, 25, 182, 0, 165]
abbrev dktX1_onTapeAll_1 : List UInt8 := dkwX1_onTapeAll_1 ++ dktX1_onTapeAll_2
def dkwX1_onTapeAll_0 : List UInt8 := [27, 4, 28, 184, 0, 146, 154, 0, 5, 2, 172, 3, 62, 3, 54, 4, 21, 4, 27, 162, 0, 64, 42, 42]
abbrev dktX1_onTapeAll_0 : List UInt8 := dkwX1_onTapeAll_0 ++ dktX1_onTapeAll_1
theorem dksX1_onTapeAll_0 : cX1_onTapeAll.data.toList.drop 0 = dktX1_onTapeAll_0 := by decide +kernel
theorem dksX1_onTapeAll_1 : cX1_onTapeAll.data.toList.drop 24 = dktX1_onTapeAll_1 := dk_seg dksX1_onTapeAll_0 24 rfl rfl
theorem dksX1_onTapeAll_2 : cX1_onTapeAll.data.toList.drop 48 = dktX1_onTapeAll_2 := dk_seg dksX1_onTapeAll_1 24 rfl rfl
theorem dksX1_onTapeAll_3 : cX1_onTapeAll.data.toList.drop 71 = dktX1_onTapeAll_3 := dk_seg dksX1_onTapeAll_2 23 rfl rfl
theorem dX1_onTapeAll_0 : decode cX1_onTapeAll 0 = .ok (.iload_n 1, 1) := dk_27 (dk_at dksX1_onTapeAll_0 0 rfl rfl)
theorem dX1_onTapeAll_1 : decode cX1_onTapeAll 1 = .ok (.iconst 1, 1) := dk_4 (dk_at dksX1_onTapeAll_0 1 rfl rfl)
theorem dX1_onTapeAll_2 : decode cX1_onTapeAll 2 = .ok (.iload_n 2, 1) := dk_28 (dk_at dksX1_onTapeAll_0 2 rfl rfl)
theorem dX1_onTapeAll_3 : decode cX1_onTapeAll 3 = .ok (.invokestatic 146, 3) := dk_184 0 146 (dk_at dksX1_onTapeAll_0 3 rfl rfl)
theorem dX1_onTapeAll_6 : decode cX1_onTapeAll 6 = .ok (.ifCond .ne 5, 3) := dk_154 0 5 (dk_at dksX1_onTapeAll_0 6 rfl rfl)
theorem dX1_onTapeAll_9 : decode cX1_onTapeAll 9 = .ok (.iconst (-1), 1) := dk_2 (dk_at dksX1_onTapeAll_0 9 rfl rfl)
theorem dX1_onTapeAll_10 : decode cX1_onTapeAll 10 = .ok (.ireturn, 1) := dk_172 (dk_at dksX1_onTapeAll_0 10 rfl rfl)
theorem dX1_onTapeAll_11 : decode cX1_onTapeAll 11 = .ok (.iconst 0, 1) := dk_3 (dk_at dksX1_onTapeAll_0 11 rfl rfl)
theorem dX1_onTapeAll_12 : decode cX1_onTapeAll 12 = .ok (.istore_n 3, 1) := dk_62 (dk_at dksX1_onTapeAll_0 12 rfl rfl)
theorem dX1_onTapeAll_13 : decode cX1_onTapeAll 13 = .ok (.iconst 0, 1) := dk_3 (dk_at dksX1_onTapeAll_0 13 rfl rfl)
theorem dX1_onTapeAll_14 : decode cX1_onTapeAll 14 = .ok (.istore 4, 2) := dk_54 4 (dk_at dksX1_onTapeAll_0 14 rfl rfl)
theorem dX1_onTapeAll_16 : decode cX1_onTapeAll 16 = .ok (.iload 4, 2) := dk_21 4 (dk_at dksX1_onTapeAll_0 16 rfl rfl)
theorem dX1_onTapeAll_18 : decode cX1_onTapeAll 18 = .ok (.iload_n 1, 1) := dk_27 (dk_at dksX1_onTapeAll_0 18 rfl rfl)
theorem dX1_onTapeAll_19 : decode cX1_onTapeAll 19 = .ok (.if_icmp .ge 64, 3) := dk_162 0 64 (dk_at dksX1_onTapeAll_0 19 rfl rfl)
theorem dX1_onTapeAll_22 : decode cX1_onTapeAll 22 = .ok (.aload_n 0, 1) := dk_42 (dk_at dksX1_onTapeAll_0 22 rfl rfl)
theorem dX1_onTapeAll_23 : decode cX1_onTapeAll 23 = .ok (.aload_n 0, 1) := dk_42 (dk_at dksX1_onTapeAll_0 23 rfl rfl)
theorem dX1_onTapeAll_24 : decode cX1_onTapeAll 24 = .ok (.iload 4, 2) := dk_21 4 (dk_at dksX1_onTapeAll_1 0 rfl rfl)
theorem dX1_onTapeAll_26 : decode cX1_onTapeAll 26 = .ok (.invokevirtual 281, 3) := dk_182 1 25 (dk_at dksX1_onTapeAll_1 2 rfl rfl)
theorem dX1_onTapeAll_29 : decode cX1_onTapeAll 29 = .ok (.invokevirtual 132, 3) := dk_182 0 132 (dk_at dksX1_onTapeAll_1 5 rfl rfl)
theorem dX1_onTapeAll_32 : decode cX1_onTapeAll 32 = .ok (.ifCond .eq 32, 3) := dk_153 0 32 (dk_at dksX1_onTapeAll_1 8 rfl rfl)
theorem dX1_onTapeAll_35 : decode cX1_onTapeAll 35 = .ok (.aload_n 0, 1) := dk_42 (dk_at dksX1_onTapeAll_1 11 rfl rfl)
theorem dX1_onTapeAll_36 : decode cX1_onTapeAll 36 = .ok (.getfield 40, 3) := dk_180 0 40 (dk_at dksX1_onTapeAll_1 12 rfl rfl)
theorem dX1_onTapeAll_39 : decode cX1_onTapeAll 39 = .ok (.aload_n 0, 1) := dk_42 (dk_at dksX1_onTapeAll_1 15 rfl rfl)
theorem dX1_onTapeAll_40 : decode cX1_onTapeAll 40 = .ok (.iload 4, 2) := dk_21 4 (dk_at dksX1_onTapeAll_1 16 rfl rfl)
theorem dX1_onTapeAll_42 : decode cX1_onTapeAll 42 = .ok (.invokevirtual 281, 3) := dk_182 1 25 (dk_at dksX1_onTapeAll_1 18 rfl rfl)
theorem dX1_onTapeAll_45 : decode cX1_onTapeAll 45 = .ok (.invokevirtual 165, 3) := dk_182 0 165 (dk_at dksX1_onTapeAll_1 21 rfl rfl)
theorem dX1_onTapeAll_48 : decode cX1_onTapeAll 48 = .ok (.ifCond .eq 16, 3) := dk_153 0 16 (dk_at dksX1_onTapeAll_2 0 rfl rfl)
theorem dX1_onTapeAll_51 : decode cX1_onTapeAll 51 = .ok (.iload_n 3, 1) := dk_29 (dk_at dksX1_onTapeAll_2 3 rfl rfl)
theorem dX1_onTapeAll_52 : decode cX1_onTapeAll 52 = .ok (.aload_n 0, 1) := dk_42 (dk_at dksX1_onTapeAll_2 4 rfl rfl)
theorem dX1_onTapeAll_53 : decode cX1_onTapeAll 53 = .ok (.iload 4, 2) := dk_21 4 (dk_at dksX1_onTapeAll_2 5 rfl rfl)
theorem dX1_onTapeAll_55 : decode cX1_onTapeAll 55 = .ok (.invokevirtual 281, 3) := dk_182 1 25 (dk_at dksX1_onTapeAll_2 7 rfl rfl)
theorem dX1_onTapeAll_58 : decode cX1_onTapeAll 58 = .ok (.invokestatic 284, 3) := dk_184 1 28 (dk_at dksX1_onTapeAll_2 10 rfl rfl)
theorem dX1_onTapeAll_61 : decode cX1_onTapeAll 61 = .ok (.ifCond .eq 5, 3) := dk_153 0 5 (dk_at dksX1_onTapeAll_2 13 rfl rfl)
theorem dX1_onTapeAll_64 : decode cX1_onTapeAll 64 = .ok (.iconst (-1), 1) := dk_2 (dk_at dksX1_onTapeAll_2 16 rfl rfl)
theorem dX1_onTapeAll_65 : decode cX1_onTapeAll 65 = .ok (.ireturn, 1) := dk_172 (dk_at dksX1_onTapeAll_2 17 rfl rfl)
theorem dX1_onTapeAll_66 : decode cX1_onTapeAll 66 = .ok (.iload_n 3, 1) := dk_29 (dk_at dksX1_onTapeAll_2 18 rfl rfl)
theorem dX1_onTapeAll_67 : decode cX1_onTapeAll 67 = .ok (.iconst 1, 1) := dk_4 (dk_at dksX1_onTapeAll_2 19 rfl rfl)
theorem dX1_onTapeAll_68 : decode cX1_onTapeAll 68 = .ok (.aload_n 0, 1) := dk_42 (dk_at dksX1_onTapeAll_2 20 rfl rfl)
theorem dX1_onTapeAll_69 : decode cX1_onTapeAll 69 = .ok (.iload 4, 2) := dk_21 4 (dk_at dksX1_onTapeAll_2 21 rfl rfl)
theorem dX1_onTapeAll_71 : decode cX1_onTapeAll 71 = .ok (.invokevirtual 281, 3) := dk_182 1 25 (dk_at dksX1_onTapeAll_3 0 rfl rfl)
theorem dX1_onTapeAll_74 : decode cX1_onTapeAll 74 = .ok (.ishl, 1) := dk_120 (dk_at dksX1_onTapeAll_3 3 rfl rfl)
theorem dX1_onTapeAll_75 : decode cX1_onTapeAll 75 = .ok (.ior, 1) := dk_128 (dk_at dksX1_onTapeAll_3 4 rfl rfl)
theorem dX1_onTapeAll_76 : decode cX1_onTapeAll 76 = .ok (.istore_n 3, 1) := dk_62 (dk_at dksX1_onTapeAll_3 5 rfl rfl)
theorem dX1_onTapeAll_77 : decode cX1_onTapeAll 77 = .ok (.iinc 4 1, 3) := dk_132 4 1 (dk_at dksX1_onTapeAll_3 6 rfl rfl)
theorem dX1_onTapeAll_80 : decode cX1_onTapeAll 80 = .ok (.goto (-64), 3) := dk_167 255 192 (dk_at dksX1_onTapeAll_3 9 rfl rfl)
theorem dX1_onTapeAll_83 : decode cX1_onTapeAll 83 = .ok (.iload_n 3, 1) := dk_29 (dk_at dksX1_onTapeAll_3 12 rfl rfl)
theorem dX1_onTapeAll_84 : decode cX1_onTapeAll 84 = .ok (.ireturn, 1) := dk_172 (dk_at dksX1_onTapeAll_3 13 rfl rfl)
abbrev cX1_onTape : ByteArray := prog_1_method_11_code
def yX1_onTape : MethodName := ⟨RX1, "onTape", "(I)I"⟩
def dkwX1_onTape_0 : List UInt8 := [42, 180, 0, 22, 27, 51, 17, 0, 255, 126, 172]
abbrev dktX1_onTape_0 : List UInt8 := dkwX1_onTape_0 ++ []
theorem dksX1_onTape_0 : cX1_onTape.data.toList.drop 0 = dktX1_onTape_0 := by decide +kernel
theorem dX1_onTape_0 : decode cX1_onTape 0 = .ok (.aload_n 0, 1) := dk_42 (dk_at dksX1_onTape_0 0 rfl rfl)
theorem dX1_onTape_1 : decode cX1_onTape 1 = .ok (.getfield 22, 3) := dk_180 0 22 (dk_at dksX1_onTape_0 1 rfl rfl)
theorem dX1_onTape_4 : decode cX1_onTape 4 = .ok (.iload_n 1, 1) := dk_27 (dk_at dksX1_onTape_0 4 rfl rfl)
theorem dX1_onTape_5 : decode cX1_onTape 5 = .ok (.baload, 1) := dk_51 (dk_at dksX1_onTape_0 5 rfl rfl)
theorem dX1_onTape_6 : decode cX1_onTape 6 = .ok (.sipush 255, 3) := dk_17 0 255 (dk_at dksX1_onTape_0 6 rfl rfl)
theorem dX1_onTape_9 : decode cX1_onTape 9 = .ok (.iand, 1) := dk_126 (dk_at dksX1_onTape_0 9 rfl rfl)
theorem dX1_onTape_10 : decode cX1_onTape 10 = .ok (.ireturn, 1) := dk_172 (dk_at dksX1_onTape_0 10 rfl rfl)
abbrev cX1_afterOf : ByteArray := prog_1_method_37_code
def yX1_afterOf : MethodName := ⟨RX1, "afterOf", "(I)I"⟩
def dkwX1_afterOf_1 : List UInt8 := [172]
abbrev dktX1_afterOf_1 : List UInt8 := dkwX1_afterOf_1 ++ []
def dkwX1_afterOf_0 : List UInt8 := [27, 3, 42, 180, 1, 34, 4, 100, 184, 0, 146, 153, 0, 12, 42, 180, 0, 54, 27, 46, 167, 0, 4, 2]
abbrev dktX1_afterOf_0 : List UInt8 := dkwX1_afterOf_0 ++ dktX1_afterOf_1
theorem dksX1_afterOf_0 : cX1_afterOf.data.toList.drop 0 = dktX1_afterOf_0 := by decide +kernel
theorem dksX1_afterOf_1 : cX1_afterOf.data.toList.drop 24 = dktX1_afterOf_1 := dk_seg dksX1_afterOf_0 24 rfl rfl
theorem dX1_afterOf_0 : decode cX1_afterOf 0 = .ok (.iload_n 1, 1) := dk_27 (dk_at dksX1_afterOf_0 0 rfl rfl)
theorem dX1_afterOf_1 : decode cX1_afterOf 1 = .ok (.iconst 0, 1) := dk_3 (dk_at dksX1_afterOf_0 1 rfl rfl)
theorem dX1_afterOf_2 : decode cX1_afterOf 2 = .ok (.aload_n 0, 1) := dk_42 (dk_at dksX1_afterOf_0 2 rfl rfl)
theorem dX1_afterOf_3 : decode cX1_afterOf 3 = .ok (.getfield 290, 3) := dk_180 1 34 (dk_at dksX1_afterOf_0 3 rfl rfl)
theorem dX1_afterOf_6 : decode cX1_afterOf 6 = .ok (.iconst 1, 1) := dk_4 (dk_at dksX1_afterOf_0 6 rfl rfl)
theorem dX1_afterOf_7 : decode cX1_afterOf 7 = .ok (.isub, 1) := dk_100 (dk_at dksX1_afterOf_0 7 rfl rfl)
theorem dX1_afterOf_8 : decode cX1_afterOf 8 = .ok (.invokestatic 146, 3) := dk_184 0 146 (dk_at dksX1_afterOf_0 8 rfl rfl)
theorem dX1_afterOf_11 : decode cX1_afterOf 11 = .ok (.ifCond .eq 12, 3) := dk_153 0 12 (dk_at dksX1_afterOf_0 11 rfl rfl)
theorem dX1_afterOf_14 : decode cX1_afterOf 14 = .ok (.aload_n 0, 1) := dk_42 (dk_at dksX1_afterOf_0 14 rfl rfl)
theorem dX1_afterOf_15 : decode cX1_afterOf 15 = .ok (.getfield 54, 3) := dk_180 0 54 (dk_at dksX1_afterOf_0 15 rfl rfl)
theorem dX1_afterOf_18 : decode cX1_afterOf 18 = .ok (.iload_n 1, 1) := dk_27 (dk_at dksX1_afterOf_0 18 rfl rfl)
theorem dX1_afterOf_19 : decode cX1_afterOf 19 = .ok (.iaload, 1) := dk_46 (dk_at dksX1_afterOf_0 19 rfl rfl)
theorem dX1_afterOf_20 : decode cX1_afterOf 20 = .ok (.goto 4, 3) := dk_167 0 4 (dk_at dksX1_afterOf_0 20 rfl rfl)
theorem dX1_afterOf_23 : decode cX1_afterOf 23 = .ok (.iconst (-1), 1) := dk_2 (dk_at dksX1_afterOf_0 23 rfl rfl)
theorem dX1_afterOf_24 : decode cX1_afterOf 24 = .ok (.ireturn, 1) := dk_172 (dk_at dksX1_afterOf_1 0 rfl rfl)
abbrev cX1_best : ByteArray := prog_1_method_40_code
def yX1_best : MethodName := ⟨RX1, "best", "(I)I"⟩
def dkwX1_best_2 : List UInt8 := [42, 2, 181, 1, 43, 42, 27, 3, 29, 182, 1, 52, 42, 180, 1, 43, 172]
abbrev dktX1_best_2 : List UInt8 := dkwX1_best_2 ++ []
def dkwX1_best_1 : List UInt8 := [153, 0, 22, 42, 180, 0, 40, 27, 182, 0, 165, 153, 0, 11, 29, 27, 184, 1, 28, 153, 0, 5, 2, 172]
abbrev dktX1_best_1 : List UInt8 := dkwX1_best_1 ++ dktX1_best_2
def dkwX1_best_0 : List UInt8 := [42, 182, 0, 94, 61, 42, 28, 8, 182, 1, 31, 62, 29, 2, 159, 0, 30, 42, 27, 182, 0, 132]
abbrev dktX1_best_0 : List UInt8 := dkwX1_best_0 ++ dktX1_best_1
theorem dksX1_best_0 : cX1_best.data.toList.drop 0 = dktX1_best_0 := by decide +kernel
theorem dksX1_best_1 : cX1_best.data.toList.drop 22 = dktX1_best_1 := dk_seg dksX1_best_0 22 rfl rfl
theorem dksX1_best_2 : cX1_best.data.toList.drop 46 = dktX1_best_2 := dk_seg dksX1_best_1 24 rfl rfl
theorem dX1_best_0 : decode cX1_best 0 = .ok (.aload_n 0, 1) := dk_42 (dk_at dksX1_best_0 0 rfl rfl)
theorem dX1_best_1 : decode cX1_best 1 = .ok (.invokevirtual 94, 3) := dk_182 0 94 (dk_at dksX1_best_0 1 rfl rfl)
theorem dX1_best_4 : decode cX1_best 4 = .ok (.istore_n 2, 1) := dk_61 (dk_at dksX1_best_0 4 rfl rfl)
theorem dX1_best_5 : decode cX1_best 5 = .ok (.aload_n 0, 1) := dk_42 (dk_at dksX1_best_0 5 rfl rfl)
theorem dX1_best_6 : decode cX1_best 6 = .ok (.iload_n 2, 1) := dk_28 (dk_at dksX1_best_0 6 rfl rfl)
theorem dX1_best_7 : decode cX1_best 7 = .ok (.iconst 5, 1) := dk_8 (dk_at dksX1_best_0 7 rfl rfl)
theorem dX1_best_8 : decode cX1_best 8 = .ok (.invokevirtual 287, 3) := dk_182 1 31 (dk_at dksX1_best_0 8 rfl rfl)
theorem dX1_best_11 : decode cX1_best 11 = .ok (.istore_n 3, 1) := dk_62 (dk_at dksX1_best_0 11 rfl rfl)
theorem dX1_best_12 : decode cX1_best 12 = .ok (.iload_n 3, 1) := dk_29 (dk_at dksX1_best_0 12 rfl rfl)
theorem dX1_best_13 : decode cX1_best 13 = .ok (.iconst (-1), 1) := dk_2 (dk_at dksX1_best_0 13 rfl rfl)
theorem dX1_best_14 : decode cX1_best 14 = .ok (.if_icmp .eq 30, 3) := dk_159 0 30 (dk_at dksX1_best_0 14 rfl rfl)
theorem dX1_best_17 : decode cX1_best 17 = .ok (.aload_n 0, 1) := dk_42 (dk_at dksX1_best_0 17 rfl rfl)
theorem dX1_best_18 : decode cX1_best 18 = .ok (.iload_n 1, 1) := dk_27 (dk_at dksX1_best_0 18 rfl rfl)
theorem dX1_best_19 : decode cX1_best 19 = .ok (.invokevirtual 132, 3) := dk_182 0 132 (dk_at dksX1_best_0 19 rfl rfl)
theorem dX1_best_22 : decode cX1_best 22 = .ok (.ifCond .eq 22, 3) := dk_153 0 22 (dk_at dksX1_best_1 0 rfl rfl)
theorem dX1_best_25 : decode cX1_best 25 = .ok (.aload_n 0, 1) := dk_42 (dk_at dksX1_best_1 3 rfl rfl)
theorem dX1_best_26 : decode cX1_best 26 = .ok (.getfield 40, 3) := dk_180 0 40 (dk_at dksX1_best_1 4 rfl rfl)
theorem dX1_best_29 : decode cX1_best 29 = .ok (.iload_n 1, 1) := dk_27 (dk_at dksX1_best_1 7 rfl rfl)
theorem dX1_best_30 : decode cX1_best 30 = .ok (.invokevirtual 165, 3) := dk_182 0 165 (dk_at dksX1_best_1 8 rfl rfl)
theorem dX1_best_33 : decode cX1_best 33 = .ok (.ifCond .eq 11, 3) := dk_153 0 11 (dk_at dksX1_best_1 11 rfl rfl)
theorem dX1_best_36 : decode cX1_best 36 = .ok (.iload_n 3, 1) := dk_29 (dk_at dksX1_best_1 14 rfl rfl)
theorem dX1_best_37 : decode cX1_best 37 = .ok (.iload_n 1, 1) := dk_27 (dk_at dksX1_best_1 15 rfl rfl)
theorem dX1_best_38 : decode cX1_best 38 = .ok (.invokestatic 284, 3) := dk_184 1 28 (dk_at dksX1_best_1 16 rfl rfl)
theorem dX1_best_41 : decode cX1_best 41 = .ok (.ifCond .eq 5, 3) := dk_153 0 5 (dk_at dksX1_best_1 19 rfl rfl)
theorem dX1_best_44 : decode cX1_best 44 = .ok (.iconst (-1), 1) := dk_2 (dk_at dksX1_best_1 22 rfl rfl)
theorem dX1_best_45 : decode cX1_best 45 = .ok (.ireturn, 1) := dk_172 (dk_at dksX1_best_1 23 rfl rfl)
theorem dX1_best_46 : decode cX1_best 46 = .ok (.aload_n 0, 1) := dk_42 (dk_at dksX1_best_2 0 rfl rfl)
theorem dX1_best_47 : decode cX1_best 47 = .ok (.iconst (-1), 1) := dk_2 (dk_at dksX1_best_2 1 rfl rfl)
theorem dX1_best_48 : decode cX1_best 48 = .ok (.putfield 299, 3) := dk_181 1 43 (dk_at dksX1_best_2 2 rfl rfl)
theorem dX1_best_51 : decode cX1_best 51 = .ok (.aload_n 0, 1) := dk_42 (dk_at dksX1_best_2 5 rfl rfl)
theorem dX1_best_52 : decode cX1_best 52 = .ok (.iload_n 1, 1) := dk_27 (dk_at dksX1_best_2 6 rfl rfl)
theorem dX1_best_53 : decode cX1_best 53 = .ok (.iconst 0, 1) := dk_3 (dk_at dksX1_best_2 7 rfl rfl)
theorem dX1_best_54 : decode cX1_best 54 = .ok (.iload_n 3, 1) := dk_29 (dk_at dksX1_best_2 8 rfl rfl)
theorem dX1_best_55 : decode cX1_best 55 = .ok (.invokevirtual 308, 3) := dk_182 1 52 (dk_at dksX1_best_2 9 rfl rfl)
theorem dX1_best_58 : decode cX1_best 58 = .ok (.aload_n 0, 1) := dk_42 (dk_at dksX1_best_2 12 rfl rfl)
theorem dX1_best_59 : decode cX1_best 59 = .ok (.getfield 299, 3) := dk_180 1 43 (dk_at dksX1_best_2 13 rfl rfl)
theorem dX1_best_62 : decode cX1_best 62 = .ok (.ireturn, 1) := dk_172 (dk_at dksX1_best_2 16 rfl rfl)
abbrev cX1_tryRows : ByteArray := prog_1_method_39_code
def yX1_tryRows : MethodName := ⟨RX1, "tryRows", "(III)V"⟩
def dkwX1_tryRows_2 : List UInt8 := [29, 4, 21, 4, 120, 2, 130, 126, 182, 1, 52, 132, 4, 1, 167, 255, 208, 177]
abbrev dktX1_tryRows_2 : List UInt8 := dkwX1_tryRows_2 ++ []
def dkwX1_tryRows_1 : List UInt8 := [21, 4, 184, 1, 28, 154, 0, 6, 167, 0, 27, 42, 180, 0, 58, 28, 21, 4, 79, 42, 27, 28, 4, 96]
abbrev dktX1_tryRows_1 : List UInt8 := dkwX1_tryRows_1 ++ dktX1_tryRows_2
def dkwX1_tryRows_0 : List UInt8 := [29, 154, 0, 9, 42, 27, 28, 182, 1, 49, 3, 54, 4, 21, 4, 42, 182, 0, 201, 162, 0, 45, 29]
abbrev dktX1_tryRows_0 : List UInt8 := dkwX1_tryRows_0 ++ dktX1_tryRows_1
theorem dksX1_tryRows_0 : cX1_tryRows.data.toList.drop 0 = dktX1_tryRows_0 := by decide +kernel
theorem dksX1_tryRows_1 : cX1_tryRows.data.toList.drop 23 = dktX1_tryRows_1 := dk_seg dksX1_tryRows_0 23 rfl rfl
theorem dksX1_tryRows_2 : cX1_tryRows.data.toList.drop 47 = dktX1_tryRows_2 := dk_seg dksX1_tryRows_1 24 rfl rfl
theorem dX1_tryRows_0 : decode cX1_tryRows 0 = .ok (.iload_n 3, 1) := dk_29 (dk_at dksX1_tryRows_0 0 rfl rfl)
theorem dX1_tryRows_1 : decode cX1_tryRows 1 = .ok (.ifCond .ne 9, 3) := dk_154 0 9 (dk_at dksX1_tryRows_0 1 rfl rfl)
theorem dX1_tryRows_4 : decode cX1_tryRows 4 = .ok (.aload_n 0, 1) := dk_42 (dk_at dksX1_tryRows_0 4 rfl rfl)
theorem dX1_tryRows_5 : decode cX1_tryRows 5 = .ok (.iload_n 1, 1) := dk_27 (dk_at dksX1_tryRows_0 5 rfl rfl)
theorem dX1_tryRows_6 : decode cX1_tryRows 6 = .ok (.iload_n 2, 1) := dk_28 (dk_at dksX1_tryRows_0 6 rfl rfl)
theorem dX1_tryRows_7 : decode cX1_tryRows 7 = .ok (.invokevirtual 305, 3) := dk_182 1 49 (dk_at dksX1_tryRows_0 7 rfl rfl)
theorem dX1_tryRows_10 : decode cX1_tryRows 10 = .ok (.iconst 0, 1) := dk_3 (dk_at dksX1_tryRows_0 10 rfl rfl)
theorem dX1_tryRows_11 : decode cX1_tryRows 11 = .ok (.istore 4, 2) := dk_54 4 (dk_at dksX1_tryRows_0 11 rfl rfl)
theorem dX1_tryRows_13 : decode cX1_tryRows 13 = .ok (.iload 4, 2) := dk_21 4 (dk_at dksX1_tryRows_0 13 rfl rfl)
theorem dX1_tryRows_15 : decode cX1_tryRows 15 = .ok (.aload_n 0, 1) := dk_42 (dk_at dksX1_tryRows_0 15 rfl rfl)
theorem dX1_tryRows_16 : decode cX1_tryRows 16 = .ok (.invokevirtual 201, 3) := dk_182 0 201 (dk_at dksX1_tryRows_0 16 rfl rfl)
theorem dX1_tryRows_19 : decode cX1_tryRows 19 = .ok (.if_icmp .ge 45, 3) := dk_162 0 45 (dk_at dksX1_tryRows_0 19 rfl rfl)
theorem dX1_tryRows_22 : decode cX1_tryRows 22 = .ok (.iload_n 3, 1) := dk_29 (dk_at dksX1_tryRows_0 22 rfl rfl)
theorem dX1_tryRows_23 : decode cX1_tryRows 23 = .ok (.iload 4, 2) := dk_21 4 (dk_at dksX1_tryRows_1 0 rfl rfl)
theorem dX1_tryRows_25 : decode cX1_tryRows 25 = .ok (.invokestatic 284, 3) := dk_184 1 28 (dk_at dksX1_tryRows_1 2 rfl rfl)
theorem dX1_tryRows_28 : decode cX1_tryRows 28 = .ok (.ifCond .ne 6, 3) := dk_154 0 6 (dk_at dksX1_tryRows_1 5 rfl rfl)
theorem dX1_tryRows_31 : decode cX1_tryRows 31 = .ok (.goto 27, 3) := dk_167 0 27 (dk_at dksX1_tryRows_1 8 rfl rfl)
theorem dX1_tryRows_34 : decode cX1_tryRows 34 = .ok (.aload_n 0, 1) := dk_42 (dk_at dksX1_tryRows_1 11 rfl rfl)
theorem dX1_tryRows_35 : decode cX1_tryRows 35 = .ok (.getfield 58, 3) := dk_180 0 58 (dk_at dksX1_tryRows_1 12 rfl rfl)
theorem dX1_tryRows_38 : decode cX1_tryRows 38 = .ok (.iload_n 2, 1) := dk_28 (dk_at dksX1_tryRows_1 15 rfl rfl)
theorem dX1_tryRows_39 : decode cX1_tryRows 39 = .ok (.iload 4, 2) := dk_21 4 (dk_at dksX1_tryRows_1 16 rfl rfl)
theorem dX1_tryRows_41 : decode cX1_tryRows 41 = .ok (.iastore, 1) := dk_79 (dk_at dksX1_tryRows_1 18 rfl rfl)
theorem dX1_tryRows_42 : decode cX1_tryRows 42 = .ok (.aload_n 0, 1) := dk_42 (dk_at dksX1_tryRows_1 19 rfl rfl)
theorem dX1_tryRows_43 : decode cX1_tryRows 43 = .ok (.iload_n 1, 1) := dk_27 (dk_at dksX1_tryRows_1 20 rfl rfl)
theorem dX1_tryRows_44 : decode cX1_tryRows 44 = .ok (.iload_n 2, 1) := dk_28 (dk_at dksX1_tryRows_1 21 rfl rfl)
theorem dX1_tryRows_45 : decode cX1_tryRows 45 = .ok (.iconst 1, 1) := dk_4 (dk_at dksX1_tryRows_1 22 rfl rfl)
theorem dX1_tryRows_46 : decode cX1_tryRows 46 = .ok (.iadd, 1) := dk_96 (dk_at dksX1_tryRows_1 23 rfl rfl)
theorem dX1_tryRows_47 : decode cX1_tryRows 47 = .ok (.iload_n 3, 1) := dk_29 (dk_at dksX1_tryRows_2 0 rfl rfl)
theorem dX1_tryRows_48 : decode cX1_tryRows 48 = .ok (.iconst 1, 1) := dk_4 (dk_at dksX1_tryRows_2 1 rfl rfl)
theorem dX1_tryRows_49 : decode cX1_tryRows 49 = .ok (.iload 4, 2) := dk_21 4 (dk_at dksX1_tryRows_2 2 rfl rfl)
theorem dX1_tryRows_51 : decode cX1_tryRows 51 = .ok (.ishl, 1) := dk_120 (dk_at dksX1_tryRows_2 4 rfl rfl)
theorem dX1_tryRows_52 : decode cX1_tryRows 52 = .ok (.iconst (-1), 1) := dk_2 (dk_at dksX1_tryRows_2 5 rfl rfl)
theorem dX1_tryRows_53 : decode cX1_tryRows 53 = .ok (.ixor, 1) := dk_130 (dk_at dksX1_tryRows_2 6 rfl rfl)
theorem dX1_tryRows_54 : decode cX1_tryRows 54 = .ok (.iand, 1) := dk_126 (dk_at dksX1_tryRows_2 7 rfl rfl)
theorem dX1_tryRows_55 : decode cX1_tryRows 55 = .ok (.invokevirtual 308, 3) := dk_182 1 52 (dk_at dksX1_tryRows_2 8 rfl rfl)
theorem dX1_tryRows_58 : decode cX1_tryRows 58 = .ok (.iinc 4 1, 3) := dk_132 4 1 (dk_at dksX1_tryRows_2 11 rfl rfl)
theorem dX1_tryRows_61 : decode cX1_tryRows 61 = .ok (.goto (-48), 3) := dk_167 255 208 (dk_at dksX1_tryRows_2 14 rfl rfl)
theorem dX1_tryRows_64 : decode cX1_tryRows 64 = .ok (.return_, 1) := dk_177 (dk_at dksX1_tryRows_2 17 rfl rfl)
abbrev cX1_tryRow : ByteArray := prog_1_method_38_code
def yX1_tryRow : MethodName := ⟨RX1, "tryRow", "(II)V"⟩
def dkwX1_tryRow_3 : List UInt8 := [181, 1, 46, 42, 180, 0, 58, 3, 42, 180, 0, 61, 3, 8, 184, 1, 37, 177]
abbrev dktX1_tryRow_3 : List UInt8 := dkwX1_tryRow_3 ++ []
def dkwX1_tryRow_2 : List UInt8 := [180, 1, 43, 163, 0, 4, 177, 42, 42, 180, 0, 44, 180, 0, 162, 27, 46, 181, 1, 43, 42, 28]
abbrev dktX1_tryRow_2 : List UInt8 := dkwX1_tryRow_2 ++ dktX1_tryRow_3
def dkwX1_tryRow_1 : List UInt8 := [180, 0, 58, 29, 46, 182, 1, 19, 132, 3, 1, 167, 255, 235, 42, 180, 0, 44, 180, 0, 162, 27, 46, 42]
abbrev dktX1_tryRow_1 : List UInt8 := dkwX1_tryRow_1 ++ dktX1_tryRow_2
def dkwX1_tryRow_0 : List UInt8 := [42, 180, 0, 44, 42, 180, 0, 40, 182, 0, 224, 87, 3, 62, 29, 28, 162, 0, 22, 42, 180, 0, 44, 42]
abbrev dktX1_tryRow_0 : List UInt8 := dkwX1_tryRow_0 ++ dktX1_tryRow_1
theorem dksX1_tryRow_0 : cX1_tryRow.data.toList.drop 0 = dktX1_tryRow_0 := by decide +kernel
theorem dksX1_tryRow_1 : cX1_tryRow.data.toList.drop 24 = dktX1_tryRow_1 := dk_seg dksX1_tryRow_0 24 rfl rfl
theorem dksX1_tryRow_2 : cX1_tryRow.data.toList.drop 48 = dktX1_tryRow_2 := dk_seg dksX1_tryRow_1 24 rfl rfl
theorem dksX1_tryRow_3 : cX1_tryRow.data.toList.drop 70 = dktX1_tryRow_3 := dk_seg dksX1_tryRow_2 22 rfl rfl
theorem dX1_tryRow_0 : decode cX1_tryRow 0 = .ok (.aload_n 0, 1) := dk_42 (dk_at dksX1_tryRow_0 0 rfl rfl)
theorem dX1_tryRow_1 : decode cX1_tryRow 1 = .ok (.getfield 44, 3) := dk_180 0 44 (dk_at dksX1_tryRow_0 1 rfl rfl)
theorem dX1_tryRow_4 : decode cX1_tryRow 4 = .ok (.aload_n 0, 1) := dk_42 (dk_at dksX1_tryRow_0 4 rfl rfl)
theorem dX1_tryRow_5 : decode cX1_tryRow 5 = .ok (.getfield 40, 3) := dk_180 0 40 (dk_at dksX1_tryRow_0 5 rfl rfl)
theorem dX1_tryRow_8 : decode cX1_tryRow 8 = .ok (.invokevirtual 224, 3) := dk_182 0 224 (dk_at dksX1_tryRow_0 8 rfl rfl)
theorem dX1_tryRow_11 : decode cX1_tryRow 11 = .ok (.pop, 1) := dk_87 (dk_at dksX1_tryRow_0 11 rfl rfl)
theorem dX1_tryRow_12 : decode cX1_tryRow 12 = .ok (.iconst 0, 1) := dk_3 (dk_at dksX1_tryRow_0 12 rfl rfl)
theorem dX1_tryRow_13 : decode cX1_tryRow 13 = .ok (.istore_n 3, 1) := dk_62 (dk_at dksX1_tryRow_0 13 rfl rfl)
theorem dX1_tryRow_14 : decode cX1_tryRow 14 = .ok (.iload_n 3, 1) := dk_29 (dk_at dksX1_tryRow_0 14 rfl rfl)
theorem dX1_tryRow_15 : decode cX1_tryRow 15 = .ok (.iload_n 2, 1) := dk_28 (dk_at dksX1_tryRow_0 15 rfl rfl)
theorem dX1_tryRow_16 : decode cX1_tryRow 16 = .ok (.if_icmp .ge 22, 3) := dk_162 0 22 (dk_at dksX1_tryRow_0 16 rfl rfl)
theorem dX1_tryRow_19 : decode cX1_tryRow 19 = .ok (.aload_n 0, 1) := dk_42 (dk_at dksX1_tryRow_0 19 rfl rfl)
theorem dX1_tryRow_20 : decode cX1_tryRow 20 = .ok (.getfield 44, 3) := dk_180 0 44 (dk_at dksX1_tryRow_0 20 rfl rfl)
theorem dX1_tryRow_23 : decode cX1_tryRow 23 = .ok (.aload_n 0, 1) := dk_42 (dk_at dksX1_tryRow_0 23 rfl rfl)
theorem dX1_tryRow_24 : decode cX1_tryRow 24 = .ok (.getfield 58, 3) := dk_180 0 58 (dk_at dksX1_tryRow_1 0 rfl rfl)
theorem dX1_tryRow_27 : decode cX1_tryRow 27 = .ok (.iload_n 3, 1) := dk_29 (dk_at dksX1_tryRow_1 3 rfl rfl)
theorem dX1_tryRow_28 : decode cX1_tryRow 28 = .ok (.iaload, 1) := dk_46 (dk_at dksX1_tryRow_1 4 rfl rfl)
theorem dX1_tryRow_29 : decode cX1_tryRow 29 = .ok (.invokevirtual 275, 3) := dk_182 1 19 (dk_at dksX1_tryRow_1 5 rfl rfl)
theorem dX1_tryRow_32 : decode cX1_tryRow 32 = .ok (.iinc 3 1, 3) := dk_132 3 1 (dk_at dksX1_tryRow_1 8 rfl rfl)
theorem dX1_tryRow_35 : decode cX1_tryRow 35 = .ok (.goto (-21), 3) := dk_167 255 235 (dk_at dksX1_tryRow_1 11 rfl rfl)
theorem dX1_tryRow_38 : decode cX1_tryRow 38 = .ok (.aload_n 0, 1) := dk_42 (dk_at dksX1_tryRow_1 14 rfl rfl)
theorem dX1_tryRow_39 : decode cX1_tryRow 39 = .ok (.getfield 44, 3) := dk_180 0 44 (dk_at dksX1_tryRow_1 15 rfl rfl)
theorem dX1_tryRow_42 : decode cX1_tryRow 42 = .ok (.getfield 162, 3) := dk_180 0 162 (dk_at dksX1_tryRow_1 18 rfl rfl)
theorem dX1_tryRow_45 : decode cX1_tryRow 45 = .ok (.iload_n 1, 1) := dk_27 (dk_at dksX1_tryRow_1 21 rfl rfl)
theorem dX1_tryRow_46 : decode cX1_tryRow 46 = .ok (.iaload, 1) := dk_46 (dk_at dksX1_tryRow_1 22 rfl rfl)
theorem dX1_tryRow_47 : decode cX1_tryRow 47 = .ok (.aload_n 0, 1) := dk_42 (dk_at dksX1_tryRow_1 23 rfl rfl)
theorem dX1_tryRow_48 : decode cX1_tryRow 48 = .ok (.getfield 299, 3) := dk_180 1 43 (dk_at dksX1_tryRow_2 0 rfl rfl)
theorem dX1_tryRow_51 : decode cX1_tryRow 51 = .ok (.if_icmp .gt 4, 3) := dk_163 0 4 (dk_at dksX1_tryRow_2 3 rfl rfl)
theorem dX1_tryRow_54 : decode cX1_tryRow 54 = .ok (.return_, 1) := dk_177 (dk_at dksX1_tryRow_2 6 rfl rfl)
theorem dX1_tryRow_55 : decode cX1_tryRow 55 = .ok (.aload_n 0, 1) := dk_42 (dk_at dksX1_tryRow_2 7 rfl rfl)
theorem dX1_tryRow_56 : decode cX1_tryRow 56 = .ok (.aload_n 0, 1) := dk_42 (dk_at dksX1_tryRow_2 8 rfl rfl)
theorem dX1_tryRow_57 : decode cX1_tryRow 57 = .ok (.getfield 44, 3) := dk_180 0 44 (dk_at dksX1_tryRow_2 9 rfl rfl)
theorem dX1_tryRow_60 : decode cX1_tryRow 60 = .ok (.getfield 162, 3) := dk_180 0 162 (dk_at dksX1_tryRow_2 12 rfl rfl)
theorem dX1_tryRow_63 : decode cX1_tryRow 63 = .ok (.iload_n 1, 1) := dk_27 (dk_at dksX1_tryRow_2 15 rfl rfl)
theorem dX1_tryRow_64 : decode cX1_tryRow 64 = .ok (.iaload, 1) := dk_46 (dk_at dksX1_tryRow_2 16 rfl rfl)
theorem dX1_tryRow_65 : decode cX1_tryRow 65 = .ok (.putfield 299, 3) := dk_181 1 43 (dk_at dksX1_tryRow_2 17 rfl rfl)
theorem dX1_tryRow_68 : decode cX1_tryRow 68 = .ok (.aload_n 0, 1) := dk_42 (dk_at dksX1_tryRow_2 20 rfl rfl)
theorem dX1_tryRow_69 : decode cX1_tryRow 69 = .ok (.iload_n 2, 1) := dk_28 (dk_at dksX1_tryRow_2 21 rfl rfl)
theorem dX1_tryRow_70 : decode cX1_tryRow 70 = .ok (.putfield 302, 3) := dk_181 1 46 (dk_at dksX1_tryRow_3 0 rfl rfl)
theorem dX1_tryRow_73 : decode cX1_tryRow 73 = .ok (.aload_n 0, 1) := dk_42 (dk_at dksX1_tryRow_3 3 rfl rfl)
theorem dX1_tryRow_74 : decode cX1_tryRow 74 = .ok (.getfield 58, 3) := dk_180 0 58 (dk_at dksX1_tryRow_3 4 rfl rfl)
theorem dX1_tryRow_77 : decode cX1_tryRow 77 = .ok (.iconst 0, 1) := dk_3 (dk_at dksX1_tryRow_3 7 rfl rfl)
theorem dX1_tryRow_78 : decode cX1_tryRow 78 = .ok (.aload_n 0, 1) := dk_42 (dk_at dksX1_tryRow_3 8 rfl rfl)
theorem dX1_tryRow_79 : decode cX1_tryRow 79 = .ok (.getfield 61, 3) := dk_180 0 61 (dk_at dksX1_tryRow_3 9 rfl rfl)
theorem dX1_tryRow_82 : decode cX1_tryRow 82 = .ok (.iconst 0, 1) := dk_3 (dk_at dksX1_tryRow_3 12 rfl rfl)
theorem dX1_tryRow_83 : decode cX1_tryRow 83 = .ok (.iconst 5, 1) := dk_8 (dk_at dksX1_tryRow_3 13 rfl rfl)
theorem dX1_tryRow_84 : decode cX1_tryRow 84 = .ok (.invokestatic 293, 3) := dk_184 1 37 (dk_at dksX1_tryRow_3 14 rfl rfl)
theorem dX1_tryRow_87 : decode cX1_tryRow 87 = .ok (.return_, 1) := dk_177 (dk_at dksX1_tryRow_3 17 rfl rfl)
abbrev cX1_bestAt : ByteArray := prog_1_method_41_code
def yX1_bestAt : MethodName := ⟨RX1, "bestAt", "(I)I"⟩
def dkwX1_bestAt_1 : List UInt8 := [172]
abbrev dktX1_bestAt_1 : List UInt8 := dkwX1_bestAt_1 ++ []
def dkwX1_bestAt_0 : List UInt8 := [27, 3, 42, 180, 1, 46, 4, 100, 184, 0, 146, 153, 0, 12, 42, 180, 0, 61, 27, 46, 167, 0, 4, 2]
abbrev dktX1_bestAt_0 : List UInt8 := dkwX1_bestAt_0 ++ dktX1_bestAt_1
theorem dksX1_bestAt_0 : cX1_bestAt.data.toList.drop 0 = dktX1_bestAt_0 := by decide +kernel
theorem dksX1_bestAt_1 : cX1_bestAt.data.toList.drop 24 = dktX1_bestAt_1 := dk_seg dksX1_bestAt_0 24 rfl rfl
theorem dX1_bestAt_0 : decode cX1_bestAt 0 = .ok (.iload_n 1, 1) := dk_27 (dk_at dksX1_bestAt_0 0 rfl rfl)
theorem dX1_bestAt_1 : decode cX1_bestAt 1 = .ok (.iconst 0, 1) := dk_3 (dk_at dksX1_bestAt_0 1 rfl rfl)
theorem dX1_bestAt_2 : decode cX1_bestAt 2 = .ok (.aload_n 0, 1) := dk_42 (dk_at dksX1_bestAt_0 2 rfl rfl)
theorem dX1_bestAt_3 : decode cX1_bestAt 3 = .ok (.getfield 302, 3) := dk_180 1 46 (dk_at dksX1_bestAt_0 3 rfl rfl)
theorem dX1_bestAt_6 : decode cX1_bestAt 6 = .ok (.iconst 1, 1) := dk_4 (dk_at dksX1_bestAt_0 6 rfl rfl)
theorem dX1_bestAt_7 : decode cX1_bestAt 7 = .ok (.isub, 1) := dk_100 (dk_at dksX1_bestAt_0 7 rfl rfl)
theorem dX1_bestAt_8 : decode cX1_bestAt 8 = .ok (.invokestatic 146, 3) := dk_184 0 146 (dk_at dksX1_bestAt_0 8 rfl rfl)
theorem dX1_bestAt_11 : decode cX1_bestAt 11 = .ok (.ifCond .eq 12, 3) := dk_153 0 12 (dk_at dksX1_bestAt_0 11 rfl rfl)
theorem dX1_bestAt_14 : decode cX1_bestAt 14 = .ok (.aload_n 0, 1) := dk_42 (dk_at dksX1_bestAt_0 14 rfl rfl)
theorem dX1_bestAt_15 : decode cX1_bestAt 15 = .ok (.getfield 61, 3) := dk_180 0 61 (dk_at dksX1_bestAt_0 15 rfl rfl)
theorem dX1_bestAt_18 : decode cX1_bestAt 18 = .ok (.iload_n 1, 1) := dk_27 (dk_at dksX1_bestAt_0 18 rfl rfl)
theorem dX1_bestAt_19 : decode cX1_bestAt 19 = .ok (.iaload, 1) := dk_46 (dk_at dksX1_bestAt_0 19 rfl rfl)
theorem dX1_bestAt_20 : decode cX1_bestAt 20 = .ok (.goto 4, 3) := dk_167 0 4 (dk_at dksX1_bestAt_0 20 rfl rfl)
theorem dX1_bestAt_23 : decode cX1_bestAt 23 = .ok (.iconst (-1), 1) := dk_2 (dk_at dksX1_bestAt_0 23 rfl rfl)
theorem dX1_bestAt_24 : decode cX1_bestAt 24 = .ok (.ireturn, 1) := dk_172 (dk_at dksX1_bestAt_1 0 rfl rfl)
abbrev cX1_clear : ByteArray := prog_1_method_43_code
def yX1_clear : MethodName := ⟨RX1, "clear", "(II)I"⟩
def dkwX1_clear_5 : List UInt8 := [42, 21, 4, 181, 0, 64, 21, 4, 184, 1, 55, 172]
abbrev dktX1_clear_5 : List UInt8 := dkwX1_clear_5 ++ []
def dkwX1_clear_4 : List UInt8 := [182, 1, 58, 153, 0, 7, 21, 5, 54, 4, 132, 5, 1, 167, 255, 204, 21, 4, 2, 160, 0, 5, 2, 172]
abbrev dktX1_clear_4 : List UInt8 := dkwX1_clear_4 ++ dktX1_clear_5
def dkwX1_clear_3 : List UInt8 := [21, 4, 2, 159, 0, 16, 21, 5, 184, 1, 55, 21, 4, 184, 1, 55, 162, 0, 18, 42, 27, 28, 21, 5]
abbrev dktX1_clear_3 : List UInt8 := dkwX1_clear_3 ++ dktX1_clear_4
def dkwX1_clear_2 : List UInt8 := [130, 126, 62, 2, 54, 4, 3, 54, 5, 21, 5, 29, 163, 0, 52, 21, 5, 29, 2, 130, 126, 154, 0, 37]
abbrev dktX1_clear_2 : List UInt8 := dkwX1_clear_2 ++ dktX1_clear_3
def dkwX1_clear_1 : List UInt8 := [28, 182, 0, 165, 154, 0, 5, 2, 172, 42, 180, 0, 40, 180, 0, 209, 4, 27, 120, 4, 28, 120, 128, 2]
abbrev dktX1_clear_1 : List UInt8 := dkwX1_clear_1 ++ dktX1_clear_2
def dkwX1_clear_0 : List UInt8 := [42, 27, 28, 182, 0, 245, 153, 0, 25, 42, 180, 0, 40, 27, 182, 0, 165, 153, 0, 14, 42, 180, 0, 40]
abbrev dktX1_clear_0 : List UInt8 := dkwX1_clear_0 ++ dktX1_clear_1
theorem dksX1_clear_0 : cX1_clear.data.toList.drop 0 = dktX1_clear_0 := by decide +kernel
theorem dksX1_clear_1 : cX1_clear.data.toList.drop 24 = dktX1_clear_1 := dk_seg dksX1_clear_0 24 rfl rfl
theorem dksX1_clear_2 : cX1_clear.data.toList.drop 48 = dktX1_clear_2 := dk_seg dksX1_clear_1 24 rfl rfl
theorem dksX1_clear_3 : cX1_clear.data.toList.drop 72 = dktX1_clear_3 := dk_seg dksX1_clear_2 24 rfl rfl
theorem dksX1_clear_4 : cX1_clear.data.toList.drop 96 = dktX1_clear_4 := dk_seg dksX1_clear_3 24 rfl rfl
theorem dksX1_clear_5 : cX1_clear.data.toList.drop 120 = dktX1_clear_5 := dk_seg dksX1_clear_4 24 rfl rfl
theorem dX1_clear_0 : decode cX1_clear 0 = .ok (.aload_n 0, 1) := dk_42 (dk_at dksX1_clear_0 0 rfl rfl)
theorem dX1_clear_1 : decode cX1_clear 1 = .ok (.iload_n 1, 1) := dk_27 (dk_at dksX1_clear_0 1 rfl rfl)
theorem dX1_clear_2 : decode cX1_clear 2 = .ok (.iload_n 2, 1) := dk_28 (dk_at dksX1_clear_0 2 rfl rfl)
theorem dX1_clear_3 : decode cX1_clear 3 = .ok (.invokevirtual 245, 3) := dk_182 0 245 (dk_at dksX1_clear_0 3 rfl rfl)
theorem dX1_clear_6 : decode cX1_clear 6 = .ok (.ifCond .eq 25, 3) := dk_153 0 25 (dk_at dksX1_clear_0 6 rfl rfl)
theorem dX1_clear_9 : decode cX1_clear 9 = .ok (.aload_n 0, 1) := dk_42 (dk_at dksX1_clear_0 9 rfl rfl)
theorem dX1_clear_10 : decode cX1_clear 10 = .ok (.getfield 40, 3) := dk_180 0 40 (dk_at dksX1_clear_0 10 rfl rfl)
theorem dX1_clear_13 : decode cX1_clear 13 = .ok (.iload_n 1, 1) := dk_27 (dk_at dksX1_clear_0 13 rfl rfl)
theorem dX1_clear_14 : decode cX1_clear 14 = .ok (.invokevirtual 165, 3) := dk_182 0 165 (dk_at dksX1_clear_0 14 rfl rfl)
theorem dX1_clear_17 : decode cX1_clear 17 = .ok (.ifCond .eq 14, 3) := dk_153 0 14 (dk_at dksX1_clear_0 17 rfl rfl)
theorem dX1_clear_20 : decode cX1_clear 20 = .ok (.aload_n 0, 1) := dk_42 (dk_at dksX1_clear_0 20 rfl rfl)
theorem dX1_clear_21 : decode cX1_clear 21 = .ok (.getfield 40, 3) := dk_180 0 40 (dk_at dksX1_clear_0 21 rfl rfl)
theorem dX1_clear_24 : decode cX1_clear 24 = .ok (.iload_n 2, 1) := dk_28 (dk_at dksX1_clear_1 0 rfl rfl)
theorem dX1_clear_25 : decode cX1_clear 25 = .ok (.invokevirtual 165, 3) := dk_182 0 165 (dk_at dksX1_clear_1 1 rfl rfl)
theorem dX1_clear_28 : decode cX1_clear 28 = .ok (.ifCond .ne 5, 3) := dk_154 0 5 (dk_at dksX1_clear_1 4 rfl rfl)
theorem dX1_clear_31 : decode cX1_clear 31 = .ok (.iconst (-1), 1) := dk_2 (dk_at dksX1_clear_1 7 rfl rfl)
theorem dX1_clear_32 : decode cX1_clear 32 = .ok (.ireturn, 1) := dk_172 (dk_at dksX1_clear_1 8 rfl rfl)
theorem dX1_clear_33 : decode cX1_clear 33 = .ok (.aload_n 0, 1) := dk_42 (dk_at dksX1_clear_1 9 rfl rfl)
theorem dX1_clear_34 : decode cX1_clear 34 = .ok (.getfield 40, 3) := dk_180 0 40 (dk_at dksX1_clear_1 10 rfl rfl)
theorem dX1_clear_37 : decode cX1_clear 37 = .ok (.getfield 209, 3) := dk_180 0 209 (dk_at dksX1_clear_1 13 rfl rfl)
theorem dX1_clear_40 : decode cX1_clear 40 = .ok (.iconst 1, 1) := dk_4 (dk_at dksX1_clear_1 16 rfl rfl)
theorem dX1_clear_41 : decode cX1_clear 41 = .ok (.iload_n 1, 1) := dk_27 (dk_at dksX1_clear_1 17 rfl rfl)
theorem dX1_clear_42 : decode cX1_clear 42 = .ok (.ishl, 1) := dk_120 (dk_at dksX1_clear_1 18 rfl rfl)
theorem dX1_clear_43 : decode cX1_clear 43 = .ok (.iconst 1, 1) := dk_4 (dk_at dksX1_clear_1 19 rfl rfl)
theorem dX1_clear_44 : decode cX1_clear 44 = .ok (.iload_n 2, 1) := dk_28 (dk_at dksX1_clear_1 20 rfl rfl)
theorem dX1_clear_45 : decode cX1_clear 45 = .ok (.ishl, 1) := dk_120 (dk_at dksX1_clear_1 21 rfl rfl)
theorem dX1_clear_46 : decode cX1_clear 46 = .ok (.ior, 1) := dk_128 (dk_at dksX1_clear_1 22 rfl rfl)
theorem dX1_clear_47 : decode cX1_clear 47 = .ok (.iconst (-1), 1) := dk_2 (dk_at dksX1_clear_1 23 rfl rfl)
theorem dX1_clear_48 : decode cX1_clear 48 = .ok (.ixor, 1) := dk_130 (dk_at dksX1_clear_2 0 rfl rfl)
theorem dX1_clear_49 : decode cX1_clear 49 = .ok (.iand, 1) := dk_126 (dk_at dksX1_clear_2 1 rfl rfl)
theorem dX1_clear_50 : decode cX1_clear 50 = .ok (.istore_n 3, 1) := dk_62 (dk_at dksX1_clear_2 2 rfl rfl)
theorem dX1_clear_51 : decode cX1_clear 51 = .ok (.iconst (-1), 1) := dk_2 (dk_at dksX1_clear_2 3 rfl rfl)
theorem dX1_clear_52 : decode cX1_clear 52 = .ok (.istore 4, 2) := dk_54 4 (dk_at dksX1_clear_2 4 rfl rfl)
theorem dX1_clear_54 : decode cX1_clear 54 = .ok (.iconst 0, 1) := dk_3 (dk_at dksX1_clear_2 6 rfl rfl)
theorem dX1_clear_55 : decode cX1_clear 55 = .ok (.istore 5, 2) := dk_54 5 (dk_at dksX1_clear_2 7 rfl rfl)
theorem dX1_clear_57 : decode cX1_clear 57 = .ok (.iload 5, 2) := dk_21 5 (dk_at dksX1_clear_2 9 rfl rfl)
theorem dX1_clear_59 : decode cX1_clear 59 = .ok (.iload_n 3, 1) := dk_29 (dk_at dksX1_clear_2 11 rfl rfl)
theorem dX1_clear_60 : decode cX1_clear 60 = .ok (.if_icmp .gt 52, 3) := dk_163 0 52 (dk_at dksX1_clear_2 12 rfl rfl)
theorem dX1_clear_63 : decode cX1_clear 63 = .ok (.iload 5, 2) := dk_21 5 (dk_at dksX1_clear_2 15 rfl rfl)
theorem dX1_clear_65 : decode cX1_clear 65 = .ok (.iload_n 3, 1) := dk_29 (dk_at dksX1_clear_2 17 rfl rfl)
theorem dX1_clear_66 : decode cX1_clear 66 = .ok (.iconst (-1), 1) := dk_2 (dk_at dksX1_clear_2 18 rfl rfl)
theorem dX1_clear_67 : decode cX1_clear 67 = .ok (.ixor, 1) := dk_130 (dk_at dksX1_clear_2 19 rfl rfl)
theorem dX1_clear_68 : decode cX1_clear 68 = .ok (.iand, 1) := dk_126 (dk_at dksX1_clear_2 20 rfl rfl)
theorem dX1_clear_69 : decode cX1_clear 69 = .ok (.ifCond .ne 37, 3) := dk_154 0 37 (dk_at dksX1_clear_2 21 rfl rfl)
theorem dX1_clear_72 : decode cX1_clear 72 = .ok (.iload 4, 2) := dk_21 4 (dk_at dksX1_clear_3 0 rfl rfl)
theorem dX1_clear_74 : decode cX1_clear 74 = .ok (.iconst (-1), 1) := dk_2 (dk_at dksX1_clear_3 2 rfl rfl)
theorem dX1_clear_75 : decode cX1_clear 75 = .ok (.if_icmp .eq 16, 3) := dk_159 0 16 (dk_at dksX1_clear_3 3 rfl rfl)
theorem dX1_clear_78 : decode cX1_clear 78 = .ok (.iload 5, 2) := dk_21 5 (dk_at dksX1_clear_3 6 rfl rfl)
theorem dX1_clear_80 : decode cX1_clear 80 = .ok (.invokestatic 311, 3) := dk_184 1 55 (dk_at dksX1_clear_3 8 rfl rfl)
theorem dX1_clear_83 : decode cX1_clear 83 = .ok (.iload 4, 2) := dk_21 4 (dk_at dksX1_clear_3 11 rfl rfl)
theorem dX1_clear_85 : decode cX1_clear 85 = .ok (.invokestatic 311, 3) := dk_184 1 55 (dk_at dksX1_clear_3 13 rfl rfl)
theorem dX1_clear_88 : decode cX1_clear 88 = .ok (.if_icmp .ge 18, 3) := dk_162 0 18 (dk_at dksX1_clear_3 16 rfl rfl)
theorem dX1_clear_91 : decode cX1_clear 91 = .ok (.aload_n 0, 1) := dk_42 (dk_at dksX1_clear_3 19 rfl rfl)
theorem dX1_clear_92 : decode cX1_clear 92 = .ok (.iload_n 1, 1) := dk_27 (dk_at dksX1_clear_3 20 rfl rfl)
theorem dX1_clear_93 : decode cX1_clear 93 = .ok (.iload_n 2, 1) := dk_28 (dk_at dksX1_clear_3 21 rfl rfl)
theorem dX1_clear_94 : decode cX1_clear 94 = .ok (.iload 5, 2) := dk_21 5 (dk_at dksX1_clear_3 22 rfl rfl)
theorem dX1_clear_96 : decode cX1_clear 96 = .ok (.invokevirtual 314, 3) := dk_182 1 58 (dk_at dksX1_clear_4 0 rfl rfl)
theorem dX1_clear_99 : decode cX1_clear 99 = .ok (.ifCond .eq 7, 3) := dk_153 0 7 (dk_at dksX1_clear_4 3 rfl rfl)
theorem dX1_clear_102 : decode cX1_clear 102 = .ok (.iload 5, 2) := dk_21 5 (dk_at dksX1_clear_4 6 rfl rfl)
theorem dX1_clear_104 : decode cX1_clear 104 = .ok (.istore 4, 2) := dk_54 4 (dk_at dksX1_clear_4 8 rfl rfl)
theorem dX1_clear_106 : decode cX1_clear 106 = .ok (.iinc 5 1, 3) := dk_132 5 1 (dk_at dksX1_clear_4 10 rfl rfl)
theorem dX1_clear_109 : decode cX1_clear 109 = .ok (.goto (-52), 3) := dk_167 255 204 (dk_at dksX1_clear_4 13 rfl rfl)
theorem dX1_clear_112 : decode cX1_clear 112 = .ok (.iload 4, 2) := dk_21 4 (dk_at dksX1_clear_4 16 rfl rfl)
theorem dX1_clear_114 : decode cX1_clear 114 = .ok (.iconst (-1), 1) := dk_2 (dk_at dksX1_clear_4 18 rfl rfl)
theorem dX1_clear_115 : decode cX1_clear 115 = .ok (.if_icmp .ne 5, 3) := dk_160 0 5 (dk_at dksX1_clear_4 19 rfl rfl)
theorem dX1_clear_118 : decode cX1_clear 118 = .ok (.iconst (-1), 1) := dk_2 (dk_at dksX1_clear_4 22 rfl rfl)
theorem dX1_clear_119 : decode cX1_clear 119 = .ok (.ireturn, 1) := dk_172 (dk_at dksX1_clear_4 23 rfl rfl)
theorem dX1_clear_120 : decode cX1_clear 120 = .ok (.aload_n 0, 1) := dk_42 (dk_at dksX1_clear_5 0 rfl rfl)
theorem dX1_clear_121 : decode cX1_clear 121 = .ok (.iload 4, 2) := dk_21 4 (dk_at dksX1_clear_5 1 rfl rfl)
theorem dX1_clear_123 : decode cX1_clear 123 = .ok (.putfield 64, 3) := dk_181 0 64 (dk_at dksX1_clear_5 3 rfl rfl)
theorem dX1_clear_126 : decode cX1_clear 126 = .ok (.iload 4, 2) := dk_21 4 (dk_at dksX1_clear_5 6 rfl rfl)
theorem dX1_clear_128 : decode cX1_clear 128 = .ok (.invokestatic 311, 3) := dk_184 1 55 (dk_at dksX1_clear_5 8 rfl rfl)
theorem dX1_clear_131 : decode cX1_clear 131 = .ok (.ireturn, 1) := dk_172 (dk_at dksX1_clear_5 11 rfl rfl)
abbrev cX1_clears : ByteArray := prog_1_method_42_code
def yX1_clears : MethodName := ⟨RX1, "clears", "(III)Z"⟩
def dkwX1_clears_4 : List UInt8 := [28, 46, 100, 21, 4, 160, 0, 7, 4, 167, 0, 4, 3, 172]
abbrev dktX1_clears_4 : List UInt8 := dkwX1_clears_4 ++ []
def dkwX1_clears_3 : List UInt8 := [182, 1, 19, 21, 4, 158, 0, 31, 42, 180, 0, 47, 180, 0, 162, 28, 46, 42, 180, 0, 44, 180, 0, 162]
abbrev dktX1_clears_3 : List UInt8 := dkwX1_clears_3 ++ dktX1_clears_4
def dkwX1_clears_2 : List UInt8 := [42, 180, 0, 44, 180, 0, 162, 27, 46, 54, 4, 42, 180, 0, 47, 42, 180, 0, 44, 182, 0, 224, 27]
abbrev dktX1_clears_2 : List UInt8 := dkwX1_clears_2 ++ dktX1_clears_3
def dkwX1_clears_1 : List UInt8 := [29, 21, 4, 184, 1, 28, 153, 0, 12, 42, 180, 0, 44, 21, 4, 182, 1, 19, 132, 4, 1, 167, 255, 226]
abbrev dktX1_clears_1 : List UInt8 := dkwX1_clears_1 ++ dktX1_clears_2
def dkwX1_clears_0 : List UInt8 := [42, 180, 0, 44, 42, 180, 0, 40, 182, 0, 224, 87, 3, 54, 4, 21, 4, 42, 182, 0, 201, 162, 0, 27]
abbrev dktX1_clears_0 : List UInt8 := dkwX1_clears_0 ++ dktX1_clears_1
theorem dksX1_clears_0 : cX1_clears.data.toList.drop 0 = dktX1_clears_0 := by decide +kernel
theorem dksX1_clears_1 : cX1_clears.data.toList.drop 24 = dktX1_clears_1 := dk_seg dksX1_clears_0 24 rfl rfl
theorem dksX1_clears_2 : cX1_clears.data.toList.drop 48 = dktX1_clears_2 := dk_seg dksX1_clears_1 24 rfl rfl
theorem dksX1_clears_3 : cX1_clears.data.toList.drop 71 = dktX1_clears_3 := dk_seg dksX1_clears_2 23 rfl rfl
theorem dksX1_clears_4 : cX1_clears.data.toList.drop 95 = dktX1_clears_4 := dk_seg dksX1_clears_3 24 rfl rfl
theorem dX1_clears_0 : decode cX1_clears 0 = .ok (.aload_n 0, 1) := dk_42 (dk_at dksX1_clears_0 0 rfl rfl)
theorem dX1_clears_1 : decode cX1_clears 1 = .ok (.getfield 44, 3) := dk_180 0 44 (dk_at dksX1_clears_0 1 rfl rfl)
theorem dX1_clears_4 : decode cX1_clears 4 = .ok (.aload_n 0, 1) := dk_42 (dk_at dksX1_clears_0 4 rfl rfl)
theorem dX1_clears_5 : decode cX1_clears 5 = .ok (.getfield 40, 3) := dk_180 0 40 (dk_at dksX1_clears_0 5 rfl rfl)
theorem dX1_clears_8 : decode cX1_clears 8 = .ok (.invokevirtual 224, 3) := dk_182 0 224 (dk_at dksX1_clears_0 8 rfl rfl)
theorem dX1_clears_11 : decode cX1_clears 11 = .ok (.pop, 1) := dk_87 (dk_at dksX1_clears_0 11 rfl rfl)
theorem dX1_clears_12 : decode cX1_clears 12 = .ok (.iconst 0, 1) := dk_3 (dk_at dksX1_clears_0 12 rfl rfl)
theorem dX1_clears_13 : decode cX1_clears 13 = .ok (.istore 4, 2) := dk_54 4 (dk_at dksX1_clears_0 13 rfl rfl)
theorem dX1_clears_15 : decode cX1_clears 15 = .ok (.iload 4, 2) := dk_21 4 (dk_at dksX1_clears_0 15 rfl rfl)
theorem dX1_clears_17 : decode cX1_clears 17 = .ok (.aload_n 0, 1) := dk_42 (dk_at dksX1_clears_0 17 rfl rfl)
theorem dX1_clears_18 : decode cX1_clears 18 = .ok (.invokevirtual 201, 3) := dk_182 0 201 (dk_at dksX1_clears_0 18 rfl rfl)
theorem dX1_clears_21 : decode cX1_clears 21 = .ok (.if_icmp .ge 27, 3) := dk_162 0 27 (dk_at dksX1_clears_0 21 rfl rfl)
theorem dX1_clears_24 : decode cX1_clears 24 = .ok (.iload_n 3, 1) := dk_29 (dk_at dksX1_clears_1 0 rfl rfl)
theorem dX1_clears_25 : decode cX1_clears 25 = .ok (.iload 4, 2) := dk_21 4 (dk_at dksX1_clears_1 1 rfl rfl)
theorem dX1_clears_27 : decode cX1_clears 27 = .ok (.invokestatic 284, 3) := dk_184 1 28 (dk_at dksX1_clears_1 3 rfl rfl)
theorem dX1_clears_30 : decode cX1_clears 30 = .ok (.ifCond .eq 12, 3) := dk_153 0 12 (dk_at dksX1_clears_1 6 rfl rfl)
theorem dX1_clears_33 : decode cX1_clears 33 = .ok (.aload_n 0, 1) := dk_42 (dk_at dksX1_clears_1 9 rfl rfl)
theorem dX1_clears_34 : decode cX1_clears 34 = .ok (.getfield 44, 3) := dk_180 0 44 (dk_at dksX1_clears_1 10 rfl rfl)
theorem dX1_clears_37 : decode cX1_clears 37 = .ok (.iload 4, 2) := dk_21 4 (dk_at dksX1_clears_1 13 rfl rfl)
theorem dX1_clears_39 : decode cX1_clears 39 = .ok (.invokevirtual 275, 3) := dk_182 1 19 (dk_at dksX1_clears_1 15 rfl rfl)
theorem dX1_clears_42 : decode cX1_clears 42 = .ok (.iinc 4 1, 3) := dk_132 4 1 (dk_at dksX1_clears_1 18 rfl rfl)
theorem dX1_clears_45 : decode cX1_clears 45 = .ok (.goto (-30), 3) := dk_167 255 226 (dk_at dksX1_clears_1 21 rfl rfl)
theorem dX1_clears_48 : decode cX1_clears 48 = .ok (.aload_n 0, 1) := dk_42 (dk_at dksX1_clears_2 0 rfl rfl)
theorem dX1_clears_49 : decode cX1_clears 49 = .ok (.getfield 44, 3) := dk_180 0 44 (dk_at dksX1_clears_2 1 rfl rfl)
theorem dX1_clears_52 : decode cX1_clears 52 = .ok (.getfield 162, 3) := dk_180 0 162 (dk_at dksX1_clears_2 4 rfl rfl)
theorem dX1_clears_55 : decode cX1_clears 55 = .ok (.iload_n 1, 1) := dk_27 (dk_at dksX1_clears_2 7 rfl rfl)
theorem dX1_clears_56 : decode cX1_clears 56 = .ok (.iaload, 1) := dk_46 (dk_at dksX1_clears_2 8 rfl rfl)
theorem dX1_clears_57 : decode cX1_clears 57 = .ok (.istore 4, 2) := dk_54 4 (dk_at dksX1_clears_2 9 rfl rfl)
theorem dX1_clears_59 : decode cX1_clears 59 = .ok (.aload_n 0, 1) := dk_42 (dk_at dksX1_clears_2 11 rfl rfl)
theorem dX1_clears_60 : decode cX1_clears 60 = .ok (.getfield 47, 3) := dk_180 0 47 (dk_at dksX1_clears_2 12 rfl rfl)
theorem dX1_clears_63 : decode cX1_clears 63 = .ok (.aload_n 0, 1) := dk_42 (dk_at dksX1_clears_2 15 rfl rfl)
theorem dX1_clears_64 : decode cX1_clears 64 = .ok (.getfield 44, 3) := dk_180 0 44 (dk_at dksX1_clears_2 16 rfl rfl)
theorem dX1_clears_67 : decode cX1_clears 67 = .ok (.invokevirtual 224, 3) := dk_182 0 224 (dk_at dksX1_clears_2 19 rfl rfl)
theorem dX1_clears_70 : decode cX1_clears 70 = .ok (.iload_n 1, 1) := dk_27 (dk_at dksX1_clears_2 22 rfl rfl)
theorem dX1_clears_71 : decode cX1_clears 71 = .ok (.invokevirtual 275, 3) := dk_182 1 19 (dk_at dksX1_clears_3 0 rfl rfl)
theorem dX1_clears_74 : decode cX1_clears 74 = .ok (.iload 4, 2) := dk_21 4 (dk_at dksX1_clears_3 3 rfl rfl)
theorem dX1_clears_76 : decode cX1_clears 76 = .ok (.ifCond .le 31, 3) := dk_158 0 31 (dk_at dksX1_clears_3 5 rfl rfl)
theorem dX1_clears_79 : decode cX1_clears 79 = .ok (.aload_n 0, 1) := dk_42 (dk_at dksX1_clears_3 8 rfl rfl)
theorem dX1_clears_80 : decode cX1_clears 80 = .ok (.getfield 47, 3) := dk_180 0 47 (dk_at dksX1_clears_3 9 rfl rfl)
theorem dX1_clears_83 : decode cX1_clears 83 = .ok (.getfield 162, 3) := dk_180 0 162 (dk_at dksX1_clears_3 12 rfl rfl)
theorem dX1_clears_86 : decode cX1_clears 86 = .ok (.iload_n 2, 1) := dk_28 (dk_at dksX1_clears_3 15 rfl rfl)
theorem dX1_clears_87 : decode cX1_clears 87 = .ok (.iaload, 1) := dk_46 (dk_at dksX1_clears_3 16 rfl rfl)
theorem dX1_clears_88 : decode cX1_clears 88 = .ok (.aload_n 0, 1) := dk_42 (dk_at dksX1_clears_3 17 rfl rfl)
theorem dX1_clears_89 : decode cX1_clears 89 = .ok (.getfield 44, 3) := dk_180 0 44 (dk_at dksX1_clears_3 18 rfl rfl)
theorem dX1_clears_92 : decode cX1_clears 92 = .ok (.getfield 162, 3) := dk_180 0 162 (dk_at dksX1_clears_3 21 rfl rfl)
theorem dX1_clears_95 : decode cX1_clears 95 = .ok (.iload_n 2, 1) := dk_28 (dk_at dksX1_clears_4 0 rfl rfl)
theorem dX1_clears_96 : decode cX1_clears 96 = .ok (.iaload, 1) := dk_46 (dk_at dksX1_clears_4 1 rfl rfl)
theorem dX1_clears_97 : decode cX1_clears 97 = .ok (.isub, 1) := dk_100 (dk_at dksX1_clears_4 2 rfl rfl)
theorem dX1_clears_98 : decode cX1_clears 98 = .ok (.iload 4, 2) := dk_21 4 (dk_at dksX1_clears_4 3 rfl rfl)
theorem dX1_clears_100 : decode cX1_clears 100 = .ok (.if_icmp .ne 7, 3) := dk_160 0 7 (dk_at dksX1_clears_4 5 rfl rfl)
theorem dX1_clears_103 : decode cX1_clears 103 = .ok (.iconst 1, 1) := dk_4 (dk_at dksX1_clears_4 8 rfl rfl)
theorem dX1_clears_104 : decode cX1_clears 104 = .ok (.goto 4, 3) := dk_167 0 4 (dk_at dksX1_clears_4 9 rfl rfl)
theorem dX1_clears_107 : decode cX1_clears 107 = .ok (.iconst 0, 1) := dk_3 (dk_at dksX1_clears_4 12 rfl rfl)
theorem dX1_clears_108 : decode cX1_clears 108 = .ok (.ireturn, 1) := dk_172 (dk_at dksX1_clears_4 13 rfl rfl)
abbrev cX1_cleared : ByteArray := prog_1_method_44_code
def yX1_cleared : MethodName := ⟨RX1, "cleared", "()I"⟩
theorem dX1_cleared_0 : decode cX1_cleared 0 = .ok (.aload_n 0, 1) := by decide +kernel
theorem dX1_cleared_1 : decode cX1_cleared 1 = .ok (.getfield 64, 3) := by decide +kernel
theorem dX1_cleared_4 : decode cX1_cleared 4 = .ok (.ireturn, 1) := by decide +kernel
abbrev cX1_fits : ByteArray := prog_1_method_47_code
def yX1_fits : MethodName := ⟨RX1, "fits", "()I"⟩
def dkwX1_fits_6 : List UInt8 := [132, 3, 1, 167, 255, 222, 28, 172]
abbrev dktX1_fits_6 : List UInt8 := dkwX1_fits_6 ++ []
def dkwX1_fits_5 : List UInt8 := [42, 28, 29, 182, 1, 69, 42, 28, 42, 180, 0, 68, 182, 1, 69, 162, 0, 8, 42, 29, 181, 0, 68]
abbrev dktX1_fits_5 : List UInt8 := dkwX1_fits_5 ++ dktX1_fits_6
def dkwX1_fits_4 : List UInt8 := [167, 255, 219, 28, 154, 0, 5, 3, 172, 42, 3, 181, 0, 68, 4, 62, 29, 42, 182, 0, 201, 163, 0, 32]
abbrev dktX1_fits_4 : List UInt8 := dkwX1_fits_4 ++ dktX1_fits_5
def dkwX1_fits_3 : List UInt8 := [182, 0, 165, 153, 0, 18, 42, 29, 27, 182, 1, 66, 153, 0, 9, 28, 4, 29, 120, 128, 61, 132, 3, 1]
abbrev dktX1_fits_3 : List UInt8 := dkwX1_fits_3 ++ dktX1_fits_4
def dkwX1_fits_2 : List UInt8 := [132, 2, 2, 167, 255, 234, 3, 61, 3, 62, 29, 42, 182, 0, 201, 162, 0, 35, 42, 180, 0, 40, 29]
abbrev dktX1_fits_2 : List UInt8 := dkwX1_fits_2 ++ dktX1_fits_3
def dkwX1_fits_1 : List UInt8 := [172, 3, 61, 28, 27, 162, 0, 23, 42, 28, 182, 1, 25, 42, 182, 0, 201, 164, 0, 5, 2, 172]
abbrev dktX1_fits_1 : List UInt8 := dkwX1_fits_1 ++ dktX1_fits_2
def dkwX1_fits_0 : List UInt8 := [42, 182, 0, 94, 60, 27, 5, 112, 154, 0, 15, 27, 5, 108, 4, 16, 6, 184, 0, 146, 154, 0, 5, 2]
abbrev dktX1_fits_0 : List UInt8 := dkwX1_fits_0 ++ dktX1_fits_1
theorem dksX1_fits_0 : cX1_fits.data.toList.drop 0 = dktX1_fits_0 := by decide +kernel
theorem dksX1_fits_1 : cX1_fits.data.toList.drop 24 = dktX1_fits_1 := dk_seg dksX1_fits_0 24 rfl rfl
theorem dksX1_fits_2 : cX1_fits.data.toList.drop 46 = dktX1_fits_2 := dk_seg dksX1_fits_1 22 rfl rfl
theorem dksX1_fits_3 : cX1_fits.data.toList.drop 69 = dktX1_fits_3 := dk_seg dksX1_fits_2 23 rfl rfl
theorem dksX1_fits_4 : cX1_fits.data.toList.drop 93 = dktX1_fits_4 := dk_seg dksX1_fits_3 24 rfl rfl
theorem dksX1_fits_5 : cX1_fits.data.toList.drop 117 = dktX1_fits_5 := dk_seg dksX1_fits_4 24 rfl rfl
theorem dksX1_fits_6 : cX1_fits.data.toList.drop 140 = dktX1_fits_6 := dk_seg dksX1_fits_5 23 rfl rfl
theorem dX1_fits_0 : decode cX1_fits 0 = .ok (.aload_n 0, 1) := dk_42 (dk_at dksX1_fits_0 0 rfl rfl)
theorem dX1_fits_1 : decode cX1_fits 1 = .ok (.invokevirtual 94, 3) := dk_182 0 94 (dk_at dksX1_fits_0 1 rfl rfl)
theorem dX1_fits_4 : decode cX1_fits 4 = .ok (.istore_n 1, 1) := dk_60 (dk_at dksX1_fits_0 4 rfl rfl)
theorem dX1_fits_5 : decode cX1_fits 5 = .ok (.iload_n 1, 1) := dk_27 (dk_at dksX1_fits_0 5 rfl rfl)
theorem dX1_fits_6 : decode cX1_fits 6 = .ok (.iconst 2, 1) := dk_5 (dk_at dksX1_fits_0 6 rfl rfl)
theorem dX1_fits_7 : decode cX1_fits 7 = .ok (.irem, 1) := dk_112 (dk_at dksX1_fits_0 7 rfl rfl)
theorem dX1_fits_8 : decode cX1_fits 8 = .ok (.ifCond .ne 15, 3) := dk_154 0 15 (dk_at dksX1_fits_0 8 rfl rfl)
theorem dX1_fits_11 : decode cX1_fits 11 = .ok (.iload_n 1, 1) := dk_27 (dk_at dksX1_fits_0 11 rfl rfl)
theorem dX1_fits_12 : decode cX1_fits 12 = .ok (.iconst 2, 1) := dk_5 (dk_at dksX1_fits_0 12 rfl rfl)
theorem dX1_fits_13 : decode cX1_fits 13 = .ok (.idiv, 1) := dk_108 (dk_at dksX1_fits_0 13 rfl rfl)
theorem dX1_fits_14 : decode cX1_fits 14 = .ok (.iconst 1, 1) := dk_4 (dk_at dksX1_fits_0 14 rfl rfl)
theorem dX1_fits_15 : decode cX1_fits 15 = .ok (.bipush 6, 2) := dk_16 6 (dk_at dksX1_fits_0 15 rfl rfl)
theorem dX1_fits_17 : decode cX1_fits 17 = .ok (.invokestatic 146, 3) := dk_184 0 146 (dk_at dksX1_fits_0 17 rfl rfl)
theorem dX1_fits_20 : decode cX1_fits 20 = .ok (.ifCond .ne 5, 3) := dk_154 0 5 (dk_at dksX1_fits_0 20 rfl rfl)
theorem dX1_fits_23 : decode cX1_fits 23 = .ok (.iconst (-1), 1) := dk_2 (dk_at dksX1_fits_0 23 rfl rfl)
theorem dX1_fits_24 : decode cX1_fits 24 = .ok (.ireturn, 1) := dk_172 (dk_at dksX1_fits_1 0 rfl rfl)
theorem dX1_fits_25 : decode cX1_fits 25 = .ok (.iconst 0, 1) := dk_3 (dk_at dksX1_fits_1 1 rfl rfl)
theorem dX1_fits_26 : decode cX1_fits 26 = .ok (.istore_n 2, 1) := dk_61 (dk_at dksX1_fits_1 2 rfl rfl)
theorem dX1_fits_27 : decode cX1_fits 27 = .ok (.iload_n 2, 1) := dk_28 (dk_at dksX1_fits_1 3 rfl rfl)
theorem dX1_fits_28 : decode cX1_fits 28 = .ok (.iload_n 1, 1) := dk_27 (dk_at dksX1_fits_1 4 rfl rfl)
theorem dX1_fits_29 : decode cX1_fits 29 = .ok (.if_icmp .ge 23, 3) := dk_162 0 23 (dk_at dksX1_fits_1 5 rfl rfl)
theorem dX1_fits_32 : decode cX1_fits 32 = .ok (.aload_n 0, 1) := dk_42 (dk_at dksX1_fits_1 8 rfl rfl)
theorem dX1_fits_33 : decode cX1_fits 33 = .ok (.iload_n 2, 1) := dk_28 (dk_at dksX1_fits_1 9 rfl rfl)
theorem dX1_fits_34 : decode cX1_fits 34 = .ok (.invokevirtual 281, 3) := dk_182 1 25 (dk_at dksX1_fits_1 10 rfl rfl)
theorem dX1_fits_37 : decode cX1_fits 37 = .ok (.aload_n 0, 1) := dk_42 (dk_at dksX1_fits_1 13 rfl rfl)
theorem dX1_fits_38 : decode cX1_fits 38 = .ok (.invokevirtual 201, 3) := dk_182 0 201 (dk_at dksX1_fits_1 14 rfl rfl)
theorem dX1_fits_41 : decode cX1_fits 41 = .ok (.if_icmp .le 5, 3) := dk_164 0 5 (dk_at dksX1_fits_1 17 rfl rfl)
theorem dX1_fits_44 : decode cX1_fits 44 = .ok (.iconst (-1), 1) := dk_2 (dk_at dksX1_fits_1 20 rfl rfl)
theorem dX1_fits_45 : decode cX1_fits 45 = .ok (.ireturn, 1) := dk_172 (dk_at dksX1_fits_1 21 rfl rfl)
theorem dX1_fits_46 : decode cX1_fits 46 = .ok (.iinc 2 2, 3) := dk_132 2 2 (dk_at dksX1_fits_2 0 rfl rfl)
theorem dX1_fits_49 : decode cX1_fits 49 = .ok (.goto (-22), 3) := dk_167 255 234 (dk_at dksX1_fits_2 3 rfl rfl)
theorem dX1_fits_52 : decode cX1_fits 52 = .ok (.iconst 0, 1) := dk_3 (dk_at dksX1_fits_2 6 rfl rfl)
theorem dX1_fits_53 : decode cX1_fits 53 = .ok (.istore_n 2, 1) := dk_61 (dk_at dksX1_fits_2 7 rfl rfl)
theorem dX1_fits_54 : decode cX1_fits 54 = .ok (.iconst 0, 1) := dk_3 (dk_at dksX1_fits_2 8 rfl rfl)
theorem dX1_fits_55 : decode cX1_fits 55 = .ok (.istore_n 3, 1) := dk_62 (dk_at dksX1_fits_2 9 rfl rfl)
theorem dX1_fits_56 : decode cX1_fits 56 = .ok (.iload_n 3, 1) := dk_29 (dk_at dksX1_fits_2 10 rfl rfl)
theorem dX1_fits_57 : decode cX1_fits 57 = .ok (.aload_n 0, 1) := dk_42 (dk_at dksX1_fits_2 11 rfl rfl)
theorem dX1_fits_58 : decode cX1_fits 58 = .ok (.invokevirtual 201, 3) := dk_182 0 201 (dk_at dksX1_fits_2 12 rfl rfl)
theorem dX1_fits_61 : decode cX1_fits 61 = .ok (.if_icmp .ge 35, 3) := dk_162 0 35 (dk_at dksX1_fits_2 15 rfl rfl)
theorem dX1_fits_64 : decode cX1_fits 64 = .ok (.aload_n 0, 1) := dk_42 (dk_at dksX1_fits_2 18 rfl rfl)
theorem dX1_fits_65 : decode cX1_fits 65 = .ok (.getfield 40, 3) := dk_180 0 40 (dk_at dksX1_fits_2 19 rfl rfl)
theorem dX1_fits_68 : decode cX1_fits 68 = .ok (.iload_n 3, 1) := dk_29 (dk_at dksX1_fits_2 22 rfl rfl)
theorem dX1_fits_69 : decode cX1_fits 69 = .ok (.invokevirtual 165, 3) := dk_182 0 165 (dk_at dksX1_fits_3 0 rfl rfl)
theorem dX1_fits_72 : decode cX1_fits 72 = .ok (.ifCond .eq 18, 3) := dk_153 0 18 (dk_at dksX1_fits_3 3 rfl rfl)
theorem dX1_fits_75 : decode cX1_fits 75 = .ok (.aload_n 0, 1) := dk_42 (dk_at dksX1_fits_3 6 rfl rfl)
theorem dX1_fits_76 : decode cX1_fits 76 = .ok (.iload_n 3, 1) := dk_29 (dk_at dksX1_fits_3 7 rfl rfl)
theorem dX1_fits_77 : decode cX1_fits 77 = .ok (.iload_n 1, 1) := dk_27 (dk_at dksX1_fits_3 8 rfl rfl)
theorem dX1_fits_78 : decode cX1_fits 78 = .ok (.invokevirtual 322, 3) := dk_182 1 66 (dk_at dksX1_fits_3 9 rfl rfl)
theorem dX1_fits_81 : decode cX1_fits 81 = .ok (.ifCond .eq 9, 3) := dk_153 0 9 (dk_at dksX1_fits_3 12 rfl rfl)
theorem dX1_fits_84 : decode cX1_fits 84 = .ok (.iload_n 2, 1) := dk_28 (dk_at dksX1_fits_3 15 rfl rfl)
theorem dX1_fits_85 : decode cX1_fits 85 = .ok (.iconst 1, 1) := dk_4 (dk_at dksX1_fits_3 16 rfl rfl)
theorem dX1_fits_86 : decode cX1_fits 86 = .ok (.iload_n 3, 1) := dk_29 (dk_at dksX1_fits_3 17 rfl rfl)
theorem dX1_fits_87 : decode cX1_fits 87 = .ok (.ishl, 1) := dk_120 (dk_at dksX1_fits_3 18 rfl rfl)
theorem dX1_fits_88 : decode cX1_fits 88 = .ok (.ior, 1) := dk_128 (dk_at dksX1_fits_3 19 rfl rfl)
theorem dX1_fits_89 : decode cX1_fits 89 = .ok (.istore_n 2, 1) := dk_61 (dk_at dksX1_fits_3 20 rfl rfl)
theorem dX1_fits_90 : decode cX1_fits 90 = .ok (.iinc 3 1, 3) := dk_132 3 1 (dk_at dksX1_fits_3 21 rfl rfl)
theorem dX1_fits_93 : decode cX1_fits 93 = .ok (.goto (-37), 3) := dk_167 255 219 (dk_at dksX1_fits_4 0 rfl rfl)
theorem dX1_fits_96 : decode cX1_fits 96 = .ok (.iload_n 2, 1) := dk_28 (dk_at dksX1_fits_4 3 rfl rfl)
theorem dX1_fits_97 : decode cX1_fits 97 = .ok (.ifCond .ne 5, 3) := dk_154 0 5 (dk_at dksX1_fits_4 4 rfl rfl)
theorem dX1_fits_100 : decode cX1_fits 100 = .ok (.iconst 0, 1) := dk_3 (dk_at dksX1_fits_4 7 rfl rfl)
theorem dX1_fits_101 : decode cX1_fits 101 = .ok (.ireturn, 1) := dk_172 (dk_at dksX1_fits_4 8 rfl rfl)
theorem dX1_fits_102 : decode cX1_fits 102 = .ok (.aload_n 0, 1) := dk_42 (dk_at dksX1_fits_4 9 rfl rfl)
theorem dX1_fits_103 : decode cX1_fits 103 = .ok (.iconst 0, 1) := dk_3 (dk_at dksX1_fits_4 10 rfl rfl)
theorem dX1_fits_104 : decode cX1_fits 104 = .ok (.putfield 68, 3) := dk_181 0 68 (dk_at dksX1_fits_4 11 rfl rfl)
theorem dX1_fits_107 : decode cX1_fits 107 = .ok (.iconst 1, 1) := dk_4 (dk_at dksX1_fits_4 14 rfl rfl)
theorem dX1_fits_108 : decode cX1_fits 108 = .ok (.istore_n 3, 1) := dk_62 (dk_at dksX1_fits_4 15 rfl rfl)
theorem dX1_fits_109 : decode cX1_fits 109 = .ok (.iload_n 3, 1) := dk_29 (dk_at dksX1_fits_4 16 rfl rfl)
theorem dX1_fits_110 : decode cX1_fits 110 = .ok (.aload_n 0, 1) := dk_42 (dk_at dksX1_fits_4 17 rfl rfl)
theorem dX1_fits_111 : decode cX1_fits 111 = .ok (.invokevirtual 201, 3) := dk_182 0 201 (dk_at dksX1_fits_4 18 rfl rfl)
theorem dX1_fits_114 : decode cX1_fits 114 = .ok (.if_icmp .gt 32, 3) := dk_163 0 32 (dk_at dksX1_fits_4 21 rfl rfl)
theorem dX1_fits_117 : decode cX1_fits 117 = .ok (.aload_n 0, 1) := dk_42 (dk_at dksX1_fits_5 0 rfl rfl)
theorem dX1_fits_118 : decode cX1_fits 118 = .ok (.iload_n 2, 1) := dk_28 (dk_at dksX1_fits_5 1 rfl rfl)
theorem dX1_fits_119 : decode cX1_fits 119 = .ok (.iload_n 3, 1) := dk_29 (dk_at dksX1_fits_5 2 rfl rfl)
theorem dX1_fits_120 : decode cX1_fits 120 = .ok (.invokevirtual 325, 3) := dk_182 1 69 (dk_at dksX1_fits_5 3 rfl rfl)
theorem dX1_fits_123 : decode cX1_fits 123 = .ok (.aload_n 0, 1) := dk_42 (dk_at dksX1_fits_5 6 rfl rfl)
theorem dX1_fits_124 : decode cX1_fits 124 = .ok (.iload_n 2, 1) := dk_28 (dk_at dksX1_fits_5 7 rfl rfl)
theorem dX1_fits_125 : decode cX1_fits 125 = .ok (.aload_n 0, 1) := dk_42 (dk_at dksX1_fits_5 8 rfl rfl)
theorem dX1_fits_126 : decode cX1_fits 126 = .ok (.getfield 68, 3) := dk_180 0 68 (dk_at dksX1_fits_5 9 rfl rfl)
theorem dX1_fits_129 : decode cX1_fits 129 = .ok (.invokevirtual 325, 3) := dk_182 1 69 (dk_at dksX1_fits_5 12 rfl rfl)
theorem dX1_fits_132 : decode cX1_fits 132 = .ok (.if_icmp .ge 8, 3) := dk_162 0 8 (dk_at dksX1_fits_5 15 rfl rfl)
theorem dX1_fits_135 : decode cX1_fits 135 = .ok (.aload_n 0, 1) := dk_42 (dk_at dksX1_fits_5 18 rfl rfl)
theorem dX1_fits_136 : decode cX1_fits 136 = .ok (.iload_n 3, 1) := dk_29 (dk_at dksX1_fits_5 19 rfl rfl)
theorem dX1_fits_137 : decode cX1_fits 137 = .ok (.putfield 68, 3) := dk_181 0 68 (dk_at dksX1_fits_5 20 rfl rfl)
theorem dX1_fits_140 : decode cX1_fits 140 = .ok (.iinc 3 1, 3) := dk_132 3 1 (dk_at dksX1_fits_6 0 rfl rfl)
theorem dX1_fits_143 : decode cX1_fits 143 = .ok (.goto (-34), 3) := dk_167 255 222 (dk_at dksX1_fits_6 3 rfl rfl)
theorem dX1_fits_146 : decode cX1_fits 146 = .ok (.iload_n 2, 1) := dk_28 (dk_at dksX1_fits_6 6 rfl rfl)
theorem dX1_fits_147 : decode cX1_fits 147 = .ok (.ireturn, 1) := dk_172 (dk_at dksX1_fits_6 7 rfl rfl)
abbrev cX1_isFit : ByteArray := prog_1_method_45_code
def yX1_isFit : MethodName := ⟨RX1, "isFit", "(II)Z"⟩
def dkwX1_isFit_1 : List UInt8 := [182, 1, 22, 42, 29, 4, 96, 182, 1, 25, 159, 0, 5, 3, 172, 132, 3, 2, 167, 255, 217, 4, 172]
abbrev dktX1_isFit_1 : List UInt8 := dkwX1_isFit_1 ++ []
def dkwX1_isFit_0 : List UInt8 := [3, 62, 29, 28, 162, 0, 40, 42, 29, 182, 1, 25, 27, 159, 0, 23, 42, 27, 42, 29, 182, 1, 25]
abbrev dktX1_isFit_0 : List UInt8 := dkwX1_isFit_0 ++ dktX1_isFit_1
theorem dksX1_isFit_0 : cX1_isFit.data.toList.drop 0 = dktX1_isFit_0 := by decide +kernel
theorem dksX1_isFit_1 : cX1_isFit.data.toList.drop 23 = dktX1_isFit_1 := dk_seg dksX1_isFit_0 23 rfl rfl
theorem dX1_isFit_0 : decode cX1_isFit 0 = .ok (.iconst 0, 1) := dk_3 (dk_at dksX1_isFit_0 0 rfl rfl)
theorem dX1_isFit_1 : decode cX1_isFit 1 = .ok (.istore_n 3, 1) := dk_62 (dk_at dksX1_isFit_0 1 rfl rfl)
theorem dX1_isFit_2 : decode cX1_isFit 2 = .ok (.iload_n 3, 1) := dk_29 (dk_at dksX1_isFit_0 2 rfl rfl)
theorem dX1_isFit_3 : decode cX1_isFit 3 = .ok (.iload_n 2, 1) := dk_28 (dk_at dksX1_isFit_0 3 rfl rfl)
theorem dX1_isFit_4 : decode cX1_isFit 4 = .ok (.if_icmp .ge 40, 3) := dk_162 0 40 (dk_at dksX1_isFit_0 4 rfl rfl)
theorem dX1_isFit_7 : decode cX1_isFit 7 = .ok (.aload_n 0, 1) := dk_42 (dk_at dksX1_isFit_0 7 rfl rfl)
theorem dX1_isFit_8 : decode cX1_isFit 8 = .ok (.iload_n 3, 1) := dk_29 (dk_at dksX1_isFit_0 8 rfl rfl)
theorem dX1_isFit_9 : decode cX1_isFit 9 = .ok (.invokevirtual 281, 3) := dk_182 1 25 (dk_at dksX1_isFit_0 9 rfl rfl)
theorem dX1_isFit_12 : decode cX1_isFit 12 = .ok (.iload_n 1, 1) := dk_27 (dk_at dksX1_isFit_0 12 rfl rfl)
theorem dX1_isFit_13 : decode cX1_isFit 13 = .ok (.if_icmp .eq 23, 3) := dk_159 0 23 (dk_at dksX1_isFit_0 13 rfl rfl)
theorem dX1_isFit_16 : decode cX1_isFit 16 = .ok (.aload_n 0, 1) := dk_42 (dk_at dksX1_isFit_0 16 rfl rfl)
theorem dX1_isFit_17 : decode cX1_isFit 17 = .ok (.iload_n 1, 1) := dk_27 (dk_at dksX1_isFit_0 17 rfl rfl)
theorem dX1_isFit_18 : decode cX1_isFit 18 = .ok (.aload_n 0, 1) := dk_42 (dk_at dksX1_isFit_0 18 rfl rfl)
theorem dX1_isFit_19 : decode cX1_isFit 19 = .ok (.iload_n 3, 1) := dk_29 (dk_at dksX1_isFit_0 19 rfl rfl)
theorem dX1_isFit_20 : decode cX1_isFit 20 = .ok (.invokevirtual 281, 3) := dk_182 1 25 (dk_at dksX1_isFit_0 20 rfl rfl)
theorem dX1_isFit_23 : decode cX1_isFit 23 = .ok (.invokevirtual 278, 3) := dk_182 1 22 (dk_at dksX1_isFit_1 0 rfl rfl)
theorem dX1_isFit_26 : decode cX1_isFit 26 = .ok (.aload_n 0, 1) := dk_42 (dk_at dksX1_isFit_1 3 rfl rfl)
theorem dX1_isFit_27 : decode cX1_isFit 27 = .ok (.iload_n 3, 1) := dk_29 (dk_at dksX1_isFit_1 4 rfl rfl)
theorem dX1_isFit_28 : decode cX1_isFit 28 = .ok (.iconst 1, 1) := dk_4 (dk_at dksX1_isFit_1 5 rfl rfl)
theorem dX1_isFit_29 : decode cX1_isFit 29 = .ok (.iadd, 1) := dk_96 (dk_at dksX1_isFit_1 6 rfl rfl)
theorem dX1_isFit_30 : decode cX1_isFit 30 = .ok (.invokevirtual 281, 3) := dk_182 1 25 (dk_at dksX1_isFit_1 7 rfl rfl)
theorem dX1_isFit_33 : decode cX1_isFit 33 = .ok (.if_icmp .eq 5, 3) := dk_159 0 5 (dk_at dksX1_isFit_1 10 rfl rfl)
theorem dX1_isFit_36 : decode cX1_isFit 36 = .ok (.iconst 0, 1) := dk_3 (dk_at dksX1_isFit_1 13 rfl rfl)
theorem dX1_isFit_37 : decode cX1_isFit 37 = .ok (.ireturn, 1) := dk_172 (dk_at dksX1_isFit_1 14 rfl rfl)
theorem dX1_isFit_38 : decode cX1_isFit 38 = .ok (.iinc 3 2, 3) := dk_132 3 2 (dk_at dksX1_isFit_1 15 rfl rfl)
theorem dX1_isFit_41 : decode cX1_isFit 41 = .ok (.goto (-39), 3) := dk_167 255 217 (dk_at dksX1_isFit_1 18 rfl rfl)
theorem dX1_isFit_44 : decode cX1_isFit 44 = .ok (.iconst 1, 1) := dk_4 (dk_at dksX1_isFit_1 21 rfl rfl)
theorem dX1_isFit_45 : decode cX1_isFit 45 = .ok (.ireturn, 1) := dk_172 (dk_at dksX1_isFit_1 22 rfl rfl)
abbrev cX1_leftBy : ByteArray := prog_1_method_46_code
def yX1_leftBy : MethodName := ⟨RX1, "leftBy", "(II)I"⟩
def dkwX1_leftBy_3 : List UInt8 := [132, 6, 1, 132, 7, 1, 167, 255, 220, 29, 21, 6, 184, 1, 61, 62, 132, 4, 1, 167, 255, 171, 29, 172]
abbrev dktX1_leftBy_3 : List UInt8 := dkwX1_leftBy_3 ++ []
def dkwX1_leftBy_2 : List UInt8 := [162, 0, 33, 27, 21, 7, 184, 1, 28, 153, 0, 18, 42, 21, 7, 28, 182, 1, 22, 21, 5, 160, 0, 6]
abbrev dktX1_leftBy_2 : List UInt8 := dkwX1_leftBy_2 ++ dktX1_leftBy_3
def dkwX1_leftBy_1 : List UInt8 := [167, 0, 64, 42, 21, 4, 28, 182, 1, 22, 54, 5, 3, 54, 6, 3, 54, 7, 21, 7, 42, 182, 0, 201]
abbrev dktX1_leftBy_1 : List UInt8 := dkwX1_leftBy_1 ++ dktX1_leftBy_2
def dkwX1_leftBy_0 : List UInt8 := [3, 62, 3, 54, 4, 21, 4, 42, 182, 0, 201, 162, 0, 82, 27, 21, 4, 184, 1, 28, 154, 0, 6]
abbrev dktX1_leftBy_0 : List UInt8 := dkwX1_leftBy_0 ++ dktX1_leftBy_1
theorem dksX1_leftBy_0 : cX1_leftBy.data.toList.drop 0 = dktX1_leftBy_0 := by decide +kernel
theorem dksX1_leftBy_1 : cX1_leftBy.data.toList.drop 23 = dktX1_leftBy_1 := dk_seg dksX1_leftBy_0 23 rfl rfl
theorem dksX1_leftBy_2 : cX1_leftBy.data.toList.drop 47 = dktX1_leftBy_2 := dk_seg dksX1_leftBy_1 24 rfl rfl
theorem dksX1_leftBy_3 : cX1_leftBy.data.toList.drop 71 = dktX1_leftBy_3 := dk_seg dksX1_leftBy_2 24 rfl rfl
theorem dX1_leftBy_0 : decode cX1_leftBy 0 = .ok (.iconst 0, 1) := dk_3 (dk_at dksX1_leftBy_0 0 rfl rfl)
theorem dX1_leftBy_1 : decode cX1_leftBy 1 = .ok (.istore_n 3, 1) := dk_62 (dk_at dksX1_leftBy_0 1 rfl rfl)
theorem dX1_leftBy_2 : decode cX1_leftBy 2 = .ok (.iconst 0, 1) := dk_3 (dk_at dksX1_leftBy_0 2 rfl rfl)
theorem dX1_leftBy_3 : decode cX1_leftBy 3 = .ok (.istore 4, 2) := dk_54 4 (dk_at dksX1_leftBy_0 3 rfl rfl)
theorem dX1_leftBy_5 : decode cX1_leftBy 5 = .ok (.iload 4, 2) := dk_21 4 (dk_at dksX1_leftBy_0 5 rfl rfl)
theorem dX1_leftBy_7 : decode cX1_leftBy 7 = .ok (.aload_n 0, 1) := dk_42 (dk_at dksX1_leftBy_0 7 rfl rfl)
theorem dX1_leftBy_8 : decode cX1_leftBy 8 = .ok (.invokevirtual 201, 3) := dk_182 0 201 (dk_at dksX1_leftBy_0 8 rfl rfl)
theorem dX1_leftBy_11 : decode cX1_leftBy 11 = .ok (.if_icmp .ge 82, 3) := dk_162 0 82 (dk_at dksX1_leftBy_0 11 rfl rfl)
theorem dX1_leftBy_14 : decode cX1_leftBy 14 = .ok (.iload_n 1, 1) := dk_27 (dk_at dksX1_leftBy_0 14 rfl rfl)
theorem dX1_leftBy_15 : decode cX1_leftBy 15 = .ok (.iload 4, 2) := dk_21 4 (dk_at dksX1_leftBy_0 15 rfl rfl)
theorem dX1_leftBy_17 : decode cX1_leftBy 17 = .ok (.invokestatic 284, 3) := dk_184 1 28 (dk_at dksX1_leftBy_0 17 rfl rfl)
theorem dX1_leftBy_20 : decode cX1_leftBy 20 = .ok (.ifCond .ne 6, 3) := dk_154 0 6 (dk_at dksX1_leftBy_0 20 rfl rfl)
theorem dX1_leftBy_23 : decode cX1_leftBy 23 = .ok (.goto 64, 3) := dk_167 0 64 (dk_at dksX1_leftBy_1 0 rfl rfl)
theorem dX1_leftBy_26 : decode cX1_leftBy 26 = .ok (.aload_n 0, 1) := dk_42 (dk_at dksX1_leftBy_1 3 rfl rfl)
theorem dX1_leftBy_27 : decode cX1_leftBy 27 = .ok (.iload 4, 2) := dk_21 4 (dk_at dksX1_leftBy_1 4 rfl rfl)
theorem dX1_leftBy_29 : decode cX1_leftBy 29 = .ok (.iload_n 2, 1) := dk_28 (dk_at dksX1_leftBy_1 6 rfl rfl)
theorem dX1_leftBy_30 : decode cX1_leftBy 30 = .ok (.invokevirtual 278, 3) := dk_182 1 22 (dk_at dksX1_leftBy_1 7 rfl rfl)
theorem dX1_leftBy_33 : decode cX1_leftBy 33 = .ok (.istore 5, 2) := dk_54 5 (dk_at dksX1_leftBy_1 10 rfl rfl)
theorem dX1_leftBy_35 : decode cX1_leftBy 35 = .ok (.iconst 0, 1) := dk_3 (dk_at dksX1_leftBy_1 12 rfl rfl)
theorem dX1_leftBy_36 : decode cX1_leftBy 36 = .ok (.istore 6, 2) := dk_54 6 (dk_at dksX1_leftBy_1 13 rfl rfl)
theorem dX1_leftBy_38 : decode cX1_leftBy 38 = .ok (.iconst 0, 1) := dk_3 (dk_at dksX1_leftBy_1 15 rfl rfl)
theorem dX1_leftBy_39 : decode cX1_leftBy 39 = .ok (.istore 7, 2) := dk_54 7 (dk_at dksX1_leftBy_1 16 rfl rfl)
theorem dX1_leftBy_41 : decode cX1_leftBy 41 = .ok (.iload 7, 2) := dk_21 7 (dk_at dksX1_leftBy_1 18 rfl rfl)
theorem dX1_leftBy_43 : decode cX1_leftBy 43 = .ok (.aload_n 0, 1) := dk_42 (dk_at dksX1_leftBy_1 20 rfl rfl)
theorem dX1_leftBy_44 : decode cX1_leftBy 44 = .ok (.invokevirtual 201, 3) := dk_182 0 201 (dk_at dksX1_leftBy_1 21 rfl rfl)
theorem dX1_leftBy_47 : decode cX1_leftBy 47 = .ok (.if_icmp .ge 33, 3) := dk_162 0 33 (dk_at dksX1_leftBy_2 0 rfl rfl)
theorem dX1_leftBy_50 : decode cX1_leftBy 50 = .ok (.iload_n 1, 1) := dk_27 (dk_at dksX1_leftBy_2 3 rfl rfl)
theorem dX1_leftBy_51 : decode cX1_leftBy 51 = .ok (.iload 7, 2) := dk_21 7 (dk_at dksX1_leftBy_2 4 rfl rfl)
theorem dX1_leftBy_53 : decode cX1_leftBy 53 = .ok (.invokestatic 284, 3) := dk_184 1 28 (dk_at dksX1_leftBy_2 6 rfl rfl)
theorem dX1_leftBy_56 : decode cX1_leftBy 56 = .ok (.ifCond .eq 18, 3) := dk_153 0 18 (dk_at dksX1_leftBy_2 9 rfl rfl)
theorem dX1_leftBy_59 : decode cX1_leftBy 59 = .ok (.aload_n 0, 1) := dk_42 (dk_at dksX1_leftBy_2 12 rfl rfl)
theorem dX1_leftBy_60 : decode cX1_leftBy 60 = .ok (.iload 7, 2) := dk_21 7 (dk_at dksX1_leftBy_2 13 rfl rfl)
theorem dX1_leftBy_62 : decode cX1_leftBy 62 = .ok (.iload_n 2, 1) := dk_28 (dk_at dksX1_leftBy_2 15 rfl rfl)
theorem dX1_leftBy_63 : decode cX1_leftBy 63 = .ok (.invokevirtual 278, 3) := dk_182 1 22 (dk_at dksX1_leftBy_2 16 rfl rfl)
theorem dX1_leftBy_66 : decode cX1_leftBy 66 = .ok (.iload 5, 2) := dk_21 5 (dk_at dksX1_leftBy_2 19 rfl rfl)
theorem dX1_leftBy_68 : decode cX1_leftBy 68 = .ok (.if_icmp .ne 6, 3) := dk_160 0 6 (dk_at dksX1_leftBy_2 21 rfl rfl)
theorem dX1_leftBy_71 : decode cX1_leftBy 71 = .ok (.iinc 6 1, 3) := dk_132 6 1 (dk_at dksX1_leftBy_3 0 rfl rfl)
theorem dX1_leftBy_74 : decode cX1_leftBy 74 = .ok (.iinc 7 1, 3) := dk_132 7 1 (dk_at dksX1_leftBy_3 3 rfl rfl)
theorem dX1_leftBy_77 : decode cX1_leftBy 77 = .ok (.goto (-36), 3) := dk_167 255 220 (dk_at dksX1_leftBy_3 6 rfl rfl)
theorem dX1_leftBy_80 : decode cX1_leftBy 80 = .ok (.iload_n 3, 1) := dk_29 (dk_at dksX1_leftBy_3 9 rfl rfl)
theorem dX1_leftBy_81 : decode cX1_leftBy 81 = .ok (.iload 6, 2) := dk_21 6 (dk_at dksX1_leftBy_3 10 rfl rfl)
theorem dX1_leftBy_83 : decode cX1_leftBy 83 = .ok (.invokestatic 317, 3) := dk_184 1 61 (dk_at dksX1_leftBy_3 12 rfl rfl)
theorem dX1_leftBy_86 : decode cX1_leftBy 86 = .ok (.istore_n 3, 1) := dk_62 (dk_at dksX1_leftBy_3 15 rfl rfl)
theorem dX1_leftBy_87 : decode cX1_leftBy 87 = .ok (.iinc 4 1, 3) := dk_132 4 1 (dk_at dksX1_leftBy_3 16 rfl rfl)
theorem dX1_leftBy_90 : decode cX1_leftBy 90 = .ok (.goto (-85), 3) := dk_167 255 171 (dk_at dksX1_leftBy_3 19 rfl rfl)
theorem dX1_leftBy_93 : decode cX1_leftBy 93 = .ok (.iload_n 3, 1) := dk_29 (dk_at dksX1_leftBy_3 22 rfl rfl)
theorem dX1_leftBy_94 : decode cX1_leftBy 94 = .ok (.ireturn, 1) := dk_172 (dk_at dksX1_leftBy_3 23 rfl rfl)
abbrev cX1_ask : ByteArray := prog_1_method_48_code
def yX1_ask : MethodName := ⟨RX1, "ask", "()I"⟩
theorem dX1_ask_0 : decode cX1_ask 0 = .ok (.aload_n 0, 1) := by decide +kernel
theorem dX1_ask_1 : decode cX1_ask 1 = .ok (.getfield 68, 3) := by decide +kernel
theorem dX1_ask_4 : decode cX1_ask 4 = .ok (.ireturn, 1) := by decide +kernel
abbrev cX1_crown : ByteArray := prog_1_method_49_code
def yX1_crown : MethodName := ⟨RX1, "crown", "(I)I"⟩
def dkwX1_crown_3 : List UInt8 := [100, 172]
abbrev dktX1_crown_3 : List UInt8 := dkwX1_crown_3 ++ []
def dkwX1_crown_2 : List UInt8 := [42, 180, 0, 44, 182, 1, 72, 167, 255, 226, 42, 180, 0, 44, 180, 0, 206, 42, 180, 0, 40, 180, 0, 206]
abbrev dktX1_crown_2 : List UInt8 := dkwX1_crown_2 ++ dktX1_crown_3
def dkwX1_crown_1 : List UInt8 := [87, 42, 180, 0, 44, 180, 0, 215, 27, 162, 0, 25, 42, 180, 0, 44, 182, 1, 12, 153, 0, 5, 2, 172]
abbrev dktX1_crown_1 : List UInt8 := dkwX1_crown_1 ++ dktX1_crown_2
def dkwX1_crown_0 : List UInt8 := [27, 3, 17, 3, 231, 184, 0, 146, 154, 0, 5, 2, 172, 42, 180, 0, 44, 42, 180, 0, 40, 182, 0, 224]
abbrev dktX1_crown_0 : List UInt8 := dkwX1_crown_0 ++ dktX1_crown_1
theorem dksX1_crown_0 : cX1_crown.data.toList.drop 0 = dktX1_crown_0 := by decide +kernel
theorem dksX1_crown_1 : cX1_crown.data.toList.drop 24 = dktX1_crown_1 := dk_seg dksX1_crown_0 24 rfl rfl
theorem dksX1_crown_2 : cX1_crown.data.toList.drop 48 = dktX1_crown_2 := dk_seg dksX1_crown_1 24 rfl rfl
theorem dksX1_crown_3 : cX1_crown.data.toList.drop 72 = dktX1_crown_3 := dk_seg dksX1_crown_2 24 rfl rfl
theorem dX1_crown_0 : decode cX1_crown 0 = .ok (.iload_n 1, 1) := dk_27 (dk_at dksX1_crown_0 0 rfl rfl)
theorem dX1_crown_1 : decode cX1_crown 1 = .ok (.iconst 0, 1) := dk_3 (dk_at dksX1_crown_0 1 rfl rfl)
theorem dX1_crown_2 : decode cX1_crown 2 = .ok (.sipush 999, 3) := dk_17 3 231 (dk_at dksX1_crown_0 2 rfl rfl)
theorem dX1_crown_5 : decode cX1_crown 5 = .ok (.invokestatic 146, 3) := dk_184 0 146 (dk_at dksX1_crown_0 5 rfl rfl)
theorem dX1_crown_8 : decode cX1_crown 8 = .ok (.ifCond .ne 5, 3) := dk_154 0 5 (dk_at dksX1_crown_0 8 rfl rfl)
theorem dX1_crown_11 : decode cX1_crown 11 = .ok (.iconst (-1), 1) := dk_2 (dk_at dksX1_crown_0 11 rfl rfl)
theorem dX1_crown_12 : decode cX1_crown 12 = .ok (.ireturn, 1) := dk_172 (dk_at dksX1_crown_0 12 rfl rfl)
theorem dX1_crown_13 : decode cX1_crown 13 = .ok (.aload_n 0, 1) := dk_42 (dk_at dksX1_crown_0 13 rfl rfl)
theorem dX1_crown_14 : decode cX1_crown 14 = .ok (.getfield 44, 3) := dk_180 0 44 (dk_at dksX1_crown_0 14 rfl rfl)
theorem dX1_crown_17 : decode cX1_crown 17 = .ok (.aload_n 0, 1) := dk_42 (dk_at dksX1_crown_0 17 rfl rfl)
theorem dX1_crown_18 : decode cX1_crown 18 = .ok (.getfield 40, 3) := dk_180 0 40 (dk_at dksX1_crown_0 18 rfl rfl)
theorem dX1_crown_21 : decode cX1_crown 21 = .ok (.invokevirtual 224, 3) := dk_182 0 224 (dk_at dksX1_crown_0 21 rfl rfl)
theorem dX1_crown_24 : decode cX1_crown 24 = .ok (.pop, 1) := dk_87 (dk_at dksX1_crown_1 0 rfl rfl)
theorem dX1_crown_25 : decode cX1_crown 25 = .ok (.aload_n 0, 1) := dk_42 (dk_at dksX1_crown_1 1 rfl rfl)
theorem dX1_crown_26 : decode cX1_crown 26 = .ok (.getfield 44, 3) := dk_180 0 44 (dk_at dksX1_crown_1 2 rfl rfl)
theorem dX1_crown_29 : decode cX1_crown 29 = .ok (.getfield 215, 3) := dk_180 0 215 (dk_at dksX1_crown_1 5 rfl rfl)
theorem dX1_crown_32 : decode cX1_crown 32 = .ok (.iload_n 1, 1) := dk_27 (dk_at dksX1_crown_1 8 rfl rfl)
theorem dX1_crown_33 : decode cX1_crown 33 = .ok (.if_icmp .ge 25, 3) := dk_162 0 25 (dk_at dksX1_crown_1 9 rfl rfl)
theorem dX1_crown_36 : decode cX1_crown 36 = .ok (.aload_n 0, 1) := dk_42 (dk_at dksX1_crown_1 12 rfl rfl)
theorem dX1_crown_37 : decode cX1_crown 37 = .ok (.getfield 44, 3) := dk_180 0 44 (dk_at dksX1_crown_1 13 rfl rfl)
theorem dX1_crown_40 : decode cX1_crown 40 = .ok (.invokevirtual 268, 3) := dk_182 1 12 (dk_at dksX1_crown_1 16 rfl rfl)
theorem dX1_crown_43 : decode cX1_crown 43 = .ok (.ifCond .eq 5, 3) := dk_153 0 5 (dk_at dksX1_crown_1 19 rfl rfl)
theorem dX1_crown_46 : decode cX1_crown 46 = .ok (.iconst (-1), 1) := dk_2 (dk_at dksX1_crown_1 22 rfl rfl)
theorem dX1_crown_47 : decode cX1_crown 47 = .ok (.ireturn, 1) := dk_172 (dk_at dksX1_crown_1 23 rfl rfl)
theorem dX1_crown_48 : decode cX1_crown 48 = .ok (.aload_n 0, 1) := dk_42 (dk_at dksX1_crown_2 0 rfl rfl)
theorem dX1_crown_49 : decode cX1_crown 49 = .ok (.getfield 44, 3) := dk_180 0 44 (dk_at dksX1_crown_2 1 rfl rfl)
theorem dX1_crown_52 : decode cX1_crown 52 = .ok (.invokevirtual 328, 3) := dk_182 1 72 (dk_at dksX1_crown_2 4 rfl rfl)
theorem dX1_crown_55 : decode cX1_crown 55 = .ok (.goto (-30), 3) := dk_167 255 226 (dk_at dksX1_crown_2 7 rfl rfl)
theorem dX1_crown_58 : decode cX1_crown 58 = .ok (.aload_n 0, 1) := dk_42 (dk_at dksX1_crown_2 10 rfl rfl)
theorem dX1_crown_59 : decode cX1_crown 59 = .ok (.getfield 44, 3) := dk_180 0 44 (dk_at dksX1_crown_2 11 rfl rfl)
theorem dX1_crown_62 : decode cX1_crown 62 = .ok (.getfield 206, 3) := dk_180 0 206 (dk_at dksX1_crown_2 14 rfl rfl)
theorem dX1_crown_65 : decode cX1_crown 65 = .ok (.aload_n 0, 1) := dk_42 (dk_at dksX1_crown_2 17 rfl rfl)
theorem dX1_crown_66 : decode cX1_crown 66 = .ok (.getfield 40, 3) := dk_180 0 40 (dk_at dksX1_crown_2 18 rfl rfl)
theorem dX1_crown_69 : decode cX1_crown 69 = .ok (.getfield 206, 3) := dk_180 0 206 (dk_at dksX1_crown_2 21 rfl rfl)
theorem dX1_crown_72 : decode cX1_crown 72 = .ok (.isub, 1) := dk_100 (dk_at dksX1_crown_3 0 rfl rfl)
theorem dX1_crown_73 : decode cX1_crown 73 = .ok (.ireturn, 1) := dk_172 (dk_at dksX1_crown_3 1 rfl rfl)
abbrev cX1_richest : ByteArray := prog_1_method_50_code
def yX1_richest : MethodName := ⟨RX1, "richest", "()I"⟩
def dkwX1_richest_0 : List UInt8 := [42, 180, 0, 40, 182, 1, 75, 172]
abbrev dktX1_richest_0 : List UInt8 := dkwX1_richest_0 ++ []
theorem dksX1_richest_0 : cX1_richest.data.toList.drop 0 = dktX1_richest_0 := by decide +kernel
theorem dX1_richest_0 : decode cX1_richest 0 = .ok (.aload_n 0, 1) := dk_42 (dk_at dksX1_richest_0 0 rfl rfl)
theorem dX1_richest_1 : decode cX1_richest 1 = .ok (.getfield 40, 3) := dk_180 0 40 (dk_at dksX1_richest_0 1 rfl rfl)
theorem dX1_richest_4 : decode cX1_richest 4 = .ok (.invokevirtual 331, 3) := dk_182 1 75 (dk_at dksX1_richest_0 4 rfl rfl)
theorem dX1_richest_7 : decode cX1_richest 7 = .ok (.ireturn, 1) := dk_172 (dk_at dksX1_richest_0 7 rfl rfl)
abbrev cX1_eldest : ByteArray := prog_1_method_51_code
def yX1_eldest : MethodName := ⟨RX1, "eldest", "()I"⟩
def dkwX1_eldest_2 : List UInt8 := [60, 132, 2, 1, 167, 255, 208, 27, 172]
abbrev dktX1_eldest_2 : List UInt8 := dkwX1_eldest_2 ++ []
def dkwX1_eldest_1 : List UInt8 := [2, 159, 0, 22, 42, 28, 182, 0, 154, 180, 0, 157, 42, 27, 182, 0, 154, 180, 0, 157, 162, 0, 5, 28]
abbrev dktX1_eldest_1 : List UInt8 := dkwX1_eldest_1 ++ dktX1_eldest_2
def dkwX1_eldest_0 : List UInt8 := [2, 60, 3, 61, 28, 42, 182, 0, 201, 162, 0, 46, 42, 180, 0, 40, 28, 182, 0, 165, 153, 0, 29, 27]
abbrev dktX1_eldest_0 : List UInt8 := dkwX1_eldest_0 ++ dktX1_eldest_1
theorem dksX1_eldest_0 : cX1_eldest.data.toList.drop 0 = dktX1_eldest_0 := by decide +kernel
theorem dksX1_eldest_1 : cX1_eldest.data.toList.drop 24 = dktX1_eldest_1 := dk_seg dksX1_eldest_0 24 rfl rfl
theorem dksX1_eldest_2 : cX1_eldest.data.toList.drop 48 = dktX1_eldest_2 := dk_seg dksX1_eldest_1 24 rfl rfl
theorem dX1_eldest_0 : decode cX1_eldest 0 = .ok (.iconst (-1), 1) := dk_2 (dk_at dksX1_eldest_0 0 rfl rfl)
theorem dX1_eldest_1 : decode cX1_eldest 1 = .ok (.istore_n 1, 1) := dk_60 (dk_at dksX1_eldest_0 1 rfl rfl)
theorem dX1_eldest_2 : decode cX1_eldest 2 = .ok (.iconst 0, 1) := dk_3 (dk_at dksX1_eldest_0 2 rfl rfl)
theorem dX1_eldest_3 : decode cX1_eldest 3 = .ok (.istore_n 2, 1) := dk_61 (dk_at dksX1_eldest_0 3 rfl rfl)
theorem dX1_eldest_4 : decode cX1_eldest 4 = .ok (.iload_n 2, 1) := dk_28 (dk_at dksX1_eldest_0 4 rfl rfl)
theorem dX1_eldest_5 : decode cX1_eldest 5 = .ok (.aload_n 0, 1) := dk_42 (dk_at dksX1_eldest_0 5 rfl rfl)
theorem dX1_eldest_6 : decode cX1_eldest 6 = .ok (.invokevirtual 201, 3) := dk_182 0 201 (dk_at dksX1_eldest_0 6 rfl rfl)
theorem dX1_eldest_9 : decode cX1_eldest 9 = .ok (.if_icmp .ge 46, 3) := dk_162 0 46 (dk_at dksX1_eldest_0 9 rfl rfl)
theorem dX1_eldest_12 : decode cX1_eldest 12 = .ok (.aload_n 0, 1) := dk_42 (dk_at dksX1_eldest_0 12 rfl rfl)
theorem dX1_eldest_13 : decode cX1_eldest 13 = .ok (.getfield 40, 3) := dk_180 0 40 (dk_at dksX1_eldest_0 13 rfl rfl)
theorem dX1_eldest_16 : decode cX1_eldest 16 = .ok (.iload_n 2, 1) := dk_28 (dk_at dksX1_eldest_0 16 rfl rfl)
theorem dX1_eldest_17 : decode cX1_eldest 17 = .ok (.invokevirtual 165, 3) := dk_182 0 165 (dk_at dksX1_eldest_0 17 rfl rfl)
theorem dX1_eldest_20 : decode cX1_eldest 20 = .ok (.ifCond .eq 29, 3) := dk_153 0 29 (dk_at dksX1_eldest_0 20 rfl rfl)
theorem dX1_eldest_23 : decode cX1_eldest 23 = .ok (.iload_n 1, 1) := dk_27 (dk_at dksX1_eldest_0 23 rfl rfl)
theorem dX1_eldest_24 : decode cX1_eldest 24 = .ok (.iconst (-1), 1) := dk_2 (dk_at dksX1_eldest_1 0 rfl rfl)
theorem dX1_eldest_25 : decode cX1_eldest 25 = .ok (.if_icmp .eq 22, 3) := dk_159 0 22 (dk_at dksX1_eldest_1 1 rfl rfl)
theorem dX1_eldest_28 : decode cX1_eldest 28 = .ok (.aload_n 0, 1) := dk_42 (dk_at dksX1_eldest_1 4 rfl rfl)
theorem dX1_eldest_29 : decode cX1_eldest 29 = .ok (.iload_n 2, 1) := dk_28 (dk_at dksX1_eldest_1 5 rfl rfl)
theorem dX1_eldest_30 : decode cX1_eldest 30 = .ok (.invokevirtual 154, 3) := dk_182 0 154 (dk_at dksX1_eldest_1 6 rfl rfl)
theorem dX1_eldest_33 : decode cX1_eldest 33 = .ok (.getfield 157, 3) := dk_180 0 157 (dk_at dksX1_eldest_1 9 rfl rfl)
theorem dX1_eldest_36 : decode cX1_eldest 36 = .ok (.aload_n 0, 1) := dk_42 (dk_at dksX1_eldest_1 12 rfl rfl)
theorem dX1_eldest_37 : decode cX1_eldest 37 = .ok (.iload_n 1, 1) := dk_27 (dk_at dksX1_eldest_1 13 rfl rfl)
theorem dX1_eldest_38 : decode cX1_eldest 38 = .ok (.invokevirtual 154, 3) := dk_182 0 154 (dk_at dksX1_eldest_1 14 rfl rfl)
theorem dX1_eldest_41 : decode cX1_eldest 41 = .ok (.getfield 157, 3) := dk_180 0 157 (dk_at dksX1_eldest_1 17 rfl rfl)
theorem dX1_eldest_44 : decode cX1_eldest 44 = .ok (.if_icmp .ge 5, 3) := dk_162 0 5 (dk_at dksX1_eldest_1 20 rfl rfl)
theorem dX1_eldest_47 : decode cX1_eldest 47 = .ok (.iload_n 2, 1) := dk_28 (dk_at dksX1_eldest_1 23 rfl rfl)
theorem dX1_eldest_48 : decode cX1_eldest 48 = .ok (.istore_n 1, 1) := dk_60 (dk_at dksX1_eldest_2 0 rfl rfl)
theorem dX1_eldest_49 : decode cX1_eldest 49 = .ok (.iinc 2 1, 3) := dk_132 2 1 (dk_at dksX1_eldest_2 1 rfl rfl)
theorem dX1_eldest_52 : decode cX1_eldest 52 = .ok (.goto (-48), 3) := dk_167 255 208 (dk_at dksX1_eldest_2 4 rfl rfl)
theorem dX1_eldest_55 : decode cX1_eldest 55 = .ok (.iload_n 1, 1) := dk_27 (dk_at dksX1_eldest_2 7 rfl rfl)
theorem dX1_eldest_56 : decode cX1_eldest 56 = .ok (.ireturn, 1) := dk_172 (dk_at dksX1_eldest_2 8 rfl rfl)
abbrev cX1_personOf : ByteArray := prog_1_method_17_code
def yX1_personOf : MethodName := ⟨RX1, "personOf", "(I)LHeirsAtLaw$Person;"⟩
def dkwX1_personOf_0 : List UInt8 := [42, 180, 0, 29, 27, 182, 0, 142, 176]
abbrev dktX1_personOf_0 : List UInt8 := dkwX1_personOf_0 ++ []
theorem dksX1_personOf_0 : cX1_personOf.data.toList.drop 0 = dktX1_personOf_0 := by decide +kernel
theorem dX1_personOf_0 : decode cX1_personOf 0 = .ok (.aload_n 0, 1) := dk_42 (dk_at dksX1_personOf_0 0 rfl rfl)
theorem dX1_personOf_1 : decode cX1_personOf 1 = .ok (.getfield 29, 3) := dk_180 0 29 (dk_at dksX1_personOf_0 1 rfl rfl)
theorem dX1_personOf_4 : decode cX1_personOf 4 = .ok (.iload_n 1, 1) := dk_27 (dk_at dksX1_personOf_0 4 rfl rfl)
theorem dX1_personOf_5 : decode cX1_personOf 5 = .ok (.invokevirtual 142, 3) := dk_182 0 142 (dk_at dksX1_personOf_0 5 rfl rfl)
theorem dX1_personOf_8 : decode cX1_personOf 8 = .ok (.areturn, 1) := dk_176 (dk_at dksX1_personOf_0 8 rfl rfl)
abbrev cX1_tag : ByteArray := prog_1_method_53_code
def yX1_tag : MethodName := ⟨RX1, "tag", "(I)I"⟩
def dkwX1_tag_5 : List UInt8 := [182, 1, 98, 182, 1, 101, 181, 0, 73, 42, 180, 0, 73, 182, 1, 105, 172]
abbrev dktX1_tag_5 : List UInt8 := dkwX1_tag_5 ++ []
def dkwX1_tag_4 : List UInt8 := [19, 1, 94, 182, 1, 88, 87, 42, 44, 19, 1, 96, 182, 1, 88, 42, 180, 0, 40, 180, 0, 162, 27, 46]
abbrev dktX1_tag_4 : List UInt8 := dkwX1_tag_4 ++ dktX1_tag_5
def dkwX1_tag_3 : List UInt8 := [180, 0, 40, 180, 0, 168, 27, 46, 182, 0, 154, 180, 1, 80, 182, 1, 88, 87, 167, 0, 11, 44]
abbrev dktX1_tag_3 : List UInt8 := dkwX1_tag_3 ++ dktX1_tag_4
def dkwX1_tag_2 : List UInt8 := [167, 0, 52, 42, 180, 0, 40, 27, 182, 0, 203, 153, 0, 33, 44, 19, 1, 92, 182, 1, 88, 42, 42]
abbrev dktX1_tag_2 : List UInt8 := dkwX1_tag_2 ++ dktX1_tag_3
def dkwX1_tag_1 : List UInt8 := [183, 1, 83, 77, 42, 180, 0, 40, 27, 182, 0, 165, 154, 0, 14, 44, 19, 1, 86, 182, 1, 88, 87]
abbrev dktX1_tag_1 : List UInt8 := dkwX1_tag_1 ++ dktX1_tag_2
def dkwX1_tag_0 : List UInt8 := [42, 27, 182, 0, 132, 154, 0, 5, 2, 172, 187, 1, 78, 89, 42, 27, 182, 0, 154, 180, 1, 80]
abbrev dktX1_tag_0 : List UInt8 := dkwX1_tag_0 ++ dktX1_tag_1
theorem dksX1_tag_0 : cX1_tag.data.toList.drop 0 = dktX1_tag_0 := by decide +kernel
theorem dksX1_tag_1 : cX1_tag.data.toList.drop 22 = dktX1_tag_1 := dk_seg dksX1_tag_0 22 rfl rfl
theorem dksX1_tag_2 : cX1_tag.data.toList.drop 45 = dktX1_tag_2 := dk_seg dksX1_tag_1 23 rfl rfl
theorem dksX1_tag_3 : cX1_tag.data.toList.drop 68 = dktX1_tag_3 := dk_seg dksX1_tag_2 23 rfl rfl
theorem dksX1_tag_4 : cX1_tag.data.toList.drop 90 = dktX1_tag_4 := dk_seg dksX1_tag_3 22 rfl rfl
theorem dksX1_tag_5 : cX1_tag.data.toList.drop 114 = dktX1_tag_5 := dk_seg dksX1_tag_4 24 rfl rfl
theorem dX1_tag_0 : decode cX1_tag 0 = .ok (.aload_n 0, 1) := dk_42 (dk_at dksX1_tag_0 0 rfl rfl)
theorem dX1_tag_1 : decode cX1_tag 1 = .ok (.iload_n 1, 1) := dk_27 (dk_at dksX1_tag_0 1 rfl rfl)
theorem dX1_tag_2 : decode cX1_tag 2 = .ok (.invokevirtual 132, 3) := dk_182 0 132 (dk_at dksX1_tag_0 2 rfl rfl)
theorem dX1_tag_5 : decode cX1_tag 5 = .ok (.ifCond .ne 5, 3) := dk_154 0 5 (dk_at dksX1_tag_0 5 rfl rfl)
theorem dX1_tag_8 : decode cX1_tag 8 = .ok (.iconst (-1), 1) := dk_2 (dk_at dksX1_tag_0 8 rfl rfl)
theorem dX1_tag_9 : decode cX1_tag 9 = .ok (.ireturn, 1) := dk_172 (dk_at dksX1_tag_0 9 rfl rfl)
theorem dX1_tag_10 : decode cX1_tag 10 = .ok (.new 334, 3) := dk_187 1 78 (dk_at dksX1_tag_0 10 rfl rfl)
theorem dX1_tag_13 : decode cX1_tag 13 = .ok (.dup, 1) := dk_89 (dk_at dksX1_tag_0 13 rfl rfl)
theorem dX1_tag_14 : decode cX1_tag 14 = .ok (.aload_n 0, 1) := dk_42 (dk_at dksX1_tag_0 14 rfl rfl)
theorem dX1_tag_15 : decode cX1_tag 15 = .ok (.iload_n 1, 1) := dk_27 (dk_at dksX1_tag_0 15 rfl rfl)
theorem dX1_tag_16 : decode cX1_tag 16 = .ok (.invokevirtual 154, 3) := dk_182 0 154 (dk_at dksX1_tag_0 16 rfl rfl)
theorem dX1_tag_19 : decode cX1_tag 19 = .ok (.getfield 336, 3) := dk_180 1 80 (dk_at dksX1_tag_0 19 rfl rfl)
theorem dX1_tag_22 : decode cX1_tag 22 = .ok (.invokespecial 339, 3) := dk_183 1 83 (dk_at dksX1_tag_1 0 rfl rfl)
theorem dX1_tag_25 : decode cX1_tag 25 = .ok (.astore_n 2, 1) := dk_77 (dk_at dksX1_tag_1 3 rfl rfl)
theorem dX1_tag_26 : decode cX1_tag 26 = .ok (.aload_n 0, 1) := dk_42 (dk_at dksX1_tag_1 4 rfl rfl)
theorem dX1_tag_27 : decode cX1_tag 27 = .ok (.getfield 40, 3) := dk_180 0 40 (dk_at dksX1_tag_1 5 rfl rfl)
theorem dX1_tag_30 : decode cX1_tag 30 = .ok (.iload_n 1, 1) := dk_27 (dk_at dksX1_tag_1 8 rfl rfl)
theorem dX1_tag_31 : decode cX1_tag 31 = .ok (.invokevirtual 165, 3) := dk_182 0 165 (dk_at dksX1_tag_1 9 rfl rfl)
theorem dX1_tag_34 : decode cX1_tag 34 = .ok (.ifCond .ne 14, 3) := dk_154 0 14 (dk_at dksX1_tag_1 12 rfl rfl)
theorem dX1_tag_37 : decode cX1_tag 37 = .ok (.aload_n 2, 1) := dk_44 (dk_at dksX1_tag_1 15 rfl rfl)
theorem dX1_tag_38 : decode cX1_tag 38 = .ok (.ldc_w 342, 3) := dk_19 1 86 (dk_at dksX1_tag_1 16 rfl rfl)
theorem dX1_tag_41 : decode cX1_tag 41 = .ok (.invokevirtual 344, 3) := dk_182 1 88 (dk_at dksX1_tag_1 19 rfl rfl)
theorem dX1_tag_44 : decode cX1_tag 44 = .ok (.pop, 1) := dk_87 (dk_at dksX1_tag_1 22 rfl rfl)
theorem dX1_tag_45 : decode cX1_tag 45 = .ok (.goto 52, 3) := dk_167 0 52 (dk_at dksX1_tag_2 0 rfl rfl)
theorem dX1_tag_48 : decode cX1_tag 48 = .ok (.aload_n 0, 1) := dk_42 (dk_at dksX1_tag_2 3 rfl rfl)
theorem dX1_tag_49 : decode cX1_tag 49 = .ok (.getfield 40, 3) := dk_180 0 40 (dk_at dksX1_tag_2 4 rfl rfl)
theorem dX1_tag_52 : decode cX1_tag 52 = .ok (.iload_n 1, 1) := dk_27 (dk_at dksX1_tag_2 7 rfl rfl)
theorem dX1_tag_53 : decode cX1_tag 53 = .ok (.invokevirtual 203, 3) := dk_182 0 203 (dk_at dksX1_tag_2 8 rfl rfl)
theorem dX1_tag_56 : decode cX1_tag 56 = .ok (.ifCond .eq 33, 3) := dk_153 0 33 (dk_at dksX1_tag_2 11 rfl rfl)
theorem dX1_tag_59 : decode cX1_tag 59 = .ok (.aload_n 2, 1) := dk_44 (dk_at dksX1_tag_2 14 rfl rfl)
theorem dX1_tag_60 : decode cX1_tag 60 = .ok (.ldc_w 348, 3) := dk_19 1 92 (dk_at dksX1_tag_2 15 rfl rfl)
theorem dX1_tag_63 : decode cX1_tag 63 = .ok (.invokevirtual 344, 3) := dk_182 1 88 (dk_at dksX1_tag_2 18 rfl rfl)
theorem dX1_tag_66 : decode cX1_tag 66 = .ok (.aload_n 0, 1) := dk_42 (dk_at dksX1_tag_2 21 rfl rfl)
theorem dX1_tag_67 : decode cX1_tag 67 = .ok (.aload_n 0, 1) := dk_42 (dk_at dksX1_tag_2 22 rfl rfl)
theorem dX1_tag_68 : decode cX1_tag 68 = .ok (.getfield 40, 3) := dk_180 0 40 (dk_at dksX1_tag_3 0 rfl rfl)
theorem dX1_tag_71 : decode cX1_tag 71 = .ok (.getfield 168, 3) := dk_180 0 168 (dk_at dksX1_tag_3 3 rfl rfl)
theorem dX1_tag_74 : decode cX1_tag 74 = .ok (.iload_n 1, 1) := dk_27 (dk_at dksX1_tag_3 6 rfl rfl)
theorem dX1_tag_75 : decode cX1_tag 75 = .ok (.iaload, 1) := dk_46 (dk_at dksX1_tag_3 7 rfl rfl)
theorem dX1_tag_76 : decode cX1_tag 76 = .ok (.invokevirtual 154, 3) := dk_182 0 154 (dk_at dksX1_tag_3 8 rfl rfl)
theorem dX1_tag_79 : decode cX1_tag 79 = .ok (.getfield 336, 3) := dk_180 1 80 (dk_at dksX1_tag_3 11 rfl rfl)
theorem dX1_tag_82 : decode cX1_tag 82 = .ok (.invokevirtual 344, 3) := dk_182 1 88 (dk_at dksX1_tag_3 14 rfl rfl)
theorem dX1_tag_85 : decode cX1_tag 85 = .ok (.pop, 1) := dk_87 (dk_at dksX1_tag_3 17 rfl rfl)
theorem dX1_tag_86 : decode cX1_tag 86 = .ok (.goto 11, 3) := dk_167 0 11 (dk_at dksX1_tag_3 18 rfl rfl)
theorem dX1_tag_89 : decode cX1_tag 89 = .ok (.aload_n 2, 1) := dk_44 (dk_at dksX1_tag_3 21 rfl rfl)
theorem dX1_tag_90 : decode cX1_tag 90 = .ok (.ldc_w 350, 3) := dk_19 1 94 (dk_at dksX1_tag_4 0 rfl rfl)
theorem dX1_tag_93 : decode cX1_tag 93 = .ok (.invokevirtual 344, 3) := dk_182 1 88 (dk_at dksX1_tag_4 3 rfl rfl)
theorem dX1_tag_96 : decode cX1_tag 96 = .ok (.pop, 1) := dk_87 (dk_at dksX1_tag_4 6 rfl rfl)
theorem dX1_tag_97 : decode cX1_tag 97 = .ok (.aload_n 0, 1) := dk_42 (dk_at dksX1_tag_4 7 rfl rfl)
theorem dX1_tag_98 : decode cX1_tag 98 = .ok (.aload_n 2, 1) := dk_44 (dk_at dksX1_tag_4 8 rfl rfl)
theorem dX1_tag_99 : decode cX1_tag 99 = .ok (.ldc_w 352, 3) := dk_19 1 96 (dk_at dksX1_tag_4 9 rfl rfl)
theorem dX1_tag_102 : decode cX1_tag 102 = .ok (.invokevirtual 344, 3) := dk_182 1 88 (dk_at dksX1_tag_4 12 rfl rfl)
theorem dX1_tag_105 : decode cX1_tag 105 = .ok (.aload_n 0, 1) := dk_42 (dk_at dksX1_tag_4 15 rfl rfl)
theorem dX1_tag_106 : decode cX1_tag 106 = .ok (.getfield 40, 3) := dk_180 0 40 (dk_at dksX1_tag_4 16 rfl rfl)
theorem dX1_tag_109 : decode cX1_tag 109 = .ok (.getfield 162, 3) := dk_180 0 162 (dk_at dksX1_tag_4 19 rfl rfl)
theorem dX1_tag_112 : decode cX1_tag 112 = .ok (.iload_n 1, 1) := dk_27 (dk_at dksX1_tag_4 22 rfl rfl)
theorem dX1_tag_113 : decode cX1_tag 113 = .ok (.iaload, 1) := dk_46 (dk_at dksX1_tag_4 23 rfl rfl)
theorem dX1_tag_114 : decode cX1_tag 114 = .ok (.invokevirtual 354, 3) := dk_182 1 98 (dk_at dksX1_tag_5 0 rfl rfl)
theorem dX1_tag_117 : decode cX1_tag 117 = .ok (.invokevirtual 357, 3) := dk_182 1 101 (dk_at dksX1_tag_5 3 rfl rfl)
theorem dX1_tag_120 : decode cX1_tag 120 = .ok (.putfield 73, 3) := dk_181 0 73 (dk_at dksX1_tag_5 6 rfl rfl)
theorem dX1_tag_123 : decode cX1_tag 123 = .ok (.aload_n 0, 1) := dk_42 (dk_at dksX1_tag_5 9 rfl rfl)
theorem dX1_tag_124 : decode cX1_tag 124 = .ok (.getfield 73, 3) := dk_180 0 73 (dk_at dksX1_tag_5 10 rfl rfl)
theorem dX1_tag_127 : decode cX1_tag 127 = .ok (.invokevirtual 361, 3) := dk_182 1 105 (dk_at dksX1_tag_5 13 rfl rfl)
theorem dX1_tag_130 : decode cX1_tag 130 = .ok (.ireturn, 1) := dk_172 (dk_at dksX1_tag_5 16 rfl rfl)
abbrev cX1_byteAt : ByteArray := prog_1_method_54_code
def yX1_byteAt : MethodName := ⟨RX1, "byteAt", "(I)I"⟩
def dkwX1_byteAt_1 : List UInt8 := [182, 1, 110, 167, 0, 4, 2, 172]
abbrev dktX1_byteAt_1 : List UInt8 := dkwX1_byteAt_1 ++ []
def dkwX1_byteAt_0 : List UInt8 := [27, 3, 42, 180, 0, 73, 182, 1, 105, 4, 100, 184, 0, 146, 153, 0, 14, 42, 180, 0, 73, 27]
abbrev dktX1_byteAt_0 : List UInt8 := dkwX1_byteAt_0 ++ dktX1_byteAt_1
theorem dksX1_byteAt_0 : cX1_byteAt.data.toList.drop 0 = dktX1_byteAt_0 := by decide +kernel
theorem dksX1_byteAt_1 : cX1_byteAt.data.toList.drop 22 = dktX1_byteAt_1 := dk_seg dksX1_byteAt_0 22 rfl rfl
theorem dX1_byteAt_0 : decode cX1_byteAt 0 = .ok (.iload_n 1, 1) := dk_27 (dk_at dksX1_byteAt_0 0 rfl rfl)
theorem dX1_byteAt_1 : decode cX1_byteAt 1 = .ok (.iconst 0, 1) := dk_3 (dk_at dksX1_byteAt_0 1 rfl rfl)
theorem dX1_byteAt_2 : decode cX1_byteAt 2 = .ok (.aload_n 0, 1) := dk_42 (dk_at dksX1_byteAt_0 2 rfl rfl)
theorem dX1_byteAt_3 : decode cX1_byteAt 3 = .ok (.getfield 73, 3) := dk_180 0 73 (dk_at dksX1_byteAt_0 3 rfl rfl)
theorem dX1_byteAt_6 : decode cX1_byteAt 6 = .ok (.invokevirtual 361, 3) := dk_182 1 105 (dk_at dksX1_byteAt_0 6 rfl rfl)
theorem dX1_byteAt_9 : decode cX1_byteAt 9 = .ok (.iconst 1, 1) := dk_4 (dk_at dksX1_byteAt_0 9 rfl rfl)
theorem dX1_byteAt_10 : decode cX1_byteAt 10 = .ok (.isub, 1) := dk_100 (dk_at dksX1_byteAt_0 10 rfl rfl)
theorem dX1_byteAt_11 : decode cX1_byteAt 11 = .ok (.invokestatic 146, 3) := dk_184 0 146 (dk_at dksX1_byteAt_0 11 rfl rfl)
theorem dX1_byteAt_14 : decode cX1_byteAt 14 = .ok (.ifCond .eq 14, 3) := dk_153 0 14 (dk_at dksX1_byteAt_0 14 rfl rfl)
theorem dX1_byteAt_17 : decode cX1_byteAt 17 = .ok (.aload_n 0, 1) := dk_42 (dk_at dksX1_byteAt_0 17 rfl rfl)
theorem dX1_byteAt_18 : decode cX1_byteAt 18 = .ok (.getfield 73, 3) := dk_180 0 73 (dk_at dksX1_byteAt_0 18 rfl rfl)
theorem dX1_byteAt_21 : decode cX1_byteAt 21 = .ok (.iload_n 1, 1) := dk_27 (dk_at dksX1_byteAt_0 21 rfl rfl)
theorem dX1_byteAt_22 : decode cX1_byteAt 22 = .ok (.invokevirtual 366, 3) := dk_182 1 110 (dk_at dksX1_byteAt_1 0 rfl rfl)
theorem dX1_byteAt_25 : decode cX1_byteAt 25 = .ok (.goto 4, 3) := dk_167 0 4 (dk_at dksX1_byteAt_1 3 rfl rfl)
theorem dX1_byteAt_28 : decode cX1_byteAt 28 = .ok (.iconst (-1), 1) := dk_2 (dk_at dksX1_byteAt_1 6 rfl rfl)
theorem dX1_byteAt_29 : decode cX1_byteAt 29 = .ok (.ireturn, 1) := dk_172 (dk_at dksX1_byteAt_1 7 rfl rfl)
abbrev cX1_drawn : ByteArray := prog_1_method_55_code
def yX1_drawn : MethodName := ⟨RX1, "drawn", "(II)I"⟩
def dkwX1_drawn_1 : List UInt8 := [42, 182, 0, 234, 42, 180, 0, 40, 27, 28, 182, 1, 114, 172]
abbrev dktX1_drawn_1 : List UInt8 := dkwX1_drawn_1 ++ []
def dkwX1_drawn_0 : List UInt8 := [27, 4, 16, 60, 184, 0, 146, 154, 0, 5, 2, 172, 42, 180, 0, 40, 182, 1, 12, 153, 0, 5, 3, 172]
abbrev dktX1_drawn_0 : List UInt8 := dkwX1_drawn_0 ++ dktX1_drawn_1
theorem dksX1_drawn_0 : cX1_drawn.data.toList.drop 0 = dktX1_drawn_0 := by decide +kernel
theorem dksX1_drawn_1 : cX1_drawn.data.toList.drop 24 = dktX1_drawn_1 := dk_seg dksX1_drawn_0 24 rfl rfl
theorem dX1_drawn_0 : decode cX1_drawn 0 = .ok (.iload_n 1, 1) := dk_27 (dk_at dksX1_drawn_0 0 rfl rfl)
theorem dX1_drawn_1 : decode cX1_drawn 1 = .ok (.iconst 1, 1) := dk_4 (dk_at dksX1_drawn_0 1 rfl rfl)
theorem dX1_drawn_2 : decode cX1_drawn 2 = .ok (.bipush 60, 2) := dk_16 60 (dk_at dksX1_drawn_0 2 rfl rfl)
theorem dX1_drawn_4 : decode cX1_drawn 4 = .ok (.invokestatic 146, 3) := dk_184 0 146 (dk_at dksX1_drawn_0 4 rfl rfl)
theorem dX1_drawn_7 : decode cX1_drawn 7 = .ok (.ifCond .ne 5, 3) := dk_154 0 5 (dk_at dksX1_drawn_0 7 rfl rfl)
theorem dX1_drawn_10 : decode cX1_drawn 10 = .ok (.iconst (-1), 1) := dk_2 (dk_at dksX1_drawn_0 10 rfl rfl)
theorem dX1_drawn_11 : decode cX1_drawn 11 = .ok (.ireturn, 1) := dk_172 (dk_at dksX1_drawn_0 11 rfl rfl)
theorem dX1_drawn_12 : decode cX1_drawn 12 = .ok (.aload_n 0, 1) := dk_42 (dk_at dksX1_drawn_0 12 rfl rfl)
theorem dX1_drawn_13 : decode cX1_drawn 13 = .ok (.getfield 40, 3) := dk_180 0 40 (dk_at dksX1_drawn_0 13 rfl rfl)
theorem dX1_drawn_16 : decode cX1_drawn 16 = .ok (.invokevirtual 268, 3) := dk_182 1 12 (dk_at dksX1_drawn_0 16 rfl rfl)
theorem dX1_drawn_19 : decode cX1_drawn 19 = .ok (.ifCond .eq 5, 3) := dk_153 0 5 (dk_at dksX1_drawn_0 19 rfl rfl)
theorem dX1_drawn_22 : decode cX1_drawn 22 = .ok (.iconst 0, 1) := dk_3 (dk_at dksX1_drawn_0 22 rfl rfl)
theorem dX1_drawn_23 : decode cX1_drawn 23 = .ok (.ireturn, 1) := dk_172 (dk_at dksX1_drawn_0 23 rfl rfl)
theorem dX1_drawn_24 : decode cX1_drawn 24 = .ok (.aload_n 0, 1) := dk_42 (dk_at dksX1_drawn_1 0 rfl rfl)
theorem dX1_drawn_25 : decode cX1_drawn 25 = .ok (.invokevirtual 234, 3) := dk_182 0 234 (dk_at dksX1_drawn_1 1 rfl rfl)
theorem dX1_drawn_28 : decode cX1_drawn 28 = .ok (.aload_n 0, 1) := dk_42 (dk_at dksX1_drawn_1 4 rfl rfl)
theorem dX1_drawn_29 : decode cX1_drawn 29 = .ok (.getfield 40, 3) := dk_180 0 40 (dk_at dksX1_drawn_1 5 rfl rfl)
theorem dX1_drawn_32 : decode cX1_drawn 32 = .ok (.iload_n 1, 1) := dk_27 (dk_at dksX1_drawn_1 8 rfl rfl)
theorem dX1_drawn_33 : decode cX1_drawn 33 = .ok (.iload_n 2, 1) := dk_28 (dk_at dksX1_drawn_1 9 rfl rfl)
theorem dX1_drawn_34 : decode cX1_drawn 34 = .ok (.invokevirtual 370, 3) := dk_182 1 114 (dk_at dksX1_drawn_1 10 rfl rfl)
theorem dX1_drawn_37 : decode cX1_drawn 37 = .ok (.ireturn, 1) := dk_172 (dk_at dksX1_drawn_1 13 rfl rfl)
abbrev cX1_odds : ByteArray := prog_1_method_56_code
def yX1_odds : MethodName := ⟨RX1, "odds", "(III)I"⟩
def dkwX1_odds_3 : List UInt8 := [160, 0, 6, 132, 4, 1, 132, 5, 1, 167, 255, 201, 21, 4, 172]
abbrev dktX1_odds_3 : List UInt8 := dkwX1_odds_3 ++ []
def dkwX1_odds_2 : List UInt8 := [96, 182, 1, 114, 87, 42, 180, 0, 44, 27, 182, 0, 165, 153, 0, 17, 42, 180, 0, 44, 182, 1, 75, 27]
abbrev dktX1_odds_2 : List UInt8 := dkwX1_odds_2 ++ dktX1_odds_3
def dkwX1_odds_1 : List UInt8 := [54, 5, 21, 5, 28, 162, 0, 55, 42, 180, 0, 44, 42, 180, 0, 40, 182, 0, 224, 16, 10, 29, 21, 5]
abbrev dktX1_odds_1 : List UInt8 := dkwX1_odds_1 ++ dktX1_odds_2
def dkwX1_odds_0 : List UInt8 := [42, 27, 182, 0, 132, 153, 0, 13, 28, 4, 16, 30, 184, 0, 146, 154, 0, 5, 2, 172, 3, 54, 4, 3]
abbrev dktX1_odds_0 : List UInt8 := dkwX1_odds_0 ++ dktX1_odds_1
theorem dksX1_odds_0 : cX1_odds.data.toList.drop 0 = dktX1_odds_0 := by decide +kernel
theorem dksX1_odds_1 : cX1_odds.data.toList.drop 24 = dktX1_odds_1 := dk_seg dksX1_odds_0 24 rfl rfl
theorem dksX1_odds_2 : cX1_odds.data.toList.drop 48 = dktX1_odds_2 := dk_seg dksX1_odds_1 24 rfl rfl
theorem dksX1_odds_3 : cX1_odds.data.toList.drop 72 = dktX1_odds_3 := dk_seg dksX1_odds_2 24 rfl rfl
theorem dX1_odds_0 : decode cX1_odds 0 = .ok (.aload_n 0, 1) := dk_42 (dk_at dksX1_odds_0 0 rfl rfl)
theorem dX1_odds_1 : decode cX1_odds 1 = .ok (.iload_n 1, 1) := dk_27 (dk_at dksX1_odds_0 1 rfl rfl)
theorem dX1_odds_2 : decode cX1_odds 2 = .ok (.invokevirtual 132, 3) := dk_182 0 132 (dk_at dksX1_odds_0 2 rfl rfl)
theorem dX1_odds_5 : decode cX1_odds 5 = .ok (.ifCond .eq 13, 3) := dk_153 0 13 (dk_at dksX1_odds_0 5 rfl rfl)
theorem dX1_odds_8 : decode cX1_odds 8 = .ok (.iload_n 2, 1) := dk_28 (dk_at dksX1_odds_0 8 rfl rfl)
theorem dX1_odds_9 : decode cX1_odds 9 = .ok (.iconst 1, 1) := dk_4 (dk_at dksX1_odds_0 9 rfl rfl)
theorem dX1_odds_10 : decode cX1_odds 10 = .ok (.bipush 30, 2) := dk_16 30 (dk_at dksX1_odds_0 10 rfl rfl)
theorem dX1_odds_12 : decode cX1_odds 12 = .ok (.invokestatic 146, 3) := dk_184 0 146 (dk_at dksX1_odds_0 12 rfl rfl)
theorem dX1_odds_15 : decode cX1_odds 15 = .ok (.ifCond .ne 5, 3) := dk_154 0 5 (dk_at dksX1_odds_0 15 rfl rfl)
theorem dX1_odds_18 : decode cX1_odds 18 = .ok (.iconst (-1), 1) := dk_2 (dk_at dksX1_odds_0 18 rfl rfl)
theorem dX1_odds_19 : decode cX1_odds 19 = .ok (.ireturn, 1) := dk_172 (dk_at dksX1_odds_0 19 rfl rfl)
theorem dX1_odds_20 : decode cX1_odds 20 = .ok (.iconst 0, 1) := dk_3 (dk_at dksX1_odds_0 20 rfl rfl)
theorem dX1_odds_21 : decode cX1_odds 21 = .ok (.istore 4, 2) := dk_54 4 (dk_at dksX1_odds_0 21 rfl rfl)
theorem dX1_odds_23 : decode cX1_odds 23 = .ok (.iconst 0, 1) := dk_3 (dk_at dksX1_odds_0 23 rfl rfl)
theorem dX1_odds_24 : decode cX1_odds 24 = .ok (.istore 5, 2) := dk_54 5 (dk_at dksX1_odds_1 0 rfl rfl)
theorem dX1_odds_26 : decode cX1_odds 26 = .ok (.iload 5, 2) := dk_21 5 (dk_at dksX1_odds_1 2 rfl rfl)
theorem dX1_odds_28 : decode cX1_odds 28 = .ok (.iload_n 2, 1) := dk_28 (dk_at dksX1_odds_1 4 rfl rfl)
theorem dX1_odds_29 : decode cX1_odds 29 = .ok (.if_icmp .ge 55, 3) := dk_162 0 55 (dk_at dksX1_odds_1 5 rfl rfl)
theorem dX1_odds_32 : decode cX1_odds 32 = .ok (.aload_n 0, 1) := dk_42 (dk_at dksX1_odds_1 8 rfl rfl)
theorem dX1_odds_33 : decode cX1_odds 33 = .ok (.getfield 44, 3) := dk_180 0 44 (dk_at dksX1_odds_1 9 rfl rfl)
theorem dX1_odds_36 : decode cX1_odds 36 = .ok (.aload_n 0, 1) := dk_42 (dk_at dksX1_odds_1 12 rfl rfl)
theorem dX1_odds_37 : decode cX1_odds 37 = .ok (.getfield 40, 3) := dk_180 0 40 (dk_at dksX1_odds_1 13 rfl rfl)
theorem dX1_odds_40 : decode cX1_odds 40 = .ok (.invokevirtual 224, 3) := dk_182 0 224 (dk_at dksX1_odds_1 16 rfl rfl)
theorem dX1_odds_43 : decode cX1_odds 43 = .ok (.bipush 10, 2) := dk_16 10 (dk_at dksX1_odds_1 19 rfl rfl)
theorem dX1_odds_45 : decode cX1_odds 45 = .ok (.iload_n 3, 1) := dk_29 (dk_at dksX1_odds_1 21 rfl rfl)
theorem dX1_odds_46 : decode cX1_odds 46 = .ok (.iload 5, 2) := dk_21 5 (dk_at dksX1_odds_1 22 rfl rfl)
theorem dX1_odds_48 : decode cX1_odds 48 = .ok (.iadd, 1) := dk_96 (dk_at dksX1_odds_2 0 rfl rfl)
theorem dX1_odds_49 : decode cX1_odds 49 = .ok (.invokevirtual 370, 3) := dk_182 1 114 (dk_at dksX1_odds_2 1 rfl rfl)
theorem dX1_odds_52 : decode cX1_odds 52 = .ok (.pop, 1) := dk_87 (dk_at dksX1_odds_2 4 rfl rfl)
theorem dX1_odds_53 : decode cX1_odds 53 = .ok (.aload_n 0, 1) := dk_42 (dk_at dksX1_odds_2 5 rfl rfl)
theorem dX1_odds_54 : decode cX1_odds 54 = .ok (.getfield 44, 3) := dk_180 0 44 (dk_at dksX1_odds_2 6 rfl rfl)
theorem dX1_odds_57 : decode cX1_odds 57 = .ok (.iload_n 1, 1) := dk_27 (dk_at dksX1_odds_2 9 rfl rfl)
theorem dX1_odds_58 : decode cX1_odds 58 = .ok (.invokevirtual 165, 3) := dk_182 0 165 (dk_at dksX1_odds_2 10 rfl rfl)
theorem dX1_odds_61 : decode cX1_odds 61 = .ok (.ifCond .eq 17, 3) := dk_153 0 17 (dk_at dksX1_odds_2 13 rfl rfl)
theorem dX1_odds_64 : decode cX1_odds 64 = .ok (.aload_n 0, 1) := dk_42 (dk_at dksX1_odds_2 16 rfl rfl)
theorem dX1_odds_65 : decode cX1_odds 65 = .ok (.getfield 44, 3) := dk_180 0 44 (dk_at dksX1_odds_2 17 rfl rfl)
theorem dX1_odds_68 : decode cX1_odds 68 = .ok (.invokevirtual 331, 3) := dk_182 1 75 (dk_at dksX1_odds_2 20 rfl rfl)
theorem dX1_odds_71 : decode cX1_odds 71 = .ok (.iload_n 1, 1) := dk_27 (dk_at dksX1_odds_2 23 rfl rfl)
theorem dX1_odds_72 : decode cX1_odds 72 = .ok (.if_icmp .ne 6, 3) := dk_160 0 6 (dk_at dksX1_odds_3 0 rfl rfl)
theorem dX1_odds_75 : decode cX1_odds 75 = .ok (.iinc 4 1, 3) := dk_132 4 1 (dk_at dksX1_odds_3 3 rfl rfl)
theorem dX1_odds_78 : decode cX1_odds 78 = .ok (.iinc 5 1, 3) := dk_132 5 1 (dk_at dksX1_odds_3 6 rfl rfl)
theorem dX1_odds_81 : decode cX1_odds 81 = .ok (.goto (-55), 3) := dk_167 255 201 (dk_at dksX1_odds_3 9 rfl rfl)
theorem dX1_odds_84 : decode cX1_odds 84 = .ok (.iload 4, 2) := dk_21 4 (dk_at dksX1_odds_3 12 rfl rfl)
theorem dX1_odds_86 : decode cX1_odds 86 = .ok (.ireturn, 1) := dk_172 (dk_at dksX1_odds_3 14 rfl rfl)
abbrev cX1_book : ByteArray := prog_1_method_57_code
def yX1_book : MethodName := ⟨RX1, "book", "(I)I"⟩
def dkwX1_book_3 : List UInt8 := [100, 172]
abbrev dktX1_book_3 : List UInt8 := dkwX1_book_3 ++ []
def dkwX1_book_2 : List UInt8 := [4, 167, 0, 4, 3, 182, 1, 125, 172, 78, 42, 45, 180, 0, 122, 181, 0, 98, 16, 254, 45, 180, 0, 125]
abbrev dktX1_book_2 : List UInt8 := dkwX1_book_2 ++ dktX1_book_3
def dkwX1_book_1 : List UInt8 := [187, 1, 117, 89, 42, 180, 0, 22, 28, 42, 180, 0, 29, 183, 1, 119, 182, 1, 122, 27, 4, 160, 0, 7]
abbrev dktX1_book_1 : List UInt8 := dkwX1_book_1 ++ dktX1_book_2
def dkwX1_book_0 : List UInt8 := [27, 3, 4, 184, 0, 146, 154, 0, 7, 17, 252, 24, 172, 42, 182, 0, 94, 61, 42, 3, 181, 0, 98, 42]
abbrev dktX1_book_0 : List UInt8 := dkwX1_book_0 ++ dktX1_book_1
theorem dksX1_book_0 : cX1_book.data.toList.drop 0 = dktX1_book_0 := by decide +kernel
theorem dksX1_book_1 : cX1_book.data.toList.drop 24 = dktX1_book_1 := dk_seg dksX1_book_0 24 rfl rfl
theorem dksX1_book_2 : cX1_book.data.toList.drop 48 = dktX1_book_2 := dk_seg dksX1_book_1 24 rfl rfl
theorem dksX1_book_3 : cX1_book.data.toList.drop 72 = dktX1_book_3 := dk_seg dksX1_book_2 24 rfl rfl
theorem dX1_book_0 : decode cX1_book 0 = .ok (.iload_n 1, 1) := dk_27 (dk_at dksX1_book_0 0 rfl rfl)
theorem dX1_book_1 : decode cX1_book 1 = .ok (.iconst 0, 1) := dk_3 (dk_at dksX1_book_0 1 rfl rfl)
theorem dX1_book_2 : decode cX1_book 2 = .ok (.iconst 1, 1) := dk_4 (dk_at dksX1_book_0 2 rfl rfl)
theorem dX1_book_3 : decode cX1_book 3 = .ok (.invokestatic 146, 3) := dk_184 0 146 (dk_at dksX1_book_0 3 rfl rfl)
theorem dX1_book_6 : decode cX1_book 6 = .ok (.ifCond .ne 7, 3) := dk_154 0 7 (dk_at dksX1_book_0 6 rfl rfl)
theorem dX1_book_9 : decode cX1_book 9 = .ok (.sipush (-1000), 3) := dk_17 252 24 (dk_at dksX1_book_0 9 rfl rfl)
theorem dX1_book_12 : decode cX1_book 12 = .ok (.ireturn, 1) := dk_172 (dk_at dksX1_book_0 12 rfl rfl)
theorem dX1_book_13 : decode cX1_book 13 = .ok (.aload_n 0, 1) := dk_42 (dk_at dksX1_book_0 13 rfl rfl)
theorem dX1_book_14 : decode cX1_book 14 = .ok (.invokevirtual 94, 3) := dk_182 0 94 (dk_at dksX1_book_0 14 rfl rfl)
theorem dX1_book_17 : decode cX1_book 17 = .ok (.istore_n 2, 1) := dk_61 (dk_at dksX1_book_0 17 rfl rfl)
theorem dX1_book_18 : decode cX1_book 18 = .ok (.aload_n 0, 1) := dk_42 (dk_at dksX1_book_0 18 rfl rfl)
theorem dX1_book_19 : decode cX1_book 19 = .ok (.iconst 0, 1) := dk_3 (dk_at dksX1_book_0 19 rfl rfl)
theorem dX1_book_20 : decode cX1_book 20 = .ok (.putfield 98, 3) := dk_181 0 98 (dk_at dksX1_book_0 20 rfl rfl)
theorem dX1_book_23 : decode cX1_book 23 = .ok (.aload_n 0, 1) := dk_42 (dk_at dksX1_book_0 23 rfl rfl)
theorem dX1_book_24 : decode cX1_book 24 = .ok (.new 373, 3) := dk_187 1 117 (dk_at dksX1_book_1 0 rfl rfl)
theorem dX1_book_27 : decode cX1_book 27 = .ok (.dup, 1) := dk_89 (dk_at dksX1_book_1 3 rfl rfl)
theorem dX1_book_28 : decode cX1_book 28 = .ok (.aload_n 0, 1) := dk_42 (dk_at dksX1_book_1 4 rfl rfl)
theorem dX1_book_29 : decode cX1_book 29 = .ok (.getfield 22, 3) := dk_180 0 22 (dk_at dksX1_book_1 5 rfl rfl)
theorem dX1_book_32 : decode cX1_book 32 = .ok (.iload_n 2, 1) := dk_28 (dk_at dksX1_book_1 8 rfl rfl)
theorem dX1_book_33 : decode cX1_book 33 = .ok (.aload_n 0, 1) := dk_42 (dk_at dksX1_book_1 9 rfl rfl)
theorem dX1_book_34 : decode cX1_book 34 = .ok (.getfield 29, 3) := dk_180 0 29 (dk_at dksX1_book_1 10 rfl rfl)
theorem dX1_book_37 : decode cX1_book 37 = .ok (.invokespecial 375, 3) := dk_183 1 119 (dk_at dksX1_book_1 13 rfl rfl)
theorem dX1_book_40 : decode cX1_book 40 = .ok (.invokevirtual 378, 3) := dk_182 1 122 (dk_at dksX1_book_1 16 rfl rfl)
theorem dX1_book_43 : decode cX1_book 43 = .ok (.iload_n 1, 1) := dk_27 (dk_at dksX1_book_1 19 rfl rfl)
theorem dX1_book_44 : decode cX1_book 44 = .ok (.iconst 1, 1) := dk_4 (dk_at dksX1_book_1 20 rfl rfl)
theorem dX1_book_45 : decode cX1_book 45 = .ok (.if_icmp .ne 7, 3) := dk_160 0 7 (dk_at dksX1_book_1 21 rfl rfl)
theorem dX1_book_48 : decode cX1_book 48 = .ok (.iconst 1, 1) := dk_4 (dk_at dksX1_book_2 0 rfl rfl)
theorem dX1_book_49 : decode cX1_book 49 = .ok (.goto 4, 3) := dk_167 0 4 (dk_at dksX1_book_2 1 rfl rfl)
theorem dX1_book_52 : decode cX1_book 52 = .ok (.iconst 0, 1) := dk_3 (dk_at dksX1_book_2 4 rfl rfl)
theorem dX1_book_53 : decode cX1_book 53 = .ok (.invokevirtual 381, 3) := dk_182 1 125 (dk_at dksX1_book_2 5 rfl rfl)
theorem dX1_book_56 : decode cX1_book 56 = .ok (.ireturn, 1) := dk_172 (dk_at dksX1_book_2 8 rfl rfl)
theorem dX1_book_57 : decode cX1_book 57 = .ok (.astore_n 3, 1) := dk_78 (dk_at dksX1_book_2 9 rfl rfl)
theorem dX1_book_58 : decode cX1_book 58 = .ok (.aload_n 0, 1) := dk_42 (dk_at dksX1_book_2 10 rfl rfl)
theorem dX1_book_59 : decode cX1_book 59 = .ok (.aload_n 3, 1) := dk_45 (dk_at dksX1_book_2 11 rfl rfl)
theorem dX1_book_60 : decode cX1_book 60 = .ok (.getfield 122, 3) := dk_180 0 122 (dk_at dksX1_book_2 12 rfl rfl)
theorem dX1_book_63 : decode cX1_book 63 = .ok (.putfield 98, 3) := dk_181 0 98 (dk_at dksX1_book_2 15 rfl rfl)
theorem dX1_book_66 : decode cX1_book 66 = .ok (.bipush (-2), 2) := dk_16 254 (dk_at dksX1_book_2 18 rfl rfl)
theorem dX1_book_68 : decode cX1_book 68 = .ok (.aload_n 3, 1) := dk_45 (dk_at dksX1_book_2 20 rfl rfl)
theorem dX1_book_69 : decode cX1_book 69 = .ok (.getfield 125, 3) := dk_180 0 125 (dk_at dksX1_book_2 21 rfl rfl)
theorem dX1_book_72 : decode cX1_book 72 = .ok (.isub, 1) := dk_100 (dk_at dksX1_book_3 0 rfl rfl)
theorem dX1_book_73 : decode cX1_book 73 = .ok (.ireturn, 1) := dk_172 (dk_at dksX1_book_3 1 rfl rfl)
abbrev cX1_lived : ByteArray := prog_1_method_58_code
def yX1_lived : MethodName := ⟨RX1, "lived", "(Ljava/util/ArrayList;Z)I"⟩
def dkwX1_lived_5 : List UInt8 := [180, 0, 44, 182, 0, 224, 87, 29, 154, 0, 7, 2, 167, 0, 5, 21, 4, 172]
abbrev dktX1_lived_5 : List UInt8 := dkwX1_lived_5 ++ []
def dkwX1_lived_4 : List UInt8 := [180, 0, 215, 79, 28, 153, 0, 24, 21, 4, 158, 0, 19, 42, 182, 0, 234, 42, 180, 0, 40, 42]
abbrev dktX1_lived_4 : List UInt8 := dkwX1_lived_4 ++ dktX1_lived_5
def dkwX1_lived_3 : List UInt8 := [79, 42, 180, 0, 77, 5, 42, 180, 0, 44, 180, 0, 206, 79, 42, 180, 0, 77, 6, 42, 180, 0, 44]
abbrev dktX1_lived_3 : List UInt8 := dkwX1_lived_3 ++ dktX1_lived_4
def dkwX1_lived_2 : List UInt8 := [29, 154, 255, 225, 132, 4, 1, 167, 255, 219, 42, 180, 0, 77, 3, 29, 79, 42, 180, 0, 77, 4, 21, 4]
abbrev dktX1_lived_2 : List UInt8 := dkwX1_lived_2 ++ dktX1_lived_3
def dkwX1_lived_1 : List UInt8 := [162, 0, 34, 29, 154, 0, 30, 43, 21, 4, 182, 1, 129, 192, 0, 229, 42, 180, 0, 44, 182, 0, 228, 62]
abbrev dktX1_lived_1 : List UInt8 := dkwX1_lived_1 ++ dktX1_lived_2
def dkwX1_lived_0 : List UInt8 := [42, 180, 0, 44, 42, 180, 0, 40, 182, 0, 224, 87, 3, 62, 3, 54, 4, 21, 4, 43, 182, 0, 137]
abbrev dktX1_lived_0 : List UInt8 := dkwX1_lived_0 ++ dktX1_lived_1
theorem dksX1_lived_0 : cX1_lived.data.toList.drop 0 = dktX1_lived_0 := by decide +kernel
theorem dksX1_lived_1 : cX1_lived.data.toList.drop 23 = dktX1_lived_1 := dk_seg dksX1_lived_0 23 rfl rfl
theorem dksX1_lived_2 : cX1_lived.data.toList.drop 47 = dktX1_lived_2 := dk_seg dksX1_lived_1 24 rfl rfl
theorem dksX1_lived_3 : cX1_lived.data.toList.drop 71 = dktX1_lived_3 := dk_seg dksX1_lived_2 24 rfl rfl
theorem dksX1_lived_4 : cX1_lived.data.toList.drop 94 = dktX1_lived_4 := dk_seg dksX1_lived_3 23 rfl rfl
theorem dksX1_lived_5 : cX1_lived.data.toList.drop 116 = dktX1_lived_5 := dk_seg dksX1_lived_4 22 rfl rfl
theorem dX1_lived_0 : decode cX1_lived 0 = .ok (.aload_n 0, 1) := dk_42 (dk_at dksX1_lived_0 0 rfl rfl)
theorem dX1_lived_1 : decode cX1_lived 1 = .ok (.getfield 44, 3) := dk_180 0 44 (dk_at dksX1_lived_0 1 rfl rfl)
theorem dX1_lived_4 : decode cX1_lived 4 = .ok (.aload_n 0, 1) := dk_42 (dk_at dksX1_lived_0 4 rfl rfl)
theorem dX1_lived_5 : decode cX1_lived 5 = .ok (.getfield 40, 3) := dk_180 0 40 (dk_at dksX1_lived_0 5 rfl rfl)
theorem dX1_lived_8 : decode cX1_lived 8 = .ok (.invokevirtual 224, 3) := dk_182 0 224 (dk_at dksX1_lived_0 8 rfl rfl)
theorem dX1_lived_11 : decode cX1_lived 11 = .ok (.pop, 1) := dk_87 (dk_at dksX1_lived_0 11 rfl rfl)
theorem dX1_lived_12 : decode cX1_lived 12 = .ok (.iconst 0, 1) := dk_3 (dk_at dksX1_lived_0 12 rfl rfl)
theorem dX1_lived_13 : decode cX1_lived 13 = .ok (.istore_n 3, 1) := dk_62 (dk_at dksX1_lived_0 13 rfl rfl)
theorem dX1_lived_14 : decode cX1_lived 14 = .ok (.iconst 0, 1) := dk_3 (dk_at dksX1_lived_0 14 rfl rfl)
theorem dX1_lived_15 : decode cX1_lived 15 = .ok (.istore 4, 2) := dk_54 4 (dk_at dksX1_lived_0 15 rfl rfl)
theorem dX1_lived_17 : decode cX1_lived 17 = .ok (.iload 4, 2) := dk_21 4 (dk_at dksX1_lived_0 17 rfl rfl)
theorem dX1_lived_19 : decode cX1_lived 19 = .ok (.aload_n 1, 1) := dk_43 (dk_at dksX1_lived_0 19 rfl rfl)
theorem dX1_lived_20 : decode cX1_lived 20 = .ok (.invokevirtual 137, 3) := dk_182 0 137 (dk_at dksX1_lived_0 20 rfl rfl)
theorem dX1_lived_23 : decode cX1_lived 23 = .ok (.if_icmp .ge 34, 3) := dk_162 0 34 (dk_at dksX1_lived_1 0 rfl rfl)
theorem dX1_lived_26 : decode cX1_lived 26 = .ok (.iload_n 3, 1) := dk_29 (dk_at dksX1_lived_1 3 rfl rfl)
theorem dX1_lived_27 : decode cX1_lived 27 = .ok (.ifCond .ne 30, 3) := dk_154 0 30 (dk_at dksX1_lived_1 4 rfl rfl)
theorem dX1_lived_30 : decode cX1_lived 30 = .ok (.aload_n 1, 1) := dk_43 (dk_at dksX1_lived_1 7 rfl rfl)
theorem dX1_lived_31 : decode cX1_lived 31 = .ok (.iload 4, 2) := dk_21 4 (dk_at dksX1_lived_1 8 rfl rfl)
theorem dX1_lived_33 : decode cX1_lived 33 = .ok (.invokevirtual 385, 3) := dk_182 1 129 (dk_at dksX1_lived_1 10 rfl rfl)
theorem dX1_lived_36 : decode cX1_lived 36 = .ok (.checkcast 229, 3) := dk_192 0 229 (dk_at dksX1_lived_1 13 rfl rfl)
theorem dX1_lived_39 : decode cX1_lived 39 = .ok (.aload_n 0, 1) := dk_42 (dk_at dksX1_lived_1 16 rfl rfl)
theorem dX1_lived_40 : decode cX1_lived 40 = .ok (.getfield 44, 3) := dk_180 0 44 (dk_at dksX1_lived_1 17 rfl rfl)
theorem dX1_lived_43 : decode cX1_lived 43 = .ok (.invokevirtual 228, 3) := dk_182 0 228 (dk_at dksX1_lived_1 20 rfl rfl)
theorem dX1_lived_46 : decode cX1_lived 46 = .ok (.istore_n 3, 1) := dk_62 (dk_at dksX1_lived_1 23 rfl rfl)
theorem dX1_lived_47 : decode cX1_lived 47 = .ok (.iload_n 3, 1) := dk_29 (dk_at dksX1_lived_2 0 rfl rfl)
theorem dX1_lived_48 : decode cX1_lived 48 = .ok (.ifCond .ne (-31), 3) := dk_154 255 225 (dk_at dksX1_lived_2 1 rfl rfl)
theorem dX1_lived_51 : decode cX1_lived 51 = .ok (.iinc 4 1, 3) := dk_132 4 1 (dk_at dksX1_lived_2 4 rfl rfl)
theorem dX1_lived_54 : decode cX1_lived 54 = .ok (.goto (-37), 3) := dk_167 255 219 (dk_at dksX1_lived_2 7 rfl rfl)
theorem dX1_lived_57 : decode cX1_lived 57 = .ok (.aload_n 0, 1) := dk_42 (dk_at dksX1_lived_2 10 rfl rfl)
theorem dX1_lived_58 : decode cX1_lived 58 = .ok (.getfield 77, 3) := dk_180 0 77 (dk_at dksX1_lived_2 11 rfl rfl)
theorem dX1_lived_61 : decode cX1_lived 61 = .ok (.iconst 0, 1) := dk_3 (dk_at dksX1_lived_2 14 rfl rfl)
theorem dX1_lived_62 : decode cX1_lived 62 = .ok (.iload_n 3, 1) := dk_29 (dk_at dksX1_lived_2 15 rfl rfl)
theorem dX1_lived_63 : decode cX1_lived 63 = .ok (.iastore, 1) := dk_79 (dk_at dksX1_lived_2 16 rfl rfl)
theorem dX1_lived_64 : decode cX1_lived 64 = .ok (.aload_n 0, 1) := dk_42 (dk_at dksX1_lived_2 17 rfl rfl)
theorem dX1_lived_65 : decode cX1_lived 65 = .ok (.getfield 77, 3) := dk_180 0 77 (dk_at dksX1_lived_2 18 rfl rfl)
theorem dX1_lived_68 : decode cX1_lived 68 = .ok (.iconst 1, 1) := dk_4 (dk_at dksX1_lived_2 21 rfl rfl)
theorem dX1_lived_69 : decode cX1_lived 69 = .ok (.iload 4, 2) := dk_21 4 (dk_at dksX1_lived_2 22 rfl rfl)
theorem dX1_lived_71 : decode cX1_lived 71 = .ok (.iastore, 1) := dk_79 (dk_at dksX1_lived_3 0 rfl rfl)
theorem dX1_lived_72 : decode cX1_lived 72 = .ok (.aload_n 0, 1) := dk_42 (dk_at dksX1_lived_3 1 rfl rfl)
theorem dX1_lived_73 : decode cX1_lived 73 = .ok (.getfield 77, 3) := dk_180 0 77 (dk_at dksX1_lived_3 2 rfl rfl)
theorem dX1_lived_76 : decode cX1_lived 76 = .ok (.iconst 2, 1) := dk_5 (dk_at dksX1_lived_3 5 rfl rfl)
theorem dX1_lived_77 : decode cX1_lived 77 = .ok (.aload_n 0, 1) := dk_42 (dk_at dksX1_lived_3 6 rfl rfl)
theorem dX1_lived_78 : decode cX1_lived 78 = .ok (.getfield 44, 3) := dk_180 0 44 (dk_at dksX1_lived_3 7 rfl rfl)
theorem dX1_lived_81 : decode cX1_lived 81 = .ok (.getfield 206, 3) := dk_180 0 206 (dk_at dksX1_lived_3 10 rfl rfl)
theorem dX1_lived_84 : decode cX1_lived 84 = .ok (.iastore, 1) := dk_79 (dk_at dksX1_lived_3 13 rfl rfl)
theorem dX1_lived_85 : decode cX1_lived 85 = .ok (.aload_n 0, 1) := dk_42 (dk_at dksX1_lived_3 14 rfl rfl)
theorem dX1_lived_86 : decode cX1_lived 86 = .ok (.getfield 77, 3) := dk_180 0 77 (dk_at dksX1_lived_3 15 rfl rfl)
theorem dX1_lived_89 : decode cX1_lived 89 = .ok (.iconst 3, 1) := dk_6 (dk_at dksX1_lived_3 18 rfl rfl)
theorem dX1_lived_90 : decode cX1_lived 90 = .ok (.aload_n 0, 1) := dk_42 (dk_at dksX1_lived_3 19 rfl rfl)
theorem dX1_lived_91 : decode cX1_lived 91 = .ok (.getfield 44, 3) := dk_180 0 44 (dk_at dksX1_lived_3 20 rfl rfl)
theorem dX1_lived_94 : decode cX1_lived 94 = .ok (.getfield 215, 3) := dk_180 0 215 (dk_at dksX1_lived_4 0 rfl rfl)
theorem dX1_lived_97 : decode cX1_lived 97 = .ok (.iastore, 1) := dk_79 (dk_at dksX1_lived_4 3 rfl rfl)
theorem dX1_lived_98 : decode cX1_lived 98 = .ok (.iload_n 2, 1) := dk_28 (dk_at dksX1_lived_4 4 rfl rfl)
theorem dX1_lived_99 : decode cX1_lived 99 = .ok (.ifCond .eq 24, 3) := dk_153 0 24 (dk_at dksX1_lived_4 5 rfl rfl)
theorem dX1_lived_102 : decode cX1_lived 102 = .ok (.iload 4, 2) := dk_21 4 (dk_at dksX1_lived_4 8 rfl rfl)
theorem dX1_lived_104 : decode cX1_lived 104 = .ok (.ifCond .le 19, 3) := dk_158 0 19 (dk_at dksX1_lived_4 10 rfl rfl)
theorem dX1_lived_107 : decode cX1_lived 107 = .ok (.aload_n 0, 1) := dk_42 (dk_at dksX1_lived_4 13 rfl rfl)
theorem dX1_lived_108 : decode cX1_lived 108 = .ok (.invokevirtual 234, 3) := dk_182 0 234 (dk_at dksX1_lived_4 14 rfl rfl)
theorem dX1_lived_111 : decode cX1_lived 111 = .ok (.aload_n 0, 1) := dk_42 (dk_at dksX1_lived_4 17 rfl rfl)
theorem dX1_lived_112 : decode cX1_lived 112 = .ok (.getfield 40, 3) := dk_180 0 40 (dk_at dksX1_lived_4 18 rfl rfl)
theorem dX1_lived_115 : decode cX1_lived 115 = .ok (.aload_n 0, 1) := dk_42 (dk_at dksX1_lived_4 21 rfl rfl)
theorem dX1_lived_116 : decode cX1_lived 116 = .ok (.getfield 44, 3) := dk_180 0 44 (dk_at dksX1_lived_5 0 rfl rfl)
theorem dX1_lived_119 : decode cX1_lived 119 = .ok (.invokevirtual 224, 3) := dk_182 0 224 (dk_at dksX1_lived_5 3 rfl rfl)
theorem dX1_lived_122 : decode cX1_lived 122 = .ok (.pop, 1) := dk_87 (dk_at dksX1_lived_5 6 rfl rfl)
theorem dX1_lived_123 : decode cX1_lived 123 = .ok (.iload_n 3, 1) := dk_29 (dk_at dksX1_lived_5 7 rfl rfl)
theorem dX1_lived_124 : decode cX1_lived 124 = .ok (.ifCond .ne 7, 3) := dk_154 0 7 (dk_at dksX1_lived_5 8 rfl rfl)
theorem dX1_lived_127 : decode cX1_lived 127 = .ok (.iconst (-1), 1) := dk_2 (dk_at dksX1_lived_5 11 rfl rfl)
theorem dX1_lived_128 : decode cX1_lived 128 = .ok (.goto 5, 3) := dk_167 0 5 (dk_at dksX1_lived_5 12 rfl rfl)
theorem dX1_lived_131 : decode cX1_lived 131 = .ok (.iload 4, 2) := dk_21 4 (dk_at dksX1_lived_5 15 rfl rfl)
theorem dX1_lived_133 : decode cX1_lived 133 = .ok (.ireturn, 1) := dk_172 (dk_at dksX1_lived_5 17 rfl rfl)
abbrev cX1_told : ByteArray := prog_1_method_59_code
def yX1_told : MethodName := ⟨RX1, "told", "(I)I"⟩
def dkwX1_told_0 : List UInt8 := [27, 3, 6, 184, 0, 146, 153, 0, 12, 42, 180, 0, 77, 27, 46, 167, 0, 4, 2, 172]
abbrev dktX1_told_0 : List UInt8 := dkwX1_told_0 ++ []
theorem dksX1_told_0 : cX1_told.data.toList.drop 0 = dktX1_told_0 := by decide +kernel
theorem dX1_told_0 : decode cX1_told 0 = .ok (.iload_n 1, 1) := dk_27 (dk_at dksX1_told_0 0 rfl rfl)
theorem dX1_told_1 : decode cX1_told 1 = .ok (.iconst 0, 1) := dk_3 (dk_at dksX1_told_0 1 rfl rfl)
theorem dX1_told_2 : decode cX1_told 2 = .ok (.iconst 3, 1) := dk_6 (dk_at dksX1_told_0 2 rfl rfl)
theorem dX1_told_3 : decode cX1_told 3 = .ok (.invokestatic 146, 3) := dk_184 0 146 (dk_at dksX1_told_0 3 rfl rfl)
theorem dX1_told_6 : decode cX1_told 6 = .ok (.ifCond .eq 12, 3) := dk_153 0 12 (dk_at dksX1_told_0 6 rfl rfl)
theorem dX1_told_9 : decode cX1_told 9 = .ok (.aload_n 0, 1) := dk_42 (dk_at dksX1_told_0 9 rfl rfl)
theorem dX1_told_10 : decode cX1_told 10 = .ok (.getfield 77, 3) := dk_180 0 77 (dk_at dksX1_told_0 10 rfl rfl)
theorem dX1_told_13 : decode cX1_told 13 = .ok (.iload_n 1, 1) := dk_27 (dk_at dksX1_told_0 13 rfl rfl)
theorem dX1_told_14 : decode cX1_told 14 = .ok (.iaload, 1) := dk_46 (dk_at dksX1_told_0 14 rfl rfl)
theorem dX1_told_15 : decode cX1_told 15 = .ok (.goto 4, 3) := dk_167 0 4 (dk_at dksX1_told_0 15 rfl rfl)
theorem dX1_told_18 : decode cX1_told 18 = .ok (.iconst (-1), 1) := dk_2 (dk_at dksX1_told_0 18 rfl rfl)
theorem dX1_told_19 : decode cX1_told 19 = .ok (.ireturn, 1) := dk_172 (dk_at dksX1_told_0 19 rfl rfl)
abbrev cX1_sentence : ByteArray := prog_1_method_60_code
def yX1_sentence : MethodName := ⟨RX1, "sentence", "()I"⟩
def dkwX1_sentence_2 : List UInt8 := [181, 0, 98, 2, 44, 180, 0, 125, 100, 172]
abbrev dktX1_sentence_2 : List UInt8 := dkwX1_sentence_2 ++ []
def dkwX1_sentence_1 : List UInt8 := [183, 1, 135, 77, 42, 44, 182, 1, 136, 181, 0, 110, 44, 180, 1, 139, 172, 77, 42, 44, 180, 0, 122]
abbrev dktX1_sentence_1 : List UInt8 := dkwX1_sentence_1 ++ dktX1_sentence_2
def dkwX1_sentence_0 : List UInt8 := [42, 182, 0, 94, 60, 42, 3, 181, 0, 98, 187, 1, 133, 89, 42, 180, 0, 22, 27, 42, 180, 0, 29]
abbrev dktX1_sentence_0 : List UInt8 := dkwX1_sentence_0 ++ dktX1_sentence_1
theorem dksX1_sentence_0 : cX1_sentence.data.toList.drop 0 = dktX1_sentence_0 := by decide +kernel
theorem dksX1_sentence_1 : cX1_sentence.data.toList.drop 23 = dktX1_sentence_1 := dk_seg dksX1_sentence_0 23 rfl rfl
theorem dksX1_sentence_2 : cX1_sentence.data.toList.drop 46 = dktX1_sentence_2 := dk_seg dksX1_sentence_1 23 rfl rfl
theorem dX1_sentence_0 : decode cX1_sentence 0 = .ok (.aload_n 0, 1) := dk_42 (dk_at dksX1_sentence_0 0 rfl rfl)
theorem dX1_sentence_1 : decode cX1_sentence 1 = .ok (.invokevirtual 94, 3) := dk_182 0 94 (dk_at dksX1_sentence_0 1 rfl rfl)
theorem dX1_sentence_4 : decode cX1_sentence 4 = .ok (.istore_n 1, 1) := dk_60 (dk_at dksX1_sentence_0 4 rfl rfl)
theorem dX1_sentence_5 : decode cX1_sentence 5 = .ok (.aload_n 0, 1) := dk_42 (dk_at dksX1_sentence_0 5 rfl rfl)
theorem dX1_sentence_6 : decode cX1_sentence 6 = .ok (.iconst 0, 1) := dk_3 (dk_at dksX1_sentence_0 6 rfl rfl)
theorem dX1_sentence_7 : decode cX1_sentence 7 = .ok (.putfield 98, 3) := dk_181 0 98 (dk_at dksX1_sentence_0 7 rfl rfl)
theorem dX1_sentence_10 : decode cX1_sentence 10 = .ok (.new 389, 3) := dk_187 1 133 (dk_at dksX1_sentence_0 10 rfl rfl)
theorem dX1_sentence_13 : decode cX1_sentence 13 = .ok (.dup, 1) := dk_89 (dk_at dksX1_sentence_0 13 rfl rfl)
theorem dX1_sentence_14 : decode cX1_sentence 14 = .ok (.aload_n 0, 1) := dk_42 (dk_at dksX1_sentence_0 14 rfl rfl)
theorem dX1_sentence_15 : decode cX1_sentence 15 = .ok (.getfield 22, 3) := dk_180 0 22 (dk_at dksX1_sentence_0 15 rfl rfl)
theorem dX1_sentence_18 : decode cX1_sentence 18 = .ok (.iload_n 1, 1) := dk_27 (dk_at dksX1_sentence_0 18 rfl rfl)
theorem dX1_sentence_19 : decode cX1_sentence 19 = .ok (.aload_n 0, 1) := dk_42 (dk_at dksX1_sentence_0 19 rfl rfl)
theorem dX1_sentence_20 : decode cX1_sentence 20 = .ok (.getfield 29, 3) := dk_180 0 29 (dk_at dksX1_sentence_0 20 rfl rfl)
theorem dX1_sentence_23 : decode cX1_sentence 23 = .ok (.invokespecial 391, 3) := dk_183 1 135 (dk_at dksX1_sentence_1 0 rfl rfl)
theorem dX1_sentence_26 : decode cX1_sentence 26 = .ok (.astore_n 2, 1) := dk_77 (dk_at dksX1_sentence_1 3 rfl rfl)
theorem dX1_sentence_27 : decode cX1_sentence 27 = .ok (.aload_n 0, 1) := dk_42 (dk_at dksX1_sentence_1 4 rfl rfl)
theorem dX1_sentence_28 : decode cX1_sentence 28 = .ok (.aload_n 2, 1) := dk_44 (dk_at dksX1_sentence_1 5 rfl rfl)
theorem dX1_sentence_29 : decode cX1_sentence 29 = .ok (.invokevirtual 392, 3) := dk_182 1 136 (dk_at dksX1_sentence_1 6 rfl rfl)
theorem dX1_sentence_32 : decode cX1_sentence 32 = .ok (.putfield 110, 3) := dk_181 0 110 (dk_at dksX1_sentence_1 9 rfl rfl)
theorem dX1_sentence_35 : decode cX1_sentence 35 = .ok (.aload_n 2, 1) := dk_44 (dk_at dksX1_sentence_1 12 rfl rfl)
theorem dX1_sentence_36 : decode cX1_sentence 36 = .ok (.getfield 395, 3) := dk_180 1 139 (dk_at dksX1_sentence_1 13 rfl rfl)
theorem dX1_sentence_39 : decode cX1_sentence 39 = .ok (.ireturn, 1) := dk_172 (dk_at dksX1_sentence_1 16 rfl rfl)
theorem dX1_sentence_40 : decode cX1_sentence 40 = .ok (.astore_n 2, 1) := dk_77 (dk_at dksX1_sentence_1 17 rfl rfl)
theorem dX1_sentence_41 : decode cX1_sentence 41 = .ok (.aload_n 0, 1) := dk_42 (dk_at dksX1_sentence_1 18 rfl rfl)
theorem dX1_sentence_42 : decode cX1_sentence 42 = .ok (.aload_n 2, 1) := dk_44 (dk_at dksX1_sentence_1 19 rfl rfl)
theorem dX1_sentence_43 : decode cX1_sentence 43 = .ok (.getfield 122, 3) := dk_180 0 122 (dk_at dksX1_sentence_1 20 rfl rfl)
theorem dX1_sentence_46 : decode cX1_sentence 46 = .ok (.putfield 98, 3) := dk_181 0 98 (dk_at dksX1_sentence_2 0 rfl rfl)
theorem dX1_sentence_49 : decode cX1_sentence 49 = .ok (.iconst (-1), 1) := dk_2 (dk_at dksX1_sentence_2 3 rfl rfl)
theorem dX1_sentence_50 : decode cX1_sentence 50 = .ok (.aload_n 2, 1) := dk_44 (dk_at dksX1_sentence_2 4 rfl rfl)
theorem dX1_sentence_51 : decode cX1_sentence 51 = .ok (.getfield 125, 3) := dk_180 0 125 (dk_at dksX1_sentence_2 5 rfl rfl)
theorem dX1_sentence_54 : decode cX1_sentence 54 = .ok (.isub, 1) := dk_100 (dk_at dksX1_sentence_2 8 rfl rfl)
theorem dX1_sentence_55 : decode cX1_sentence 55 = .ok (.ireturn, 1) := dk_172 (dk_at dksX1_sentence_2 9 rfl rfl)
abbrev cX1_said : ByteArray := prog_1_method_61_code
def yX1_said : MethodName := ⟨RX1, "said", "(I)I"⟩
def dkwX1_said_2 : List UInt8 := [132, 2, 1, 132, 3, 1, 167, 255, 217, 27, 2, 160, 0, 7, 28, 167, 0, 4, 2, 172]
abbrev dktX1_said_2 : List UInt8 := dkwX1_said_2 ++ []
def dkwX1_said_1 : List UInt8 := [180, 0, 110, 42, 180, 0, 40, 29, 182, 1, 142, 154, 0, 6, 167, 0, 13, 28, 27, 160, 0, 5, 29, 172]
abbrev dktX1_said_1 : List UInt8 := dkwX1_said_1 ++ dktX1_said_2
def dkwX1_said_0 : List UInt8 := [42, 180, 0, 110, 199, 0, 5, 2, 172, 3, 61, 3, 62, 29, 42, 182, 0, 201, 162, 0, 37, 42]
abbrev dktX1_said_0 : List UInt8 := dkwX1_said_0 ++ dktX1_said_1
theorem dksX1_said_0 : cX1_said.data.toList.drop 0 = dktX1_said_0 := by decide +kernel
theorem dksX1_said_1 : cX1_said.data.toList.drop 22 = dktX1_said_1 := dk_seg dksX1_said_0 22 rfl rfl
theorem dksX1_said_2 : cX1_said.data.toList.drop 46 = dktX1_said_2 := dk_seg dksX1_said_1 24 rfl rfl
theorem dX1_said_0 : decode cX1_said 0 = .ok (.aload_n 0, 1) := dk_42 (dk_at dksX1_said_0 0 rfl rfl)
theorem dX1_said_1 : decode cX1_said 1 = .ok (.getfield 110, 3) := dk_180 0 110 (dk_at dksX1_said_0 1 rfl rfl)
theorem dX1_said_4 : decode cX1_said 4 = .ok (.ifnonnull 5, 3) := dk_199 0 5 (dk_at dksX1_said_0 4 rfl rfl)
theorem dX1_said_7 : decode cX1_said 7 = .ok (.iconst (-1), 1) := dk_2 (dk_at dksX1_said_0 7 rfl rfl)
theorem dX1_said_8 : decode cX1_said 8 = .ok (.ireturn, 1) := dk_172 (dk_at dksX1_said_0 8 rfl rfl)
theorem dX1_said_9 : decode cX1_said 9 = .ok (.iconst 0, 1) := dk_3 (dk_at dksX1_said_0 9 rfl rfl)
theorem dX1_said_10 : decode cX1_said 10 = .ok (.istore_n 2, 1) := dk_61 (dk_at dksX1_said_0 10 rfl rfl)
theorem dX1_said_11 : decode cX1_said 11 = .ok (.iconst 0, 1) := dk_3 (dk_at dksX1_said_0 11 rfl rfl)
theorem dX1_said_12 : decode cX1_said 12 = .ok (.istore_n 3, 1) := dk_62 (dk_at dksX1_said_0 12 rfl rfl)
theorem dX1_said_13 : decode cX1_said 13 = .ok (.iload_n 3, 1) := dk_29 (dk_at dksX1_said_0 13 rfl rfl)
theorem dX1_said_14 : decode cX1_said 14 = .ok (.aload_n 0, 1) := dk_42 (dk_at dksX1_said_0 14 rfl rfl)
theorem dX1_said_15 : decode cX1_said 15 = .ok (.invokevirtual 201, 3) := dk_182 0 201 (dk_at dksX1_said_0 15 rfl rfl)
theorem dX1_said_18 : decode cX1_said 18 = .ok (.if_icmp .ge 37, 3) := dk_162 0 37 (dk_at dksX1_said_0 18 rfl rfl)
theorem dX1_said_21 : decode cX1_said 21 = .ok (.aload_n 0, 1) := dk_42 (dk_at dksX1_said_0 21 rfl rfl)
theorem dX1_said_22 : decode cX1_said 22 = .ok (.getfield 110, 3) := dk_180 0 110 (dk_at dksX1_said_1 0 rfl rfl)
theorem dX1_said_25 : decode cX1_said 25 = .ok (.aload_n 0, 1) := dk_42 (dk_at dksX1_said_1 3 rfl rfl)
theorem dX1_said_26 : decode cX1_said 26 = .ok (.getfield 40, 3) := dk_180 0 40 (dk_at dksX1_said_1 4 rfl rfl)
theorem dX1_said_29 : decode cX1_said 29 = .ok (.iload_n 3, 1) := dk_29 (dk_at dksX1_said_1 7 rfl rfl)
theorem dX1_said_30 : decode cX1_said 30 = .ok (.invokevirtual 398, 3) := dk_182 1 142 (dk_at dksX1_said_1 8 rfl rfl)
theorem dX1_said_33 : decode cX1_said 33 = .ok (.ifCond .ne 6, 3) := dk_154 0 6 (dk_at dksX1_said_1 11 rfl rfl)
theorem dX1_said_36 : decode cX1_said 36 = .ok (.goto 13, 3) := dk_167 0 13 (dk_at dksX1_said_1 14 rfl rfl)
theorem dX1_said_39 : decode cX1_said 39 = .ok (.iload_n 2, 1) := dk_28 (dk_at dksX1_said_1 17 rfl rfl)
theorem dX1_said_40 : decode cX1_said 40 = .ok (.iload_n 1, 1) := dk_27 (dk_at dksX1_said_1 18 rfl rfl)
theorem dX1_said_41 : decode cX1_said 41 = .ok (.if_icmp .ne 5, 3) := dk_160 0 5 (dk_at dksX1_said_1 19 rfl rfl)
theorem dX1_said_44 : decode cX1_said 44 = .ok (.iload_n 3, 1) := dk_29 (dk_at dksX1_said_1 22 rfl rfl)
theorem dX1_said_45 : decode cX1_said 45 = .ok (.ireturn, 1) := dk_172 (dk_at dksX1_said_1 23 rfl rfl)
theorem dX1_said_46 : decode cX1_said 46 = .ok (.iinc 2 1, 3) := dk_132 2 1 (dk_at dksX1_said_2 0 rfl rfl)
theorem dX1_said_49 : decode cX1_said 49 = .ok (.iinc 3 1, 3) := dk_132 3 1 (dk_at dksX1_said_2 3 rfl rfl)
theorem dX1_said_52 : decode cX1_said 52 = .ok (.goto (-39), 3) := dk_167 255 217 (dk_at dksX1_said_2 6 rfl rfl)
theorem dX1_said_55 : decode cX1_said 55 = .ok (.iload_n 1, 1) := dk_27 (dk_at dksX1_said_2 9 rfl rfl)
theorem dX1_said_56 : decode cX1_said 56 = .ok (.iconst (-1), 1) := dk_2 (dk_at dksX1_said_2 10 rfl rfl)
theorem dX1_said_57 : decode cX1_said 57 = .ok (.if_icmp .ne 7, 3) := dk_160 0 7 (dk_at dksX1_said_2 11 rfl rfl)
theorem dX1_said_60 : decode cX1_said 60 = .ok (.iload_n 2, 1) := dk_28 (dk_at dksX1_said_2 14 rfl rfl)
theorem dX1_said_61 : decode cX1_said 61 = .ok (.goto 4, 3) := dk_167 0 4 (dk_at dksX1_said_2 15 rfl rfl)
theorem dX1_said_64 : decode cX1_said 64 = .ok (.iconst (-1), 1) := dk_2 (dk_at dksX1_said_2 18 rfl rfl)
theorem dX1_said_65 : decode cX1_said 65 = .ok (.ireturn, 1) := dk_172 (dk_at dksX1_said_2 19 rfl rfl)
abbrev cX1_image : ByteArray := prog_1_method_62_code
def yX1_image : MethodName := ⟨RX1, "image", "(I)Z"⟩
def dkwX1_image_2 : List UInt8 := [180, 0, 40, 182, 0, 224, 87, 4, 172]
abbrev dktX1_image_2 : List UInt8 := dkwX1_image_2 ++ []
def dkwX1_image_1 : List UInt8 := [42, 180, 0, 83, 27, 50, 42, 180, 0, 110, 181, 1, 149, 42, 180, 0, 83, 27, 50, 180, 1, 150, 42]
abbrev dktX1_image_1 : List UInt8 := dkwX1_image_1 ++ dktX1_image_2
def dkwX1_image_0 : List UInt8 := [27, 3, 4, 184, 0, 146, 154, 0, 5, 3, 172, 42, 180, 0, 83, 27, 50, 42, 180, 0, 29, 181, 1, 148]
abbrev dktX1_image_0 : List UInt8 := dkwX1_image_0 ++ dktX1_image_1
theorem dksX1_image_0 : cX1_image.data.toList.drop 0 = dktX1_image_0 := by decide +kernel
theorem dksX1_image_1 : cX1_image.data.toList.drop 24 = dktX1_image_1 := dk_seg dksX1_image_0 24 rfl rfl
theorem dksX1_image_2 : cX1_image.data.toList.drop 47 = dktX1_image_2 := dk_seg dksX1_image_1 23 rfl rfl
theorem dX1_image_0 : decode cX1_image 0 = .ok (.iload_n 1, 1) := dk_27 (dk_at dksX1_image_0 0 rfl rfl)
theorem dX1_image_1 : decode cX1_image 1 = .ok (.iconst 0, 1) := dk_3 (dk_at dksX1_image_0 1 rfl rfl)
theorem dX1_image_2 : decode cX1_image 2 = .ok (.iconst 1, 1) := dk_4 (dk_at dksX1_image_0 2 rfl rfl)
theorem dX1_image_3 : decode cX1_image 3 = .ok (.invokestatic 146, 3) := dk_184 0 146 (dk_at dksX1_image_0 3 rfl rfl)
theorem dX1_image_6 : decode cX1_image 6 = .ok (.ifCond .ne 5, 3) := dk_154 0 5 (dk_at dksX1_image_0 6 rfl rfl)
theorem dX1_image_9 : decode cX1_image 9 = .ok (.iconst 0, 1) := dk_3 (dk_at dksX1_image_0 9 rfl rfl)
theorem dX1_image_10 : decode cX1_image 10 = .ok (.ireturn, 1) := dk_172 (dk_at dksX1_image_0 10 rfl rfl)
theorem dX1_image_11 : decode cX1_image 11 = .ok (.aload_n 0, 1) := dk_42 (dk_at dksX1_image_0 11 rfl rfl)
theorem dX1_image_12 : decode cX1_image 12 = .ok (.getfield 83, 3) := dk_180 0 83 (dk_at dksX1_image_0 12 rfl rfl)
theorem dX1_image_15 : decode cX1_image 15 = .ok (.iload_n 1, 1) := dk_27 (dk_at dksX1_image_0 15 rfl rfl)
theorem dX1_image_16 : decode cX1_image 16 = .ok (.aaload, 1) := dk_50 (dk_at dksX1_image_0 16 rfl rfl)
theorem dX1_image_17 : decode cX1_image 17 = .ok (.aload_n 0, 1) := dk_42 (dk_at dksX1_image_0 17 rfl rfl)
theorem dX1_image_18 : decode cX1_image 18 = .ok (.getfield 29, 3) := dk_180 0 29 (dk_at dksX1_image_0 18 rfl rfl)
theorem dX1_image_21 : decode cX1_image 21 = .ok (.putfield 404, 3) := dk_181 1 148 (dk_at dksX1_image_0 21 rfl rfl)
theorem dX1_image_24 : decode cX1_image 24 = .ok (.aload_n 0, 1) := dk_42 (dk_at dksX1_image_1 0 rfl rfl)
theorem dX1_image_25 : decode cX1_image 25 = .ok (.getfield 83, 3) := dk_180 0 83 (dk_at dksX1_image_1 1 rfl rfl)
theorem dX1_image_28 : decode cX1_image 28 = .ok (.iload_n 1, 1) := dk_27 (dk_at dksX1_image_1 4 rfl rfl)
theorem dX1_image_29 : decode cX1_image 29 = .ok (.aaload, 1) := dk_50 (dk_at dksX1_image_1 5 rfl rfl)
theorem dX1_image_30 : decode cX1_image 30 = .ok (.aload_n 0, 1) := dk_42 (dk_at dksX1_image_1 6 rfl rfl)
theorem dX1_image_31 : decode cX1_image 31 = .ok (.getfield 110, 3) := dk_180 0 110 (dk_at dksX1_image_1 7 rfl rfl)
theorem dX1_image_34 : decode cX1_image 34 = .ok (.putfield 405, 3) := dk_181 1 149 (dk_at dksX1_image_1 10 rfl rfl)
theorem dX1_image_37 : decode cX1_image 37 = .ok (.aload_n 0, 1) := dk_42 (dk_at dksX1_image_1 13 rfl rfl)
theorem dX1_image_38 : decode cX1_image 38 = .ok (.getfield 83, 3) := dk_180 0 83 (dk_at dksX1_image_1 14 rfl rfl)
theorem dX1_image_41 : decode cX1_image 41 = .ok (.iload_n 1, 1) := dk_27 (dk_at dksX1_image_1 17 rfl rfl)
theorem dX1_image_42 : decode cX1_image 42 = .ok (.aaload, 1) := dk_50 (dk_at dksX1_image_1 18 rfl rfl)
theorem dX1_image_43 : decode cX1_image 43 = .ok (.getfield 406, 3) := dk_180 1 150 (dk_at dksX1_image_1 19 rfl rfl)
theorem dX1_image_46 : decode cX1_image 46 = .ok (.aload_n 0, 1) := dk_42 (dk_at dksX1_image_1 22 rfl rfl)
theorem dX1_image_47 : decode cX1_image 47 = .ok (.getfield 40, 3) := dk_180 0 40 (dk_at dksX1_image_2 0 rfl rfl)
theorem dX1_image_50 : decode cX1_image 50 = .ok (.invokevirtual 224, 3) := dk_182 0 224 (dk_at dksX1_image_2 3 rfl rfl)
theorem dX1_image_53 : decode cX1_image 53 = .ok (.pop, 1) := dk_87 (dk_at dksX1_image_2 6 rfl rfl)
theorem dX1_image_54 : decode cX1_image 54 = .ok (.iconst 1, 1) := dk_4 (dk_at dksX1_image_2 7 rfl rfl)
theorem dX1_image_55 : decode cX1_image 55 = .ok (.ireturn, 1) := dk_172 (dk_at dksX1_image_2 8 rfl rfl)
abbrev cX1_restore : ByteArray := prog_1_method_63_code
def yX1_restore : MethodName := ⟨RX1, "restore", "(I)Z"⟩
def dkwX1_restore_3 : List UInt8 := [181, 0, 114, 4, 172]
abbrev dktX1_restore_3 : List UInt8 := dkwX1_restore_3 ++ []
def dkwX1_restore_2 : List UInt8 := [181, 0, 110, 42, 180, 0, 40, 42, 180, 0, 83, 27, 50, 180, 1, 150, 182, 0, 224, 87, 42, 3]
abbrev dktX1_restore_2 : List UInt8 := dkwX1_restore_2 ++ dktX1_restore_3
def dkwX1_restore_1 : List UInt8 := [42, 180, 0, 83, 27, 50, 180, 1, 148, 181, 0, 29, 42, 42, 180, 0, 83, 27, 50, 180, 1, 149]
abbrev dktX1_restore_1 : List UInt8 := dkwX1_restore_1 ++ dktX1_restore_2
def dkwX1_restore_0 : List UInt8 := [27, 3, 4, 184, 0, 146, 153, 0, 15, 42, 180, 0, 83, 27, 50, 180, 1, 148, 199, 0, 5, 3, 172, 42]
abbrev dktX1_restore_0 : List UInt8 := dkwX1_restore_0 ++ dktX1_restore_1
theorem dksX1_restore_0 : cX1_restore.data.toList.drop 0 = dktX1_restore_0 := by decide +kernel
theorem dksX1_restore_1 : cX1_restore.data.toList.drop 24 = dktX1_restore_1 := dk_seg dksX1_restore_0 24 rfl rfl
theorem dksX1_restore_2 : cX1_restore.data.toList.drop 46 = dktX1_restore_2 := dk_seg dksX1_restore_1 22 rfl rfl
theorem dksX1_restore_3 : cX1_restore.data.toList.drop 68 = dktX1_restore_3 := dk_seg dksX1_restore_2 22 rfl rfl
theorem dX1_restore_0 : decode cX1_restore 0 = .ok (.iload_n 1, 1) := dk_27 (dk_at dksX1_restore_0 0 rfl rfl)
theorem dX1_restore_1 : decode cX1_restore 1 = .ok (.iconst 0, 1) := dk_3 (dk_at dksX1_restore_0 1 rfl rfl)
theorem dX1_restore_2 : decode cX1_restore 2 = .ok (.iconst 1, 1) := dk_4 (dk_at dksX1_restore_0 2 rfl rfl)
theorem dX1_restore_3 : decode cX1_restore 3 = .ok (.invokestatic 146, 3) := dk_184 0 146 (dk_at dksX1_restore_0 3 rfl rfl)
theorem dX1_restore_6 : decode cX1_restore 6 = .ok (.ifCond .eq 15, 3) := dk_153 0 15 (dk_at dksX1_restore_0 6 rfl rfl)
theorem dX1_restore_9 : decode cX1_restore 9 = .ok (.aload_n 0, 1) := dk_42 (dk_at dksX1_restore_0 9 rfl rfl)
theorem dX1_restore_10 : decode cX1_restore 10 = .ok (.getfield 83, 3) := dk_180 0 83 (dk_at dksX1_restore_0 10 rfl rfl)
theorem dX1_restore_13 : decode cX1_restore 13 = .ok (.iload_n 1, 1) := dk_27 (dk_at dksX1_restore_0 13 rfl rfl)
theorem dX1_restore_14 : decode cX1_restore 14 = .ok (.aaload, 1) := dk_50 (dk_at dksX1_restore_0 14 rfl rfl)
theorem dX1_restore_15 : decode cX1_restore 15 = .ok (.getfield 404, 3) := dk_180 1 148 (dk_at dksX1_restore_0 15 rfl rfl)
theorem dX1_restore_18 : decode cX1_restore 18 = .ok (.ifnonnull 5, 3) := dk_199 0 5 (dk_at dksX1_restore_0 18 rfl rfl)
theorem dX1_restore_21 : decode cX1_restore 21 = .ok (.iconst 0, 1) := dk_3 (dk_at dksX1_restore_0 21 rfl rfl)
theorem dX1_restore_22 : decode cX1_restore 22 = .ok (.ireturn, 1) := dk_172 (dk_at dksX1_restore_0 22 rfl rfl)
theorem dX1_restore_23 : decode cX1_restore 23 = .ok (.aload_n 0, 1) := dk_42 (dk_at dksX1_restore_0 23 rfl rfl)
theorem dX1_restore_24 : decode cX1_restore 24 = .ok (.aload_n 0, 1) := dk_42 (dk_at dksX1_restore_1 0 rfl rfl)
theorem dX1_restore_25 : decode cX1_restore 25 = .ok (.getfield 83, 3) := dk_180 0 83 (dk_at dksX1_restore_1 1 rfl rfl)
theorem dX1_restore_28 : decode cX1_restore 28 = .ok (.iload_n 1, 1) := dk_27 (dk_at dksX1_restore_1 4 rfl rfl)
theorem dX1_restore_29 : decode cX1_restore 29 = .ok (.aaload, 1) := dk_50 (dk_at dksX1_restore_1 5 rfl rfl)
theorem dX1_restore_30 : decode cX1_restore 30 = .ok (.getfield 404, 3) := dk_180 1 148 (dk_at dksX1_restore_1 6 rfl rfl)
theorem dX1_restore_33 : decode cX1_restore 33 = .ok (.putfield 29, 3) := dk_181 0 29 (dk_at dksX1_restore_1 9 rfl rfl)
theorem dX1_restore_36 : decode cX1_restore 36 = .ok (.aload_n 0, 1) := dk_42 (dk_at dksX1_restore_1 12 rfl rfl)
theorem dX1_restore_37 : decode cX1_restore 37 = .ok (.aload_n 0, 1) := dk_42 (dk_at dksX1_restore_1 13 rfl rfl)
theorem dX1_restore_38 : decode cX1_restore 38 = .ok (.getfield 83, 3) := dk_180 0 83 (dk_at dksX1_restore_1 14 rfl rfl)
theorem dX1_restore_41 : decode cX1_restore 41 = .ok (.iload_n 1, 1) := dk_27 (dk_at dksX1_restore_1 17 rfl rfl)
theorem dX1_restore_42 : decode cX1_restore 42 = .ok (.aaload, 1) := dk_50 (dk_at dksX1_restore_1 18 rfl rfl)
theorem dX1_restore_43 : decode cX1_restore 43 = .ok (.getfield 405, 3) := dk_180 1 149 (dk_at dksX1_restore_1 19 rfl rfl)
theorem dX1_restore_46 : decode cX1_restore 46 = .ok (.putfield 110, 3) := dk_181 0 110 (dk_at dksX1_restore_2 0 rfl rfl)
theorem dX1_restore_49 : decode cX1_restore 49 = .ok (.aload_n 0, 1) := dk_42 (dk_at dksX1_restore_2 3 rfl rfl)
theorem dX1_restore_50 : decode cX1_restore 50 = .ok (.getfield 40, 3) := dk_180 0 40 (dk_at dksX1_restore_2 4 rfl rfl)
theorem dX1_restore_53 : decode cX1_restore 53 = .ok (.aload_n 0, 1) := dk_42 (dk_at dksX1_restore_2 7 rfl rfl)
theorem dX1_restore_54 : decode cX1_restore 54 = .ok (.getfield 83, 3) := dk_180 0 83 (dk_at dksX1_restore_2 8 rfl rfl)
theorem dX1_restore_57 : decode cX1_restore 57 = .ok (.iload_n 1, 1) := dk_27 (dk_at dksX1_restore_2 11 rfl rfl)
theorem dX1_restore_58 : decode cX1_restore 58 = .ok (.aaload, 1) := dk_50 (dk_at dksX1_restore_2 12 rfl rfl)
theorem dX1_restore_59 : decode cX1_restore 59 = .ok (.getfield 406, 3) := dk_180 1 150 (dk_at dksX1_restore_2 13 rfl rfl)
theorem dX1_restore_62 : decode cX1_restore 62 = .ok (.invokevirtual 224, 3) := dk_182 0 224 (dk_at dksX1_restore_2 16 rfl rfl)
theorem dX1_restore_65 : decode cX1_restore 65 = .ok (.pop, 1) := dk_87 (dk_at dksX1_restore_2 19 rfl rfl)
theorem dX1_restore_66 : decode cX1_restore 66 = .ok (.aload_n 0, 1) := dk_42 (dk_at dksX1_restore_2 20 rfl rfl)
theorem dX1_restore_67 : decode cX1_restore 67 = .ok (.iconst 0, 1) := dk_3 (dk_at dksX1_restore_2 21 rfl rfl)
theorem dX1_restore_68 : decode cX1_restore 68 = .ok (.putfield 114, 3) := dk_181 0 114 (dk_at dksX1_restore_3 0 rfl rfl)
theorem dX1_restore_71 : decode cX1_restore 71 = .ok (.iconst 1, 1) := dk_4 (dk_at dksX1_restore_3 3 rfl rfl)
theorem dX1_restore_72 : decode cX1_restore 72 = .ok (.ireturn, 1) := dk_172 (dk_at dksX1_restore_3 4 rfl rfl)
abbrev cX1_count : ByteArray := prog_1_method_64_code
def yX1_count : MethodName := ⟨RX1, "count", "(I)I"⟩
def dkwX1_count_3 : List UInt8 := [180, 0, 87, 172, 2, 172]
abbrev dktX1_count_3 : List UInt8 := dkwX1_count_3 ++ []
def dkwX1_count_2 : List UInt8 := [42, 182, 0, 201, 172, 42, 180, 0, 29, 180, 1, 153, 172, 42, 180, 0, 29, 180, 1, 156, 172, 42]
abbrev dktX1_count_2 : List UInt8 := dkwX1_count_2 ++ dktX1_count_3
def dkwX1_count_1 : List UInt8 := [170, 0, 0, 0, 0, 0, 57, 0, 0, 0, 0, 0, 0, 0, 3, 0, 0, 0, 31, 0, 0, 0, 36, 0, 0, 0, 44, 0, 0, 0, 52]
abbrev dktX1_count_1 : List UInt8 := dkwX1_count_1 ++ dktX1_count_2
def dkwX1_count_0 : List UInt8 := [27]
abbrev dktX1_count_0 : List UInt8 := dkwX1_count_0 ++ dktX1_count_1
theorem dksX1_count_0 : cX1_count.data.toList.drop 0 = dktX1_count_0 := by decide +kernel
theorem dksX1_count_1 : cX1_count.data.toList.drop 1 = dktX1_count_1 := dk_seg dksX1_count_0 1 rfl rfl
theorem dksX1_count_2 : cX1_count.data.toList.drop 32 = dktX1_count_2 := dk_seg dksX1_count_1 31 rfl rfl
theorem dksX1_count_3 : cX1_count.data.toList.drop 54 = dktX1_count_3 := dk_seg dksX1_count_2 22 rfl rfl
theorem dX1_count_0 : decode cX1_count 0 = .ok (.iload_n 1, 1) := dk_27 (dk_at dksX1_count_0 0 rfl rfl)
theorem dX1_count_1 : decode cX1_count 1 = .ok (.tableswitch 57 0 3 #[31, 36, 44, 52], 31) := by decide +kernel
theorem dX1_count_32 : decode cX1_count 32 = .ok (.aload_n 0, 1) := dk_42 (dk_at dksX1_count_2 0 rfl rfl)
theorem dX1_count_33 : decode cX1_count 33 = .ok (.invokevirtual 201, 3) := dk_182 0 201 (dk_at dksX1_count_2 1 rfl rfl)
theorem dX1_count_36 : decode cX1_count 36 = .ok (.ireturn, 1) := dk_172 (dk_at dksX1_count_2 4 rfl rfl)
theorem dX1_count_37 : decode cX1_count 37 = .ok (.aload_n 0, 1) := dk_42 (dk_at dksX1_count_2 5 rfl rfl)
theorem dX1_count_38 : decode cX1_count 38 = .ok (.getfield 29, 3) := dk_180 0 29 (dk_at dksX1_count_2 6 rfl rfl)
theorem dX1_count_41 : decode cX1_count 41 = .ok (.getfield 409, 3) := dk_180 1 153 (dk_at dksX1_count_2 9 rfl rfl)
theorem dX1_count_44 : decode cX1_count 44 = .ok (.ireturn, 1) := dk_172 (dk_at dksX1_count_2 12 rfl rfl)
theorem dX1_count_45 : decode cX1_count 45 = .ok (.aload_n 0, 1) := dk_42 (dk_at dksX1_count_2 13 rfl rfl)
theorem dX1_count_46 : decode cX1_count 46 = .ok (.getfield 29, 3) := dk_180 0 29 (dk_at dksX1_count_2 14 rfl rfl)
theorem dX1_count_49 : decode cX1_count 49 = .ok (.getfield 412, 3) := dk_180 1 156 (dk_at dksX1_count_2 17 rfl rfl)
theorem dX1_count_52 : decode cX1_count 52 = .ok (.ireturn, 1) := dk_172 (dk_at dksX1_count_2 20 rfl rfl)
theorem dX1_count_53 : decode cX1_count 53 = .ok (.aload_n 0, 1) := dk_42 (dk_at dksX1_count_2 21 rfl rfl)
theorem dX1_count_54 : decode cX1_count 54 = .ok (.getfield 87, 3) := dk_180 0 87 (dk_at dksX1_count_3 0 rfl rfl)
theorem dX1_count_57 : decode cX1_count 57 = .ok (.ireturn, 1) := dk_172 (dk_at dksX1_count_3 3 rfl rfl)
theorem dX1_count_58 : decode cX1_count 58 = .ok (.iconst (-1), 1) := dk_2 (dk_at dksX1_count_3 4 rfl rfl)
theorem dX1_count_59 : decode cX1_count 59 = .ok (.ireturn, 1) := dk_172 (dk_at dksX1_count_3 5 rfl rfl)
abbrev cX1_person : ByteArray := prog_1_method_18_code
def yX1_person : MethodName := ⟨RX1, "person", "(II)I"⟩
def dkwX1_person_6 : List UInt8 := [172, 42, 180, 0, 40, 27, 182, 0, 180, 172, 42, 27, 182, 0, 154, 180, 0, 183, 172]
abbrev dktX1_person_6 : List UInt8 := dkwX1_person_6 ++ []
def dkwX1_person_5 : List UInt8 := [182, 0, 154, 180, 0, 171, 172, 42, 27, 182, 0, 154, 180, 0, 174, 172, 42, 180, 0, 40, 27, 182, 0, 177]
abbrev dktX1_person_5 : List UInt8 := dkwX1_person_5 ++ dktX1_person_6
def dkwX1_person_4 : List UInt8 := [182, 0, 165, 153, 0, 7, 4, 167, 0, 4, 3, 172, 42, 180, 0, 40, 180, 0, 168, 27, 46, 172, 42, 27]
abbrev dktX1_person_4 : List UInt8 := dkwX1_person_4 ++ dktX1_person_5
def dkwX1_person_3 : List UInt8 := [42, 27, 182, 0, 154, 180, 0, 157, 172, 42, 180, 0, 40, 180, 0, 162, 27, 46, 172, 42, 180, 0, 40, 27]
abbrev dktX1_person_3 : List UInt8 := dkwX1_person_3 ++ dktX1_person_4
def dkwX1_person_2 : List UInt8 := [170, 0, 0, 0, 127, 0, 0, 0, 0, 0, 0, 0, 7, 0, 0, 0, 45, 0, 0, 0, 54, 0, 0, 0, 64, 0, 0, 0, 81, 0, 0, 0, 91, 0, 0, 0, 100, 0, 0, 0, 109, 0, 0, 0, 118]
abbrev dktX1_person_2 : List UInt8 := dkwX1_person_2 ++ dktX1_person_3
def dkwX1_person_1 : List UInt8 := [184, 0, 150, 28]
abbrev dktX1_person_1 : List UInt8 := dkwX1_person_1 ++ dktX1_person_2
def dkwX1_person_0 : List UInt8 := [42, 27, 182, 0, 132, 153, 0, 17, 28, 3, 16, 8, 184, 0, 146, 153, 0, 7, 4, 167, 0, 4, 3]
abbrev dktX1_person_0 : List UInt8 := dkwX1_person_0 ++ dktX1_person_1
theorem dksX1_person_0 : cX1_person.data.toList.drop 0 = dktX1_person_0 := by decide +kernel
theorem dksX1_person_1 : cX1_person.data.toList.drop 23 = dktX1_person_1 := dk_seg dksX1_person_0 23 rfl rfl
theorem dksX1_person_2 : cX1_person.data.toList.drop 27 = dktX1_person_2 := dk_seg dksX1_person_1 4 rfl rfl
theorem dksX1_person_3 : cX1_person.data.toList.drop 72 = dktX1_person_3 := dk_seg dksX1_person_2 45 rfl rfl
theorem dksX1_person_4 : cX1_person.data.toList.drop 96 = dktX1_person_4 := dk_seg dksX1_person_3 24 rfl rfl
theorem dksX1_person_5 : cX1_person.data.toList.drop 120 = dktX1_person_5 := dk_seg dksX1_person_4 24 rfl rfl
theorem dksX1_person_6 : cX1_person.data.toList.drop 144 = dktX1_person_6 := dk_seg dksX1_person_5 24 rfl rfl
theorem dX1_person_0 : decode cX1_person 0 = .ok (.aload_n 0, 1) := dk_42 (dk_at dksX1_person_0 0 rfl rfl)
theorem dX1_person_1 : decode cX1_person 1 = .ok (.iload_n 1, 1) := dk_27 (dk_at dksX1_person_0 1 rfl rfl)
theorem dX1_person_2 : decode cX1_person 2 = .ok (.invokevirtual 132, 3) := dk_182 0 132 (dk_at dksX1_person_0 2 rfl rfl)
theorem dX1_person_5 : decode cX1_person 5 = .ok (.ifCond .eq 17, 3) := dk_153 0 17 (dk_at dksX1_person_0 5 rfl rfl)
theorem dX1_person_8 : decode cX1_person 8 = .ok (.iload_n 2, 1) := dk_28 (dk_at dksX1_person_0 8 rfl rfl)
theorem dX1_person_9 : decode cX1_person 9 = .ok (.iconst 0, 1) := dk_3 (dk_at dksX1_person_0 9 rfl rfl)
theorem dX1_person_10 : decode cX1_person 10 = .ok (.bipush 8, 2) := dk_16 8 (dk_at dksX1_person_0 10 rfl rfl)
theorem dX1_person_12 : decode cX1_person 12 = .ok (.invokestatic 146, 3) := dk_184 0 146 (dk_at dksX1_person_0 12 rfl rfl)
theorem dX1_person_15 : decode cX1_person 15 = .ok (.ifCond .eq 7, 3) := dk_153 0 7 (dk_at dksX1_person_0 15 rfl rfl)
theorem dX1_person_18 : decode cX1_person 18 = .ok (.iconst 1, 1) := dk_4 (dk_at dksX1_person_0 18 rfl rfl)
theorem dX1_person_19 : decode cX1_person 19 = .ok (.goto 4, 3) := dk_167 0 4 (dk_at dksX1_person_0 19 rfl rfl)
theorem dX1_person_22 : decode cX1_person 22 = .ok (.iconst 0, 1) := dk_3 (dk_at dksX1_person_0 22 rfl rfl)
theorem dX1_person_23 : decode cX1_person 23 = .ok (.invokestatic 150, 3) := dk_184 0 150 (dk_at dksX1_person_1 0 rfl rfl)
theorem dX1_person_26 : decode cX1_person 26 = .ok (.iload_n 2, 1) := dk_28 (dk_at dksX1_person_1 3 rfl rfl)
theorem dX1_person_27 : decode cX1_person 27 = .ok (.tableswitch 127 0 7 #[45, 54, 64, 81, 91, 100, 109, 118], 45) := by decide +kernel
theorem dX1_person_72 : decode cX1_person 72 = .ok (.aload_n 0, 1) := dk_42 (dk_at dksX1_person_3 0 rfl rfl)
theorem dX1_person_73 : decode cX1_person 73 = .ok (.iload_n 1, 1) := dk_27 (dk_at dksX1_person_3 1 rfl rfl)
theorem dX1_person_74 : decode cX1_person 74 = .ok (.invokevirtual 154, 3) := dk_182 0 154 (dk_at dksX1_person_3 2 rfl rfl)
theorem dX1_person_77 : decode cX1_person 77 = .ok (.getfield 157, 3) := dk_180 0 157 (dk_at dksX1_person_3 5 rfl rfl)
theorem dX1_person_80 : decode cX1_person 80 = .ok (.ireturn, 1) := dk_172 (dk_at dksX1_person_3 8 rfl rfl)
theorem dX1_person_81 : decode cX1_person 81 = .ok (.aload_n 0, 1) := dk_42 (dk_at dksX1_person_3 9 rfl rfl)
theorem dX1_person_82 : decode cX1_person 82 = .ok (.getfield 40, 3) := dk_180 0 40 (dk_at dksX1_person_3 10 rfl rfl)
theorem dX1_person_85 : decode cX1_person 85 = .ok (.getfield 162, 3) := dk_180 0 162 (dk_at dksX1_person_3 13 rfl rfl)
theorem dX1_person_88 : decode cX1_person 88 = .ok (.iload_n 1, 1) := dk_27 (dk_at dksX1_person_3 16 rfl rfl)
theorem dX1_person_89 : decode cX1_person 89 = .ok (.iaload, 1) := dk_46 (dk_at dksX1_person_3 17 rfl rfl)
theorem dX1_person_90 : decode cX1_person 90 = .ok (.ireturn, 1) := dk_172 (dk_at dksX1_person_3 18 rfl rfl)
theorem dX1_person_91 : decode cX1_person 91 = .ok (.aload_n 0, 1) := dk_42 (dk_at dksX1_person_3 19 rfl rfl)
theorem dX1_person_92 : decode cX1_person 92 = .ok (.getfield 40, 3) := dk_180 0 40 (dk_at dksX1_person_3 20 rfl rfl)
theorem dX1_person_95 : decode cX1_person 95 = .ok (.iload_n 1, 1) := dk_27 (dk_at dksX1_person_3 23 rfl rfl)
theorem dX1_person_96 : decode cX1_person 96 = .ok (.invokevirtual 165, 3) := dk_182 0 165 (dk_at dksX1_person_4 0 rfl rfl)
theorem dX1_person_99 : decode cX1_person 99 = .ok (.ifCond .eq 7, 3) := dk_153 0 7 (dk_at dksX1_person_4 3 rfl rfl)
theorem dX1_person_102 : decode cX1_person 102 = .ok (.iconst 1, 1) := dk_4 (dk_at dksX1_person_4 6 rfl rfl)
theorem dX1_person_103 : decode cX1_person 103 = .ok (.goto 4, 3) := dk_167 0 4 (dk_at dksX1_person_4 7 rfl rfl)
theorem dX1_person_106 : decode cX1_person 106 = .ok (.iconst 0, 1) := dk_3 (dk_at dksX1_person_4 10 rfl rfl)
theorem dX1_person_107 : decode cX1_person 107 = .ok (.ireturn, 1) := dk_172 (dk_at dksX1_person_4 11 rfl rfl)
theorem dX1_person_108 : decode cX1_person 108 = .ok (.aload_n 0, 1) := dk_42 (dk_at dksX1_person_4 12 rfl rfl)
theorem dX1_person_109 : decode cX1_person 109 = .ok (.getfield 40, 3) := dk_180 0 40 (dk_at dksX1_person_4 13 rfl rfl)
theorem dX1_person_112 : decode cX1_person 112 = .ok (.getfield 168, 3) := dk_180 0 168 (dk_at dksX1_person_4 16 rfl rfl)
theorem dX1_person_115 : decode cX1_person 115 = .ok (.iload_n 1, 1) := dk_27 (dk_at dksX1_person_4 19 rfl rfl)
theorem dX1_person_116 : decode cX1_person 116 = .ok (.iaload, 1) := dk_46 (dk_at dksX1_person_4 20 rfl rfl)
theorem dX1_person_117 : decode cX1_person 117 = .ok (.ireturn, 1) := dk_172 (dk_at dksX1_person_4 21 rfl rfl)
theorem dX1_person_118 : decode cX1_person 118 = .ok (.aload_n 0, 1) := dk_42 (dk_at dksX1_person_4 22 rfl rfl)
theorem dX1_person_119 : decode cX1_person 119 = .ok (.iload_n 1, 1) := dk_27 (dk_at dksX1_person_4 23 rfl rfl)
theorem dX1_person_120 : decode cX1_person 120 = .ok (.invokevirtual 154, 3) := dk_182 0 154 (dk_at dksX1_person_5 0 rfl rfl)
theorem dX1_person_123 : decode cX1_person 123 = .ok (.getfield 171, 3) := dk_180 0 171 (dk_at dksX1_person_5 3 rfl rfl)
theorem dX1_person_126 : decode cX1_person 126 = .ok (.ireturn, 1) := dk_172 (dk_at dksX1_person_5 6 rfl rfl)
theorem dX1_person_127 : decode cX1_person 127 = .ok (.aload_n 0, 1) := dk_42 (dk_at dksX1_person_5 7 rfl rfl)
theorem dX1_person_128 : decode cX1_person 128 = .ok (.iload_n 1, 1) := dk_27 (dk_at dksX1_person_5 8 rfl rfl)
theorem dX1_person_129 : decode cX1_person 129 = .ok (.invokevirtual 154, 3) := dk_182 0 154 (dk_at dksX1_person_5 9 rfl rfl)
theorem dX1_person_132 : decode cX1_person 132 = .ok (.getfield 174, 3) := dk_180 0 174 (dk_at dksX1_person_5 12 rfl rfl)
theorem dX1_person_135 : decode cX1_person 135 = .ok (.ireturn, 1) := dk_172 (dk_at dksX1_person_5 15 rfl rfl)
theorem dX1_person_136 : decode cX1_person 136 = .ok (.aload_n 0, 1) := dk_42 (dk_at dksX1_person_5 16 rfl rfl)
theorem dX1_person_137 : decode cX1_person 137 = .ok (.getfield 40, 3) := dk_180 0 40 (dk_at dksX1_person_5 17 rfl rfl)
theorem dX1_person_140 : decode cX1_person 140 = .ok (.iload_n 1, 1) := dk_27 (dk_at dksX1_person_5 20 rfl rfl)
theorem dX1_person_141 : decode cX1_person 141 = .ok (.invokevirtual 177, 3) := dk_182 0 177 (dk_at dksX1_person_5 21 rfl rfl)
theorem dX1_person_144 : decode cX1_person 144 = .ok (.ireturn, 1) := dk_172 (dk_at dksX1_person_6 0 rfl rfl)
theorem dX1_person_145 : decode cX1_person 145 = .ok (.aload_n 0, 1) := dk_42 (dk_at dksX1_person_6 1 rfl rfl)
theorem dX1_person_146 : decode cX1_person 146 = .ok (.getfield 40, 3) := dk_180 0 40 (dk_at dksX1_person_6 2 rfl rfl)
theorem dX1_person_149 : decode cX1_person 149 = .ok (.iload_n 1, 1) := dk_27 (dk_at dksX1_person_6 5 rfl rfl)
theorem dX1_person_150 : decode cX1_person 150 = .ok (.invokevirtual 180, 3) := dk_182 0 180 (dk_at dksX1_person_6 6 rfl rfl)
theorem dX1_person_153 : decode cX1_person 153 = .ok (.ireturn, 1) := dk_172 (dk_at dksX1_person_6 9 rfl rfl)
theorem dX1_person_154 : decode cX1_person 154 = .ok (.aload_n 0, 1) := dk_42 (dk_at dksX1_person_6 10 rfl rfl)
theorem dX1_person_155 : decode cX1_person 155 = .ok (.iload_n 1, 1) := dk_27 (dk_at dksX1_person_6 11 rfl rfl)
theorem dX1_person_156 : decode cX1_person 156 = .ok (.invokevirtual 154, 3) := dk_182 0 154 (dk_at dksX1_person_6 12 rfl rfl)
theorem dX1_person_159 : decode cX1_person 159 = .ok (.getfield 183, 3) := dk_180 0 183 (dk_at dksX1_person_6 15 rfl rfl)
theorem dX1_person_162 : decode cX1_person 162 = .ok (.ireturn, 1) := dk_172 (dk_at dksX1_person_6 18 rfl rfl)
abbrev cX1_need : ByteArray := prog_1_method_4_code
def yX1_need : MethodName := ⟨RX1, "need", "(Z)V"⟩
def dkwX1_need_0 : List UInt8 := [26, 154, 0, 11, 187, 0, 7, 89, 183, 0, 9, 191, 177]
abbrev dktX1_need_0 : List UInt8 := dkwX1_need_0 ++ []
theorem dksX1_need_0 : cX1_need.data.toList.drop 0 = dktX1_need_0 := by decide +kernel
theorem dX1_need_0 : decode cX1_need 0 = .ok (.iload_n 0, 1) := dk_26 (dk_at dksX1_need_0 0 rfl rfl)
theorem dX1_need_1 : decode cX1_need 1 = .ok (.ifCond .ne 11, 3) := dk_154 0 11 (dk_at dksX1_need_0 1 rfl rfl)
theorem dX1_need_4 : decode cX1_need 4 = .ok (.new 7, 3) := dk_187 0 7 (dk_at dksX1_need_0 4 rfl rfl)
theorem dX1_need_7 : decode cX1_need 7 = .ok (.dup, 1) := dk_89 (dk_at dksX1_need_0 7 rfl rfl)
theorem dX1_need_8 : decode cX1_need 8 = .ok (.invokespecial 9, 3) := dk_183 0 9 (dk_at dksX1_need_0 8 rfl rfl)
theorem dX1_need_11 : decode cX1_need 11 = .ok (.athrow, 1) := dk_191 (dk_at dksX1_need_0 11 rfl rfl)
theorem dX1_need_12 : decode cX1_need 12 = .ok (.return_, 1) := dk_177 (dk_at dksX1_need_0 12 rfl rfl)
abbrev cX1_mean : ByteArray := prog_1_method_52_code
def yX1_mean : MethodName := ⟨RX1, "mean", "(I)I"⟩
def dkwX1_mean_2 : List UInt8 := [154, 0, 7, 28, 167, 0, 4, 29, 28, 29, 184, 0, 13, 108, 172]
abbrev dktX1_mean_2 : List UInt8 := dkwX1_mean_2 ++ []
def dkwX1_mean_1 : List UInt8 := [184, 0, 150, 42, 180, 0, 40, 182, 0, 218, 61, 42, 180, 0, 40, 180, 0, 209, 184, 1, 55, 62, 27]
abbrev dktX1_mean_1 : List UInt8 := dkwX1_mean_1 ++ dktX1_mean_2
def dkwX1_mean_0 : List UInt8 := [42, 180, 0, 40, 180, 0, 209, 153, 0, 16, 27, 3, 4, 184, 0, 146, 153, 0, 7, 4, 167, 0, 4, 3]
abbrev dktX1_mean_0 : List UInt8 := dkwX1_mean_0 ++ dktX1_mean_1
theorem dksX1_mean_0 : cX1_mean.data.toList.drop 0 = dktX1_mean_0 := by decide +kernel
theorem dksX1_mean_1 : cX1_mean.data.toList.drop 24 = dktX1_mean_1 := dk_seg dksX1_mean_0 24 rfl rfl
theorem dksX1_mean_2 : cX1_mean.data.toList.drop 47 = dktX1_mean_2 := dk_seg dksX1_mean_1 23 rfl rfl
theorem dX1_mean_0 : decode cX1_mean 0 = .ok (.aload_n 0, 1) := dk_42 (dk_at dksX1_mean_0 0 rfl rfl)
theorem dX1_mean_1 : decode cX1_mean 1 = .ok (.getfield 40, 3) := dk_180 0 40 (dk_at dksX1_mean_0 1 rfl rfl)
theorem dX1_mean_4 : decode cX1_mean 4 = .ok (.getfield 209, 3) := dk_180 0 209 (dk_at dksX1_mean_0 4 rfl rfl)
theorem dX1_mean_7 : decode cX1_mean 7 = .ok (.ifCond .eq 16, 3) := dk_153 0 16 (dk_at dksX1_mean_0 7 rfl rfl)
theorem dX1_mean_10 : decode cX1_mean 10 = .ok (.iload_n 1, 1) := dk_27 (dk_at dksX1_mean_0 10 rfl rfl)
theorem dX1_mean_11 : decode cX1_mean 11 = .ok (.iconst 0, 1) := dk_3 (dk_at dksX1_mean_0 11 rfl rfl)
theorem dX1_mean_12 : decode cX1_mean 12 = .ok (.iconst 1, 1) := dk_4 (dk_at dksX1_mean_0 12 rfl rfl)
theorem dX1_mean_13 : decode cX1_mean 13 = .ok (.invokestatic 146, 3) := dk_184 0 146 (dk_at dksX1_mean_0 13 rfl rfl)
theorem dX1_mean_16 : decode cX1_mean 16 = .ok (.ifCond .eq 7, 3) := dk_153 0 7 (dk_at dksX1_mean_0 16 rfl rfl)
theorem dX1_mean_19 : decode cX1_mean 19 = .ok (.iconst 1, 1) := dk_4 (dk_at dksX1_mean_0 19 rfl rfl)
theorem dX1_mean_20 : decode cX1_mean 20 = .ok (.goto 4, 3) := dk_167 0 4 (dk_at dksX1_mean_0 20 rfl rfl)
theorem dX1_mean_23 : decode cX1_mean 23 = .ok (.iconst 0, 1) := dk_3 (dk_at dksX1_mean_0 23 rfl rfl)
theorem dX1_mean_24 : decode cX1_mean 24 = .ok (.invokestatic 150, 3) := dk_184 0 150 (dk_at dksX1_mean_1 0 rfl rfl)
theorem dX1_mean_27 : decode cX1_mean 27 = .ok (.aload_n 0, 1) := dk_42 (dk_at dksX1_mean_1 3 rfl rfl)
theorem dX1_mean_28 : decode cX1_mean 28 = .ok (.getfield 40, 3) := dk_180 0 40 (dk_at dksX1_mean_1 4 rfl rfl)
theorem dX1_mean_31 : decode cX1_mean 31 = .ok (.invokevirtual 218, 3) := dk_182 0 218 (dk_at dksX1_mean_1 7 rfl rfl)
theorem dX1_mean_34 : decode cX1_mean 34 = .ok (.istore_n 2, 1) := dk_61 (dk_at dksX1_mean_1 10 rfl rfl)
theorem dX1_mean_35 : decode cX1_mean 35 = .ok (.aload_n 0, 1) := dk_42 (dk_at dksX1_mean_1 11 rfl rfl)
theorem dX1_mean_36 : decode cX1_mean 36 = .ok (.getfield 40, 3) := dk_180 0 40 (dk_at dksX1_mean_1 12 rfl rfl)
theorem dX1_mean_39 : decode cX1_mean 39 = .ok (.getfield 209, 3) := dk_180 0 209 (dk_at dksX1_mean_1 15 rfl rfl)
theorem dX1_mean_42 : decode cX1_mean 42 = .ok (.invokestatic 311, 3) := dk_184 1 55 (dk_at dksX1_mean_1 18 rfl rfl)
theorem dX1_mean_45 : decode cX1_mean 45 = .ok (.istore_n 3, 1) := dk_62 (dk_at dksX1_mean_1 21 rfl rfl)
theorem dX1_mean_46 : decode cX1_mean 46 = .ok (.iload_n 1, 1) := dk_27 (dk_at dksX1_mean_1 22 rfl rfl)
theorem dX1_mean_47 : decode cX1_mean 47 = .ok (.ifCond .ne 7, 3) := dk_154 0 7 (dk_at dksX1_mean_2 0 rfl rfl)
theorem dX1_mean_50 : decode cX1_mean 50 = .ok (.iload_n 2, 1) := dk_28 (dk_at dksX1_mean_2 3 rfl rfl)
theorem dX1_mean_51 : decode cX1_mean 51 = .ok (.goto 4, 3) := dk_167 0 4 (dk_at dksX1_mean_2 4 rfl rfl)
theorem dX1_mean_54 : decode cX1_mean 54 = .ok (.iload_n 3, 1) := dk_29 (dk_at dksX1_mean_2 7 rfl rfl)
theorem dX1_mean_55 : decode cX1_mean 55 = .ok (.iload_n 2, 1) := dk_28 (dk_at dksX1_mean_2 8 rfl rfl)
theorem dX1_mean_56 : decode cX1_mean 56 = .ok (.iload_n 3, 1) := dk_29 (dk_at dksX1_mean_2 9 rfl rfl)
theorem dX1_mean_57 : decode cX1_mean 57 = .ok (.invokestatic 13, 3) := dk_184 0 13 (dk_at dksX1_mean_2 10 rfl rfl)
theorem dX1_mean_60 : decode cX1_mean 60 = .ok (.idiv, 1) := dk_108 (dk_at dksX1_mean_2 13 rfl rfl)
theorem dX1_mean_61 : decode cX1_mean 61 = .ok (.ireturn, 1) := dk_172 (dk_at dksX1_mean_2 14 rfl rfl)
abbrev cX1_common : ByteArray := prog_1_method_5_code
def yX1_common : MethodName := ⟨RX1, "common", "(II)I"⟩
def dkwX1_common_0 : List UInt8 := [27, 154, 0, 7, 26, 167, 0, 10, 27, 26, 27, 112, 184, 0, 13, 172]
abbrev dktX1_common_0 : List UInt8 := dkwX1_common_0 ++ []
theorem dksX1_common_0 : cX1_common.data.toList.drop 0 = dktX1_common_0 := by decide +kernel
theorem dX1_common_0 : decode cX1_common 0 = .ok (.iload_n 1, 1) := dk_27 (dk_at dksX1_common_0 0 rfl rfl)
theorem dX1_common_1 : decode cX1_common 1 = .ok (.ifCond .ne 7, 3) := dk_154 0 7 (dk_at dksX1_common_0 1 rfl rfl)
theorem dX1_common_4 : decode cX1_common 4 = .ok (.iload_n 0, 1) := dk_26 (dk_at dksX1_common_0 4 rfl rfl)
theorem dX1_common_5 : decode cX1_common 5 = .ok (.goto 10, 3) := dk_167 0 10 (dk_at dksX1_common_0 5 rfl rfl)
theorem dX1_common_8 : decode cX1_common 8 = .ok (.iload_n 1, 1) := dk_27 (dk_at dksX1_common_0 8 rfl rfl)
theorem dX1_common_9 : decode cX1_common 9 = .ok (.iload_n 0, 1) := dk_26 (dk_at dksX1_common_0 9 rfl rfl)
theorem dX1_common_10 : decode cX1_common 10 = .ok (.iload_n 1, 1) := dk_27 (dk_at dksX1_common_0 10 rfl rfl)
theorem dX1_common_11 : decode cX1_common 11 = .ok (.irem, 1) := dk_112 (dk_at dksX1_common_0 11 rfl rfl)
theorem dX1_common_12 : decode cX1_common 12 = .ok (.invokestatic 13, 3) := dk_184 0 13 (dk_at dksX1_common_0 12 rfl rfl)
theorem dX1_common_15 : decode cX1_common 15 = .ok (.ireturn, 1) := dk_172 (dk_at dksX1_common_0 15 rfl rfl)
theorem q125 : (Jvm.Cond.initialized "HeirsAtLaw") ∈ lw_all := lw_g (lw_at lw_m1 1 rfl) rfl
theorem q175 : (Jvm.Cond.instantiable "HeirsAtLaw" (21 : Nat)) ∈ lw_all := lw_g (lw_at lw_m1 51 rfl) rfl
theorem q177 : (Jvm.Cond.instanceMethod ({ cls := "HeirsAtLaw", name := "<init>", desc := "()V" } : Jvm.MethodName)) ∈ lw_all := lw_g (lw_at lw_m1 53 rfl) rfl
theorem q178 : (Jvm.Cond.code ({ cls := "HeirsAtLaw", name := "<init>", desc := "()V" } : Jvm.MethodName) prog_1_method_6_code (2 : Nat) (Option.none : Option Jvm.ClassFile.FieldType)) ∈ lw_all := lw_g (lw_at lw_m1 54 rfl) rfl
theorem q179 : (Jvm.Cond.methodLink "HeirsAtLaw" (19 : Nat) ({ cls := "java/lang/Object", name := "<init>", desc := "()V" } : Jvm.MethodName)) ∈ lw_all := lw_g (lw_at lw_m1 55 rfl) rfl
theorem q182 : (Jvm.Cond.classLink "HeirsAtLaw" (26 : Nat) "HeirsAtLaw$Family") ∈ lw_all := lw_g (lw_at lw_m1 58 rfl) rfl
theorem q184 : (Jvm.Cond.methodLinkNest "HeirsAtLaw" (28 : Nat) ({ cls := "HeirsAtLaw$Family", name := "<init>", desc := "()V" } : Jvm.MethodName) "HeirsAtLaw") ∈ lw_tbl := lw_at lw_m1 60 rfl
theorem q219 : (Jvm.Cond.fieldLinkNest "HeirsAtLaw" (117 : Nat) "HeirsAtLaw$Family" "lines" "I" "HeirsAtLaw") ∈ lw_tbl := lw_at lw_m1 95 rfl
theorem q221 : (Jvm.Cond.fieldLinkNest "HeirsAtLaw" (409 : Nat) "HeirsAtLaw$Family" "links" "I" "HeirsAtLaw") ∈ lw_tbl := lw_at lw_m1 97 rfl
theorem q225 : (Jvm.Cond.fieldLinkNest "HeirsAtLaw" (412 : Nat) "HeirsAtLaw$Family" "widow" "I" "HeirsAtLaw") ∈ lw_tbl := lw_at lw_m1 101 rfl
theorem q230 : (Jvm.Cond.fieldLinkNest "HeirsAtLaw" (133 : Nat) "HeirsAtLaw$Family" "persons" "Ljava/util/ArrayList;" "HeirsAtLaw") ∈ lw_tbl := lw_at lw_m1 106 rfl
theorem q245 : (Jvm.Cond.classLink "HeirsAtLaw" (33 : Nat) "HeirsAtLaw$Estate") ∈ lw_all := lw_g (lw_at lw_m1 121 rfl) rfl
theorem q247 : (Jvm.Cond.methodLinkNest "HeirsAtLaw" (35 : Nat) ({ cls := "HeirsAtLaw$Estate", name := "<init>", desc := "()V" } : Jvm.MethodName) "HeirsAtLaw") ∈ lw_tbl := lw_at lw_m1 123 rfl
theorem q256 : (Jvm.Cond.fieldLinkNest "HeirsAtLaw" (206 : Nat) "HeirsAtLaw$Estate" "year" "I" "HeirsAtLaw") ∈ lw_tbl := lw_at lw_m1 132 rfl
theorem q258 : (Jvm.Cond.fieldLinkNest "HeirsAtLaw" (215 : Nat) "HeirsAtLaw$Estate" "crown" "I" "HeirsAtLaw") ∈ lw_tbl := lw_at lw_m1 134 rfl
theorem q260 : (Jvm.Cond.fieldLinkNest "HeirsAtLaw" (221 : Nat) "HeirsAtLaw$Estate" "deaths" "I" "HeirsAtLaw") ∈ lw_tbl := lw_at lw_m1 136 rfl
theorem q263 : (Jvm.Cond.fieldLinkNest "HeirsAtLaw" (209 : Nat) "HeirsAtLaw$Estate" "living" "I" "HeirsAtLaw") ∈ lw_tbl := lw_at lw_m1 139 rfl
theorem q265 : (Jvm.Cond.fieldLinkNest "HeirsAtLaw" (186 : Nat) "HeirsAtLaw$Estate" "wills" "I" "HeirsAtLaw") ∈ lw_tbl := lw_at lw_m1 141 rfl
theorem q268 : (Jvm.Cond.fieldLinkNest "HeirsAtLaw" (162 : Nat) "HeirsAtLaw$Estate" "coins" "[I" "HeirsAtLaw") ∈ lw_tbl := lw_at lw_m1 144 rfl
theorem q270 : (Jvm.Cond.fieldLinkNest "HeirsAtLaw" (168 : Nat) "HeirsAtLaw$Estate" "spouse" "[I" "HeirsAtLaw") ∈ lw_tbl := lw_at lw_m1 146 rfl
theorem q272 : (Jvm.Cond.fieldLinkNest "HeirsAtLaw" (189 : Nat) "HeirsAtLaw$Estate" "from" "[I" "HeirsAtLaw") ∈ lw_tbl := lw_at lw_m1 148 rfl
theorem q274 : (Jvm.Cond.fieldLinkNest "HeirsAtLaw" (192 : Nat) "HeirsAtLaw$Estate" "to" "[I" "HeirsAtLaw") ∈ lw_tbl := lw_at lw_m1 150 rfl
theorem q276 : (Jvm.Cond.fieldLinkNest "HeirsAtLaw" (195 : Nat) "HeirsAtLaw$Estate" "much" "[I" "HeirsAtLaw") ∈ lw_tbl := lw_at lw_m1 152 rfl
theorem q304 : (Jvm.Cond.methodLink "HeirsAtLaw" (36 : Nat) ({ cls := "HeirsAtLaw$Estate", name := "begin", desc := "(LHeirsAtLaw$Family;)LHeirsAtLaw$Estate;" } : Jvm.MethodName)) ∈ lw_all := lw_g (lw_at lw_m1 180 rfl) rfl
theorem q457 : (Jvm.Cond.stringRef "HeirsAtLaw" (71 : Nat) "") ∈ lw_tbl := lw_at lw_m2 93 rfl
theorem q458 : (Jvm.Cond.classLink "HeirsAtLaw" (80 : Nat) "HeirsAtLaw$Kept") ∈ lw_all := lw_g (lw_at lw_m2 94 rfl) rfl
theorem q461 : (Jvm.Cond.methodLinkNest "HeirsAtLaw" (82 : Nat) ({ cls := "HeirsAtLaw$Kept", name := "<init>", desc := "()V" } : Jvm.MethodName) "HeirsAtLaw") ∈ lw_tbl := lw_at lw_m2 97 rfl
theorem q467 : (Jvm.Cond.fieldLinkNest "HeirsAtLaw" (404 : Nat) "HeirsAtLaw$Kept" "family" "LHeirsAtLaw$Family;" "HeirsAtLaw") ∈ lw_tbl := lw_at lw_m2 103 rfl
theorem q468 : (Jvm.Cond.fieldLinkNest "HeirsAtLaw" (405 : Nat) "HeirsAtLaw$Kept" "sentence" "LHeirsAtLaw$Cond;" "HeirsAtLaw") ∈ lw_tbl := lw_at lw_m2 104 rfl
theorem q470 : (Jvm.Cond.fieldLinkNest "HeirsAtLaw" (406 : Nat) "HeirsAtLaw$Kept" "estate" "LHeirsAtLaw$Estate;" "HeirsAtLaw") ∈ lw_tbl := lw_at lw_m2 106 rfl
theorem q478 : (Jvm.Cond.fieldLink "HeirsAtLaw" (22 : Nat) "HeirsAtLaw" "tape" "[B") ∈ lw_all := lw_g (lw_at lw_m2 114 rfl) rfl
theorem q479 : (Jvm.Cond.fieldLink "HeirsAtLaw" (87 : Nat) "HeirsAtLaw" "taped" "I") ∈ lw_all := lw_g (lw_at lw_m2 115 rfl) rfl
theorem q480 : (Jvm.Cond.fieldLink "HeirsAtLaw" (98 : Nat) "HeirsAtLaw" "fault" "I") ∈ lw_all := lw_g (lw_at lw_m2 116 rfl) rfl
theorem q481 : (Jvm.Cond.fieldLink "HeirsAtLaw" (29 : Nat) "HeirsAtLaw" "family" "LHeirsAtLaw$Family;") ∈ lw_all := lw_g (lw_at lw_m2 117 rfl) rfl
theorem q482 : (Jvm.Cond.fieldLink "HeirsAtLaw" (40 : Nat) "HeirsAtLaw" "now" "LHeirsAtLaw$Estate;") ∈ lw_all := lw_g (lw_at lw_m2 118 rfl) rfl
theorem q483 : (Jvm.Cond.fieldLink "HeirsAtLaw" (44 : Nat) "HeirsAtLaw" "trial" "LHeirsAtLaw$Estate;") ∈ lw_all := lw_g (lw_at lw_m2 119 rfl) rfl
theorem q484 : (Jvm.Cond.fieldLink "HeirsAtLaw" (47 : Nat) "HeirsAtLaw" "ahead" "LHeirsAtLaw$Estate;") ∈ lw_all := lw_g (lw_at lw_m2 120 rfl) rfl
theorem q485 : (Jvm.Cond.fieldLink "HeirsAtLaw" (110 : Nat) "HeirsAtLaw" "sentence" "LHeirsAtLaw$Cond;") ∈ lw_all := lw_g (lw_at lw_m2 121 rfl) rfl
theorem q486 : (Jvm.Cond.fieldLink "HeirsAtLaw" (50 : Nat) "HeirsAtLaw" "before" "[LHeirsAtLaw$Estate;") ∈ lw_all := lw_g (lw_at lw_m2 122 rfl) rfl
theorem q487 : (Jvm.Cond.fieldLink "HeirsAtLaw" (114 : Nat) "HeirsAtLaw" "befores" "I") ∈ lw_all := lw_g (lw_at lw_m2 123 rfl) rfl
theorem q488 : (Jvm.Cond.fieldLink "HeirsAtLaw" (54 : Nat) "HeirsAtLaw" "afters" "[I") ∈ lw_all := lw_g (lw_at lw_m2 124 rfl) rfl
theorem q489 : (Jvm.Cond.fieldLink "HeirsAtLaw" (58 : Nat) "HeirsAtLaw" "row" "[I") ∈ lw_all := lw_g (lw_at lw_m2 125 rfl) rfl
theorem q490 : (Jvm.Cond.fieldLink "HeirsAtLaw" (61 : Nat) "HeirsAtLaw" "best" "[I") ∈ lw_all := lw_g (lw_at lw_m2 126 rfl) rfl
theorem q491 : (Jvm.Cond.fieldLink "HeirsAtLaw" (290 : Nat) "HeirsAtLaw" "aftersMany" "I") ∈ lw_all := lw_g (lw_at lw_m2 127 rfl) rfl
theorem q492 : (Jvm.Cond.fieldLink "HeirsAtLaw" (302 : Nat) "HeirsAtLaw" "bestMany" "I") ∈ lw_all := lw_g (lw_at lw_m2 128 rfl) rfl
theorem q493 : (Jvm.Cond.fieldLink "HeirsAtLaw" (299 : Nat) "HeirsAtLaw" "bestCoins" "I") ∈ lw_all := lw_g (lw_at lw_m2 129 rfl) rfl
theorem q494 : (Jvm.Cond.fieldLink "HeirsAtLaw" (64 : Nat) "HeirsAtLaw" "cleared" "I") ∈ lw_all := lw_g (lw_at lw_m2 130 rfl) rfl
theorem q495 : (Jvm.Cond.fieldLink "HeirsAtLaw" (68 : Nat) "HeirsAtLaw" "ask" "I") ∈ lw_all := lw_g (lw_at lw_m2 131 rfl) rfl
theorem q496 : (Jvm.Cond.fieldLink "HeirsAtLaw" (73 : Nat) "HeirsAtLaw" "tag" "Ljava/lang/String;") ∈ lw_all := lw_g (lw_at lw_m2 132 rfl) rfl
theorem q497 : (Jvm.Cond.fieldLink "HeirsAtLaw" (77 : Nat) "HeirsAtLaw" "told" "[I") ∈ lw_all := lw_g (lw_at lw_m2 133 rfl) rfl
theorem q498 : (Jvm.Cond.fieldLink "HeirsAtLaw" (83 : Nat) "HeirsAtLaw" "kept" "[LHeirsAtLaw$Kept;") ∈ lw_all := lw_g (lw_at lw_m2 134 rfl) rfl
theorem q499 : (Jvm.Cond.laysFinal "HeirsAtLaw" "HeirsAtLaw" "tape" "[B") ∈ lw_all := lw_g (lw_at lw_m2 135 rfl) rfl
theorem q500 : (Jvm.Cond.soleField "HeirsAtLaw" "tape") ∈ lw_all := lw_g (lw_at lw_m2 136 rfl) rfl
theorem q501 : (Jvm.Cond.lays "HeirsAtLaw" "HeirsAtLaw" "taped" "I") ∈ lw_all := lw_g (lw_at lw_m2 137 rfl) rfl
theorem q502 : (Jvm.Cond.soleField "HeirsAtLaw" "taped") ∈ lw_all := lw_g (lw_at lw_m2 138 rfl) rfl
theorem q503 : (Jvm.Cond.lays "HeirsAtLaw" "HeirsAtLaw" "fault" "I") ∈ lw_all := lw_g (lw_at lw_m2 139 rfl) rfl
theorem q504 : (Jvm.Cond.soleField "HeirsAtLaw" "fault") ∈ lw_all := lw_g (lw_at lw_m2 140 rfl) rfl
theorem q505 : (Jvm.Cond.lays "HeirsAtLaw" "HeirsAtLaw" "family" "LHeirsAtLaw$Family;") ∈ lw_all := lw_g (lw_at lw_m2 141 rfl) rfl
theorem q506 : (Jvm.Cond.soleField "HeirsAtLaw" "family") ∈ lw_all := lw_g (lw_at lw_m2 142 rfl) rfl
theorem q507 : (Jvm.Cond.laysFinal "HeirsAtLaw" "HeirsAtLaw" "now" "LHeirsAtLaw$Estate;") ∈ lw_all := lw_g (lw_at lw_m2 143 rfl) rfl
theorem q508 : (Jvm.Cond.soleField "HeirsAtLaw" "now") ∈ lw_all := lw_g (lw_at lw_m2 144 rfl) rfl
theorem q509 : (Jvm.Cond.laysFinal "HeirsAtLaw" "HeirsAtLaw" "trial" "LHeirsAtLaw$Estate;") ∈ lw_all := lw_g (lw_at lw_m2 145 rfl) rfl
theorem q510 : (Jvm.Cond.soleField "HeirsAtLaw" "trial") ∈ lw_all := lw_g (lw_at lw_m2 146 rfl) rfl
theorem q511 : (Jvm.Cond.laysFinal "HeirsAtLaw" "HeirsAtLaw" "ahead" "LHeirsAtLaw$Estate;") ∈ lw_all := lw_g (lw_at lw_m2 147 rfl) rfl
theorem q512 : (Jvm.Cond.soleField "HeirsAtLaw" "ahead") ∈ lw_all := lw_g (lw_at lw_m2 148 rfl) rfl
theorem q513 : (Jvm.Cond.lays "HeirsAtLaw" "HeirsAtLaw" "sentence" "LHeirsAtLaw$Cond;") ∈ lw_all := lw_g (lw_at lw_m2 149 rfl) rfl
theorem q514 : (Jvm.Cond.soleField "HeirsAtLaw" "sentence") ∈ lw_all := lw_g (lw_at lw_m2 150 rfl) rfl
theorem q515 : (Jvm.Cond.laysFinal "HeirsAtLaw" "HeirsAtLaw" "before" "[LHeirsAtLaw$Estate;") ∈ lw_all := lw_g (lw_at lw_m2 151 rfl) rfl
theorem q516 : (Jvm.Cond.soleField "HeirsAtLaw" "before") ∈ lw_all := lw_g (lw_at lw_m2 152 rfl) rfl
theorem q517 : (Jvm.Cond.lays "HeirsAtLaw" "HeirsAtLaw" "befores" "I") ∈ lw_all := lw_g (lw_at lw_m2 153 rfl) rfl
theorem q518 : (Jvm.Cond.soleField "HeirsAtLaw" "befores") ∈ lw_all := lw_g (lw_at lw_m2 154 rfl) rfl
theorem q519 : (Jvm.Cond.laysFinal "HeirsAtLaw" "HeirsAtLaw" "afters" "[I") ∈ lw_all := lw_g (lw_at lw_m2 155 rfl) rfl
theorem q520 : (Jvm.Cond.soleField "HeirsAtLaw" "afters") ∈ lw_all := lw_g (lw_at lw_m2 156 rfl) rfl
theorem q521 : (Jvm.Cond.laysFinal "HeirsAtLaw" "HeirsAtLaw" "row" "[I") ∈ lw_all := lw_g (lw_at lw_m2 157 rfl) rfl
theorem q522 : (Jvm.Cond.soleField "HeirsAtLaw" "row") ∈ lw_all := lw_g (lw_at lw_m2 158 rfl) rfl
theorem q523 : (Jvm.Cond.laysFinal "HeirsAtLaw" "HeirsAtLaw" "best" "[I") ∈ lw_all := lw_g (lw_at lw_m2 159 rfl) rfl
theorem q524 : (Jvm.Cond.soleField "HeirsAtLaw" "best") ∈ lw_all := lw_g (lw_at lw_m2 160 rfl) rfl
theorem q525 : (Jvm.Cond.lays "HeirsAtLaw" "HeirsAtLaw" "aftersMany" "I") ∈ lw_all := lw_g (lw_at lw_m2 161 rfl) rfl
theorem q526 : (Jvm.Cond.soleField "HeirsAtLaw" "aftersMany") ∈ lw_all := lw_g (lw_at lw_m2 162 rfl) rfl
theorem q527 : (Jvm.Cond.lays "HeirsAtLaw" "HeirsAtLaw" "bestMany" "I") ∈ lw_all := lw_g (lw_at lw_m2 163 rfl) rfl
theorem q528 : (Jvm.Cond.soleField "HeirsAtLaw" "bestMany") ∈ lw_all := lw_g (lw_at lw_m2 164 rfl) rfl
theorem q529 : (Jvm.Cond.lays "HeirsAtLaw" "HeirsAtLaw" "bestCoins" "I") ∈ lw_all := lw_g (lw_at lw_m2 165 rfl) rfl
theorem q530 : (Jvm.Cond.soleField "HeirsAtLaw" "bestCoins") ∈ lw_all := lw_g (lw_at lw_m2 166 rfl) rfl
theorem q531 : (Jvm.Cond.lays "HeirsAtLaw" "HeirsAtLaw" "cleared" "I") ∈ lw_all := lw_g (lw_at lw_m2 167 rfl) rfl
theorem q532 : (Jvm.Cond.soleField "HeirsAtLaw" "cleared") ∈ lw_all := lw_g (lw_at lw_m2 168 rfl) rfl
theorem q533 : (Jvm.Cond.lays "HeirsAtLaw" "HeirsAtLaw" "ask" "I") ∈ lw_all := lw_g (lw_at lw_m2 169 rfl) rfl
theorem q534 : (Jvm.Cond.soleField "HeirsAtLaw" "ask") ∈ lw_all := lw_g (lw_at lw_m2 170 rfl) rfl
theorem q535 : (Jvm.Cond.lays "HeirsAtLaw" "HeirsAtLaw" "tag" "Ljava/lang/String;") ∈ lw_all := lw_g (lw_at lw_m2 171 rfl) rfl
theorem q536 : (Jvm.Cond.soleField "HeirsAtLaw" "tag") ∈ lw_all := lw_g (lw_at lw_m2 172 rfl) rfl
theorem q537 : (Jvm.Cond.laysFinal "HeirsAtLaw" "HeirsAtLaw" "told" "[I") ∈ lw_all := lw_g (lw_at lw_m2 173 rfl) rfl
theorem q538 : (Jvm.Cond.soleField "HeirsAtLaw" "told") ∈ lw_all := lw_g (lw_at lw_m2 174 rfl) rfl
theorem q539 : (Jvm.Cond.laysFinal "HeirsAtLaw" "HeirsAtLaw" "kept" "[LHeirsAtLaw$Kept;") ∈ lw_all := lw_g (lw_at lw_m2 175 rfl) rfl
theorem q540 : (Jvm.Cond.soleField "HeirsAtLaw" "kept") ∈ lw_all := lw_g (lw_at lw_m2 176 rfl) rfl
theorem q541 : (Jvm.Cond.superclass "HeirsAtLaw" "java/lang/Object") ∈ lw_all := lw_g (lw_at lw_m2 177 rfl) rfl
theorem q543 : (Jvm.Cond.instanceMethod ({ cls := "HeirsAtLaw", name := "feed", desc := "(IIIII)I" } : Jvm.MethodName)) ∈ lw_all := lw_g (lw_at lw_m2 179 rfl) rfl
theorem q544 : (Jvm.Cond.selects "HeirsAtLaw" ({ cls := "HeirsAtLaw", name := "feed", desc := "(IIIII)I" } : Jvm.MethodName) ({ cls := "HeirsAtLaw", name := "feed", desc := "(IIIII)I" } : Jvm.MethodName)) ∈ lw_all := lw_g (lw_at lw_m2 180 rfl) rfl
theorem q545 : (Jvm.Cond.code ({ cls := "HeirsAtLaw", name := "feed", desc := "(IIIII)I" } : Jvm.MethodName) prog_1_method_8_code (6 : Nat) (Option.some Jvm.ClassFile.FieldType.int)) ∈ lw_all := lw_g (lw_at lw_m2 181 rfl) rfl
theorem q546 : (Jvm.Cond.methodLink "HeirsAtLaw" (90 : Nat) ({ cls := "HeirsAtLaw", name := "feedOne", desc := "(I)V" } : Jvm.MethodName)) ∈ lw_all := lw_g (lw_at lw_m2 182 rfl) rfl
theorem q547 : (Jvm.Cond.privateMethod ({ cls := "HeirsAtLaw", name := "feedOne", desc := "(I)V" } : Jvm.MethodName)) ∈ lw_tbl := lw_at lw_m2 183 rfl
theorem q548 : (Jvm.Cond.instanceMethod ({ cls := "HeirsAtLaw", name := "feedOne", desc := "(I)V" } : Jvm.MethodName)) ∈ lw_all := lw_g (lw_at lw_m2 184 rfl) rfl
theorem q549 : (Jvm.Cond.code ({ cls := "HeirsAtLaw", name := "feedOne", desc := "(I)V" } : Jvm.MethodName) prog_1_method_7_code (3 : Nat) (Option.none : Option Jvm.ClassFile.FieldType)) ∈ lw_all := lw_g (lw_at lw_m2 185 rfl) rfl
theorem q551 : (Jvm.Cond.instanceMethod ({ cls := "HeirsAtLaw", name := "end", desc := "(I)Z" } : Jvm.MethodName)) ∈ lw_all := lw_g (lw_at lw_m2 187 rfl) rfl
theorem q552 : (Jvm.Cond.selects "HeirsAtLaw" ({ cls := "HeirsAtLaw", name := "end", desc := "(I)Z" } : Jvm.MethodName) ({ cls := "HeirsAtLaw", name := "end", desc := "(I)Z" } : Jvm.MethodName)) ∈ lw_all := lw_g (lw_at lw_m2 188 rfl) rfl
theorem q553 : (Jvm.Cond.code ({ cls := "HeirsAtLaw", name := "end", desc := "(I)Z" } : Jvm.MethodName) prog_1_method_9_code (2 : Nat) (Option.some Jvm.ClassFile.FieldType.boolean)) ∈ lw_all := lw_g (lw_at lw_m2 189 rfl) rfl
theorem q555 : (Jvm.Cond.instanceMethod ({ cls := "HeirsAtLaw", name := "family", desc := "()I" } : Jvm.MethodName)) ∈ lw_all := lw_g (lw_at lw_m2 191 rfl) rfl
theorem q556 : (Jvm.Cond.selects "HeirsAtLaw" ({ cls := "HeirsAtLaw", name := "family", desc := "()I" } : Jvm.MethodName) ({ cls := "HeirsAtLaw", name := "family", desc := "()I" } : Jvm.MethodName)) ∈ lw_all := lw_g (lw_at lw_m2 192 rfl) rfl
theorem q557 : (Jvm.Cond.codeWith ({ cls := "HeirsAtLaw", name := "family", desc := "()I" } : Jvm.MethodName) prog_1_method_12_code (3 : Nat) (Option.some Jvm.ClassFile.FieldType.int) [((10 : Nat), (58 : Nat), (59 : Nat), (120 : Nat))]) ∈ lw_all := lw_g (lw_at lw_m2 193 rfl) rfl
theorem q558 : (Jvm.Cond.classLink "HeirsAtLaw" (120 : Nat) "HeirsAtLaw$Fault") ∈ lw_all := lw_g (lw_at lw_m2 194 rfl) rfl
theorem q559 : (Jvm.Cond.methodLink "HeirsAtLaw" (94 : Nat) ({ cls := "HeirsAtLaw", name := "takeAll", desc := "()I" } : Jvm.MethodName)) ∈ lw_all := lw_g (lw_at lw_m2 195 rfl) rfl
theorem q560 : (Jvm.Cond.privateMethod ({ cls := "HeirsAtLaw", name := "takeAll", desc := "()I" } : Jvm.MethodName)) ∈ lw_tbl := lw_at lw_m2 196 rfl
theorem q561 : (Jvm.Cond.instanceMethod ({ cls := "HeirsAtLaw", name := "takeAll", desc := "()I" } : Jvm.MethodName)) ∈ lw_all := lw_g (lw_at lw_m2 197 rfl) rfl
theorem q562 : (Jvm.Cond.code ({ cls := "HeirsAtLaw", name := "takeAll", desc := "()I" } : Jvm.MethodName) prog_1_method_10_code (2 : Nat) (Option.some Jvm.ClassFile.FieldType.int)) ∈ lw_all := lw_g (lw_at lw_m2 198 rfl) rfl
theorem q563 : (Jvm.Cond.classLink "HeirsAtLaw" (101 : Nat) "HeirsAtLaw$FamilyReader") ∈ lw_all := lw_g (lw_at lw_m2 199 rfl) rfl
theorem q565 : (Jvm.Cond.methodLink "HeirsAtLaw" (103 : Nat) ({ cls := "HeirsAtLaw$FamilyReader", name := "<init>", desc := "([BI)V" } : Jvm.MethodName)) ∈ lw_all := lw_g (lw_at lw_m2 201 rfl) rfl
theorem q621 : (Jvm.Cond.methodLink "HeirsAtLaw" (106 : Nat) ({ cls := "HeirsAtLaw$FamilyReader", name := "read", desc := "()LHeirsAtLaw$Family;" } : Jvm.MethodName)) ∈ lw_all := lw_g (lw_at lw_m3 17 rfl) rfl
theorem q875 : (Jvm.Cond.fieldLinkNest "HeirsAtLaw" (122 : Nat) "HeirsAtLaw$Fault" "kind" "I" "HeirsAtLaw") ∈ lw_tbl := lw_at lw_m4 31 rfl
theorem q877 : (Jvm.Cond.fieldLinkNest "HeirsAtLaw" (125 : Nat) "HeirsAtLaw$Fault" "place" "I" "HeirsAtLaw") ∈ lw_tbl := lw_at lw_m4 33 rfl
theorem q980 : (Jvm.Cond.static ({ cls := "HeirsAtLaw", name := "isIn", desc := "(III)Z" } : Jvm.MethodName)) ∈ lw_all := lw_g (lw_at lw_m4 136 rfl) rfl
theorem q981 : (Jvm.Cond.code ({ cls := "HeirsAtLaw", name := "isIn", desc := "(III)Z" } : Jvm.MethodName) prog_1_method_1_code (3 : Nat) (Option.some Jvm.ClassFile.FieldType.boolean)) ∈ lw_all := lw_g (lw_at lw_m4 137 rfl) rfl
theorem q991 : (Jvm.Cond.fieldLinkNest "HeirsAtLaw" (336 : Nat) "HeirsAtLaw$Person" "name" "Ljava/lang/String;" "HeirsAtLaw") ∈ lw_tbl := lw_at lw_m4 147 rfl
theorem q995 : (Jvm.Cond.fieldLinkNest "HeirsAtLaw" (157 : Nat) "HeirsAtLaw$Person" "born" "I" "HeirsAtLaw") ∈ lw_tbl := lw_at lw_m4 151 rfl
theorem q1002 : (Jvm.Cond.fieldLinkNest "HeirsAtLaw" (171 : Nat) "HeirsAtLaw$Person" "parents" "I" "HeirsAtLaw") ∈ lw_tbl := lw_at lw_m4 158 rfl
theorem q1006 : (Jvm.Cond.fieldLinkNest "HeirsAtLaw" (174 : Nat) "HeirsAtLaw$Person" "children" "I" "HeirsAtLaw") ∈ lw_tbl := lw_at lw_m4 162 rfl
theorem q1013 : (Jvm.Cond.fieldLinkNest "HeirsAtLaw" (183 : Nat) "HeirsAtLaw$Person" "dies" "I" "HeirsAtLaw") ∈ lw_tbl := lw_at lw_m4 169 rfl
theorem q1053 : (Jvm.Cond.selects "HeirsAtLaw" ({ cls := "java/lang/Object", name := "getClass", desc := "()Ljava/lang/Class;" } : Jvm.MethodName) ({ cls := "java/lang/Object", name := "getClass", desc := "()Ljava/lang/Class;" } : Jvm.MethodName)) ∈ lw_all := lw_g (lw_at lw_m4 209 rfl) rfl
theorem q1105 : (Jvm.Cond.static ({ cls := "HeirsAtLaw", name := "many", desc := "(I)I" } : Jvm.MethodName)) ∈ lw_all := lw_g (lw_at lw_m5 21 rfl) rfl
theorem q1106 : (Jvm.Cond.code ({ cls := "HeirsAtLaw", name := "many", desc := "(I)I" } : Jvm.MethodName) prog_1_method_3_code (1 : Nat) (Option.some Jvm.ClassFile.FieldType.int)) ∈ lw_all := lw_g (lw_at lw_m5 22 rfl) rfl
theorem q1107 : (Jvm.Cond.methodLink "HeirsAtLaw" (1 : Nat) ({ cls := "java/lang/Integer", name := "bitCount", desc := "(I)I" } : Jvm.MethodName)) ∈ lw_all := lw_g (lw_at lw_m5 23 rfl) rfl
theorem q1114 : (Jvm.Cond.static ({ cls := "HeirsAtLaw", name := "isOf", desc := "(II)Z" } : Jvm.MethodName)) ∈ lw_all := lw_g (lw_at lw_m5 30 rfl) rfl
theorem q1115 : (Jvm.Cond.code ({ cls := "HeirsAtLaw", name := "isOf", desc := "(II)Z" } : Jvm.MethodName) prog_1_method_2_code (2 : Nat) (Option.some Jvm.ClassFile.FieldType.boolean)) ∈ lw_all := lw_g (lw_at lw_m5 31 rfl) rfl
theorem q1179 : (Jvm.Cond.instanceMethod ({ cls := "HeirsAtLaw", name := "fault", desc := "()I" } : Jvm.MethodName)) ∈ lw_all := lw_g (lw_at lw_m5 95 rfl) rfl
theorem q1180 : (Jvm.Cond.selects "HeirsAtLaw" ({ cls := "HeirsAtLaw", name := "fault", desc := "()I" } : Jvm.MethodName) ({ cls := "HeirsAtLaw", name := "fault", desc := "()I" } : Jvm.MethodName)) ∈ lw_all := lw_g (lw_at lw_m5 96 rfl) rfl
theorem q1181 : (Jvm.Cond.code ({ cls := "HeirsAtLaw", name := "fault", desc := "()I" } : Jvm.MethodName) prog_1_method_13_code (1 : Nat) (Option.some Jvm.ClassFile.FieldType.int)) ∈ lw_all := lw_g (lw_at lw_m5 97 rfl) rfl
theorem q1183 : (Jvm.Cond.instanceMethod ({ cls := "HeirsAtLaw", name := "legacy", desc := "(II)I" } : Jvm.MethodName)) ∈ lw_all := lw_g (lw_at lw_m5 99 rfl) rfl
theorem q1184 : (Jvm.Cond.selects "HeirsAtLaw" ({ cls := "HeirsAtLaw", name := "legacy", desc := "(II)I" } : Jvm.MethodName) ({ cls := "HeirsAtLaw", name := "legacy", desc := "(II)I" } : Jvm.MethodName)) ∈ lw_all := lw_g (lw_at lw_m5 100 rfl) rfl
theorem q1185 : (Jvm.Cond.code ({ cls := "HeirsAtLaw", name := "legacy", desc := "(II)I" } : Jvm.MethodName) prog_1_method_19_code (3 : Nat) (Option.some Jvm.ClassFile.FieldType.int)) ∈ lw_all := lw_g (lw_at lw_m5 101 rfl) rfl
theorem q1186 : (Jvm.Cond.methodLink "HeirsAtLaw" (146 : Nat) ({ cls := "HeirsAtLaw", name := "isIn", desc := "(III)Z" } : Jvm.MethodName)) ∈ lw_all := lw_g (lw_at lw_m5 102 rfl) rfl
theorem q1188 : (Jvm.Cond.instanceMethod ({ cls := "HeirsAtLaw", name := "degree", desc := "(II)I" } : Jvm.MethodName)) ∈ lw_all := lw_g (lw_at lw_m5 104 rfl) rfl
theorem q1189 : (Jvm.Cond.selects "HeirsAtLaw" ({ cls := "HeirsAtLaw", name := "degree", desc := "(II)I" } : Jvm.MethodName) ({ cls := "HeirsAtLaw", name := "degree", desc := "(II)I" } : Jvm.MethodName)) ∈ lw_all := lw_g (lw_at lw_m5 105 rfl) rfl
theorem q1190 : (Jvm.Cond.code ({ cls := "HeirsAtLaw", name := "degree", desc := "(II)I" } : Jvm.MethodName) prog_1_method_20_code (3 : Nat) (Option.some Jvm.ClassFile.FieldType.int)) ∈ lw_all := lw_g (lw_at lw_m5 106 rfl) rfl
theorem q1191 : (Jvm.Cond.methodLink "HeirsAtLaw" (132 : Nat) ({ cls := "HeirsAtLaw", name := "isPerson", desc := "(I)Z" } : Jvm.MethodName)) ∈ lw_all := lw_g (lw_at lw_m5 107 rfl) rfl
theorem q1192 : (Jvm.Cond.privateMethod ({ cls := "HeirsAtLaw", name := "isPerson", desc := "(I)Z" } : Jvm.MethodName)) ∈ lw_tbl := lw_at lw_m5 108 rfl
theorem q1193 : (Jvm.Cond.instanceMethod ({ cls := "HeirsAtLaw", name := "isPerson", desc := "(I)Z" } : Jvm.MethodName)) ∈ lw_all := lw_g (lw_at lw_m5 109 rfl) rfl
theorem q1194 : (Jvm.Cond.code ({ cls := "HeirsAtLaw", name := "isPerson", desc := "(I)Z" } : Jvm.MethodName) prog_1_method_14_code (2 : Nat) (Option.some Jvm.ClassFile.FieldType.boolean)) ∈ lw_all := lw_g (lw_at lw_m5 110 rfl) rfl
theorem q1195 : (Jvm.Cond.methodLink "HeirsAtLaw" (128 : Nat) ({ cls := "HeirsAtLaw$Family", name := "isPerson", desc := "(I)Z" } : Jvm.MethodName)) ∈ lw_all := lw_g (lw_at lw_m5 111 rfl) rfl
theorem q1201 : (Jvm.Cond.methodLink "HeirsAtLaw" (198 : Nat) ({ cls := "HeirsAtLaw$Family", name := "degree", desc := "(II)I" } : Jvm.MethodName)) ∈ lw_all := lw_g (lw_at lw_m5 117 rfl) rfl
theorem q1213 : (Jvm.Cond.instanceMethod ({ cls := "HeirsAtLaw", name := "now", desc := "(I)I" } : Jvm.MethodName)) ∈ lw_all := lw_g (lw_at lw_m5 129 rfl) rfl
theorem q1214 : (Jvm.Cond.selects "HeirsAtLaw" ({ cls := "HeirsAtLaw", name := "now", desc := "(I)I" } : Jvm.MethodName) ({ cls := "HeirsAtLaw", name := "now", desc := "(I)I" } : Jvm.MethodName)) ∈ lw_all := lw_g (lw_at lw_m5 130 rfl) rfl
theorem q1215 : (Jvm.Cond.code ({ cls := "HeirsAtLaw", name := "now", desc := "(I)I" } : Jvm.MethodName) prog_1_method_22_code (2 : Nat) (Option.some Jvm.ClassFile.FieldType.int)) ∈ lw_all := lw_g (lw_at lw_m5 131 rfl) rfl
theorem q1216 : (Jvm.Cond.methodLink "HeirsAtLaw" (212 : Nat) ({ cls := "HeirsAtLaw", name := "wedOnes", desc := "()I" } : Jvm.MethodName)) ∈ lw_all := lw_g (lw_at lw_m5 132 rfl) rfl
theorem q1217 : (Jvm.Cond.privateMethod ({ cls := "HeirsAtLaw", name := "wedOnes", desc := "()I" } : Jvm.MethodName)) ∈ lw_tbl := lw_at lw_m5 133 rfl
theorem q1218 : (Jvm.Cond.instanceMethod ({ cls := "HeirsAtLaw", name := "wedOnes", desc := "()I" } : Jvm.MethodName)) ∈ lw_all := lw_g (lw_at lw_m5 134 rfl) rfl
theorem q1219 : (Jvm.Cond.code ({ cls := "HeirsAtLaw", name := "wedOnes", desc := "()I" } : Jvm.MethodName) prog_1_method_21_code (3 : Nat) (Option.some Jvm.ClassFile.FieldType.int)) ∈ lw_all := lw_g (lw_at lw_m5 135 rfl) rfl
theorem q1220 : (Jvm.Cond.methodLink "HeirsAtLaw" (201 : Nat) ({ cls := "HeirsAtLaw", name := "persons", desc := "()I" } : Jvm.MethodName)) ∈ lw_all := lw_g (lw_at lw_m5 136 rfl) rfl
theorem q1221 : (Jvm.Cond.privateMethod ({ cls := "HeirsAtLaw", name := "persons", desc := "()I" } : Jvm.MethodName)) ∈ lw_tbl := lw_at lw_m5 137 rfl
theorem q1222 : (Jvm.Cond.instanceMethod ({ cls := "HeirsAtLaw", name := "persons", desc := "()I" } : Jvm.MethodName)) ∈ lw_all := lw_g (lw_at lw_m5 138 rfl) rfl
theorem q1223 : (Jvm.Cond.code ({ cls := "HeirsAtLaw", name := "persons", desc := "()I" } : Jvm.MethodName) prog_1_method_16_code (1 : Nat) (Option.some Jvm.ClassFile.FieldType.int)) ∈ lw_all := lw_g (lw_at lw_m5 139 rfl) rfl
theorem q1224 : (Jvm.Cond.methodLink "HeirsAtLaw" (137 : Nat) ({ cls := "java/util/ArrayList", name := "size", desc := "()I" } : Jvm.MethodName)) ∈ lw_all := lw_g (lw_at lw_m5 140 rfl) rfl
theorem q1225 : (Jvm.Cond.methodLink "HeirsAtLaw" (203 : Nat) ({ cls := "HeirsAtLaw$Estate", name := "isWed", desc := "(I)Z" } : Jvm.MethodName)) ∈ lw_all := lw_g (lw_at lw_m5 141 rfl) rfl
theorem q1229 : (Jvm.Cond.methodLink "HeirsAtLaw" (218 : Nat) ({ cls := "HeirsAtLaw$Estate", name := "allCoins", desc := "()I" } : Jvm.MethodName)) ∈ lw_all := lw_g (lw_at lw_m5 145 rfl) rfl
theorem q1234 : (Jvm.Cond.instanceMethod ({ cls := "HeirsAtLaw", name := "die", desc := "(I)I" } : Jvm.MethodName)) ∈ lw_all := lw_g (lw_at lw_m5 150 rfl) rfl
theorem q1235 : (Jvm.Cond.selects "HeirsAtLaw" ({ cls := "HeirsAtLaw", name := "die", desc := "(I)I" } : Jvm.MethodName) ({ cls := "HeirsAtLaw", name := "die", desc := "(I)I" } : Jvm.MethodName)) ∈ lw_all := lw_g (lw_at lw_m5 151 rfl) rfl
theorem q1236 : (Jvm.Cond.code ({ cls := "HeirsAtLaw", name := "die", desc := "(I)I" } : Jvm.MethodName) prog_1_method_25_code (2 : Nat) (Option.some Jvm.ClassFile.FieldType.int)) ∈ lw_all := lw_g (lw_at lw_m5 152 rfl) rfl
theorem q1237 : (Jvm.Cond.classLink "HeirsAtLaw" (237 : Nat) "HeirsAtLaw$Dies") ∈ lw_all := lw_g (lw_at lw_m5 153 rfl) rfl
theorem q1239 : (Jvm.Cond.methodLink "HeirsAtLaw" (239 : Nat) ({ cls := "HeirsAtLaw$Dies", name := "<init>", desc := "(I)V" } : Jvm.MethodName)) ∈ lw_all := lw_g (lw_at lw_m5 155 rfl) rfl
theorem q1265 : (Jvm.Cond.methodLink "HeirsAtLaw" (241 : Nat) ({ cls := "HeirsAtLaw", name := "doIt", desc := "(LHeirsAtLaw$Act;)I" } : Jvm.MethodName)) ∈ lw_all := lw_g (lw_at lw_m5 181 rfl) rfl
theorem q1266 : (Jvm.Cond.privateMethod ({ cls := "HeirsAtLaw", name := "doIt", desc := "(LHeirsAtLaw$Act;)I" } : Jvm.MethodName)) ∈ lw_tbl := lw_at lw_m5 182 rfl
theorem q1267 : (Jvm.Cond.instanceMethod ({ cls := "HeirsAtLaw", name := "doIt", desc := "(LHeirsAtLaw$Act;)I" } : Jvm.MethodName)) ∈ lw_all := lw_g (lw_at lw_m5 183 rfl) rfl
theorem q1268 : (Jvm.Cond.code ({ cls := "HeirsAtLaw", name := "doIt", desc := "(LHeirsAtLaw$Act;)I" } : Jvm.MethodName) prog_1_method_24_code (3 : Nat) (Option.some Jvm.ClassFile.FieldType.int)) ∈ lw_all := lw_g (lw_at lw_m5 184 rfl) rfl
theorem q1269 : (Jvm.Cond.methodLink "HeirsAtLaw" (224 : Nat) ({ cls := "HeirsAtLaw$Estate", name := "as", desc := "(LHeirsAtLaw$Estate;)LHeirsAtLaw$Estate;" } : Jvm.MethodName)) ∈ lw_all := lw_g (lw_at lw_m5 185 rfl) rfl
theorem q1277 : (Jvm.Cond.methodLink "HeirsAtLaw" (228 : Nat) ({ cls := "HeirsAtLaw$Act", name := "does", desc := "(LHeirsAtLaw$Estate;)I" } : Jvm.MethodName)) ∈ lw_all := lw_g (lw_at lw_m5 193 rfl) rfl
theorem q1410 : (Jvm.Cond.methodLink "HeirsAtLaw" (234 : Nat) ({ cls := "HeirsAtLaw", name := "snap", desc := "()V" } : Jvm.MethodName)) ∈ lw_all := lw_g (lw_at lw_m6 86 rfl) rfl
theorem q1411 : (Jvm.Cond.privateMethod ({ cls := "HeirsAtLaw", name := "snap", desc := "()V" } : Jvm.MethodName)) ∈ lw_tbl := lw_at lw_m6 87 rfl
theorem q1412 : (Jvm.Cond.instanceMethod ({ cls := "HeirsAtLaw", name := "snap", desc := "()V" } : Jvm.MethodName)) ∈ lw_all := lw_g (lw_at lw_m6 88 rfl) rfl
theorem q1413 : (Jvm.Cond.code ({ cls := "HeirsAtLaw", name := "snap", desc := "()V" } : Jvm.MethodName) prog_1_method_23_code (3 : Nat) (Option.none : Option Jvm.ClassFile.FieldType)) ∈ lw_all := lw_g (lw_at lw_m6 89 rfl) rfl
theorem q1415 : (Jvm.Cond.instanceMethod ({ cls := "HeirsAtLaw", name := "wed", desc := "(II)I" } : Jvm.MethodName)) ∈ lw_all := lw_g (lw_at lw_m6 91 rfl) rfl
theorem q1416 : (Jvm.Cond.selects "HeirsAtLaw" ({ cls := "HeirsAtLaw", name := "wed", desc := "(II)I" } : Jvm.MethodName) ({ cls := "HeirsAtLaw", name := "wed", desc := "(II)I" } : Jvm.MethodName)) ∈ lw_all := lw_g (lw_at lw_m6 92 rfl) rfl
theorem q1417 : (Jvm.Cond.code ({ cls := "HeirsAtLaw", name := "wed", desc := "(II)I" } : Jvm.MethodName) prog_1_method_26_code (3 : Nat) (Option.some Jvm.ClassFile.FieldType.int)) ∈ lw_all := lw_g (lw_at lw_m6 93 rfl) rfl
theorem q1418 : (Jvm.Cond.methodLink "HeirsAtLaw" (245 : Nat) ({ cls := "HeirsAtLaw", name := "areTwo", desc := "(II)Z" } : Jvm.MethodName)) ∈ lw_all := lw_g (lw_at lw_m6 94 rfl) rfl
theorem q1419 : (Jvm.Cond.privateMethod ({ cls := "HeirsAtLaw", name := "areTwo", desc := "(II)Z" } : Jvm.MethodName)) ∈ lw_tbl := lw_at lw_m6 95 rfl
theorem q1420 : (Jvm.Cond.instanceMethod ({ cls := "HeirsAtLaw", name := "areTwo", desc := "(II)Z" } : Jvm.MethodName)) ∈ lw_all := lw_g (lw_at lw_m6 96 rfl) rfl
theorem q1421 : (Jvm.Cond.code ({ cls := "HeirsAtLaw", name := "areTwo", desc := "(II)Z" } : Jvm.MethodName) prog_1_method_15_code (3 : Nat) (Option.some Jvm.ClassFile.FieldType.boolean)) ∈ lw_all := lw_g (lw_at lw_m6 97 rfl) rfl
theorem q1422 : (Jvm.Cond.classLink "HeirsAtLaw" (249 : Nat) "HeirsAtLaw$Weds") ∈ lw_all := lw_g (lw_at lw_m6 98 rfl) rfl
theorem q1424 : (Jvm.Cond.methodLink "HeirsAtLaw" (251 : Nat) ({ cls := "HeirsAtLaw$Weds", name := "<init>", desc := "(II)V" } : Jvm.MethodName)) ∈ lw_all := lw_g (lw_at lw_m6 100 rfl) rfl
theorem q1443 : (Jvm.Cond.instanceMethod ({ cls := "HeirsAtLaw", name := "part", desc := "(I)I" } : Jvm.MethodName)) ∈ lw_all := lw_g (lw_at lw_m6 119 rfl) rfl
theorem q1444 : (Jvm.Cond.selects "HeirsAtLaw" ({ cls := "HeirsAtLaw", name := "part", desc := "(I)I" } : Jvm.MethodName) ({ cls := "HeirsAtLaw", name := "part", desc := "(I)I" } : Jvm.MethodName)) ∈ lw_all := lw_g (lw_at lw_m6 120 rfl) rfl
theorem q1445 : (Jvm.Cond.code ({ cls := "HeirsAtLaw", name := "part", desc := "(I)I" } : Jvm.MethodName) prog_1_method_27_code (2 : Nat) (Option.some Jvm.ClassFile.FieldType.int)) ∈ lw_all := lw_g (lw_at lw_m6 121 rfl) rfl
theorem q1446 : (Jvm.Cond.classLink "HeirsAtLaw" (254 : Nat) "HeirsAtLaw$Parts") ∈ lw_all := lw_g (lw_at lw_m6 122 rfl) rfl
theorem q1448 : (Jvm.Cond.methodLink "HeirsAtLaw" (256 : Nat) ({ cls := "HeirsAtLaw$Parts", name := "<init>", desc := "(I)V" } : Jvm.MethodName)) ∈ lw_all := lw_g (lw_at lw_m6 124 rfl) rfl
theorem q1455 : (Jvm.Cond.instanceMethod ({ cls := "HeirsAtLaw", name := "give", desc := "(III)I" } : Jvm.MethodName)) ∈ lw_all := lw_g (lw_at lw_m6 131 rfl) rfl
theorem q1456 : (Jvm.Cond.selects "HeirsAtLaw" ({ cls := "HeirsAtLaw", name := "give", desc := "(III)I" } : Jvm.MethodName) ({ cls := "HeirsAtLaw", name := "give", desc := "(III)I" } : Jvm.MethodName)) ∈ lw_all := lw_g (lw_at lw_m6 132 rfl) rfl
theorem q1457 : (Jvm.Cond.code ({ cls := "HeirsAtLaw", name := "give", desc := "(III)I" } : Jvm.MethodName) prog_1_method_28_code (4 : Nat) (Option.some Jvm.ClassFile.FieldType.int)) ∈ lw_all := lw_g (lw_at lw_m6 133 rfl) rfl
theorem q1458 : (Jvm.Cond.classLink "HeirsAtLaw" (257 : Nat) "HeirsAtLaw$Gives") ∈ lw_all := lw_g (lw_at lw_m6 134 rfl) rfl
theorem q1460 : (Jvm.Cond.methodLink "HeirsAtLaw" (259 : Nat) ({ cls := "HeirsAtLaw$Gives", name := "<init>", desc := "(III)V" } : Jvm.MethodName)) ∈ lw_all := lw_g (lw_at lw_m6 136 rfl) rfl
theorem q1471 : (Jvm.Cond.instanceMethod ({ cls := "HeirsAtLaw", name := "leave", desc := "(III)I" } : Jvm.MethodName)) ∈ lw_all := lw_g (lw_at lw_m6 147 rfl) rfl
theorem q1472 : (Jvm.Cond.selects "HeirsAtLaw" ({ cls := "HeirsAtLaw", name := "leave", desc := "(III)I" } : Jvm.MethodName) ({ cls := "HeirsAtLaw", name := "leave", desc := "(III)I" } : Jvm.MethodName)) ∈ lw_all := lw_g (lw_at lw_m6 148 rfl) rfl
theorem q1473 : (Jvm.Cond.code ({ cls := "HeirsAtLaw", name := "leave", desc := "(III)I" } : Jvm.MethodName) prog_1_method_29_code (4 : Nat) (Option.some Jvm.ClassFile.FieldType.int)) ∈ lw_all := lw_g (lw_at lw_m6 149 rfl) rfl
theorem q1474 : (Jvm.Cond.classLink "HeirsAtLaw" (262 : Nat) "HeirsAtLaw$Leaves") ∈ lw_all := lw_g (lw_at lw_m6 150 rfl) rfl
theorem q1476 : (Jvm.Cond.methodLink "HeirsAtLaw" (264 : Nat) ({ cls := "HeirsAtLaw$Leaves", name := "<init>", desc := "(III)V" } : Jvm.MethodName)) ∈ lw_all := lw_g (lw_at lw_m6 152 rfl) rfl
theorem q1487 : (Jvm.Cond.instanceMethod ({ cls := "HeirsAtLaw", name := "revoke", desc := "(I)I" } : Jvm.MethodName)) ∈ lw_all := lw_g (lw_at lw_m6 163 rfl) rfl
theorem q1488 : (Jvm.Cond.selects "HeirsAtLaw" ({ cls := "HeirsAtLaw", name := "revoke", desc := "(I)I" } : Jvm.MethodName) ({ cls := "HeirsAtLaw", name := "revoke", desc := "(I)I" } : Jvm.MethodName)) ∈ lw_all := lw_g (lw_at lw_m6 164 rfl) rfl
theorem q1489 : (Jvm.Cond.code ({ cls := "HeirsAtLaw", name := "revoke", desc := "(I)I" } : Jvm.MethodName) prog_1_method_30_code (2 : Nat) (Option.some Jvm.ClassFile.FieldType.int)) ∈ lw_all := lw_g (lw_at lw_m6 165 rfl) rfl
theorem q1490 : (Jvm.Cond.classLink "HeirsAtLaw" (265 : Nat) "HeirsAtLaw$Revokes") ∈ lw_all := lw_g (lw_at lw_m6 166 rfl) rfl
theorem q1492 : (Jvm.Cond.methodLink "HeirsAtLaw" (267 : Nat) ({ cls := "HeirsAtLaw$Revokes", name := "<init>", desc := "(I)V" } : Jvm.MethodName)) ∈ lw_all := lw_g (lw_at lw_m6 168 rfl) rfl
theorem q1499 : (Jvm.Cond.instanceMethod ({ cls := "HeirsAtLaw", name := "years", desc := "(I)I" } : Jvm.MethodName)) ∈ lw_all := lw_g (lw_at lw_m6 175 rfl) rfl
theorem q1500 : (Jvm.Cond.selects "HeirsAtLaw" ({ cls := "HeirsAtLaw", name := "years", desc := "(I)I" } : Jvm.MethodName) ({ cls := "HeirsAtLaw", name := "years", desc := "(I)I" } : Jvm.MethodName)) ∈ lw_all := lw_g (lw_at lw_m6 176 rfl) rfl
theorem q1501 : (Jvm.Cond.code ({ cls := "HeirsAtLaw", name := "years", desc := "(I)I" } : Jvm.MethodName) prog_1_method_31_code (2 : Nat) (Option.some Jvm.ClassFile.FieldType.int)) ∈ lw_all := lw_g (lw_at lw_m6 177 rfl) rfl
theorem q1502 : (Jvm.Cond.methodLink "HeirsAtLaw" (268 : Nat) ({ cls := "HeirsAtLaw$Estate", name := "isOver", desc := "()Z" } : Jvm.MethodName)) ∈ lw_all := lw_g (lw_at lw_m6 178 rfl) rfl
theorem q1503 : (Jvm.Cond.methodLink "HeirsAtLaw" (272 : Nat) ({ cls := "HeirsAtLaw$Estate", name := "passAll", desc := "(I)I" } : Jvm.MethodName)) ∈ lw_all := lw_g (lw_at lw_m6 179 rfl) rfl
theorem q1505 : (Jvm.Cond.instanceMethod ({ cls := "HeirsAtLaw", name := "undo", desc := "()I" } : Jvm.MethodName)) ∈ lw_all := lw_g (lw_at lw_m6 181 rfl) rfl
theorem q1506 : (Jvm.Cond.selects "HeirsAtLaw" ({ cls := "HeirsAtLaw", name := "undo", desc := "()I" } : Jvm.MethodName) ({ cls := "HeirsAtLaw", name := "undo", desc := "()I" } : Jvm.MethodName)) ∈ lw_all := lw_g (lw_at lw_m6 182 rfl) rfl
theorem q1507 : (Jvm.Cond.code ({ cls := "HeirsAtLaw", name := "undo", desc := "()I" } : Jvm.MethodName) prog_1_method_32_code (1 : Nat) (Option.some Jvm.ClassFile.FieldType.int)) ∈ lw_all := lw_g (lw_at lw_m6 183 rfl) rfl
theorem q1509 : (Jvm.Cond.instanceMethod ({ cls := "HeirsAtLaw", name := "gets", desc := "(II)I" } : Jvm.MethodName)) ∈ lw_all := lw_g (lw_at lw_m6 185 rfl) rfl
theorem q1510 : (Jvm.Cond.selects "HeirsAtLaw" ({ cls := "HeirsAtLaw", name := "gets", desc := "(II)I" } : Jvm.MethodName) ({ cls := "HeirsAtLaw", name := "gets", desc := "(II)I" } : Jvm.MethodName)) ∈ lw_all := lw_g (lw_at lw_m6 186 rfl) rfl
theorem q1511 : (Jvm.Cond.code ({ cls := "HeirsAtLaw", name := "gets", desc := "(II)I" } : Jvm.MethodName) prog_1_method_34_code (3 : Nat) (Option.some Jvm.ClassFile.FieldType.int)) ∈ lw_all := lw_g (lw_at lw_m6 187 rfl) rfl
theorem q1512 : (Jvm.Cond.methodLink "HeirsAtLaw" (165 : Nat) ({ cls := "HeirsAtLaw$Estate", name := "lives", desc := "(I)Z" } : Jvm.MethodName)) ∈ lw_all := lw_g (lw_at lw_m6 188 rfl) rfl
theorem q1513 : (Jvm.Cond.methodLink "HeirsAtLaw" (278 : Nat) ({ cls := "HeirsAtLaw", name := "getsBy", desc := "(II)I" } : Jvm.MethodName)) ∈ lw_all := lw_g (lw_at lw_m6 189 rfl) rfl
theorem q1514 : (Jvm.Cond.privateMethod ({ cls := "HeirsAtLaw", name := "getsBy", desc := "(II)I" } : Jvm.MethodName)) ∈ lw_tbl := lw_at lw_m6 190 rfl
theorem q1515 : (Jvm.Cond.instanceMethod ({ cls := "HeirsAtLaw", name := "getsBy", desc := "(II)I" } : Jvm.MethodName)) ∈ lw_all := lw_g (lw_at lw_m6 191 rfl) rfl
theorem q1516 : (Jvm.Cond.code ({ cls := "HeirsAtLaw", name := "getsBy", desc := "(II)I" } : Jvm.MethodName) prog_1_method_33_code (3 : Nat) (Option.some Jvm.ClassFile.FieldType.int)) ∈ lw_all := lw_g (lw_at lw_m6 192 rfl) rfl
theorem q1517 : (Jvm.Cond.methodLink "HeirsAtLaw" (275 : Nat) ({ cls := "HeirsAtLaw$Estate", name := "die", desc := "(I)V" } : Jvm.MethodName)) ∈ lw_all := lw_g (lw_at lw_m6 193 rfl) rfl
theorem q1519 : (Jvm.Cond.instanceMethod ({ cls := "HeirsAtLaw", name := "after", desc := "()I" } : Jvm.MethodName)) ∈ lw_all := lw_g (lw_at lw_m6 195 rfl) rfl
theorem q1520 : (Jvm.Cond.selects "HeirsAtLaw" ({ cls := "HeirsAtLaw", name := "after", desc := "()I" } : Jvm.MethodName) ({ cls := "HeirsAtLaw", name := "after", desc := "()I" } : Jvm.MethodName)) ∈ lw_all := lw_g (lw_at lw_m6 196 rfl) rfl
theorem q1521 : (Jvm.Cond.code ({ cls := "HeirsAtLaw", name := "after", desc := "()I" } : Jvm.MethodName) prog_1_method_36_code (3 : Nat) (Option.some Jvm.ClassFile.FieldType.int)) ∈ lw_all := lw_g (lw_at lw_m6 197 rfl) rfl
theorem q1522 : (Jvm.Cond.methodLink "HeirsAtLaw" (287 : Nat) ({ cls := "HeirsAtLaw", name := "onTapeAll", desc := "(II)I" } : Jvm.MethodName)) ∈ lw_all := lw_g (lw_at lw_m6 198 rfl) rfl
theorem q1523 : (Jvm.Cond.privateMethod ({ cls := "HeirsAtLaw", name := "onTapeAll", desc := "(II)I" } : Jvm.MethodName)) ∈ lw_tbl := lw_at lw_m6 199 rfl
theorem q1524 : (Jvm.Cond.instanceMethod ({ cls := "HeirsAtLaw", name := "onTapeAll", desc := "(II)I" } : Jvm.MethodName)) ∈ lw_all := lw_g (lw_at lw_m6 200 rfl) rfl
theorem q1525 : (Jvm.Cond.code ({ cls := "HeirsAtLaw", name := "onTapeAll", desc := "(II)I" } : Jvm.MethodName) prog_1_method_35_code (5 : Nat) (Option.some Jvm.ClassFile.FieldType.int)) ∈ lw_all := lw_g (lw_at lw_m6 201 rfl) rfl
theorem q1526 : (Jvm.Cond.methodLink "HeirsAtLaw" (281 : Nat) ({ cls := "HeirsAtLaw", name := "onTape", desc := "(I)I" } : Jvm.MethodName)) ∈ lw_all := lw_g (lw_at lw_m6 202 rfl) rfl
theorem q1527 : (Jvm.Cond.privateMethod ({ cls := "HeirsAtLaw", name := "onTape", desc := "(I)I" } : Jvm.MethodName)) ∈ lw_tbl := lw_at lw_m6 203 rfl
theorem q1528 : (Jvm.Cond.instanceMethod ({ cls := "HeirsAtLaw", name := "onTape", desc := "(I)I" } : Jvm.MethodName)) ∈ lw_all := lw_g (lw_at lw_m6 204 rfl) rfl
theorem q1529 : (Jvm.Cond.code ({ cls := "HeirsAtLaw", name := "onTape", desc := "(I)I" } : Jvm.MethodName) prog_1_method_11_code (2 : Nat) (Option.some Jvm.ClassFile.FieldType.int)) ∈ lw_all := lw_g (lw_at lw_m6 205 rfl) rfl
theorem q1530 : (Jvm.Cond.methodLink "HeirsAtLaw" (284 : Nat) ({ cls := "HeirsAtLaw", name := "isOf", desc := "(II)Z" } : Jvm.MethodName)) ∈ lw_all := lw_g (lw_at lw_m6 206 rfl) rfl
theorem q1531 : (Jvm.Cond.methodLink "HeirsAtLaw" (293 : Nat) ({ cls := "java/lang/System", name := "arraycopy", desc := "(Ljava/lang/Object;ILjava/lang/Object;II)V" } : Jvm.MethodName)) ∈ lw_all := lw_g (lw_at lw_m6 207 rfl) rfl
theorem q1533 : (Jvm.Cond.instanceMethod ({ cls := "HeirsAtLaw", name := "afterOf", desc := "(I)I" } : Jvm.MethodName)) ∈ lw_all := lw_g (lw_at lw_m6 209 rfl) rfl
theorem q1534 : (Jvm.Cond.selects "HeirsAtLaw" ({ cls := "HeirsAtLaw", name := "afterOf", desc := "(I)I" } : Jvm.MethodName) ({ cls := "HeirsAtLaw", name := "afterOf", desc := "(I)I" } : Jvm.MethodName)) ∈ lw_all := lw_g (lw_at lw_m6 210 rfl) rfl
theorem q1535 : (Jvm.Cond.code ({ cls := "HeirsAtLaw", name := "afterOf", desc := "(I)I" } : Jvm.MethodName) prog_1_method_37_code (2 : Nat) (Option.some Jvm.ClassFile.FieldType.int)) ∈ lw_all := lw_g (lw_at lw_m6 211 rfl) rfl
theorem q1537 : (Jvm.Cond.instanceMethod ({ cls := "HeirsAtLaw", name := "best", desc := "(I)I" } : Jvm.MethodName)) ∈ lw_all := lw_g (lw_at lw_m6 213 rfl) rfl
theorem q1538 : (Jvm.Cond.selects "HeirsAtLaw" ({ cls := "HeirsAtLaw", name := "best", desc := "(I)I" } : Jvm.MethodName) ({ cls := "HeirsAtLaw", name := "best", desc := "(I)I" } : Jvm.MethodName)) ∈ lw_all := lw_g (lw_at lw_m6 214 rfl) rfl
theorem q1539 : (Jvm.Cond.code ({ cls := "HeirsAtLaw", name := "best", desc := "(I)I" } : Jvm.MethodName) prog_1_method_40_code (4 : Nat) (Option.some Jvm.ClassFile.FieldType.int)) ∈ lw_all := lw_g (lw_at lw_m6 215 rfl) rfl
theorem q1540 : (Jvm.Cond.methodLink "HeirsAtLaw" (308 : Nat) ({ cls := "HeirsAtLaw", name := "tryRows", desc := "(III)V" } : Jvm.MethodName)) ∈ lw_all := lw_g (lw_at lw_m6 216 rfl) rfl
theorem q1541 : (Jvm.Cond.privateMethod ({ cls := "HeirsAtLaw", name := "tryRows", desc := "(III)V" } : Jvm.MethodName)) ∈ lw_tbl := lw_at lw_m6 217 rfl
theorem q1542 : (Jvm.Cond.instanceMethod ({ cls := "HeirsAtLaw", name := "tryRows", desc := "(III)V" } : Jvm.MethodName)) ∈ lw_all := lw_g (lw_at lw_m6 218 rfl) rfl
theorem q1543 : (Jvm.Cond.code ({ cls := "HeirsAtLaw", name := "tryRows", desc := "(III)V" } : Jvm.MethodName) prog_1_method_39_code (5 : Nat) (Option.none : Option Jvm.ClassFile.FieldType)) ∈ lw_all := lw_g (lw_at lw_m6 219 rfl) rfl
theorem q1544 : (Jvm.Cond.methodLink "HeirsAtLaw" (305 : Nat) ({ cls := "HeirsAtLaw", name := "tryRow", desc := "(II)V" } : Jvm.MethodName)) ∈ lw_all := lw_g (lw_at lw_m6 220 rfl) rfl
theorem q1545 : (Jvm.Cond.privateMethod ({ cls := "HeirsAtLaw", name := "tryRow", desc := "(II)V" } : Jvm.MethodName)) ∈ lw_tbl := lw_at lw_m6 221 rfl
theorem q1546 : (Jvm.Cond.instanceMethod ({ cls := "HeirsAtLaw", name := "tryRow", desc := "(II)V" } : Jvm.MethodName)) ∈ lw_all := lw_g (lw_at lw_m6 222 rfl) rfl
theorem q1547 : (Jvm.Cond.code ({ cls := "HeirsAtLaw", name := "tryRow", desc := "(II)V" } : Jvm.MethodName) prog_1_method_38_code (4 : Nat) (Option.none : Option Jvm.ClassFile.FieldType)) ∈ lw_all := lw_g (lw_at lw_m6 223 rfl) rfl
theorem q1549 : (Jvm.Cond.instanceMethod ({ cls := "HeirsAtLaw", name := "bestAt", desc := "(I)I" } : Jvm.MethodName)) ∈ lw_all := lw_g (lw_at lw_m6 225 rfl) rfl
theorem q1550 : (Jvm.Cond.selects "HeirsAtLaw" ({ cls := "HeirsAtLaw", name := "bestAt", desc := "(I)I" } : Jvm.MethodName) ({ cls := "HeirsAtLaw", name := "bestAt", desc := "(I)I" } : Jvm.MethodName)) ∈ lw_all := lw_g (lw_at lw_m6 226 rfl) rfl
theorem q1551 : (Jvm.Cond.code ({ cls := "HeirsAtLaw", name := "bestAt", desc := "(I)I" } : Jvm.MethodName) prog_1_method_41_code (2 : Nat) (Option.some Jvm.ClassFile.FieldType.int)) ∈ lw_all := lw_g (lw_at lw_m6 227 rfl) rfl
theorem q1553 : (Jvm.Cond.instanceMethod ({ cls := "HeirsAtLaw", name := "clear", desc := "(II)I" } : Jvm.MethodName)) ∈ lw_all := lw_g (lw_at lw_m6 229 rfl) rfl
theorem q1554 : (Jvm.Cond.selects "HeirsAtLaw" ({ cls := "HeirsAtLaw", name := "clear", desc := "(II)I" } : Jvm.MethodName) ({ cls := "HeirsAtLaw", name := "clear", desc := "(II)I" } : Jvm.MethodName)) ∈ lw_all := lw_g (lw_at lw_m6 230 rfl) rfl
theorem q1555 : (Jvm.Cond.code ({ cls := "HeirsAtLaw", name := "clear", desc := "(II)I" } : Jvm.MethodName) prog_1_method_43_code (6 : Nat) (Option.some Jvm.ClassFile.FieldType.int)) ∈ lw_all := lw_g (lw_at lw_m6 231 rfl) rfl
theorem q1556 : (Jvm.Cond.methodLink "HeirsAtLaw" (311 : Nat) ({ cls := "HeirsAtLaw", name := "many", desc := "(I)I" } : Jvm.MethodName)) ∈ lw_all := lw_g (lw_at lw_m6 232 rfl) rfl
theorem q1557 : (Jvm.Cond.methodLink "HeirsAtLaw" (314 : Nat) ({ cls := "HeirsAtLaw", name := "clears", desc := "(III)Z" } : Jvm.MethodName)) ∈ lw_all := lw_g (lw_at lw_m6 233 rfl) rfl
theorem q1558 : (Jvm.Cond.privateMethod ({ cls := "HeirsAtLaw", name := "clears", desc := "(III)Z" } : Jvm.MethodName)) ∈ lw_tbl := lw_at lw_m6 234 rfl
theorem q1559 : (Jvm.Cond.instanceMethod ({ cls := "HeirsAtLaw", name := "clears", desc := "(III)Z" } : Jvm.MethodName)) ∈ lw_all := lw_g (lw_at lw_m6 235 rfl) rfl
theorem q1560 : (Jvm.Cond.code ({ cls := "HeirsAtLaw", name := "clears", desc := "(III)Z" } : Jvm.MethodName) prog_1_method_42_code (5 : Nat) (Option.some Jvm.ClassFile.FieldType.boolean)) ∈ lw_all := lw_g (lw_at lw_m6 236 rfl) rfl
theorem q1562 : (Jvm.Cond.instanceMethod ({ cls := "HeirsAtLaw", name := "cleared", desc := "()I" } : Jvm.MethodName)) ∈ lw_all := lw_g (lw_at lw_m6 238 rfl) rfl
theorem q1563 : (Jvm.Cond.selects "HeirsAtLaw" ({ cls := "HeirsAtLaw", name := "cleared", desc := "()I" } : Jvm.MethodName) ({ cls := "HeirsAtLaw", name := "cleared", desc := "()I" } : Jvm.MethodName)) ∈ lw_all := lw_g (lw_at lw_m6 239 rfl) rfl
theorem q1564 : (Jvm.Cond.code ({ cls := "HeirsAtLaw", name := "cleared", desc := "()I" } : Jvm.MethodName) prog_1_method_44_code (1 : Nat) (Option.some Jvm.ClassFile.FieldType.int)) ∈ lw_all := lw_g (lw_at lw_m7 0 rfl) rfl
theorem q1566 : (Jvm.Cond.instanceMethod ({ cls := "HeirsAtLaw", name := "fits", desc := "()I" } : Jvm.MethodName)) ∈ lw_all := lw_g (lw_at lw_m7 2 rfl) rfl
theorem q1567 : (Jvm.Cond.selects "HeirsAtLaw" ({ cls := "HeirsAtLaw", name := "fits", desc := "()I" } : Jvm.MethodName) ({ cls := "HeirsAtLaw", name := "fits", desc := "()I" } : Jvm.MethodName)) ∈ lw_all := lw_g (lw_at lw_m7 3 rfl) rfl
theorem q1568 : (Jvm.Cond.code ({ cls := "HeirsAtLaw", name := "fits", desc := "()I" } : Jvm.MethodName) prog_1_method_47_code (4 : Nat) (Option.some Jvm.ClassFile.FieldType.int)) ∈ lw_all := lw_g (lw_at lw_m7 4 rfl) rfl
theorem q1569 : (Jvm.Cond.methodLink "HeirsAtLaw" (322 : Nat) ({ cls := "HeirsAtLaw", name := "isFit", desc := "(II)Z" } : Jvm.MethodName)) ∈ lw_all := lw_g (lw_at lw_m7 5 rfl) rfl
theorem q1570 : (Jvm.Cond.privateMethod ({ cls := "HeirsAtLaw", name := "isFit", desc := "(II)Z" } : Jvm.MethodName)) ∈ lw_tbl := lw_at lw_m7 6 rfl
theorem q1571 : (Jvm.Cond.instanceMethod ({ cls := "HeirsAtLaw", name := "isFit", desc := "(II)Z" } : Jvm.MethodName)) ∈ lw_all := lw_g (lw_at lw_m7 7 rfl) rfl
theorem q1572 : (Jvm.Cond.code ({ cls := "HeirsAtLaw", name := "isFit", desc := "(II)Z" } : Jvm.MethodName) prog_1_method_45_code (4 : Nat) (Option.some Jvm.ClassFile.FieldType.boolean)) ∈ lw_all := lw_g (lw_at lw_m7 8 rfl) rfl
theorem q1573 : (Jvm.Cond.methodLink "HeirsAtLaw" (325 : Nat) ({ cls := "HeirsAtLaw", name := "leftBy", desc := "(II)I" } : Jvm.MethodName)) ∈ lw_all := lw_g (lw_at lw_m7 9 rfl) rfl
theorem q1574 : (Jvm.Cond.privateMethod ({ cls := "HeirsAtLaw", name := "leftBy", desc := "(II)I" } : Jvm.MethodName)) ∈ lw_tbl := lw_at lw_m7 10 rfl
theorem q1575 : (Jvm.Cond.instanceMethod ({ cls := "HeirsAtLaw", name := "leftBy", desc := "(II)I" } : Jvm.MethodName)) ∈ lw_all := lw_g (lw_at lw_m7 11 rfl) rfl
theorem q1576 : (Jvm.Cond.code ({ cls := "HeirsAtLaw", name := "leftBy", desc := "(II)I" } : Jvm.MethodName) prog_1_method_46_code (8 : Nat) (Option.some Jvm.ClassFile.FieldType.int)) ∈ lw_all := lw_g (lw_at lw_m7 12 rfl) rfl
theorem q1577 : (Jvm.Cond.methodLink "HeirsAtLaw" (317 : Nat) ({ cls := "java/lang/Math", name := "max", desc := "(II)I" } : Jvm.MethodName)) ∈ lw_all := lw_g (lw_at lw_m7 13 rfl) rfl
theorem q1579 : (Jvm.Cond.instanceMethod ({ cls := "HeirsAtLaw", name := "ask", desc := "()I" } : Jvm.MethodName)) ∈ lw_all := lw_g (lw_at lw_m7 15 rfl) rfl
theorem q1580 : (Jvm.Cond.selects "HeirsAtLaw" ({ cls := "HeirsAtLaw", name := "ask", desc := "()I" } : Jvm.MethodName) ({ cls := "HeirsAtLaw", name := "ask", desc := "()I" } : Jvm.MethodName)) ∈ lw_all := lw_g (lw_at lw_m7 16 rfl) rfl
theorem q1581 : (Jvm.Cond.code ({ cls := "HeirsAtLaw", name := "ask", desc := "()I" } : Jvm.MethodName) prog_1_method_48_code (1 : Nat) (Option.some Jvm.ClassFile.FieldType.int)) ∈ lw_all := lw_g (lw_at lw_m7 17 rfl) rfl
theorem q1583 : (Jvm.Cond.instanceMethod ({ cls := "HeirsAtLaw", name := "crown", desc := "(I)I" } : Jvm.MethodName)) ∈ lw_all := lw_g (lw_at lw_m7 19 rfl) rfl
theorem q1584 : (Jvm.Cond.selects "HeirsAtLaw" ({ cls := "HeirsAtLaw", name := "crown", desc := "(I)I" } : Jvm.MethodName) ({ cls := "HeirsAtLaw", name := "crown", desc := "(I)I" } : Jvm.MethodName)) ∈ lw_all := lw_g (lw_at lw_m7 20 rfl) rfl
theorem q1585 : (Jvm.Cond.code ({ cls := "HeirsAtLaw", name := "crown", desc := "(I)I" } : Jvm.MethodName) prog_1_method_49_code (2 : Nat) (Option.some Jvm.ClassFile.FieldType.int)) ∈ lw_all := lw_g (lw_at lw_m7 21 rfl) rfl
theorem q1586 : (Jvm.Cond.methodLink "HeirsAtLaw" (328 : Nat) ({ cls := "HeirsAtLaw$Estate", name := "pass", desc := "()V" } : Jvm.MethodName)) ∈ lw_all := lw_g (lw_at lw_m7 22 rfl) rfl
theorem q1588 : (Jvm.Cond.instanceMethod ({ cls := "HeirsAtLaw", name := "richest", desc := "()I" } : Jvm.MethodName)) ∈ lw_all := lw_g (lw_at lw_m7 24 rfl) rfl
theorem q1589 : (Jvm.Cond.selects "HeirsAtLaw" ({ cls := "HeirsAtLaw", name := "richest", desc := "()I" } : Jvm.MethodName) ({ cls := "HeirsAtLaw", name := "richest", desc := "()I" } : Jvm.MethodName)) ∈ lw_all := lw_g (lw_at lw_m7 25 rfl) rfl
theorem q1590 : (Jvm.Cond.code ({ cls := "HeirsAtLaw", name := "richest", desc := "()I" } : Jvm.MethodName) prog_1_method_50_code (1 : Nat) (Option.some Jvm.ClassFile.FieldType.int)) ∈ lw_all := lw_g (lw_at lw_m7 26 rfl) rfl
theorem q1591 : (Jvm.Cond.methodLink "HeirsAtLaw" (331 : Nat) ({ cls := "HeirsAtLaw$Estate", name := "richest", desc := "()I" } : Jvm.MethodName)) ∈ lw_all := lw_g (lw_at lw_m7 27 rfl) rfl
theorem q1596 : (Jvm.Cond.instanceMethod ({ cls := "HeirsAtLaw", name := "eldest", desc := "()I" } : Jvm.MethodName)) ∈ lw_all := lw_g (lw_at lw_m7 32 rfl) rfl
theorem q1597 : (Jvm.Cond.selects "HeirsAtLaw" ({ cls := "HeirsAtLaw", name := "eldest", desc := "()I" } : Jvm.MethodName) ({ cls := "HeirsAtLaw", name := "eldest", desc := "()I" } : Jvm.MethodName)) ∈ lw_all := lw_g (lw_at lw_m7 33 rfl) rfl
theorem q1598 : (Jvm.Cond.code ({ cls := "HeirsAtLaw", name := "eldest", desc := "()I" } : Jvm.MethodName) prog_1_method_51_code (3 : Nat) (Option.some Jvm.ClassFile.FieldType.int)) ∈ lw_all := lw_g (lw_at lw_m7 34 rfl) rfl
theorem q1599 : (Jvm.Cond.methodLink "HeirsAtLaw" (154 : Nat) ({ cls := "HeirsAtLaw", name := "personOf", desc := "(I)LHeirsAtLaw$Person;" } : Jvm.MethodName)) ∈ lw_all := lw_g (lw_at lw_m7 35 rfl) rfl
theorem q1600 : (Jvm.Cond.privateMethod ({ cls := "HeirsAtLaw", name := "personOf", desc := "(I)LHeirsAtLaw$Person;" } : Jvm.MethodName)) ∈ lw_tbl := lw_at lw_m7 36 rfl
theorem q1601 : (Jvm.Cond.instanceMethod ({ cls := "HeirsAtLaw", name := "personOf", desc := "(I)LHeirsAtLaw$Person;" } : Jvm.MethodName)) ∈ lw_all := lw_g (lw_at lw_m7 37 rfl) rfl
theorem q1602 : (Jvm.Cond.code ({ cls := "HeirsAtLaw", name := "personOf", desc := "(I)LHeirsAtLaw$Person;" } : Jvm.MethodName) prog_1_method_17_code (2 : Nat) (Option.some (Jvm.ClassFile.FieldType.object "HeirsAtLaw$Person"))) ∈ lw_all := lw_g (lw_at lw_m7 38 rfl) rfl
theorem q1603 : (Jvm.Cond.methodLink "HeirsAtLaw" (142 : Nat) ({ cls := "HeirsAtLaw$Family", name := "person", desc := "(I)LHeirsAtLaw$Person;" } : Jvm.MethodName)) ∈ lw_all := lw_g (lw_at lw_m7 39 rfl) rfl
theorem q1605 : (Jvm.Cond.instanceMethod ({ cls := "HeirsAtLaw", name := "tag", desc := "(I)I" } : Jvm.MethodName)) ∈ lw_all := lw_g (lw_at lw_m7 41 rfl) rfl
theorem q1606 : (Jvm.Cond.selects "HeirsAtLaw" ({ cls := "HeirsAtLaw", name := "tag", desc := "(I)I" } : Jvm.MethodName) ({ cls := "HeirsAtLaw", name := "tag", desc := "(I)I" } : Jvm.MethodName)) ∈ lw_all := lw_g (lw_at lw_m7 42 rfl) rfl
theorem q1607 : (Jvm.Cond.code ({ cls := "HeirsAtLaw", name := "tag", desc := "(I)I" } : Jvm.MethodName) prog_1_method_53_code (3 : Nat) (Option.some Jvm.ClassFile.FieldType.int)) ∈ lw_all := lw_g (lw_at lw_m7 43 rfl) rfl
theorem q1608 : (Jvm.Cond.classLink "HeirsAtLaw" (334 : Nat) "java/lang/StringBuilder") ∈ lw_all := lw_g (lw_at lw_m7 44 rfl) rfl
theorem q1609 : (Jvm.Cond.methodLink "HeirsAtLaw" (339 : Nat) ({ cls := "java/lang/StringBuilder", name := "<init>", desc := "(Ljava/lang/String;)V" } : Jvm.MethodName)) ∈ lw_all := lw_g (lw_at lw_m7 45 rfl) rfl
theorem q1620 : (Jvm.Cond.stringRef "HeirsAtLaw" (342 : Nat) " dead") ∈ lw_tbl := lw_at lw_m7 56 rfl
theorem q1621 : (Jvm.Cond.methodLink "HeirsAtLaw" (344 : Nat) ({ cls := "java/lang/StringBuilder", name := "append", desc := "(Ljava/lang/String;)Ljava/lang/StringBuilder;" } : Jvm.MethodName)) ∈ lw_all := lw_g (lw_at lw_m7 57 rfl) rfl
theorem q1622 : (Jvm.Cond.stringRef "HeirsAtLaw" (348 : Nat) " wed ") ∈ lw_tbl := lw_at lw_m7 58 rfl
theorem q1623 : (Jvm.Cond.stringRef "HeirsAtLaw" (350 : Nat) " single") ∈ lw_tbl := lw_at lw_m7 59 rfl
theorem q1624 : (Jvm.Cond.stringRef "HeirsAtLaw" (352 : Nat) " has ") ∈ lw_tbl := lw_at lw_m7 60 rfl
theorem q1625 : (Jvm.Cond.methodLink "HeirsAtLaw" (354 : Nat) ({ cls := "java/lang/StringBuilder", name := "append", desc := "(I)Ljava/lang/StringBuilder;" } : Jvm.MethodName)) ∈ lw_all := lw_g (lw_at lw_m7 61 rfl) rfl
theorem q1650 : (Jvm.Cond.methodLink "HeirsAtLaw" (357 : Nat) ({ cls := "java/lang/StringBuilder", name := "toString", desc := "()Ljava/lang/String;" } : Jvm.MethodName)) ∈ lw_all := lw_g (lw_at lw_m7 86 rfl) rfl
theorem q1651 : (Jvm.Cond.methodLink "HeirsAtLaw" (361 : Nat) ({ cls := "java/lang/String", name := "length", desc := "()I" } : Jvm.MethodName)) ∈ lw_all := lw_g (lw_at lw_m7 87 rfl) rfl
theorem q1653 : (Jvm.Cond.instanceMethod ({ cls := "HeirsAtLaw", name := "byteAt", desc := "(I)I" } : Jvm.MethodName)) ∈ lw_all := lw_g (lw_at lw_m7 89 rfl) rfl
theorem q1654 : (Jvm.Cond.selects "HeirsAtLaw" ({ cls := "HeirsAtLaw", name := "byteAt", desc := "(I)I" } : Jvm.MethodName) ({ cls := "HeirsAtLaw", name := "byteAt", desc := "(I)I" } : Jvm.MethodName)) ∈ lw_all := lw_g (lw_at lw_m7 90 rfl) rfl
theorem q1655 : (Jvm.Cond.code ({ cls := "HeirsAtLaw", name := "byteAt", desc := "(I)I" } : Jvm.MethodName) prog_1_method_54_code (2 : Nat) (Option.some Jvm.ClassFile.FieldType.int)) ∈ lw_all := lw_g (lw_at lw_m7 91 rfl) rfl
theorem q1656 : (Jvm.Cond.methodLink "HeirsAtLaw" (366 : Nat) ({ cls := "java/lang/String", name := "charAt", desc := "(I)C" } : Jvm.MethodName)) ∈ lw_all := lw_g (lw_at lw_m7 92 rfl) rfl
theorem q1668 : (Jvm.Cond.instanceMethod ({ cls := "HeirsAtLaw", name := "drawn", desc := "(II)I" } : Jvm.MethodName)) ∈ lw_all := lw_g (lw_at lw_m7 104 rfl) rfl
theorem q1669 : (Jvm.Cond.selects "HeirsAtLaw" ({ cls := "HeirsAtLaw", name := "drawn", desc := "(II)I" } : Jvm.MethodName) ({ cls := "HeirsAtLaw", name := "drawn", desc := "(II)I" } : Jvm.MethodName)) ∈ lw_all := lw_g (lw_at lw_m7 105 rfl) rfl
theorem q1670 : (Jvm.Cond.code ({ cls := "HeirsAtLaw", name := "drawn", desc := "(II)I" } : Jvm.MethodName) prog_1_method_55_code (3 : Nat) (Option.some Jvm.ClassFile.FieldType.int)) ∈ lw_all := lw_g (lw_at lw_m7 106 rfl) rfl
theorem q1671 : (Jvm.Cond.methodLink "HeirsAtLaw" (370 : Nat) ({ cls := "HeirsAtLaw$Estate", name := "drawn", desc := "(II)I" } : Jvm.MethodName)) ∈ lw_all := lw_g (lw_at lw_m7 107 rfl) rfl
theorem q1694 : (Jvm.Cond.instanceMethod ({ cls := "HeirsAtLaw", name := "odds", desc := "(III)I" } : Jvm.MethodName)) ∈ lw_all := lw_g (lw_at lw_m7 130 rfl) rfl
theorem q1695 : (Jvm.Cond.selects "HeirsAtLaw" ({ cls := "HeirsAtLaw", name := "odds", desc := "(III)I" } : Jvm.MethodName) ({ cls := "HeirsAtLaw", name := "odds", desc := "(III)I" } : Jvm.MethodName)) ∈ lw_all := lw_g (lw_at lw_m7 131 rfl) rfl
theorem q1696 : (Jvm.Cond.code ({ cls := "HeirsAtLaw", name := "odds", desc := "(III)I" } : Jvm.MethodName) prog_1_method_56_code (6 : Nat) (Option.some Jvm.ClassFile.FieldType.int)) ∈ lw_all := lw_g (lw_at lw_m7 132 rfl) rfl
theorem q1698 : (Jvm.Cond.instanceMethod ({ cls := "HeirsAtLaw", name := "book", desc := "(I)I" } : Jvm.MethodName)) ∈ lw_all := lw_g (lw_at lw_m7 134 rfl) rfl
theorem q1699 : (Jvm.Cond.selects "HeirsAtLaw" ({ cls := "HeirsAtLaw", name := "book", desc := "(I)I" } : Jvm.MethodName) ({ cls := "HeirsAtLaw", name := "book", desc := "(I)I" } : Jvm.MethodName)) ∈ lw_all := lw_g (lw_at lw_m7 135 rfl) rfl
theorem q1700 : (Jvm.Cond.codeWith ({ cls := "HeirsAtLaw", name := "book", desc := "(I)I" } : Jvm.MethodName) prog_1_method_57_code (4 : Nat) (Option.some Jvm.ClassFile.FieldType.int) [((23 : Nat), (56 : Nat), (57 : Nat), (120 : Nat))]) ∈ lw_all := lw_g (lw_at lw_m7 136 rfl) rfl
theorem q1701 : (Jvm.Cond.classLink "HeirsAtLaw" (373 : Nat) "HeirsAtLaw$BookReader") ∈ lw_all := lw_g (lw_at lw_m7 137 rfl) rfl
theorem q1703 : (Jvm.Cond.methodLink "HeirsAtLaw" (375 : Nat) ({ cls := "HeirsAtLaw$BookReader", name := "<init>", desc := "([BILHeirsAtLaw$Family;)V" } : Jvm.MethodName)) ∈ lw_all := lw_g (lw_at lw_m7 139 rfl) rfl
theorem q1723 : (Jvm.Cond.methodLink "HeirsAtLaw" (378 : Nat) ({ cls := "HeirsAtLaw$BookReader", name := "read", desc := "()Ljava/util/ArrayList;" } : Jvm.MethodName)) ∈ lw_all := lw_g (lw_at lw_m7 159 rfl) rfl
theorem q1783 : (Jvm.Cond.methodLink "HeirsAtLaw" (381 : Nat) ({ cls := "HeirsAtLaw", name := "lived", desc := "(Ljava/util/ArrayList;Z)I" } : Jvm.MethodName)) ∈ lw_all := lw_g (lw_at lw_m7 219 rfl) rfl
theorem q1784 : (Jvm.Cond.privateMethod ({ cls := "HeirsAtLaw", name := "lived", desc := "(Ljava/util/ArrayList;Z)I" } : Jvm.MethodName)) ∈ lw_tbl := lw_at lw_m7 220 rfl
theorem q1785 : (Jvm.Cond.instanceMethod ({ cls := "HeirsAtLaw", name := "lived", desc := "(Ljava/util/ArrayList;Z)I" } : Jvm.MethodName)) ∈ lw_all := lw_g (lw_at lw_m7 221 rfl) rfl
theorem q1786 : (Jvm.Cond.code ({ cls := "HeirsAtLaw", name := "lived", desc := "(Ljava/util/ArrayList;Z)I" } : Jvm.MethodName) prog_1_method_58_code (5 : Nat) (Option.some Jvm.ClassFile.FieldType.int)) ∈ lw_all := lw_g (lw_at lw_m7 222 rfl) rfl
theorem q1787 : (Jvm.Cond.methodLink "HeirsAtLaw" (385 : Nat) ({ cls := "java/util/ArrayList", name := "get", desc := "(I)Ljava/lang/Object;" } : Jvm.MethodName)) ∈ lw_all := lw_g (lw_at lw_m7 223 rfl) rfl
theorem q1788 : (Jvm.Cond.classLink "HeirsAtLaw" (229 : Nat) "HeirsAtLaw$Act") ∈ lw_all := lw_g (lw_at lw_m7 224 rfl) rfl
theorem q1790 : (Jvm.Cond.instanceMethod ({ cls := "HeirsAtLaw", name := "told", desc := "(I)I" } : Jvm.MethodName)) ∈ lw_all := lw_g (lw_at lw_m7 226 rfl) rfl
theorem q1791 : (Jvm.Cond.selects "HeirsAtLaw" ({ cls := "HeirsAtLaw", name := "told", desc := "(I)I" } : Jvm.MethodName) ({ cls := "HeirsAtLaw", name := "told", desc := "(I)I" } : Jvm.MethodName)) ∈ lw_all := lw_g (lw_at lw_m7 227 rfl) rfl
theorem q1792 : (Jvm.Cond.code ({ cls := "HeirsAtLaw", name := "told", desc := "(I)I" } : Jvm.MethodName) prog_1_method_59_code (2 : Nat) (Option.some Jvm.ClassFile.FieldType.int)) ∈ lw_all := lw_g (lw_at lw_m7 228 rfl) rfl
theorem q1794 : (Jvm.Cond.instanceMethod ({ cls := "HeirsAtLaw", name := "sentence", desc := "()I" } : Jvm.MethodName)) ∈ lw_all := lw_g (lw_at lw_m7 230 rfl) rfl
theorem q1795 : (Jvm.Cond.selects "HeirsAtLaw" ({ cls := "HeirsAtLaw", name := "sentence", desc := "()I" } : Jvm.MethodName) ({ cls := "HeirsAtLaw", name := "sentence", desc := "()I" } : Jvm.MethodName)) ∈ lw_all := lw_g (lw_at lw_m7 231 rfl) rfl
theorem q1796 : (Jvm.Cond.codeWith ({ cls := "HeirsAtLaw", name := "sentence", desc := "()I" } : Jvm.MethodName) prog_1_method_60_code (3 : Nat) (Option.some Jvm.ClassFile.FieldType.int) [((10 : Nat), (39 : Nat), (40 : Nat), (120 : Nat))]) ∈ lw_all := lw_g (lw_at lw_m7 232 rfl) rfl
theorem q1797 : (Jvm.Cond.classLink "HeirsAtLaw" (389 : Nat) "HeirsAtLaw$SentenceReader") ∈ lw_all := lw_g (lw_at lw_m7 233 rfl) rfl
theorem q1799 : (Jvm.Cond.methodLink "HeirsAtLaw" (391 : Nat) ({ cls := "HeirsAtLaw$SentenceReader", name := "<init>", desc := "([BILHeirsAtLaw$Family;)V" } : Jvm.MethodName)) ∈ lw_all := lw_g (lw_at lw_m7 235 rfl) rfl
theorem q1804 : (Jvm.Cond.fieldLinkNest "HeirsAtLaw" (395 : Nat) "HeirsAtLaw$SentenceReader" "ones" "I" "HeirsAtLaw") ∈ lw_tbl := lw_at lw_m8 0 rfl
theorem q1821 : (Jvm.Cond.methodLink "HeirsAtLaw" (392 : Nat) ({ cls := "HeirsAtLaw$SentenceReader", name := "read", desc := "()LHeirsAtLaw$Cond;" } : Jvm.MethodName)) ∈ lw_all := lw_g (lw_at lw_m8 17 rfl) rfl
theorem q1949 : (Jvm.Cond.instanceMethod ({ cls := "HeirsAtLaw", name := "said", desc := "(I)I" } : Jvm.MethodName)) ∈ lw_all := lw_g (lw_at lw_m8 145 rfl) rfl
theorem q1950 : (Jvm.Cond.selects "HeirsAtLaw" ({ cls := "HeirsAtLaw", name := "said", desc := "(I)I" } : Jvm.MethodName) ({ cls := "HeirsAtLaw", name := "said", desc := "(I)I" } : Jvm.MethodName)) ∈ lw_all := lw_g (lw_at lw_m8 146 rfl) rfl
theorem q1951 : (Jvm.Cond.code ({ cls := "HeirsAtLaw", name := "said", desc := "(I)I" } : Jvm.MethodName) prog_1_method_61_code (4 : Nat) (Option.some Jvm.ClassFile.FieldType.int)) ∈ lw_all := lw_g (lw_at lw_m8 147 rfl) rfl
theorem q1952 : (Jvm.Cond.methodLink "HeirsAtLaw" (398 : Nat) ({ cls := "HeirsAtLaw$Cond", name := "holds", desc := "(LHeirsAtLaw$Estate;I)Z" } : Jvm.MethodName)) ∈ lw_all := lw_g (lw_at lw_m8 148 rfl) rfl
theorem q1982 : (Jvm.Cond.instanceMethod ({ cls := "HeirsAtLaw", name := "image", desc := "(I)Z" } : Jvm.MethodName)) ∈ lw_all := lw_g (lw_at lw_m8 178 rfl) rfl
theorem q1983 : (Jvm.Cond.selects "HeirsAtLaw" ({ cls := "HeirsAtLaw", name := "image", desc := "(I)Z" } : Jvm.MethodName) ({ cls := "HeirsAtLaw", name := "image", desc := "(I)Z" } : Jvm.MethodName)) ∈ lw_all := lw_g (lw_at lw_m8 179 rfl) rfl
theorem q1984 : (Jvm.Cond.code ({ cls := "HeirsAtLaw", name := "image", desc := "(I)Z" } : Jvm.MethodName) prog_1_method_62_code (2 : Nat) (Option.some Jvm.ClassFile.FieldType.boolean)) ∈ lw_all := lw_g (lw_at lw_m8 180 rfl) rfl
theorem q1986 : (Jvm.Cond.instanceMethod ({ cls := "HeirsAtLaw", name := "restore", desc := "(I)Z" } : Jvm.MethodName)) ∈ lw_all := lw_g (lw_at lw_m8 182 rfl) rfl
theorem q1987 : (Jvm.Cond.selects "HeirsAtLaw" ({ cls := "HeirsAtLaw", name := "restore", desc := "(I)Z" } : Jvm.MethodName) ({ cls := "HeirsAtLaw", name := "restore", desc := "(I)Z" } : Jvm.MethodName)) ∈ lw_all := lw_g (lw_at lw_m8 183 rfl) rfl
theorem q1988 : (Jvm.Cond.code ({ cls := "HeirsAtLaw", name := "restore", desc := "(I)Z" } : Jvm.MethodName) prog_1_method_63_code (2 : Nat) (Option.some Jvm.ClassFile.FieldType.boolean)) ∈ lw_all := lw_g (lw_at lw_m8 184 rfl) rfl
theorem q1990 : (Jvm.Cond.instanceMethod ({ cls := "HeirsAtLaw", name := "count", desc := "(I)I" } : Jvm.MethodName)) ∈ lw_all := lw_g (lw_at lw_m8 186 rfl) rfl
theorem q1991 : (Jvm.Cond.selects "HeirsAtLaw" ({ cls := "HeirsAtLaw", name := "count", desc := "(I)I" } : Jvm.MethodName) ({ cls := "HeirsAtLaw", name := "count", desc := "(I)I" } : Jvm.MethodName)) ∈ lw_all := lw_g (lw_at lw_m8 187 rfl) rfl
theorem q1992 : (Jvm.Cond.code ({ cls := "HeirsAtLaw", name := "count", desc := "(I)I" } : Jvm.MethodName) prog_1_method_64_code (2 : Nat) (Option.some Jvm.ClassFile.FieldType.int)) ∈ lw_all := lw_g (lw_at lw_m8 188 rfl) rfl
theorem q1998 : (Jvm.Cond.instanceMethod ({ cls := "HeirsAtLaw", name := "person", desc := "(II)I" } : Jvm.MethodName)) ∈ lw_all := lw_g (lw_at lw_m8 194 rfl) rfl
theorem q1999 : (Jvm.Cond.selects "HeirsAtLaw" ({ cls := "HeirsAtLaw", name := "person", desc := "(II)I" } : Jvm.MethodName) ({ cls := "HeirsAtLaw", name := "person", desc := "(II)I" } : Jvm.MethodName)) ∈ lw_all := lw_g (lw_at lw_m8 195 rfl) rfl
theorem q2000 : (Jvm.Cond.code ({ cls := "HeirsAtLaw", name := "person", desc := "(II)I" } : Jvm.MethodName) prog_1_method_18_code (3 : Nat) (Option.some Jvm.ClassFile.FieldType.int)) ∈ lw_all := lw_g (lw_at lw_m8 196 rfl) rfl
theorem q2001 : (Jvm.Cond.methodLink "HeirsAtLaw" (150 : Nat) ({ cls := "HeirsAtLaw", name := "need", desc := "(Z)V" } : Jvm.MethodName)) ∈ lw_all := lw_g (lw_at lw_m8 197 rfl) rfl
theorem q2002 : (Jvm.Cond.static ({ cls := "HeirsAtLaw", name := "need", desc := "(Z)V" } : Jvm.MethodName)) ∈ lw_all := lw_g (lw_at lw_m8 198 rfl) rfl
theorem q2003 : (Jvm.Cond.code ({ cls := "HeirsAtLaw", name := "need", desc := "(Z)V" } : Jvm.MethodName) prog_1_method_4_code (1 : Nat) (Option.none : Option Jvm.ClassFile.FieldType)) ∈ lw_all := lw_g (lw_at lw_m8 199 rfl) rfl
theorem q2004 : (Jvm.Cond.classLink "HeirsAtLaw" (7 : Nat) "java/util/NoSuchElementException") ∈ lw_all := lw_g (lw_at lw_m8 200 rfl) rfl
theorem q2005 : (Jvm.Cond.methodLink "HeirsAtLaw" (9 : Nat) ({ cls := "java/util/NoSuchElementException", name := "<init>", desc := "()V" } : Jvm.MethodName)) ∈ lw_all := lw_g (lw_at lw_m8 201 rfl) rfl
theorem q2006 : (Jvm.Cond.methodLink "HeirsAtLaw" (177 : Nat) ({ cls := "HeirsAtLaw$Estate", name := "livingIssue", desc := "(I)I" } : Jvm.MethodName)) ∈ lw_all := lw_g (lw_at lw_m8 202 rfl) rfl
theorem q2007 : (Jvm.Cond.methodLink "HeirsAtLaw" (180 : Nat) ({ cls := "HeirsAtLaw$Estate", name := "willsOf", desc := "(I)I" } : Jvm.MethodName)) ∈ lw_all := lw_g (lw_at lw_m8 203 rfl) rfl
theorem q2012 : (Jvm.Cond.instanceMethod ({ cls := "HeirsAtLaw", name := "mean", desc := "(I)I" } : Jvm.MethodName)) ∈ lw_all := lw_g (lw_at lw_m8 208 rfl) rfl
theorem q2013 : (Jvm.Cond.selects "HeirsAtLaw" ({ cls := "HeirsAtLaw", name := "mean", desc := "(I)I" } : Jvm.MethodName) ({ cls := "HeirsAtLaw", name := "mean", desc := "(I)I" } : Jvm.MethodName)) ∈ lw_all := lw_g (lw_at lw_m8 209 rfl) rfl
theorem q2014 : (Jvm.Cond.code ({ cls := "HeirsAtLaw", name := "mean", desc := "(I)I" } : Jvm.MethodName) prog_1_method_52_code (4 : Nat) (Option.some Jvm.ClassFile.FieldType.int)) ∈ lw_all := lw_g (lw_at lw_m8 210 rfl) rfl
theorem q2015 : (Jvm.Cond.methodLink "HeirsAtLaw" (13 : Nat) ({ cls := "HeirsAtLaw", name := "common", desc := "(II)I" } : Jvm.MethodName)) ∈ lw_all := lw_g (lw_at lw_m8 211 rfl) rfl
theorem q2016 : (Jvm.Cond.static ({ cls := "HeirsAtLaw", name := "common", desc := "(II)I" } : Jvm.MethodName)) ∈ lw_all := lw_g (lw_at lw_m8 212 rfl) rfl
theorem q2017 : (Jvm.Cond.code ({ cls := "HeirsAtLaw", name := "common", desc := "(II)I" } : Jvm.MethodName) prog_1_method_5_code (2 : Nat) (Option.some Jvm.ClassFile.FieldType.int)) ∈ lw_all := lw_g (lw_at lw_m8 213 rfl) rfl
theorem q2754 : (Jvm.Cond.castable "HeirsAtLaw" "java/lang/Object") ∈ lw_tbl := lw_at lw_m11 230 rfl
theorem in_X1 : ∀ w ∈ wsX10, w ∈ lw_all := lw_in wsX10 [499, 501, 503, 505, 507, 509, 511, 513, 515, 517, 519, 521, 523, 525, 527, 529, 531, 533, 535, 537, 539] (by decide +kernel) (by decide +kernel)
